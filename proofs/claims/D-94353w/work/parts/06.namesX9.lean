/-! LiarsCockModel -/
set_option maxRecDepth 100000
def RX9 : String := "LiarsCockModel"
def TX9 : u_T := fun k => match k with
  | 0 => ("LiarsCockModel", "thrown", "I", false)
  | 1 => ("LiarsCockModel", "taped", "I", false)
  | 2 => ("LiarsCockModel", "tape", "[I", true)
  | 3 => ("LiarsCockModel", "size", "I", false)
  | 4 => ("LiarsCockModel", "place", "I", false)
  | 5 => ("LiarsCockModel", "begin", "I", false)
  | 6 => ("LiarsCockModel", "token", "I", false)
  | 7 => ("LiarsCockModel", "word", "J", false)
  | 8 => ("LiarsCockModel", "told", "I", false)
  | 9 => ("LiarsCockModel", "wrong", "I", false)
  | 10 => ("LiarsCockModel", "many", "[I", true)
  | 11 => ("LiarsCockModel", "names", "[J", true)
  | 12 => ("LiarsCockModel", "chances", "[I", true)
  | 13 => ("LiarsCockModel", "bearings", "[I", true)
  | 14 => ("LiarsCockModel", "home", "[I", true)
  | 15 => ("LiarsCockModel", "known", "[I", true)
  | 16 => ("LiarsCockModel", "law", "[I", true)
  | 17 => ("LiarsCockModel", "late", "[I", true)
  | 18 => ("LiarsCockModel", "isCock", "[Z", true)
  | 19 => ("LiarsCockModel", "common", "[J", true)
  | 20 => ("LiarsCockModel", "codes", "[I", true)
  | 21 => ("LiarsCockModel", "lineFrom", "[I", true)
  | 22 => ("LiarsCockModel", "lineTo", "[I", true)
  | 23 => ("LiarsCockModel", "code", "I", false)
  | 24 => ("LiarsCockModel", "opened", "[I", true)
  | 25 => ("LiarsCockModel", "compared", "[Z", true)
  | 26 => ("LiarsCockModel", "kept", "[I", true)
  | 27 => ("LiarsCockModel", "keptBy", "[I", true)
  | 28 => ("LiarsCockModel", "ahead", "[I", true)
  | 29 => ("LiarsCockModel", "against", "[I", true)
  | 30 => ("LiarsCockModel", "sum", "[I", true)
  | 31 => ("LiarsCockModel", "sumBy", "[I", true)
  | 32 => ("LiarsCockModel", "term", "[I", true)
  | 33 => ("LiarsCockModel", "termBy", "[I", true)
  | 34 => ("LiarsCockModel", "byNot", "[I", true)
  | 35 => ("LiarsCockModel", "valueOf", "[I", true)
  | 36 => ("LiarsCockModel", "isToldCock", "[Z", true)
  | 37 => ("LiarsCockModel", "commons", "I", false)
  | 38 => ("LiarsCockModel", "newCommons", "I", false)
  | 39 => ("LiarsCockModel", "commonSet", "[J", true)
  | 40 => ("LiarsCockModel", "sayings", "I", false)
  | 41 => ("LiarsCockModel", "offers", "I", false)
  | 42 => ("LiarsCockModel", "looks", "I", false)
  | 43 => ("LiarsCockModel", "watches", "I", false)
  | 44 => ("LiarsCockModel", "truth", "I", false)
  | 45 => ("LiarsCockModel", "who", "[I", true)
  | 46 => ("LiarsCockModel", "when", "[I", true)
  | 47 => ("LiarsCockModel", "so", "[J", true)
  | 48 => ("LiarsCockModel", "isQuestion", "[Z", true)
  | 49 => ("LiarsCockModel", "row", "[I", true)
  | 50 => ("LiarsCockModel", "rowed", "I", false)
  | 51 => ("LiarsCockModel", "lies", "[J", true)
  | 52 => ("LiarsCockModel", "lookCock", "[I", true)
  | 53 => ("LiarsCockModel", "lookMinute", "[I", true)
  | 54 => ("LiarsCockModel", "lookFrom", "[I", true)
  | 55 => ("LiarsCockModel", "lookTo", "[I", true)
  | 56 => ("LiarsCockModel", "fits", "[J", true)
  | 57 => ("LiarsCockModel", "byBearing", "[I", true)
  | 58 => ("LiarsCockModel", "seen", "[I", true)
  | 59 => ("LiarsCockModel", "watchCock", "[I", true)
  | 60 => ("LiarsCockModel", "watchMinute", "[I", true)
  | 61 => ("LiarsCockModel", "turns0", "I", false)
  | 62 => ("LiarsCockModel", "turnMinute", "[I", true)
  | 63 => ("LiarsCockModel", "turnBearing", "[I", true)
  | 64 => ("LiarsCockModel", "lookout", "[I", true)
  | 65 => ("LiarsCockModel", "isLaid", "[Z", true)
  | 66 => ("LiarsCockModel", "marked", "[I", true)
  | 67 => ("LiarsCockModel", "markedLongs", "[J", true)
  | _ => ("LiarsCockModel", "markAt", "I", false)
def tyX9 : Nat → FieldType := fun k => match k with
  | 0 => .int
  | 1 => .int
  | 2 => .array .int
  | 3 => .int
  | 4 => .int
  | 5 => .int
  | 6 => .int
  | 7 => .long
  | 8 => .int
  | 9 => .int
  | 10 => .array .int
  | 11 => .array .long
  | 12 => .array .int
  | 13 => .array .int
  | 14 => .array .int
  | 15 => .array .int
  | 16 => .array .int
  | 17 => .array .int
  | 18 => .array .boolean
  | 19 => .array .long
  | 20 => .array .int
  | 21 => .array .int
  | 22 => .array .int
  | 23 => .int
  | 24 => .array .int
  | 25 => .array .boolean
  | 26 => .array .int
  | 27 => .array .int
  | 28 => .array .int
  | 29 => .array .int
  | 30 => .array .int
  | 31 => .array .int
  | 32 => .array .int
  | 33 => .array .int
  | 34 => .array .int
  | 35 => .array .int
  | 36 => .array .boolean
  | 37 => .int
  | 38 => .int
  | 39 => .array .long
  | 40 => .int
  | 41 => .int
  | 42 => .int
  | 43 => .int
  | 44 => .int
  | 45 => .array .int
  | 46 => .array .int
  | 47 => .array .long
  | 48 => .array .boolean
  | 49 => .array .int
  | 50 => .int
  | 51 => .array .long
  | 52 => .array .int
  | 53 => .array .int
  | 54 => .array .int
  | 55 => .array .int
  | 56 => .array .long
  | 57 => .array .int
  | 58 => .array .int
  | 59 => .array .int
  | 60 => .array .int
  | 61 => .int
  | 62 => .array .int
  | 63 => .array .int
  | 64 => .array .int
  | 65 => .array .boolean
  | 66 => .array .int
  | 67 => .array .long
  | _ => .int
abbrev wsX90 : List Cond := u_ws RX9 TX9 69
set_option maxRecDepth 100000 in
theorem nmX9 : ∀ a, a < 69 → ∀ b, b < 69 → a ≠ b → (TX9 a).2.1 ≠ (TX9 b).2.1 := by decide +kernel
set_option maxRecDepth 100000 in
theorem tyX9_ok : ∀ k, k < 69 → parseFieldDescriptor (TX9 k).2.2.1 = some (tyX9 k) := by decide +kernel
abbrev cX9_init : ByteArray := prog_28_method_1_code
def yX9_init : MethodName := ⟨RX9, "<init>", "()V"⟩
def dkwX9_init_16 : List UInt8 := [188, 10, 181, 0, 153, 42, 17, 1, 144, 188, 11, 181, 0, 156, 42, 182, 0, 159, 177]
abbrev dktX9_init_16 : List UInt8 := dkwX9_init_16 ++ []
def dkwX9_init_15 : List UInt8 := [188, 10, 181, 0, 144, 42, 6, 188, 10, 181, 0, 147, 42, 7, 188, 4, 181, 0, 150, 42, 17, 4, 176]
abbrev dktX9_init_15 : List UInt8 := dkwX9_init_15 ++ dktX9_init_16
def dkwX9_init_14 : List UInt8 := [188, 10, 181, 0, 135, 42, 7, 188, 10, 181, 0, 138, 42, 16, 24, 188, 10, 181, 0, 141, 42, 17, 6, 0]
abbrev dktX9_init_14 : List UInt8 := dkwX9_init_14 ++ dktX9_init_15
def dkwX9_init_13 : List UInt8 := [181, 0, 126, 42, 17, 1, 104, 188, 10, 181, 0, 129, 42, 17, 1, 104, 188, 10, 181, 0, 132, 42, 7]
abbrev dktX9_init_13 : List UInt8 := dkwX9_init_13 ++ dktX9_init_14
def dkwX9_init_12 : List UInt8 := [181, 0, 117, 42, 16, 12, 188, 10, 181, 0, 120, 42, 16, 12, 188, 10, 181, 0, 123, 42, 16, 12, 188, 11]
abbrev dktX9_init_12 : List UInt8 := dkwX9_init_12 ++ dktX9_init_13
def dkwX9_init_11 : List UInt8 := [181, 0, 108, 42, 16, 62, 188, 11, 181, 0, 111, 42, 16, 12, 188, 10, 181, 0, 114, 42, 16, 12, 188, 10]
abbrev dktX9_init_11 : List UInt8 := dkwX9_init_11 ++ dktX9_init_12
def dkwX9_init_10 : List UInt8 := [181, 0, 99, 42, 16, 31, 188, 11, 181, 0, 102, 42, 16, 31, 188, 4, 181, 0, 105, 42, 16, 31, 188, 10]
abbrev dktX9_init_10 : List UInt8 := dkwX9_init_10 ++ dktX9_init_11
def dkwX9_init_9 : List UInt8 := [181, 0, 90, 42, 7, 188, 11, 181, 0, 93, 42, 16, 31, 188, 10, 181, 0, 96, 42, 16, 31, 188, 10]
abbrev dktX9_init_9 : List UInt8 := dkwX9_init_9 ++ dktX9_init_10
def dkwX9_init_8 : List UInt8 := [181, 0, 81, 42, 16, 7, 188, 10, 181, 0, 84, 42, 16, 20, 188, 10, 181, 0, 87, 42, 5, 188, 4]
abbrev dktX9_init_8 : List UInt8 := dkwX9_init_8 ++ dktX9_init_9
def dkwX9_init_7 : List UInt8 := [181, 0, 72, 42, 16, 7, 188, 10, 181, 0, 75, 42, 16, 7, 188, 10, 181, 0, 78, 42, 16, 7, 188, 10]
abbrev dktX9_init_7 : List UInt8 := dkwX9_init_7 ++ dktX9_init_8
def dkwX9_init_6 : List UInt8 := [181, 0, 63, 42, 16, 7, 188, 10, 181, 0, 66, 42, 16, 7, 188, 10, 181, 0, 69, 42, 16, 7, 188, 10]
abbrev dktX9_init_6 : List UInt8 := dkwX9_init_6 ++ dktX9_init_7
def dkwX9_init_5 : List UInt8 := [181, 0, 54, 42, 16, 7, 188, 4, 181, 0, 57, 42, 16, 7, 188, 10, 181, 0, 60, 42, 16, 7, 188, 10]
abbrev dktX9_init_5 : List UInt8 := dkwX9_init_5 ++ dktX9_init_6
def dkwX9_init_4 : List UInt8 := [181, 0, 45, 42, 4, 188, 10, 181, 0, 48, 42, 4, 188, 10, 181, 0, 51, 42, 16, 7, 188, 10]
abbrev dktX9_init_4 : List UInt8 := dkwX9_init_4 ++ dktX9_init_5
def dkwX9_init_3 : List UInt8 := [181, 0, 35, 42, 7, 188, 4, 181, 0, 38, 42, 5, 188, 11, 181, 0, 42, 42, 17, 3, 232, 188, 10]
abbrev dktX9_init_3 : List UInt8 := dkwX9_init_3 ++ dktX9_init_4
def dkwX9_init_2 : List UInt8 := [188, 10, 181, 0, 26, 42, 16, 12, 188, 10, 181, 0, 29, 42, 7, 188, 10, 181, 0, 32, 42, 7, 188, 10]
abbrev dktX9_init_2 : List UInt8 := dkwX9_init_2 ++ dktX9_init_3
def dkwX9_init_1 : List UInt8 := [188, 11, 181, 0, 16, 42, 16, 12, 188, 10, 181, 0, 20, 42, 16, 12, 188, 10, 181, 0, 23, 42, 16, 12]
abbrev dktX9_init_1 : List UInt8 := dkwX9_init_1 ++ dktX9_init_2
def dkwX9_init_0 : List UInt8 := [42, 183, 0, 1, 42, 17, 3, 232, 188, 10, 181, 0, 7, 42, 16, 6, 188, 10, 181, 0, 13, 42, 16, 36]
abbrev dktX9_init_0 : List UInt8 := dkwX9_init_0 ++ dktX9_init_1
theorem dksX9_init_0 : cX9_init.data.toList.drop 0 = dktX9_init_0 := by decide +kernel
theorem dksX9_init_1 : cX9_init.data.toList.drop 24 = dktX9_init_1 := dk_seg dksX9_init_0 24 rfl rfl
theorem dksX9_init_2 : cX9_init.data.toList.drop 48 = dktX9_init_2 := dk_seg dksX9_init_1 24 rfl rfl
theorem dksX9_init_3 : cX9_init.data.toList.drop 72 = dktX9_init_3 := dk_seg dksX9_init_2 24 rfl rfl
theorem dksX9_init_4 : cX9_init.data.toList.drop 95 = dktX9_init_4 := dk_seg dksX9_init_3 23 rfl rfl
theorem dksX9_init_5 : cX9_init.data.toList.drop 117 = dktX9_init_5 := dk_seg dksX9_init_4 22 rfl rfl
theorem dksX9_init_6 : cX9_init.data.toList.drop 141 = dktX9_init_6 := dk_seg dksX9_init_5 24 rfl rfl
theorem dksX9_init_7 : cX9_init.data.toList.drop 165 = dktX9_init_7 := dk_seg dksX9_init_6 24 rfl rfl
theorem dksX9_init_8 : cX9_init.data.toList.drop 189 = dktX9_init_8 := dk_seg dksX9_init_7 24 rfl rfl
theorem dksX9_init_9 : cX9_init.data.toList.drop 212 = dktX9_init_9 := dk_seg dksX9_init_8 23 rfl rfl
theorem dksX9_init_10 : cX9_init.data.toList.drop 235 = dktX9_init_10 := dk_seg dksX9_init_9 23 rfl rfl
theorem dksX9_init_11 : cX9_init.data.toList.drop 259 = dktX9_init_11 := dk_seg dksX9_init_10 24 rfl rfl
theorem dksX9_init_12 : cX9_init.data.toList.drop 283 = dktX9_init_12 := dk_seg dksX9_init_11 24 rfl rfl
theorem dksX9_init_13 : cX9_init.data.toList.drop 307 = dktX9_init_13 := dk_seg dksX9_init_12 24 rfl rfl
theorem dksX9_init_14 : cX9_init.data.toList.drop 330 = dktX9_init_14 := dk_seg dksX9_init_13 23 rfl rfl
theorem dksX9_init_15 : cX9_init.data.toList.drop 354 = dktX9_init_15 := dk_seg dksX9_init_14 24 rfl rfl
theorem dksX9_init_16 : cX9_init.data.toList.drop 377 = dktX9_init_16 := dk_seg dksX9_init_15 23 rfl rfl
theorem dX9_init_0 : decode cX9_init 0 = .ok (.aload_n 0, 1) := dk_42 (dk_at dksX9_init_0 0 rfl rfl)
theorem dX9_init_1 : decode cX9_init 1 = .ok (.invokespecial 1, 3) := dk_183 0 1 (dk_at dksX9_init_0 1 rfl rfl)
theorem dX9_init_4 : decode cX9_init 4 = .ok (.aload_n 0, 1) := dk_42 (dk_at dksX9_init_0 4 rfl rfl)
theorem dX9_init_5 : decode cX9_init 5 = .ok (.sipush 1000, 3) := dk_17 3 232 (dk_at dksX9_init_0 5 rfl rfl)
theorem dX9_init_8 : decode cX9_init 8 = .ok (.newarray .int, 2) := dk_188_10 (dk_at dksX9_init_0 8 rfl rfl)
theorem dX9_init_10 : decode cX9_init 10 = .ok (.putfield 7, 3) := dk_181 0 7 (dk_at dksX9_init_0 10 rfl rfl)
theorem dX9_init_13 : decode cX9_init 13 = .ok (.aload_n 0, 1) := dk_42 (dk_at dksX9_init_0 13 rfl rfl)
theorem dX9_init_14 : decode cX9_init 14 = .ok (.bipush 6, 2) := dk_16 6 (dk_at dksX9_init_0 14 rfl rfl)
theorem dX9_init_16 : decode cX9_init 16 = .ok (.newarray .int, 2) := dk_188_10 (dk_at dksX9_init_0 16 rfl rfl)
theorem dX9_init_18 : decode cX9_init 18 = .ok (.putfield 13, 3) := dk_181 0 13 (dk_at dksX9_init_0 18 rfl rfl)
theorem dX9_init_21 : decode cX9_init 21 = .ok (.aload_n 0, 1) := dk_42 (dk_at dksX9_init_0 21 rfl rfl)
theorem dX9_init_22 : decode cX9_init 22 = .ok (.bipush 36, 2) := dk_16 36 (dk_at dksX9_init_0 22 rfl rfl)
theorem dX9_init_24 : decode cX9_init 24 = .ok (.newarray .long, 2) := dk_188_11 (dk_at dksX9_init_1 0 rfl rfl)
theorem dX9_init_26 : decode cX9_init 26 = .ok (.putfield 16, 3) := dk_181 0 16 (dk_at dksX9_init_1 2 rfl rfl)
theorem dX9_init_29 : decode cX9_init 29 = .ok (.aload_n 0, 1) := dk_42 (dk_at dksX9_init_1 5 rfl rfl)
theorem dX9_init_30 : decode cX9_init 30 = .ok (.bipush 12, 2) := dk_16 12 (dk_at dksX9_init_1 6 rfl rfl)
theorem dX9_init_32 : decode cX9_init 32 = .ok (.newarray .int, 2) := dk_188_10 (dk_at dksX9_init_1 8 rfl rfl)
theorem dX9_init_34 : decode cX9_init 34 = .ok (.putfield 20, 3) := dk_181 0 20 (dk_at dksX9_init_1 10 rfl rfl)
theorem dX9_init_37 : decode cX9_init 37 = .ok (.aload_n 0, 1) := dk_42 (dk_at dksX9_init_1 13 rfl rfl)
theorem dX9_init_38 : decode cX9_init 38 = .ok (.bipush 12, 2) := dk_16 12 (dk_at dksX9_init_1 14 rfl rfl)
theorem dX9_init_40 : decode cX9_init 40 = .ok (.newarray .int, 2) := dk_188_10 (dk_at dksX9_init_1 16 rfl rfl)
theorem dX9_init_42 : decode cX9_init 42 = .ok (.putfield 23, 3) := dk_181 0 23 (dk_at dksX9_init_1 18 rfl rfl)
theorem dX9_init_45 : decode cX9_init 45 = .ok (.aload_n 0, 1) := dk_42 (dk_at dksX9_init_1 21 rfl rfl)
theorem dX9_init_46 : decode cX9_init 46 = .ok (.bipush 12, 2) := dk_16 12 (dk_at dksX9_init_1 22 rfl rfl)
theorem dX9_init_48 : decode cX9_init 48 = .ok (.newarray .int, 2) := dk_188_10 (dk_at dksX9_init_2 0 rfl rfl)
theorem dX9_init_50 : decode cX9_init 50 = .ok (.putfield 26, 3) := dk_181 0 26 (dk_at dksX9_init_2 2 rfl rfl)
theorem dX9_init_53 : decode cX9_init 53 = .ok (.aload_n 0, 1) := dk_42 (dk_at dksX9_init_2 5 rfl rfl)
theorem dX9_init_54 : decode cX9_init 54 = .ok (.bipush 12, 2) := dk_16 12 (dk_at dksX9_init_2 6 rfl rfl)
theorem dX9_init_56 : decode cX9_init 56 = .ok (.newarray .int, 2) := dk_188_10 (dk_at dksX9_init_2 8 rfl rfl)
theorem dX9_init_58 : decode cX9_init 58 = .ok (.putfield 29, 3) := dk_181 0 29 (dk_at dksX9_init_2 10 rfl rfl)
theorem dX9_init_61 : decode cX9_init 61 = .ok (.aload_n 0, 1) := dk_42 (dk_at dksX9_init_2 13 rfl rfl)
theorem dX9_init_62 : decode cX9_init 62 = .ok (.iconst 4, 1) := dk_7 (dk_at dksX9_init_2 14 rfl rfl)
theorem dX9_init_63 : decode cX9_init 63 = .ok (.newarray .int, 2) := dk_188_10 (dk_at dksX9_init_2 15 rfl rfl)
theorem dX9_init_65 : decode cX9_init 65 = .ok (.putfield 32, 3) := dk_181 0 32 (dk_at dksX9_init_2 17 rfl rfl)
theorem dX9_init_68 : decode cX9_init 68 = .ok (.aload_n 0, 1) := dk_42 (dk_at dksX9_init_2 20 rfl rfl)
theorem dX9_init_69 : decode cX9_init 69 = .ok (.iconst 4, 1) := dk_7 (dk_at dksX9_init_2 21 rfl rfl)
theorem dX9_init_70 : decode cX9_init 70 = .ok (.newarray .int, 2) := dk_188_10 (dk_at dksX9_init_2 22 rfl rfl)
theorem dX9_init_72 : decode cX9_init 72 = .ok (.putfield 35, 3) := dk_181 0 35 (dk_at dksX9_init_3 0 rfl rfl)
theorem dX9_init_75 : decode cX9_init 75 = .ok (.aload_n 0, 1) := dk_42 (dk_at dksX9_init_3 3 rfl rfl)
theorem dX9_init_76 : decode cX9_init 76 = .ok (.iconst 4, 1) := dk_7 (dk_at dksX9_init_3 4 rfl rfl)
theorem dX9_init_77 : decode cX9_init 77 = .ok (.newarray .boolean, 2) := dk_188_4 (dk_at dksX9_init_3 5 rfl rfl)
theorem dX9_init_79 : decode cX9_init 79 = .ok (.putfield 38, 3) := dk_181 0 38 (dk_at dksX9_init_3 7 rfl rfl)
theorem dX9_init_82 : decode cX9_init 82 = .ok (.aload_n 0, 1) := dk_42 (dk_at dksX9_init_3 10 rfl rfl)
theorem dX9_init_83 : decode cX9_init 83 = .ok (.iconst 2, 1) := dk_5 (dk_at dksX9_init_3 11 rfl rfl)
theorem dX9_init_84 : decode cX9_init 84 = .ok (.newarray .long, 2) := dk_188_11 (dk_at dksX9_init_3 12 rfl rfl)
theorem dX9_init_86 : decode cX9_init 86 = .ok (.putfield 42, 3) := dk_181 0 42 (dk_at dksX9_init_3 14 rfl rfl)
theorem dX9_init_89 : decode cX9_init 89 = .ok (.aload_n 0, 1) := dk_42 (dk_at dksX9_init_3 17 rfl rfl)
theorem dX9_init_90 : decode cX9_init 90 = .ok (.sipush 1000, 3) := dk_17 3 232 (dk_at dksX9_init_3 18 rfl rfl)
theorem dX9_init_93 : decode cX9_init 93 = .ok (.newarray .int, 2) := dk_188_10 (dk_at dksX9_init_3 21 rfl rfl)
theorem dX9_init_95 : decode cX9_init 95 = .ok (.putfield 45, 3) := dk_181 0 45 (dk_at dksX9_init_4 0 rfl rfl)
theorem dX9_init_98 : decode cX9_init 98 = .ok (.aload_n 0, 1) := dk_42 (dk_at dksX9_init_4 3 rfl rfl)
theorem dX9_init_99 : decode cX9_init 99 = .ok (.iconst 1, 1) := dk_4 (dk_at dksX9_init_4 4 rfl rfl)
theorem dX9_init_100 : decode cX9_init 100 = .ok (.newarray .int, 2) := dk_188_10 (dk_at dksX9_init_4 5 rfl rfl)
theorem dX9_init_102 : decode cX9_init 102 = .ok (.putfield 48, 3) := dk_181 0 48 (dk_at dksX9_init_4 7 rfl rfl)
theorem dX9_init_105 : decode cX9_init 105 = .ok (.aload_n 0, 1) := dk_42 (dk_at dksX9_init_4 10 rfl rfl)
theorem dX9_init_106 : decode cX9_init 106 = .ok (.iconst 1, 1) := dk_4 (dk_at dksX9_init_4 11 rfl rfl)
theorem dX9_init_107 : decode cX9_init 107 = .ok (.newarray .int, 2) := dk_188_10 (dk_at dksX9_init_4 12 rfl rfl)
theorem dX9_init_109 : decode cX9_init 109 = .ok (.putfield 51, 3) := dk_181 0 51 (dk_at dksX9_init_4 14 rfl rfl)
theorem dX9_init_112 : decode cX9_init 112 = .ok (.aload_n 0, 1) := dk_42 (dk_at dksX9_init_4 17 rfl rfl)
theorem dX9_init_113 : decode cX9_init 113 = .ok (.bipush 7, 2) := dk_16 7 (dk_at dksX9_init_4 18 rfl rfl)
theorem dX9_init_115 : decode cX9_init 115 = .ok (.newarray .int, 2) := dk_188_10 (dk_at dksX9_init_4 20 rfl rfl)
theorem dX9_init_117 : decode cX9_init 117 = .ok (.putfield 54, 3) := dk_181 0 54 (dk_at dksX9_init_5 0 rfl rfl)
theorem dX9_init_120 : decode cX9_init 120 = .ok (.aload_n 0, 1) := dk_42 (dk_at dksX9_init_5 3 rfl rfl)
theorem dX9_init_121 : decode cX9_init 121 = .ok (.bipush 7, 2) := dk_16 7 (dk_at dksX9_init_5 4 rfl rfl)
theorem dX9_init_123 : decode cX9_init 123 = .ok (.newarray .boolean, 2) := dk_188_4 (dk_at dksX9_init_5 6 rfl rfl)
theorem dX9_init_125 : decode cX9_init 125 = .ok (.putfield 57, 3) := dk_181 0 57 (dk_at dksX9_init_5 8 rfl rfl)
theorem dX9_init_128 : decode cX9_init 128 = .ok (.aload_n 0, 1) := dk_42 (dk_at dksX9_init_5 11 rfl rfl)
theorem dX9_init_129 : decode cX9_init 129 = .ok (.bipush 7, 2) := dk_16 7 (dk_at dksX9_init_5 12 rfl rfl)
theorem dX9_init_131 : decode cX9_init 131 = .ok (.newarray .int, 2) := dk_188_10 (dk_at dksX9_init_5 14 rfl rfl)
theorem dX9_init_133 : decode cX9_init 133 = .ok (.putfield 60, 3) := dk_181 0 60 (dk_at dksX9_init_5 16 rfl rfl)
theorem dX9_init_136 : decode cX9_init 136 = .ok (.aload_n 0, 1) := dk_42 (dk_at dksX9_init_5 19 rfl rfl)
theorem dX9_init_137 : decode cX9_init 137 = .ok (.bipush 7, 2) := dk_16 7 (dk_at dksX9_init_5 20 rfl rfl)
theorem dX9_init_139 : decode cX9_init 139 = .ok (.newarray .int, 2) := dk_188_10 (dk_at dksX9_init_5 22 rfl rfl)
theorem dX9_init_141 : decode cX9_init 141 = .ok (.putfield 63, 3) := dk_181 0 63 (dk_at dksX9_init_6 0 rfl rfl)
theorem dX9_init_144 : decode cX9_init 144 = .ok (.aload_n 0, 1) := dk_42 (dk_at dksX9_init_6 3 rfl rfl)
theorem dX9_init_145 : decode cX9_init 145 = .ok (.bipush 7, 2) := dk_16 7 (dk_at dksX9_init_6 4 rfl rfl)
theorem dX9_init_147 : decode cX9_init 147 = .ok (.newarray .int, 2) := dk_188_10 (dk_at dksX9_init_6 6 rfl rfl)
theorem dX9_init_149 : decode cX9_init 149 = .ok (.putfield 66, 3) := dk_181 0 66 (dk_at dksX9_init_6 8 rfl rfl)
theorem dX9_init_152 : decode cX9_init 152 = .ok (.aload_n 0, 1) := dk_42 (dk_at dksX9_init_6 11 rfl rfl)
theorem dX9_init_153 : decode cX9_init 153 = .ok (.bipush 7, 2) := dk_16 7 (dk_at dksX9_init_6 12 rfl rfl)
theorem dX9_init_155 : decode cX9_init 155 = .ok (.newarray .int, 2) := dk_188_10 (dk_at dksX9_init_6 14 rfl rfl)
theorem dX9_init_157 : decode cX9_init 157 = .ok (.putfield 69, 3) := dk_181 0 69 (dk_at dksX9_init_6 16 rfl rfl)
theorem dX9_init_160 : decode cX9_init 160 = .ok (.aload_n 0, 1) := dk_42 (dk_at dksX9_init_6 19 rfl rfl)
theorem dX9_init_161 : decode cX9_init 161 = .ok (.bipush 7, 2) := dk_16 7 (dk_at dksX9_init_6 20 rfl rfl)
theorem dX9_init_163 : decode cX9_init 163 = .ok (.newarray .int, 2) := dk_188_10 (dk_at dksX9_init_6 22 rfl rfl)
theorem dX9_init_165 : decode cX9_init 165 = .ok (.putfield 72, 3) := dk_181 0 72 (dk_at dksX9_init_7 0 rfl rfl)
theorem dX9_init_168 : decode cX9_init 168 = .ok (.aload_n 0, 1) := dk_42 (dk_at dksX9_init_7 3 rfl rfl)
theorem dX9_init_169 : decode cX9_init 169 = .ok (.bipush 7, 2) := dk_16 7 (dk_at dksX9_init_7 4 rfl rfl)
theorem dX9_init_171 : decode cX9_init 171 = .ok (.newarray .int, 2) := dk_188_10 (dk_at dksX9_init_7 6 rfl rfl)
theorem dX9_init_173 : decode cX9_init 173 = .ok (.putfield 75, 3) := dk_181 0 75 (dk_at dksX9_init_7 8 rfl rfl)
theorem dX9_init_176 : decode cX9_init 176 = .ok (.aload_n 0, 1) := dk_42 (dk_at dksX9_init_7 11 rfl rfl)
theorem dX9_init_177 : decode cX9_init 177 = .ok (.bipush 7, 2) := dk_16 7 (dk_at dksX9_init_7 12 rfl rfl)
theorem dX9_init_179 : decode cX9_init 179 = .ok (.newarray .int, 2) := dk_188_10 (dk_at dksX9_init_7 14 rfl rfl)
theorem dX9_init_181 : decode cX9_init 181 = .ok (.putfield 78, 3) := dk_181 0 78 (dk_at dksX9_init_7 16 rfl rfl)
theorem dX9_init_184 : decode cX9_init 184 = .ok (.aload_n 0, 1) := dk_42 (dk_at dksX9_init_7 19 rfl rfl)
theorem dX9_init_185 : decode cX9_init 185 = .ok (.bipush 7, 2) := dk_16 7 (dk_at dksX9_init_7 20 rfl rfl)
theorem dX9_init_187 : decode cX9_init 187 = .ok (.newarray .int, 2) := dk_188_10 (dk_at dksX9_init_7 22 rfl rfl)
theorem dX9_init_189 : decode cX9_init 189 = .ok (.putfield 81, 3) := dk_181 0 81 (dk_at dksX9_init_8 0 rfl rfl)
theorem dX9_init_192 : decode cX9_init 192 = .ok (.aload_n 0, 1) := dk_42 (dk_at dksX9_init_8 3 rfl rfl)
theorem dX9_init_193 : decode cX9_init 193 = .ok (.bipush 7, 2) := dk_16 7 (dk_at dksX9_init_8 4 rfl rfl)
theorem dX9_init_195 : decode cX9_init 195 = .ok (.newarray .int, 2) := dk_188_10 (dk_at dksX9_init_8 6 rfl rfl)
theorem dX9_init_197 : decode cX9_init 197 = .ok (.putfield 84, 3) := dk_181 0 84 (dk_at dksX9_init_8 8 rfl rfl)
theorem dX9_init_200 : decode cX9_init 200 = .ok (.aload_n 0, 1) := dk_42 (dk_at dksX9_init_8 11 rfl rfl)
theorem dX9_init_201 : decode cX9_init 201 = .ok (.bipush 20, 2) := dk_16 20 (dk_at dksX9_init_8 12 rfl rfl)
theorem dX9_init_203 : decode cX9_init 203 = .ok (.newarray .int, 2) := dk_188_10 (dk_at dksX9_init_8 14 rfl rfl)
theorem dX9_init_205 : decode cX9_init 205 = .ok (.putfield 87, 3) := dk_181 0 87 (dk_at dksX9_init_8 16 rfl rfl)
theorem dX9_init_208 : decode cX9_init 208 = .ok (.aload_n 0, 1) := dk_42 (dk_at dksX9_init_8 19 rfl rfl)
theorem dX9_init_209 : decode cX9_init 209 = .ok (.iconst 2, 1) := dk_5 (dk_at dksX9_init_8 20 rfl rfl)
theorem dX9_init_210 : decode cX9_init 210 = .ok (.newarray .boolean, 2) := dk_188_4 (dk_at dksX9_init_8 21 rfl rfl)
theorem dX9_init_212 : decode cX9_init 212 = .ok (.putfield 90, 3) := dk_181 0 90 (dk_at dksX9_init_9 0 rfl rfl)
theorem dX9_init_215 : decode cX9_init 215 = .ok (.aload_n 0, 1) := dk_42 (dk_at dksX9_init_9 3 rfl rfl)
theorem dX9_init_216 : decode cX9_init 216 = .ok (.iconst 4, 1) := dk_7 (dk_at dksX9_init_9 4 rfl rfl)
theorem dX9_init_217 : decode cX9_init 217 = .ok (.newarray .long, 2) := dk_188_11 (dk_at dksX9_init_9 5 rfl rfl)
theorem dX9_init_219 : decode cX9_init 219 = .ok (.putfield 93, 3) := dk_181 0 93 (dk_at dksX9_init_9 7 rfl rfl)
theorem dX9_init_222 : decode cX9_init 222 = .ok (.aload_n 0, 1) := dk_42 (dk_at dksX9_init_9 10 rfl rfl)
theorem dX9_init_223 : decode cX9_init 223 = .ok (.bipush 31, 2) := dk_16 31 (dk_at dksX9_init_9 11 rfl rfl)
theorem dX9_init_225 : decode cX9_init 225 = .ok (.newarray .int, 2) := dk_188_10 (dk_at dksX9_init_9 13 rfl rfl)
theorem dX9_init_227 : decode cX9_init 227 = .ok (.putfield 96, 3) := dk_181 0 96 (dk_at dksX9_init_9 15 rfl rfl)
theorem dX9_init_230 : decode cX9_init 230 = .ok (.aload_n 0, 1) := dk_42 (dk_at dksX9_init_9 18 rfl rfl)
theorem dX9_init_231 : decode cX9_init 231 = .ok (.bipush 31, 2) := dk_16 31 (dk_at dksX9_init_9 19 rfl rfl)
theorem dX9_init_233 : decode cX9_init 233 = .ok (.newarray .int, 2) := dk_188_10 (dk_at dksX9_init_9 21 rfl rfl)
theorem dX9_init_235 : decode cX9_init 235 = .ok (.putfield 99, 3) := dk_181 0 99 (dk_at dksX9_init_10 0 rfl rfl)
theorem dX9_init_238 : decode cX9_init 238 = .ok (.aload_n 0, 1) := dk_42 (dk_at dksX9_init_10 3 rfl rfl)
theorem dX9_init_239 : decode cX9_init 239 = .ok (.bipush 31, 2) := dk_16 31 (dk_at dksX9_init_10 4 rfl rfl)
theorem dX9_init_241 : decode cX9_init 241 = .ok (.newarray .long, 2) := dk_188_11 (dk_at dksX9_init_10 6 rfl rfl)
theorem dX9_init_243 : decode cX9_init 243 = .ok (.putfield 102, 3) := dk_181 0 102 (dk_at dksX9_init_10 8 rfl rfl)
theorem dX9_init_246 : decode cX9_init 246 = .ok (.aload_n 0, 1) := dk_42 (dk_at dksX9_init_10 11 rfl rfl)
theorem dX9_init_247 : decode cX9_init 247 = .ok (.bipush 31, 2) := dk_16 31 (dk_at dksX9_init_10 12 rfl rfl)
theorem dX9_init_249 : decode cX9_init 249 = .ok (.newarray .boolean, 2) := dk_188_4 (dk_at dksX9_init_10 14 rfl rfl)
theorem dX9_init_251 : decode cX9_init 251 = .ok (.putfield 105, 3) := dk_181 0 105 (dk_at dksX9_init_10 16 rfl rfl)
theorem dX9_init_254 : decode cX9_init 254 = .ok (.aload_n 0, 1) := dk_42 (dk_at dksX9_init_10 19 rfl rfl)
theorem dX9_init_255 : decode cX9_init 255 = .ok (.bipush 31, 2) := dk_16 31 (dk_at dksX9_init_10 20 rfl rfl)
theorem dX9_init_257 : decode cX9_init 257 = .ok (.newarray .int, 2) := dk_188_10 (dk_at dksX9_init_10 22 rfl rfl)
theorem dX9_init_259 : decode cX9_init 259 = .ok (.putfield 108, 3) := dk_181 0 108 (dk_at dksX9_init_11 0 rfl rfl)
theorem dX9_init_262 : decode cX9_init 262 = .ok (.aload_n 0, 1) := dk_42 (dk_at dksX9_init_11 3 rfl rfl)
theorem dX9_init_263 : decode cX9_init 263 = .ok (.bipush 62, 2) := dk_16 62 (dk_at dksX9_init_11 4 rfl rfl)
theorem dX9_init_265 : decode cX9_init 265 = .ok (.newarray .long, 2) := dk_188_11 (dk_at dksX9_init_11 6 rfl rfl)
theorem dX9_init_267 : decode cX9_init 267 = .ok (.putfield 111, 3) := dk_181 0 111 (dk_at dksX9_init_11 8 rfl rfl)
theorem dX9_init_270 : decode cX9_init 270 = .ok (.aload_n 0, 1) := dk_42 (dk_at dksX9_init_11 11 rfl rfl)
theorem dX9_init_271 : decode cX9_init 271 = .ok (.bipush 12, 2) := dk_16 12 (dk_at dksX9_init_11 12 rfl rfl)
theorem dX9_init_273 : decode cX9_init 273 = .ok (.newarray .int, 2) := dk_188_10 (dk_at dksX9_init_11 14 rfl rfl)
theorem dX9_init_275 : decode cX9_init 275 = .ok (.putfield 114, 3) := dk_181 0 114 (dk_at dksX9_init_11 16 rfl rfl)
theorem dX9_init_278 : decode cX9_init 278 = .ok (.aload_n 0, 1) := dk_42 (dk_at dksX9_init_11 19 rfl rfl)
theorem dX9_init_279 : decode cX9_init 279 = .ok (.bipush 12, 2) := dk_16 12 (dk_at dksX9_init_11 20 rfl rfl)
theorem dX9_init_281 : decode cX9_init 281 = .ok (.newarray .int, 2) := dk_188_10 (dk_at dksX9_init_11 22 rfl rfl)
theorem dX9_init_283 : decode cX9_init 283 = .ok (.putfield 117, 3) := dk_181 0 117 (dk_at dksX9_init_12 0 rfl rfl)
theorem dX9_init_286 : decode cX9_init 286 = .ok (.aload_n 0, 1) := dk_42 (dk_at dksX9_init_12 3 rfl rfl)
theorem dX9_init_287 : decode cX9_init 287 = .ok (.bipush 12, 2) := dk_16 12 (dk_at dksX9_init_12 4 rfl rfl)
theorem dX9_init_289 : decode cX9_init 289 = .ok (.newarray .int, 2) := dk_188_10 (dk_at dksX9_init_12 6 rfl rfl)
theorem dX9_init_291 : decode cX9_init 291 = .ok (.putfield 120, 3) := dk_181 0 120 (dk_at dksX9_init_12 8 rfl rfl)
theorem dX9_init_294 : decode cX9_init 294 = .ok (.aload_n 0, 1) := dk_42 (dk_at dksX9_init_12 11 rfl rfl)
theorem dX9_init_295 : decode cX9_init 295 = .ok (.bipush 12, 2) := dk_16 12 (dk_at dksX9_init_12 12 rfl rfl)
theorem dX9_init_297 : decode cX9_init 297 = .ok (.newarray .int, 2) := dk_188_10 (dk_at dksX9_init_12 14 rfl rfl)
theorem dX9_init_299 : decode cX9_init 299 = .ok (.putfield 123, 3) := dk_181 0 123 (dk_at dksX9_init_12 16 rfl rfl)
theorem dX9_init_302 : decode cX9_init 302 = .ok (.aload_n 0, 1) := dk_42 (dk_at dksX9_init_12 19 rfl rfl)
theorem dX9_init_303 : decode cX9_init 303 = .ok (.bipush 12, 2) := dk_16 12 (dk_at dksX9_init_12 20 rfl rfl)
theorem dX9_init_305 : decode cX9_init 305 = .ok (.newarray .long, 2) := dk_188_11 (dk_at dksX9_init_12 22 rfl rfl)
theorem dX9_init_307 : decode cX9_init 307 = .ok (.putfield 126, 3) := dk_181 0 126 (dk_at dksX9_init_13 0 rfl rfl)
theorem dX9_init_310 : decode cX9_init 310 = .ok (.aload_n 0, 1) := dk_42 (dk_at dksX9_init_13 3 rfl rfl)
theorem dX9_init_311 : decode cX9_init 311 = .ok (.sipush 360, 3) := dk_17 1 104 (dk_at dksX9_init_13 4 rfl rfl)
theorem dX9_init_314 : decode cX9_init 314 = .ok (.newarray .int, 2) := dk_188_10 (dk_at dksX9_init_13 7 rfl rfl)
theorem dX9_init_316 : decode cX9_init 316 = .ok (.putfield 129, 3) := dk_181 0 129 (dk_at dksX9_init_13 9 rfl rfl)
theorem dX9_init_319 : decode cX9_init 319 = .ok (.aload_n 0, 1) := dk_42 (dk_at dksX9_init_13 12 rfl rfl)
theorem dX9_init_320 : decode cX9_init 320 = .ok (.sipush 360, 3) := dk_17 1 104 (dk_at dksX9_init_13 13 rfl rfl)
theorem dX9_init_323 : decode cX9_init 323 = .ok (.newarray .int, 2) := dk_188_10 (dk_at dksX9_init_13 16 rfl rfl)
theorem dX9_init_325 : decode cX9_init 325 = .ok (.putfield 132, 3) := dk_181 0 132 (dk_at dksX9_init_13 18 rfl rfl)
theorem dX9_init_328 : decode cX9_init 328 = .ok (.aload_n 0, 1) := dk_42 (dk_at dksX9_init_13 21 rfl rfl)
theorem dX9_init_329 : decode cX9_init 329 = .ok (.iconst 4, 1) := dk_7 (dk_at dksX9_init_13 22 rfl rfl)
theorem dX9_init_330 : decode cX9_init 330 = .ok (.newarray .int, 2) := dk_188_10 (dk_at dksX9_init_14 0 rfl rfl)
theorem dX9_init_332 : decode cX9_init 332 = .ok (.putfield 135, 3) := dk_181 0 135 (dk_at dksX9_init_14 2 rfl rfl)
theorem dX9_init_335 : decode cX9_init 335 = .ok (.aload_n 0, 1) := dk_42 (dk_at dksX9_init_14 5 rfl rfl)
theorem dX9_init_336 : decode cX9_init 336 = .ok (.iconst 4, 1) := dk_7 (dk_at dksX9_init_14 6 rfl rfl)
theorem dX9_init_337 : decode cX9_init 337 = .ok (.newarray .int, 2) := dk_188_10 (dk_at dksX9_init_14 7 rfl rfl)
theorem dX9_init_339 : decode cX9_init 339 = .ok (.putfield 138, 3) := dk_181 0 138 (dk_at dksX9_init_14 9 rfl rfl)
theorem dX9_init_342 : decode cX9_init 342 = .ok (.aload_n 0, 1) := dk_42 (dk_at dksX9_init_14 12 rfl rfl)
theorem dX9_init_343 : decode cX9_init 343 = .ok (.bipush 24, 2) := dk_16 24 (dk_at dksX9_init_14 13 rfl rfl)
theorem dX9_init_345 : decode cX9_init 345 = .ok (.newarray .int, 2) := dk_188_10 (dk_at dksX9_init_14 15 rfl rfl)
theorem dX9_init_347 : decode cX9_init 347 = .ok (.putfield 141, 3) := dk_181 0 141 (dk_at dksX9_init_14 17 rfl rfl)
theorem dX9_init_350 : decode cX9_init 350 = .ok (.aload_n 0, 1) := dk_42 (dk_at dksX9_init_14 20 rfl rfl)
theorem dX9_init_351 : decode cX9_init 351 = .ok (.sipush 1536, 3) := dk_17 6 0 (dk_at dksX9_init_14 21 rfl rfl)
theorem dX9_init_354 : decode cX9_init 354 = .ok (.newarray .int, 2) := dk_188_10 (dk_at dksX9_init_15 0 rfl rfl)
theorem dX9_init_356 : decode cX9_init 356 = .ok (.putfield 144, 3) := dk_181 0 144 (dk_at dksX9_init_15 2 rfl rfl)
theorem dX9_init_359 : decode cX9_init 359 = .ok (.aload_n 0, 1) := dk_42 (dk_at dksX9_init_15 5 rfl rfl)
theorem dX9_init_360 : decode cX9_init 360 = .ok (.iconst 3, 1) := dk_6 (dk_at dksX9_init_15 6 rfl rfl)
theorem dX9_init_361 : decode cX9_init 361 = .ok (.newarray .int, 2) := dk_188_10 (dk_at dksX9_init_15 7 rfl rfl)
theorem dX9_init_363 : decode cX9_init 363 = .ok (.putfield 147, 3) := dk_181 0 147 (dk_at dksX9_init_15 9 rfl rfl)
theorem dX9_init_366 : decode cX9_init 366 = .ok (.aload_n 0, 1) := dk_42 (dk_at dksX9_init_15 12 rfl rfl)
theorem dX9_init_367 : decode cX9_init 367 = .ok (.iconst 4, 1) := dk_7 (dk_at dksX9_init_15 13 rfl rfl)
theorem dX9_init_368 : decode cX9_init 368 = .ok (.newarray .boolean, 2) := dk_188_4 (dk_at dksX9_init_15 14 rfl rfl)
theorem dX9_init_370 : decode cX9_init 370 = .ok (.putfield 150, 3) := dk_181 0 150 (dk_at dksX9_init_15 16 rfl rfl)
theorem dX9_init_373 : decode cX9_init 373 = .ok (.aload_n 0, 1) := dk_42 (dk_at dksX9_init_15 19 rfl rfl)
theorem dX9_init_374 : decode cX9_init 374 = .ok (.sipush 1200, 3) := dk_17 4 176 (dk_at dksX9_init_15 20 rfl rfl)
theorem dX9_init_377 : decode cX9_init 377 = .ok (.newarray .int, 2) := dk_188_10 (dk_at dksX9_init_16 0 rfl rfl)
theorem dX9_init_379 : decode cX9_init 379 = .ok (.putfield 153, 3) := dk_181 0 153 (dk_at dksX9_init_16 2 rfl rfl)
theorem dX9_init_382 : decode cX9_init 382 = .ok (.aload_n 0, 1) := dk_42 (dk_at dksX9_init_16 5 rfl rfl)
theorem dX9_init_383 : decode cX9_init 383 = .ok (.sipush 400, 3) := dk_17 1 144 (dk_at dksX9_init_16 6 rfl rfl)
theorem dX9_init_386 : decode cX9_init 386 = .ok (.newarray .long, 2) := dk_188_11 (dk_at dksX9_init_16 9 rfl rfl)
theorem dX9_init_388 : decode cX9_init 388 = .ok (.putfield 156, 3) := dk_181 0 156 (dk_at dksX9_init_16 11 rfl rfl)
theorem dX9_init_391 : decode cX9_init 391 = .ok (.aload_n 0, 1) := dk_42 (dk_at dksX9_init_16 14 rfl rfl)
theorem dX9_init_392 : decode cX9_init 392 = .ok (.invokevirtual 159, 3) := dk_182 0 159 (dk_at dksX9_init_16 15 rfl rfl)
theorem dX9_init_395 : decode cX9_init 395 = .ok (.return_, 1) := dk_177 (dk_at dksX9_init_16 18 rfl rfl)
abbrev cX9_forgets : ByteArray := prog_28_method_34_code
def yX9_forgets : MethodName := ⟨RX9, "forgets", "()V"⟩
def dkwX9_forgets_1 : List UInt8 := [3, 4, 84, 42, 180, 0, 42, 3, 10, 80, 177]
abbrev dktX9_forgets_1 : List UInt8 := dkwX9_forgets_1 ++ []
def dkwX9_forgets_0 : List UInt8 := [3, 60, 27, 6, 162, 0, 16, 42, 180, 0, 13, 27, 3, 79, 132, 1, 1, 167, 255, 241, 42, 180, 0, 38]
abbrev dktX9_forgets_0 : List UInt8 := dkwX9_forgets_0 ++ dktX9_forgets_1
theorem dksX9_forgets_0 : cX9_forgets.data.toList.drop 0 = dktX9_forgets_0 := by decide +kernel
theorem dksX9_forgets_1 : cX9_forgets.data.toList.drop 24 = dktX9_forgets_1 := dk_seg dksX9_forgets_0 24 rfl rfl
theorem dX9_forgets_0 : decode cX9_forgets 0 = .ok (.iconst 0, 1) := dk_3 (dk_at dksX9_forgets_0 0 rfl rfl)
theorem dX9_forgets_1 : decode cX9_forgets 1 = .ok (.istore_n 1, 1) := dk_60 (dk_at dksX9_forgets_0 1 rfl rfl)
theorem dX9_forgets_2 : decode cX9_forgets 2 = .ok (.iload_n 1, 1) := dk_27 (dk_at dksX9_forgets_0 2 rfl rfl)
theorem dX9_forgets_3 : decode cX9_forgets 3 = .ok (.iconst 3, 1) := dk_6 (dk_at dksX9_forgets_0 3 rfl rfl)
theorem dX9_forgets_4 : decode cX9_forgets 4 = .ok (.if_icmp .ge 16, 3) := dk_162 0 16 (dk_at dksX9_forgets_0 4 rfl rfl)
theorem dX9_forgets_7 : decode cX9_forgets 7 = .ok (.aload_n 0, 1) := dk_42 (dk_at dksX9_forgets_0 7 rfl rfl)
theorem dX9_forgets_8 : decode cX9_forgets 8 = .ok (.getfield 13, 3) := dk_180 0 13 (dk_at dksX9_forgets_0 8 rfl rfl)
theorem dX9_forgets_11 : decode cX9_forgets 11 = .ok (.iload_n 1, 1) := dk_27 (dk_at dksX9_forgets_0 11 rfl rfl)
theorem dX9_forgets_12 : decode cX9_forgets 12 = .ok (.iconst 0, 1) := dk_3 (dk_at dksX9_forgets_0 12 rfl rfl)
theorem dX9_forgets_13 : decode cX9_forgets 13 = .ok (.iastore, 1) := dk_79 (dk_at dksX9_forgets_0 13 rfl rfl)
theorem dX9_forgets_14 : decode cX9_forgets 14 = .ok (.iinc 1 1, 3) := dk_132 1 1 (dk_at dksX9_forgets_0 14 rfl rfl)
theorem dX9_forgets_17 : decode cX9_forgets 17 = .ok (.goto (-15), 3) := dk_167 255 241 (dk_at dksX9_forgets_0 17 rfl rfl)
theorem dX9_forgets_20 : decode cX9_forgets 20 = .ok (.aload_n 0, 1) := dk_42 (dk_at dksX9_forgets_0 20 rfl rfl)
theorem dX9_forgets_21 : decode cX9_forgets 21 = .ok (.getfield 38, 3) := dk_180 0 38 (dk_at dksX9_forgets_0 21 rfl rfl)
theorem dX9_forgets_24 : decode cX9_forgets 24 = .ok (.iconst 0, 1) := dk_3 (dk_at dksX9_forgets_1 0 rfl rfl)
theorem dX9_forgets_25 : decode cX9_forgets 25 = .ok (.iconst 1, 1) := dk_4 (dk_at dksX9_forgets_1 1 rfl rfl)
theorem dX9_forgets_26 : decode cX9_forgets 26 = .ok (.bastore, 1) := dk_84 (dk_at dksX9_forgets_1 2 rfl rfl)
theorem dX9_forgets_27 : decode cX9_forgets 27 = .ok (.aload_n 0, 1) := dk_42 (dk_at dksX9_forgets_1 3 rfl rfl)
theorem dX9_forgets_28 : decode cX9_forgets 28 = .ok (.getfield 42, 3) := dk_180 0 42 (dk_at dksX9_forgets_1 4 rfl rfl)
theorem dX9_forgets_31 : decode cX9_forgets 31 = .ok (.iconst 0, 1) := dk_3 (dk_at dksX9_forgets_1 7 rfl rfl)
theorem dX9_forgets_32 : decode cX9_forgets 32 = .ok (.lconst 1, 1) := dk_10 (dk_at dksX9_forgets_1 8 rfl rfl)
theorem dX9_forgets_33 : decode cX9_forgets 33 = .ok (.lastore, 1) := dk_80 (dk_at dksX9_forgets_1 9 rfl rfl)
theorem dX9_forgets_34 : decode cX9_forgets 34 = .ok (.return_, 1) := dk_177 (dk_at dksX9_forgets_1 10 rfl rfl)
abbrev cX9_thrown : ByteArray := prog_28_method_2_code
def yX9_thrown : MethodName := ⟨RX9, "thrown", "()I"⟩
theorem dX9_thrown_0 : decode cX9_thrown 0 = .ok (.aload_n 0, 1) := by decide +kernel
theorem dX9_thrown_1 : decode cX9_thrown 1 = .ok (.getfield 162, 3) := by decide +kernel
theorem dX9_thrown_4 : decode cX9_thrown 4 = .ok (.ireturn, 1) := by decide +kernel
abbrev cX9_feed : ByteArray := prog_28_method_7_code
def yX9_feed : MethodName := ⟨RX9, "feed", "(JJJ)I"⟩
def dkwX9_feed_5 : List UInt8 := [167, 255, 147, 42, 180, 0, 168, 172]
abbrev dktX9_feed_5 : List UInt8 := dkwX9_feed_5 ++ []
def dkwX9_feed_4 : List UInt8 := [42, 180, 0, 7, 42, 180, 0, 168, 21, 10, 79, 42, 89, 180, 0, 168, 4, 96, 181, 0, 168, 132, 7, 1]
abbrev dktX9_feed_4 : List UInt8 := dkwX9_feed_4 ++ dktX9_feed_5
def dkwX9_feed_3 : List UInt8 := [162, 0, 45, 21, 10, 16, 10, 159, 0, 17, 21, 10, 16, 32, 161, 0, 31, 21, 10, 16, 126, 163, 0, 24]
abbrev dktX9_feed_3 : List UInt8 := dkwX9_feed_3 ++ dktX9_feed_4
def dkwX9_feed_2 : List UInt8 := [21, 7, 16, 7, 126, 104, 100, 125, 20, 0, 166, 127, 136, 54, 10, 42, 180, 0, 168, 17, 3, 232]
abbrev dktX9_feed_2 : List UInt8 := dkwX9_feed_2 ++ dktX9_feed_3
def dkwX9_feed_1 : List UInt8 := [167, 0, 16, 21, 7, 16, 16, 162, 0, 7, 33, 167, 0, 5, 22, 5, 55, 8, 22, 8, 16, 56, 16, 8]
abbrev dktX9_feed_1 : List UInt8 := dkwX9_feed_1 ++ dktX9_feed_2
def dkwX9_feed_0 : List UInt8 := [42, 3, 181, 0, 162, 3, 54, 7, 21, 7, 16, 24, 162, 0, 108, 21, 7, 16, 8, 162, 0, 7, 31]
abbrev dktX9_feed_0 : List UInt8 := dkwX9_feed_0 ++ dktX9_feed_1
theorem dksX9_feed_0 : cX9_feed.data.toList.drop 0 = dktX9_feed_0 := by decide +kernel
theorem dksX9_feed_1 : cX9_feed.data.toList.drop 23 = dktX9_feed_1 := dk_seg dksX9_feed_0 23 rfl rfl
theorem dksX9_feed_2 : cX9_feed.data.toList.drop 47 = dktX9_feed_2 := dk_seg dksX9_feed_1 24 rfl rfl
theorem dksX9_feed_3 : cX9_feed.data.toList.drop 69 = dktX9_feed_3 := dk_seg dksX9_feed_2 22 rfl rfl
theorem dksX9_feed_4 : cX9_feed.data.toList.drop 93 = dktX9_feed_4 := dk_seg dksX9_feed_3 24 rfl rfl
theorem dksX9_feed_5 : cX9_feed.data.toList.drop 117 = dktX9_feed_5 := dk_seg dksX9_feed_4 24 rfl rfl
theorem dX9_feed_0 : decode cX9_feed 0 = .ok (.aload_n 0, 1) := dk_42 (dk_at dksX9_feed_0 0 rfl rfl)
theorem dX9_feed_1 : decode cX9_feed 1 = .ok (.iconst 0, 1) := dk_3 (dk_at dksX9_feed_0 1 rfl rfl)
theorem dX9_feed_2 : decode cX9_feed 2 = .ok (.putfield 162, 3) := dk_181 0 162 (dk_at dksX9_feed_0 2 rfl rfl)
theorem dX9_feed_5 : decode cX9_feed 5 = .ok (.iconst 0, 1) := dk_3 (dk_at dksX9_feed_0 5 rfl rfl)
theorem dX9_feed_6 : decode cX9_feed 6 = .ok (.istore 7, 2) := dk_54 7 (dk_at dksX9_feed_0 6 rfl rfl)
theorem dX9_feed_8 : decode cX9_feed 8 = .ok (.iload 7, 2) := dk_21 7 (dk_at dksX9_feed_0 8 rfl rfl)
theorem dX9_feed_10 : decode cX9_feed 10 = .ok (.bipush 24, 2) := dk_16 24 (dk_at dksX9_feed_0 10 rfl rfl)
theorem dX9_feed_12 : decode cX9_feed 12 = .ok (.if_icmp .ge 108, 3) := dk_162 0 108 (dk_at dksX9_feed_0 12 rfl rfl)
theorem dX9_feed_15 : decode cX9_feed 15 = .ok (.iload 7, 2) := dk_21 7 (dk_at dksX9_feed_0 15 rfl rfl)
theorem dX9_feed_17 : decode cX9_feed 17 = .ok (.bipush 8, 2) := dk_16 8 (dk_at dksX9_feed_0 17 rfl rfl)
theorem dX9_feed_19 : decode cX9_feed 19 = .ok (.if_icmp .ge 7, 3) := dk_162 0 7 (dk_at dksX9_feed_0 19 rfl rfl)
theorem dX9_feed_22 : decode cX9_feed 22 = .ok (.lload_n 1, 1) := dk_31 (dk_at dksX9_feed_0 22 rfl rfl)
theorem dX9_feed_23 : decode cX9_feed 23 = .ok (.goto 16, 3) := dk_167 0 16 (dk_at dksX9_feed_1 0 rfl rfl)
theorem dX9_feed_26 : decode cX9_feed 26 = .ok (.iload 7, 2) := dk_21 7 (dk_at dksX9_feed_1 3 rfl rfl)
theorem dX9_feed_28 : decode cX9_feed 28 = .ok (.bipush 16, 2) := dk_16 16 (dk_at dksX9_feed_1 5 rfl rfl)
theorem dX9_feed_30 : decode cX9_feed 30 = .ok (.if_icmp .ge 7, 3) := dk_162 0 7 (dk_at dksX9_feed_1 7 rfl rfl)
theorem dX9_feed_33 : decode cX9_feed 33 = .ok (.lload_n 3, 1) := dk_33 (dk_at dksX9_feed_1 10 rfl rfl)
theorem dX9_feed_34 : decode cX9_feed 34 = .ok (.goto 5, 3) := dk_167 0 5 (dk_at dksX9_feed_1 11 rfl rfl)
theorem dX9_feed_37 : decode cX9_feed 37 = .ok (.lload 5, 2) := dk_22 5 (dk_at dksX9_feed_1 14 rfl rfl)
theorem dX9_feed_39 : decode cX9_feed 39 = .ok (.lstore 8, 2) := dk_55 8 (dk_at dksX9_feed_1 16 rfl rfl)
theorem dX9_feed_41 : decode cX9_feed 41 = .ok (.lload 8, 2) := dk_22 8 (dk_at dksX9_feed_1 18 rfl rfl)
theorem dX9_feed_43 : decode cX9_feed 43 = .ok (.bipush 56, 2) := dk_16 56 (dk_at dksX9_feed_1 20 rfl rfl)
theorem dX9_feed_45 : decode cX9_feed 45 = .ok (.bipush 8, 2) := dk_16 8 (dk_at dksX9_feed_1 22 rfl rfl)
theorem dX9_feed_47 : decode cX9_feed 47 = .ok (.iload 7, 2) := dk_21 7 (dk_at dksX9_feed_2 0 rfl rfl)
theorem dX9_feed_49 : decode cX9_feed 49 = .ok (.bipush 7, 2) := dk_16 7 (dk_at dksX9_feed_2 2 rfl rfl)
theorem dX9_feed_51 : decode cX9_feed 51 = .ok (.iand, 1) := dk_126 (dk_at dksX9_feed_2 4 rfl rfl)
theorem dX9_feed_52 : decode cX9_feed 52 = .ok (.imul, 1) := dk_104 (dk_at dksX9_feed_2 5 rfl rfl)
theorem dX9_feed_53 : decode cX9_feed 53 = .ok (.isub, 1) := dk_100 (dk_at dksX9_feed_2 6 rfl rfl)
theorem dX9_feed_54 : decode cX9_feed 54 = .ok (.lushr, 1) := dk_125 (dk_at dksX9_feed_2 7 rfl rfl)
theorem dX9_feed_55 : decode cX9_feed 55 = .ok (.ldc2_w 166, 3) := dk_20 0 166 (dk_at dksX9_feed_2 8 rfl rfl)
theorem dX9_feed_58 : decode cX9_feed 58 = .ok (.land, 1) := dk_127 (dk_at dksX9_feed_2 11 rfl rfl)
theorem dX9_feed_59 : decode cX9_feed 59 = .ok (.l2i, 1) := dk_136 (dk_at dksX9_feed_2 12 rfl rfl)
theorem dX9_feed_60 : decode cX9_feed 60 = .ok (.istore 10, 2) := dk_54 10 (dk_at dksX9_feed_2 13 rfl rfl)
theorem dX9_feed_62 : decode cX9_feed 62 = .ok (.aload_n 0, 1) := dk_42 (dk_at dksX9_feed_2 15 rfl rfl)
theorem dX9_feed_63 : decode cX9_feed 63 = .ok (.getfield 168, 3) := dk_180 0 168 (dk_at dksX9_feed_2 16 rfl rfl)
theorem dX9_feed_66 : decode cX9_feed 66 = .ok (.sipush 1000, 3) := dk_17 3 232 (dk_at dksX9_feed_2 19 rfl rfl)
theorem dX9_feed_69 : decode cX9_feed 69 = .ok (.if_icmp .ge 45, 3) := dk_162 0 45 (dk_at dksX9_feed_3 0 rfl rfl)
theorem dX9_feed_72 : decode cX9_feed 72 = .ok (.iload 10, 2) := dk_21 10 (dk_at dksX9_feed_3 3 rfl rfl)
theorem dX9_feed_74 : decode cX9_feed 74 = .ok (.bipush 10, 2) := dk_16 10 (dk_at dksX9_feed_3 5 rfl rfl)
theorem dX9_feed_76 : decode cX9_feed 76 = .ok (.if_icmp .eq 17, 3) := dk_159 0 17 (dk_at dksX9_feed_3 7 rfl rfl)
theorem dX9_feed_79 : decode cX9_feed 79 = .ok (.iload 10, 2) := dk_21 10 (dk_at dksX9_feed_3 10 rfl rfl)
theorem dX9_feed_81 : decode cX9_feed 81 = .ok (.bipush 32, 2) := dk_16 32 (dk_at dksX9_feed_3 12 rfl rfl)
theorem dX9_feed_83 : decode cX9_feed 83 = .ok (.if_icmp .lt 31, 3) := dk_161 0 31 (dk_at dksX9_feed_3 14 rfl rfl)
theorem dX9_feed_86 : decode cX9_feed 86 = .ok (.iload 10, 2) := dk_21 10 (dk_at dksX9_feed_3 17 rfl rfl)
theorem dX9_feed_88 : decode cX9_feed 88 = .ok (.bipush 126, 2) := dk_16 126 (dk_at dksX9_feed_3 19 rfl rfl)
theorem dX9_feed_90 : decode cX9_feed 90 = .ok (.if_icmp .gt 24, 3) := dk_163 0 24 (dk_at dksX9_feed_3 21 rfl rfl)
theorem dX9_feed_93 : decode cX9_feed 93 = .ok (.aload_n 0, 1) := dk_42 (dk_at dksX9_feed_4 0 rfl rfl)
theorem dX9_feed_94 : decode cX9_feed 94 = .ok (.getfield 7, 3) := dk_180 0 7 (dk_at dksX9_feed_4 1 rfl rfl)
theorem dX9_feed_97 : decode cX9_feed 97 = .ok (.aload_n 0, 1) := dk_42 (dk_at dksX9_feed_4 4 rfl rfl)
theorem dX9_feed_98 : decode cX9_feed 98 = .ok (.getfield 168, 3) := dk_180 0 168 (dk_at dksX9_feed_4 5 rfl rfl)
theorem dX9_feed_101 : decode cX9_feed 101 = .ok (.iload 10, 2) := dk_21 10 (dk_at dksX9_feed_4 8 rfl rfl)
theorem dX9_feed_103 : decode cX9_feed 103 = .ok (.iastore, 1) := dk_79 (dk_at dksX9_feed_4 10 rfl rfl)
theorem dX9_feed_104 : decode cX9_feed 104 = .ok (.aload_n 0, 1) := dk_42 (dk_at dksX9_feed_4 11 rfl rfl)
theorem dX9_feed_105 : decode cX9_feed 105 = .ok (.dup, 1) := dk_89 (dk_at dksX9_feed_4 12 rfl rfl)
theorem dX9_feed_106 : decode cX9_feed 106 = .ok (.getfield 168, 3) := dk_180 0 168 (dk_at dksX9_feed_4 13 rfl rfl)
theorem dX9_feed_109 : decode cX9_feed 109 = .ok (.iconst 1, 1) := dk_4 (dk_at dksX9_feed_4 16 rfl rfl)
theorem dX9_feed_110 : decode cX9_feed 110 = .ok (.iadd, 1) := dk_96 (dk_at dksX9_feed_4 17 rfl rfl)
theorem dX9_feed_111 : decode cX9_feed 111 = .ok (.putfield 168, 3) := dk_181 0 168 (dk_at dksX9_feed_4 18 rfl rfl)
theorem dX9_feed_114 : decode cX9_feed 114 = .ok (.iinc 7 1, 3) := dk_132 7 1 (dk_at dksX9_feed_4 21 rfl rfl)
theorem dX9_feed_117 : decode cX9_feed 117 = .ok (.goto (-109), 3) := dk_167 255 147 (dk_at dksX9_feed_5 0 rfl rfl)
theorem dX9_feed_120 : decode cX9_feed 120 = .ok (.aload_n 0, 1) := dk_42 (dk_at dksX9_feed_5 3 rfl rfl)
theorem dX9_feed_121 : decode cX9_feed 121 = .ok (.getfield 168, 3) := dk_180 0 168 (dk_at dksX9_feed_5 4 rfl rfl)
theorem dX9_feed_124 : decode cX9_feed 124 = .ok (.ireturn, 1) := dk_172 (dk_at dksX9_feed_5 7 rfl rfl)
abbrev cX9_parish : ByteArray := prog_28_method_35_code
def yX9_parish : MethodName := ⟨RX9, "parish", "()I"⟩
def dkwX9_parish_12 : List UInt8 := [172]
abbrev dktX9_parish_12 : List UInt8 := dkwX9_parish_12 ++ []
def dkwX9_parish_11 : List UInt8 := [181, 1, 66, 42, 3, 181, 1, 69, 42, 3, 181, 1, 72, 42, 3, 181, 1, 75, 42, 3, 181, 1, 78, 3]
abbrev dktX9_parish_11 : List UInt8 := dkwX9_parish_11 ++ dktX9_parish_12
def dkwX9_parish_10 : List UInt8 := [180, 0, 42, 3, 92, 47, 42, 180, 0, 93, 27, 47, 127, 80, 132, 1, 1, 167, 255, 230, 42, 3]
abbrev dktX9_parish_10 : List UInt8 := dkwX9_parish_10 ++ dktX9_parish_11
def dkwX9_parish_9 : List UInt8 := [181, 1, 59, 42, 180, 0, 42, 3, 42, 182, 1, 62, 80, 3, 60, 27, 42, 180, 1, 59, 162, 0, 24, 42]
abbrev dktX9_parish_9 : List UInt8 := dkwX9_parish_9 ++ dktX9_parish_10
def dkwX9_parish_8 : List UInt8 := [180, 0, 38, 27, 42, 180, 0, 38, 5, 27, 96, 51, 84, 132, 1, 1, 167, 255, 206, 42, 42, 180, 1, 25]
abbrev dktX9_parish_8 : List UInt8 := dkwX9_parish_8 ++ dktX9_parish_9
def dkwX9_parish_7 : List UInt8 := [42, 180, 0, 32, 5, 27, 96, 46, 79, 42, 180, 0, 35, 27, 42, 180, 0, 35, 5, 27, 96, 46, 79, 42]
abbrev dktX9_parish_7 : List UInt8 := dkwX9_parish_7 ++ dktX9_parish_8
def dkwX9_parish_6 : List UInt8 := [16, 6, 27, 96, 46, 79, 132, 1, 1, 167, 255, 187, 3, 60, 27, 5, 162, 0, 51, 42, 180, 0, 32, 27]
abbrev dktX9_parish_6 : List UInt8 := dkwX9_parish_6 ++ dktX9_parish_7
def dkwX9_parish_5 : List UInt8 := [180, 0, 26, 27, 42, 180, 0, 26, 16, 6, 27, 96, 46, 79, 42, 180, 0, 29, 27, 42, 180, 0, 29]
abbrev dktX9_parish_5 : List UInt8 := dkwX9_parish_5 ++ dktX9_parish_6
def dkwX9_parish_4 : List UInt8 := [16, 6, 27, 96, 46, 79, 42, 180, 0, 23, 27, 42, 180, 0, 23, 16, 6, 27, 96, 46, 79, 42]
abbrev dktX9_parish_4 : List UInt8 := dkwX9_parish_4 ++ dktX9_parish_5
def dkwX9_parish_3 : List UInt8 := [132, 1, 1, 167, 255, 232, 3, 60, 27, 16, 6, 162, 0, 69, 42, 180, 0, 20, 27, 42, 180, 0, 20]
abbrev dktX9_parish_3 : List UInt8 := dkwX9_parish_3 ++ dktX9_parish_4
def dkwX9_parish_2 : List UInt8 := [3, 60, 27, 16, 18, 162, 0, 24, 42, 180, 0, 16, 27, 42, 180, 0, 16, 16, 18, 27, 96, 47, 80]
abbrev dktX9_parish_2 : List UInt8 := dkwX9_parish_2 ++ dktX9_parish_3
def dkwX9_parish_1 : List UInt8 := [6, 162, 0, 23, 42, 180, 0, 13, 27, 42, 180, 0, 13, 6, 27, 96, 46, 79, 132, 1, 1, 167, 255, 234]
abbrev dktX9_parish_1 : List UInt8 := dkwX9_parish_1 ++ dktX9_parish_2
def dkwX9_parish_0 : List UInt8 := [42, 3, 181, 0, 162, 42, 182, 1, 53, 42, 182, 1, 56, 154, 0, 8, 42, 180, 0, 198, 172, 3, 60, 27]
abbrev dktX9_parish_0 : List UInt8 := dkwX9_parish_0 ++ dktX9_parish_1
theorem dksX9_parish_0 : cX9_parish.data.toList.drop 0 = dktX9_parish_0 := by decide +kernel
theorem dksX9_parish_1 : cX9_parish.data.toList.drop 24 = dktX9_parish_1 := dk_seg dksX9_parish_0 24 rfl rfl
theorem dksX9_parish_2 : cX9_parish.data.toList.drop 48 = dktX9_parish_2 := dk_seg dksX9_parish_1 24 rfl rfl
theorem dksX9_parish_3 : cX9_parish.data.toList.drop 71 = dktX9_parish_3 := dk_seg dksX9_parish_2 23 rfl rfl
theorem dksX9_parish_4 : cX9_parish.data.toList.drop 94 = dktX9_parish_4 := dk_seg dksX9_parish_3 23 rfl rfl
theorem dksX9_parish_5 : cX9_parish.data.toList.drop 116 = dktX9_parish_5 := dk_seg dksX9_parish_4 22 rfl rfl
theorem dksX9_parish_6 : cX9_parish.data.toList.drop 139 = dktX9_parish_6 := dk_seg dksX9_parish_5 23 rfl rfl
theorem dksX9_parish_7 : cX9_parish.data.toList.drop 163 = dktX9_parish_7 := dk_seg dksX9_parish_6 24 rfl rfl
theorem dksX9_parish_8 : cX9_parish.data.toList.drop 187 = dktX9_parish_8 := dk_seg dksX9_parish_7 24 rfl rfl
theorem dksX9_parish_9 : cX9_parish.data.toList.drop 211 = dktX9_parish_9 := dk_seg dksX9_parish_8 24 rfl rfl
theorem dksX9_parish_10 : cX9_parish.data.toList.drop 235 = dktX9_parish_10 := dk_seg dksX9_parish_9 24 rfl rfl
theorem dksX9_parish_11 : cX9_parish.data.toList.drop 257 = dktX9_parish_11 := dk_seg dksX9_parish_10 22 rfl rfl
theorem dksX9_parish_12 : cX9_parish.data.toList.drop 281 = dktX9_parish_12 := dk_seg dksX9_parish_11 24 rfl rfl
theorem dX9_parish_0 : decode cX9_parish 0 = .ok (.aload_n 0, 1) := dk_42 (dk_at dksX9_parish_0 0 rfl rfl)
theorem dX9_parish_1 : decode cX9_parish 1 = .ok (.iconst 0, 1) := dk_3 (dk_at dksX9_parish_0 1 rfl rfl)
theorem dX9_parish_2 : decode cX9_parish 2 = .ok (.putfield 162, 3) := dk_181 0 162 (dk_at dksX9_parish_0 2 rfl rfl)
theorem dX9_parish_5 : decode cX9_parish 5 = .ok (.aload_n 0, 1) := dk_42 (dk_at dksX9_parish_0 5 rfl rfl)
theorem dX9_parish_6 : decode cX9_parish 6 = .ok (.invokevirtual 309, 3) := dk_182 1 53 (dk_at dksX9_parish_0 6 rfl rfl)
theorem dX9_parish_9 : decode cX9_parish 9 = .ok (.aload_n 0, 1) := dk_42 (dk_at dksX9_parish_0 9 rfl rfl)
theorem dX9_parish_10 : decode cX9_parish 10 = .ok (.invokevirtual 312, 3) := dk_182 1 56 (dk_at dksX9_parish_0 10 rfl rfl)
theorem dX9_parish_13 : decode cX9_parish 13 = .ok (.ifCond .ne 8, 3) := dk_154 0 8 (dk_at dksX9_parish_0 13 rfl rfl)
theorem dX9_parish_16 : decode cX9_parish 16 = .ok (.aload_n 0, 1) := dk_42 (dk_at dksX9_parish_0 16 rfl rfl)
theorem dX9_parish_17 : decode cX9_parish 17 = .ok (.getfield 198, 3) := dk_180 0 198 (dk_at dksX9_parish_0 17 rfl rfl)
theorem dX9_parish_20 : decode cX9_parish 20 = .ok (.ireturn, 1) := dk_172 (dk_at dksX9_parish_0 20 rfl rfl)
theorem dX9_parish_21 : decode cX9_parish 21 = .ok (.iconst 0, 1) := dk_3 (dk_at dksX9_parish_0 21 rfl rfl)
theorem dX9_parish_22 : decode cX9_parish 22 = .ok (.istore_n 1, 1) := dk_60 (dk_at dksX9_parish_0 22 rfl rfl)
theorem dX9_parish_23 : decode cX9_parish 23 = .ok (.iload_n 1, 1) := dk_27 (dk_at dksX9_parish_0 23 rfl rfl)
theorem dX9_parish_24 : decode cX9_parish 24 = .ok (.iconst 3, 1) := dk_6 (dk_at dksX9_parish_1 0 rfl rfl)
theorem dX9_parish_25 : decode cX9_parish 25 = .ok (.if_icmp .ge 23, 3) := dk_162 0 23 (dk_at dksX9_parish_1 1 rfl rfl)
theorem dX9_parish_28 : decode cX9_parish 28 = .ok (.aload_n 0, 1) := dk_42 (dk_at dksX9_parish_1 4 rfl rfl)
theorem dX9_parish_29 : decode cX9_parish 29 = .ok (.getfield 13, 3) := dk_180 0 13 (dk_at dksX9_parish_1 5 rfl rfl)
theorem dX9_parish_32 : decode cX9_parish 32 = .ok (.iload_n 1, 1) := dk_27 (dk_at dksX9_parish_1 8 rfl rfl)
theorem dX9_parish_33 : decode cX9_parish 33 = .ok (.aload_n 0, 1) := dk_42 (dk_at dksX9_parish_1 9 rfl rfl)
theorem dX9_parish_34 : decode cX9_parish 34 = .ok (.getfield 13, 3) := dk_180 0 13 (dk_at dksX9_parish_1 10 rfl rfl)
theorem dX9_parish_37 : decode cX9_parish 37 = .ok (.iconst 3, 1) := dk_6 (dk_at dksX9_parish_1 13 rfl rfl)
theorem dX9_parish_38 : decode cX9_parish 38 = .ok (.iload_n 1, 1) := dk_27 (dk_at dksX9_parish_1 14 rfl rfl)
theorem dX9_parish_39 : decode cX9_parish 39 = .ok (.iadd, 1) := dk_96 (dk_at dksX9_parish_1 15 rfl rfl)
theorem dX9_parish_40 : decode cX9_parish 40 = .ok (.iaload, 1) := dk_46 (dk_at dksX9_parish_1 16 rfl rfl)
theorem dX9_parish_41 : decode cX9_parish 41 = .ok (.iastore, 1) := dk_79 (dk_at dksX9_parish_1 17 rfl rfl)
theorem dX9_parish_42 : decode cX9_parish 42 = .ok (.iinc 1 1, 3) := dk_132 1 1 (dk_at dksX9_parish_1 18 rfl rfl)
theorem dX9_parish_45 : decode cX9_parish 45 = .ok (.goto (-22), 3) := dk_167 255 234 (dk_at dksX9_parish_1 21 rfl rfl)
theorem dX9_parish_48 : decode cX9_parish 48 = .ok (.iconst 0, 1) := dk_3 (dk_at dksX9_parish_2 0 rfl rfl)
theorem dX9_parish_49 : decode cX9_parish 49 = .ok (.istore_n 1, 1) := dk_60 (dk_at dksX9_parish_2 1 rfl rfl)
theorem dX9_parish_50 : decode cX9_parish 50 = .ok (.iload_n 1, 1) := dk_27 (dk_at dksX9_parish_2 2 rfl rfl)
theorem dX9_parish_51 : decode cX9_parish 51 = .ok (.bipush 18, 2) := dk_16 18 (dk_at dksX9_parish_2 3 rfl rfl)
theorem dX9_parish_53 : decode cX9_parish 53 = .ok (.if_icmp .ge 24, 3) := dk_162 0 24 (dk_at dksX9_parish_2 5 rfl rfl)
theorem dX9_parish_56 : decode cX9_parish 56 = .ok (.aload_n 0, 1) := dk_42 (dk_at dksX9_parish_2 8 rfl rfl)
theorem dX9_parish_57 : decode cX9_parish 57 = .ok (.getfield 16, 3) := dk_180 0 16 (dk_at dksX9_parish_2 9 rfl rfl)
theorem dX9_parish_60 : decode cX9_parish 60 = .ok (.iload_n 1, 1) := dk_27 (dk_at dksX9_parish_2 12 rfl rfl)
theorem dX9_parish_61 : decode cX9_parish 61 = .ok (.aload_n 0, 1) := dk_42 (dk_at dksX9_parish_2 13 rfl rfl)
theorem dX9_parish_62 : decode cX9_parish 62 = .ok (.getfield 16, 3) := dk_180 0 16 (dk_at dksX9_parish_2 14 rfl rfl)
theorem dX9_parish_65 : decode cX9_parish 65 = .ok (.bipush 18, 2) := dk_16 18 (dk_at dksX9_parish_2 17 rfl rfl)
theorem dX9_parish_67 : decode cX9_parish 67 = .ok (.iload_n 1, 1) := dk_27 (dk_at dksX9_parish_2 19 rfl rfl)
theorem dX9_parish_68 : decode cX9_parish 68 = .ok (.iadd, 1) := dk_96 (dk_at dksX9_parish_2 20 rfl rfl)
theorem dX9_parish_69 : decode cX9_parish 69 = .ok (.laload, 1) := dk_47 (dk_at dksX9_parish_2 21 rfl rfl)
theorem dX9_parish_70 : decode cX9_parish 70 = .ok (.lastore, 1) := dk_80 (dk_at dksX9_parish_2 22 rfl rfl)
theorem dX9_parish_71 : decode cX9_parish 71 = .ok (.iinc 1 1, 3) := dk_132 1 1 (dk_at dksX9_parish_3 0 rfl rfl)
theorem dX9_parish_74 : decode cX9_parish 74 = .ok (.goto (-24), 3) := dk_167 255 232 (dk_at dksX9_parish_3 3 rfl rfl)
theorem dX9_parish_77 : decode cX9_parish 77 = .ok (.iconst 0, 1) := dk_3 (dk_at dksX9_parish_3 6 rfl rfl)
theorem dX9_parish_78 : decode cX9_parish 78 = .ok (.istore_n 1, 1) := dk_60 (dk_at dksX9_parish_3 7 rfl rfl)
theorem dX9_parish_79 : decode cX9_parish 79 = .ok (.iload_n 1, 1) := dk_27 (dk_at dksX9_parish_3 8 rfl rfl)
theorem dX9_parish_80 : decode cX9_parish 80 = .ok (.bipush 6, 2) := dk_16 6 (dk_at dksX9_parish_3 9 rfl rfl)
theorem dX9_parish_82 : decode cX9_parish 82 = .ok (.if_icmp .ge 69, 3) := dk_162 0 69 (dk_at dksX9_parish_3 11 rfl rfl)
theorem dX9_parish_85 : decode cX9_parish 85 = .ok (.aload_n 0, 1) := dk_42 (dk_at dksX9_parish_3 14 rfl rfl)
theorem dX9_parish_86 : decode cX9_parish 86 = .ok (.getfield 20, 3) := dk_180 0 20 (dk_at dksX9_parish_3 15 rfl rfl)
theorem dX9_parish_89 : decode cX9_parish 89 = .ok (.iload_n 1, 1) := dk_27 (dk_at dksX9_parish_3 18 rfl rfl)
theorem dX9_parish_90 : decode cX9_parish 90 = .ok (.aload_n 0, 1) := dk_42 (dk_at dksX9_parish_3 19 rfl rfl)
theorem dX9_parish_91 : decode cX9_parish 91 = .ok (.getfield 20, 3) := dk_180 0 20 (dk_at dksX9_parish_3 20 rfl rfl)
theorem dX9_parish_94 : decode cX9_parish 94 = .ok (.bipush 6, 2) := dk_16 6 (dk_at dksX9_parish_4 0 rfl rfl)
theorem dX9_parish_96 : decode cX9_parish 96 = .ok (.iload_n 1, 1) := dk_27 (dk_at dksX9_parish_4 2 rfl rfl)
theorem dX9_parish_97 : decode cX9_parish 97 = .ok (.iadd, 1) := dk_96 (dk_at dksX9_parish_4 3 rfl rfl)
theorem dX9_parish_98 : decode cX9_parish 98 = .ok (.iaload, 1) := dk_46 (dk_at dksX9_parish_4 4 rfl rfl)
theorem dX9_parish_99 : decode cX9_parish 99 = .ok (.iastore, 1) := dk_79 (dk_at dksX9_parish_4 5 rfl rfl)
theorem dX9_parish_100 : decode cX9_parish 100 = .ok (.aload_n 0, 1) := dk_42 (dk_at dksX9_parish_4 6 rfl rfl)
theorem dX9_parish_101 : decode cX9_parish 101 = .ok (.getfield 23, 3) := dk_180 0 23 (dk_at dksX9_parish_4 7 rfl rfl)
theorem dX9_parish_104 : decode cX9_parish 104 = .ok (.iload_n 1, 1) := dk_27 (dk_at dksX9_parish_4 10 rfl rfl)
theorem dX9_parish_105 : decode cX9_parish 105 = .ok (.aload_n 0, 1) := dk_42 (dk_at dksX9_parish_4 11 rfl rfl)
theorem dX9_parish_106 : decode cX9_parish 106 = .ok (.getfield 23, 3) := dk_180 0 23 (dk_at dksX9_parish_4 12 rfl rfl)
theorem dX9_parish_109 : decode cX9_parish 109 = .ok (.bipush 6, 2) := dk_16 6 (dk_at dksX9_parish_4 15 rfl rfl)
theorem dX9_parish_111 : decode cX9_parish 111 = .ok (.iload_n 1, 1) := dk_27 (dk_at dksX9_parish_4 17 rfl rfl)
theorem dX9_parish_112 : decode cX9_parish 112 = .ok (.iadd, 1) := dk_96 (dk_at dksX9_parish_4 18 rfl rfl)
theorem dX9_parish_113 : decode cX9_parish 113 = .ok (.iaload, 1) := dk_46 (dk_at dksX9_parish_4 19 rfl rfl)
theorem dX9_parish_114 : decode cX9_parish 114 = .ok (.iastore, 1) := dk_79 (dk_at dksX9_parish_4 20 rfl rfl)
theorem dX9_parish_115 : decode cX9_parish 115 = .ok (.aload_n 0, 1) := dk_42 (dk_at dksX9_parish_4 21 rfl rfl)
theorem dX9_parish_116 : decode cX9_parish 116 = .ok (.getfield 26, 3) := dk_180 0 26 (dk_at dksX9_parish_5 0 rfl rfl)
theorem dX9_parish_119 : decode cX9_parish 119 = .ok (.iload_n 1, 1) := dk_27 (dk_at dksX9_parish_5 3 rfl rfl)
theorem dX9_parish_120 : decode cX9_parish 120 = .ok (.aload_n 0, 1) := dk_42 (dk_at dksX9_parish_5 4 rfl rfl)
theorem dX9_parish_121 : decode cX9_parish 121 = .ok (.getfield 26, 3) := dk_180 0 26 (dk_at dksX9_parish_5 5 rfl rfl)
theorem dX9_parish_124 : decode cX9_parish 124 = .ok (.bipush 6, 2) := dk_16 6 (dk_at dksX9_parish_5 8 rfl rfl)
theorem dX9_parish_126 : decode cX9_parish 126 = .ok (.iload_n 1, 1) := dk_27 (dk_at dksX9_parish_5 10 rfl rfl)
theorem dX9_parish_127 : decode cX9_parish 127 = .ok (.iadd, 1) := dk_96 (dk_at dksX9_parish_5 11 rfl rfl)
theorem dX9_parish_128 : decode cX9_parish 128 = .ok (.iaload, 1) := dk_46 (dk_at dksX9_parish_5 12 rfl rfl)
theorem dX9_parish_129 : decode cX9_parish 129 = .ok (.iastore, 1) := dk_79 (dk_at dksX9_parish_5 13 rfl rfl)
theorem dX9_parish_130 : decode cX9_parish 130 = .ok (.aload_n 0, 1) := dk_42 (dk_at dksX9_parish_5 14 rfl rfl)
theorem dX9_parish_131 : decode cX9_parish 131 = .ok (.getfield 29, 3) := dk_180 0 29 (dk_at dksX9_parish_5 15 rfl rfl)
theorem dX9_parish_134 : decode cX9_parish 134 = .ok (.iload_n 1, 1) := dk_27 (dk_at dksX9_parish_5 18 rfl rfl)
theorem dX9_parish_135 : decode cX9_parish 135 = .ok (.aload_n 0, 1) := dk_42 (dk_at dksX9_parish_5 19 rfl rfl)
theorem dX9_parish_136 : decode cX9_parish 136 = .ok (.getfield 29, 3) := dk_180 0 29 (dk_at dksX9_parish_5 20 rfl rfl)
theorem dX9_parish_139 : decode cX9_parish 139 = .ok (.bipush 6, 2) := dk_16 6 (dk_at dksX9_parish_6 0 rfl rfl)
theorem dX9_parish_141 : decode cX9_parish 141 = .ok (.iload_n 1, 1) := dk_27 (dk_at dksX9_parish_6 2 rfl rfl)
theorem dX9_parish_142 : decode cX9_parish 142 = .ok (.iadd, 1) := dk_96 (dk_at dksX9_parish_6 3 rfl rfl)
theorem dX9_parish_143 : decode cX9_parish 143 = .ok (.iaload, 1) := dk_46 (dk_at dksX9_parish_6 4 rfl rfl)
theorem dX9_parish_144 : decode cX9_parish 144 = .ok (.iastore, 1) := dk_79 (dk_at dksX9_parish_6 5 rfl rfl)
theorem dX9_parish_145 : decode cX9_parish 145 = .ok (.iinc 1 1, 3) := dk_132 1 1 (dk_at dksX9_parish_6 6 rfl rfl)
theorem dX9_parish_148 : decode cX9_parish 148 = .ok (.goto (-69), 3) := dk_167 255 187 (dk_at dksX9_parish_6 9 rfl rfl)
theorem dX9_parish_151 : decode cX9_parish 151 = .ok (.iconst 0, 1) := dk_3 (dk_at dksX9_parish_6 12 rfl rfl)
theorem dX9_parish_152 : decode cX9_parish 152 = .ok (.istore_n 1, 1) := dk_60 (dk_at dksX9_parish_6 13 rfl rfl)
theorem dX9_parish_153 : decode cX9_parish 153 = .ok (.iload_n 1, 1) := dk_27 (dk_at dksX9_parish_6 14 rfl rfl)
theorem dX9_parish_154 : decode cX9_parish 154 = .ok (.iconst 2, 1) := dk_5 (dk_at dksX9_parish_6 15 rfl rfl)
theorem dX9_parish_155 : decode cX9_parish 155 = .ok (.if_icmp .ge 51, 3) := dk_162 0 51 (dk_at dksX9_parish_6 16 rfl rfl)
theorem dX9_parish_158 : decode cX9_parish 158 = .ok (.aload_n 0, 1) := dk_42 (dk_at dksX9_parish_6 19 rfl rfl)
theorem dX9_parish_159 : decode cX9_parish 159 = .ok (.getfield 32, 3) := dk_180 0 32 (dk_at dksX9_parish_6 20 rfl rfl)
theorem dX9_parish_162 : decode cX9_parish 162 = .ok (.iload_n 1, 1) := dk_27 (dk_at dksX9_parish_6 23 rfl rfl)
theorem dX9_parish_163 : decode cX9_parish 163 = .ok (.aload_n 0, 1) := dk_42 (dk_at dksX9_parish_7 0 rfl rfl)
theorem dX9_parish_164 : decode cX9_parish 164 = .ok (.getfield 32, 3) := dk_180 0 32 (dk_at dksX9_parish_7 1 rfl rfl)
theorem dX9_parish_167 : decode cX9_parish 167 = .ok (.iconst 2, 1) := dk_5 (dk_at dksX9_parish_7 4 rfl rfl)
theorem dX9_parish_168 : decode cX9_parish 168 = .ok (.iload_n 1, 1) := dk_27 (dk_at dksX9_parish_7 5 rfl rfl)
theorem dX9_parish_169 : decode cX9_parish 169 = .ok (.iadd, 1) := dk_96 (dk_at dksX9_parish_7 6 rfl rfl)
theorem dX9_parish_170 : decode cX9_parish 170 = .ok (.iaload, 1) := dk_46 (dk_at dksX9_parish_7 7 rfl rfl)
theorem dX9_parish_171 : decode cX9_parish 171 = .ok (.iastore, 1) := dk_79 (dk_at dksX9_parish_7 8 rfl rfl)
theorem dX9_parish_172 : decode cX9_parish 172 = .ok (.aload_n 0, 1) := dk_42 (dk_at dksX9_parish_7 9 rfl rfl)
theorem dX9_parish_173 : decode cX9_parish 173 = .ok (.getfield 35, 3) := dk_180 0 35 (dk_at dksX9_parish_7 10 rfl rfl)
theorem dX9_parish_176 : decode cX9_parish 176 = .ok (.iload_n 1, 1) := dk_27 (dk_at dksX9_parish_7 13 rfl rfl)
theorem dX9_parish_177 : decode cX9_parish 177 = .ok (.aload_n 0, 1) := dk_42 (dk_at dksX9_parish_7 14 rfl rfl)
theorem dX9_parish_178 : decode cX9_parish 178 = .ok (.getfield 35, 3) := dk_180 0 35 (dk_at dksX9_parish_7 15 rfl rfl)
theorem dX9_parish_181 : decode cX9_parish 181 = .ok (.iconst 2, 1) := dk_5 (dk_at dksX9_parish_7 18 rfl rfl)
theorem dX9_parish_182 : decode cX9_parish 182 = .ok (.iload_n 1, 1) := dk_27 (dk_at dksX9_parish_7 19 rfl rfl)
theorem dX9_parish_183 : decode cX9_parish 183 = .ok (.iadd, 1) := dk_96 (dk_at dksX9_parish_7 20 rfl rfl)
theorem dX9_parish_184 : decode cX9_parish 184 = .ok (.iaload, 1) := dk_46 (dk_at dksX9_parish_7 21 rfl rfl)
theorem dX9_parish_185 : decode cX9_parish 185 = .ok (.iastore, 1) := dk_79 (dk_at dksX9_parish_7 22 rfl rfl)
theorem dX9_parish_186 : decode cX9_parish 186 = .ok (.aload_n 0, 1) := dk_42 (dk_at dksX9_parish_7 23 rfl rfl)
theorem dX9_parish_187 : decode cX9_parish 187 = .ok (.getfield 38, 3) := dk_180 0 38 (dk_at dksX9_parish_8 0 rfl rfl)
theorem dX9_parish_190 : decode cX9_parish 190 = .ok (.iload_n 1, 1) := dk_27 (dk_at dksX9_parish_8 3 rfl rfl)
theorem dX9_parish_191 : decode cX9_parish 191 = .ok (.aload_n 0, 1) := dk_42 (dk_at dksX9_parish_8 4 rfl rfl)
theorem dX9_parish_192 : decode cX9_parish 192 = .ok (.getfield 38, 3) := dk_180 0 38 (dk_at dksX9_parish_8 5 rfl rfl)
theorem dX9_parish_195 : decode cX9_parish 195 = .ok (.iconst 2, 1) := dk_5 (dk_at dksX9_parish_8 8 rfl rfl)
theorem dX9_parish_196 : decode cX9_parish 196 = .ok (.iload_n 1, 1) := dk_27 (dk_at dksX9_parish_8 9 rfl rfl)
theorem dX9_parish_197 : decode cX9_parish 197 = .ok (.iadd, 1) := dk_96 (dk_at dksX9_parish_8 10 rfl rfl)
theorem dX9_parish_198 : decode cX9_parish 198 = .ok (.baload, 1) := dk_51 (dk_at dksX9_parish_8 11 rfl rfl)
theorem dX9_parish_199 : decode cX9_parish 199 = .ok (.bastore, 1) := dk_84 (dk_at dksX9_parish_8 12 rfl rfl)
theorem dX9_parish_200 : decode cX9_parish 200 = .ok (.iinc 1 1, 3) := dk_132 1 1 (dk_at dksX9_parish_8 13 rfl rfl)
theorem dX9_parish_203 : decode cX9_parish 203 = .ok (.goto (-50), 3) := dk_167 255 206 (dk_at dksX9_parish_8 16 rfl rfl)
theorem dX9_parish_206 : decode cX9_parish 206 = .ok (.aload_n 0, 1) := dk_42 (dk_at dksX9_parish_8 19 rfl rfl)
theorem dX9_parish_207 : decode cX9_parish 207 = .ok (.aload_n 0, 1) := dk_42 (dk_at dksX9_parish_8 20 rfl rfl)
theorem dX9_parish_208 : decode cX9_parish 208 = .ok (.getfield 281, 3) := dk_180 1 25 (dk_at dksX9_parish_8 21 rfl rfl)
theorem dX9_parish_211 : decode cX9_parish 211 = .ok (.putfield 315, 3) := dk_181 1 59 (dk_at dksX9_parish_9 0 rfl rfl)
theorem dX9_parish_214 : decode cX9_parish 214 = .ok (.aload_n 0, 1) := dk_42 (dk_at dksX9_parish_9 3 rfl rfl)
theorem dX9_parish_215 : decode cX9_parish 215 = .ok (.getfield 42, 3) := dk_180 0 42 (dk_at dksX9_parish_9 4 rfl rfl)
theorem dX9_parish_218 : decode cX9_parish 218 = .ok (.iconst 0, 1) := dk_3 (dk_at dksX9_parish_9 7 rfl rfl)
theorem dX9_parish_219 : decode cX9_parish 219 = .ok (.aload_n 0, 1) := dk_42 (dk_at dksX9_parish_9 8 rfl rfl)
theorem dX9_parish_220 : decode cX9_parish 220 = .ok (.invokevirtual 318, 3) := dk_182 1 62 (dk_at dksX9_parish_9 9 rfl rfl)
theorem dX9_parish_223 : decode cX9_parish 223 = .ok (.lastore, 1) := dk_80 (dk_at dksX9_parish_9 12 rfl rfl)
theorem dX9_parish_224 : decode cX9_parish 224 = .ok (.iconst 0, 1) := dk_3 (dk_at dksX9_parish_9 13 rfl rfl)
theorem dX9_parish_225 : decode cX9_parish 225 = .ok (.istore_n 1, 1) := dk_60 (dk_at dksX9_parish_9 14 rfl rfl)
theorem dX9_parish_226 : decode cX9_parish 226 = .ok (.iload_n 1, 1) := dk_27 (dk_at dksX9_parish_9 15 rfl rfl)
theorem dX9_parish_227 : decode cX9_parish 227 = .ok (.aload_n 0, 1) := dk_42 (dk_at dksX9_parish_9 16 rfl rfl)
theorem dX9_parish_228 : decode cX9_parish 228 = .ok (.getfield 315, 3) := dk_180 1 59 (dk_at dksX9_parish_9 17 rfl rfl)
theorem dX9_parish_231 : decode cX9_parish 231 = .ok (.if_icmp .ge 24, 3) := dk_162 0 24 (dk_at dksX9_parish_9 20 rfl rfl)
theorem dX9_parish_234 : decode cX9_parish 234 = .ok (.aload_n 0, 1) := dk_42 (dk_at dksX9_parish_9 23 rfl rfl)
theorem dX9_parish_235 : decode cX9_parish 235 = .ok (.getfield 42, 3) := dk_180 0 42 (dk_at dksX9_parish_10 0 rfl rfl)
theorem dX9_parish_238 : decode cX9_parish 238 = .ok (.iconst 0, 1) := dk_3 (dk_at dksX9_parish_10 3 rfl rfl)
theorem dX9_parish_239 : decode cX9_parish 239 = .ok (.dup2, 1) := dk_92 (dk_at dksX9_parish_10 4 rfl rfl)
theorem dX9_parish_240 : decode cX9_parish 240 = .ok (.laload, 1) := dk_47 (dk_at dksX9_parish_10 5 rfl rfl)
theorem dX9_parish_241 : decode cX9_parish 241 = .ok (.aload_n 0, 1) := dk_42 (dk_at dksX9_parish_10 6 rfl rfl)
theorem dX9_parish_242 : decode cX9_parish 242 = .ok (.getfield 93, 3) := dk_180 0 93 (dk_at dksX9_parish_10 7 rfl rfl)
theorem dX9_parish_245 : decode cX9_parish 245 = .ok (.iload_n 1, 1) := dk_27 (dk_at dksX9_parish_10 10 rfl rfl)
theorem dX9_parish_246 : decode cX9_parish 246 = .ok (.laload, 1) := dk_47 (dk_at dksX9_parish_10 11 rfl rfl)
theorem dX9_parish_247 : decode cX9_parish 247 = .ok (.land, 1) := dk_127 (dk_at dksX9_parish_10 12 rfl rfl)
theorem dX9_parish_248 : decode cX9_parish 248 = .ok (.lastore, 1) := dk_80 (dk_at dksX9_parish_10 13 rfl rfl)
theorem dX9_parish_249 : decode cX9_parish 249 = .ok (.iinc 1 1, 3) := dk_132 1 1 (dk_at dksX9_parish_10 14 rfl rfl)
theorem dX9_parish_252 : decode cX9_parish 252 = .ok (.goto (-26), 3) := dk_167 255 230 (dk_at dksX9_parish_10 17 rfl rfl)
theorem dX9_parish_255 : decode cX9_parish 255 = .ok (.aload_n 0, 1) := dk_42 (dk_at dksX9_parish_10 20 rfl rfl)
theorem dX9_parish_256 : decode cX9_parish 256 = .ok (.iconst 0, 1) := dk_3 (dk_at dksX9_parish_10 21 rfl rfl)
theorem dX9_parish_257 : decode cX9_parish 257 = .ok (.putfield 322, 3) := dk_181 1 66 (dk_at dksX9_parish_11 0 rfl rfl)
theorem dX9_parish_260 : decode cX9_parish 260 = .ok (.aload_n 0, 1) := dk_42 (dk_at dksX9_parish_11 3 rfl rfl)
theorem dX9_parish_261 : decode cX9_parish 261 = .ok (.iconst 0, 1) := dk_3 (dk_at dksX9_parish_11 4 rfl rfl)
theorem dX9_parish_262 : decode cX9_parish 262 = .ok (.putfield 325, 3) := dk_181 1 69 (dk_at dksX9_parish_11 5 rfl rfl)
theorem dX9_parish_265 : decode cX9_parish 265 = .ok (.aload_n 0, 1) := dk_42 (dk_at dksX9_parish_11 8 rfl rfl)
theorem dX9_parish_266 : decode cX9_parish 266 = .ok (.iconst 0, 1) := dk_3 (dk_at dksX9_parish_11 9 rfl rfl)
theorem dX9_parish_267 : decode cX9_parish 267 = .ok (.putfield 328, 3) := dk_181 1 72 (dk_at dksX9_parish_11 10 rfl rfl)
theorem dX9_parish_270 : decode cX9_parish 270 = .ok (.aload_n 0, 1) := dk_42 (dk_at dksX9_parish_11 13 rfl rfl)
theorem dX9_parish_271 : decode cX9_parish 271 = .ok (.iconst 0, 1) := dk_3 (dk_at dksX9_parish_11 14 rfl rfl)
theorem dX9_parish_272 : decode cX9_parish 272 = .ok (.putfield 331, 3) := dk_181 1 75 (dk_at dksX9_parish_11 15 rfl rfl)
theorem dX9_parish_275 : decode cX9_parish 275 = .ok (.aload_n 0, 1) := dk_42 (dk_at dksX9_parish_11 18 rfl rfl)
theorem dX9_parish_276 : decode cX9_parish 276 = .ok (.iconst 0, 1) := dk_3 (dk_at dksX9_parish_11 19 rfl rfl)
theorem dX9_parish_277 : decode cX9_parish 277 = .ok (.putfield 334, 3) := dk_181 1 78 (dk_at dksX9_parish_11 20 rfl rfl)
theorem dX9_parish_280 : decode cX9_parish 280 = .ok (.iconst 0, 1) := dk_3 (dk_at dksX9_parish_11 23 rfl rfl)
theorem dX9_parish_281 : decode cX9_parish 281 = .ok (.ireturn, 1) := dk_172 (dk_at dksX9_parish_12 0 rfl rfl)
abbrev cX9_starts : ByteArray := prog_28_method_32_code
def yX9_starts : MethodName := ⟨RX9, "starts", "()V"⟩
def dkwX9_starts_0 : List UInt8 := [42, 42, 180, 0, 168, 181, 0, 171, 42, 3, 181, 0, 168, 42, 3, 181, 0, 174, 42, 182, 0, 254, 177]
abbrev dktX9_starts_0 : List UInt8 := dkwX9_starts_0 ++ []
theorem dksX9_starts_0 : cX9_starts.data.toList.drop 0 = dktX9_starts_0 := by decide +kernel
theorem dX9_starts_0 : decode cX9_starts 0 = .ok (.aload_n 0, 1) := dk_42 (dk_at dksX9_starts_0 0 rfl rfl)
theorem dX9_starts_1 : decode cX9_starts 1 = .ok (.aload_n 0, 1) := dk_42 (dk_at dksX9_starts_0 1 rfl rfl)
theorem dX9_starts_2 : decode cX9_starts 2 = .ok (.getfield 168, 3) := dk_180 0 168 (dk_at dksX9_starts_0 2 rfl rfl)
theorem dX9_starts_5 : decode cX9_starts 5 = .ok (.putfield 171, 3) := dk_181 0 171 (dk_at dksX9_starts_0 5 rfl rfl)
theorem dX9_starts_8 : decode cX9_starts 8 = .ok (.aload_n 0, 1) := dk_42 (dk_at dksX9_starts_0 8 rfl rfl)
theorem dX9_starts_9 : decode cX9_starts 9 = .ok (.iconst 0, 1) := dk_3 (dk_at dksX9_starts_0 9 rfl rfl)
theorem dX9_starts_10 : decode cX9_starts 10 = .ok (.putfield 168, 3) := dk_181 0 168 (dk_at dksX9_starts_0 10 rfl rfl)
theorem dX9_starts_13 : decode cX9_starts 13 = .ok (.aload_n 0, 1) := dk_42 (dk_at dksX9_starts_0 13 rfl rfl)
theorem dX9_starts_14 : decode cX9_starts 14 = .ok (.iconst 0, 1) := dk_3 (dk_at dksX9_starts_0 14 rfl rfl)
theorem dX9_starts_15 : decode cX9_starts 15 = .ok (.putfield 174, 3) := dk_181 0 174 (dk_at dksX9_starts_0 15 rfl rfl)
theorem dX9_starts_18 : decode cX9_starts 18 = .ok (.aload_n 0, 1) := dk_42 (dk_at dksX9_starts_0 18 rfl rfl)
theorem dX9_starts_19 : decode cX9_starts 19 = .ok (.invokevirtual 254, 3) := dk_182 0 254 (dk_at dksX9_starts_0 19 rfl rfl)
theorem dX9_starts_22 : decode cX9_starts 22 = .ok (.return_, 1) := dk_177 (dk_at dksX9_starts_0 22 rfl rfl)
abbrev cX9_nextToken : ByteArray := prog_28_method_9_code
def yX9_nextToken : MethodName := ⟨RX9, "nextToken", "()V"⟩
def dkwX9_nextToken_16 : List UInt8 := [167, 0, 4, 7, 181, 0, 187, 177]
abbrev dktX9_nextToken_16 : List UInt8 := dkwX9_nextToken_16 ++ []
def dkwX9_nextToken_15 : List UInt8 := [164, 0, 21, 27, 16, 45, 159, 0, 15, 27, 16, 59, 161, 0, 13, 27, 16, 61, 163, 0, 7, 6]
abbrev dktX9_nextToken_15 : List UInt8 := dkwX9_nextToken_15 ++ dktX9_nextToken_16
def dkwX9_nextToken_14 : List UInt8 := [181, 0, 187, 177, 42, 89, 180, 0, 174, 4, 96, 181, 0, 174, 42, 27, 16, 40, 161, 0, 9, 27, 16, 43]
abbrev dktX9_nextToken_14 : List UInt8 := dkwX9_nextToken_14 ++ dktX9_nextToken_15
def dkwX9_nextToken_13 : List UInt8 := [167, 255, 184, 42, 42, 180, 0, 174, 42, 180, 0, 177, 100, 7, 164, 0, 7, 7, 167, 0, 4, 5]
abbrev dktX9_nextToken_13 : List UInt8 := dkwX9_nextToken_13 ++ dktX9_nextToken_14
def dkwX9_nextToken_12 : List UInt8 := [180, 0, 174, 182, 0, 190, 96, 16, 48, 100, 181, 0, 184, 42, 89, 180, 0, 174, 4, 96, 181, 0, 174]
abbrev dktX9_nextToken_12 : List UInt8 := dkwX9_nextToken_12 ++ dktX9_nextToken_13
def dkwX9_nextToken_11 : List UInt8 := [42, 180, 0, 174, 42, 180, 0, 177, 100, 7, 162, 0, 26, 42, 42, 180, 0, 184, 16, 10, 104, 42, 42]
abbrev dktX9_nextToken_11 : List UInt8 := dkwX9_nextToken_11 ++ dktX9_nextToken_12
def dkwX9_nextToken_10 : List UInt8 := [180, 0, 174, 182, 0, 190, 16, 48, 161, 0, 65, 42, 42, 180, 0, 174, 182, 0, 190, 16, 57, 163, 0, 52]
abbrev dktX9_nextToken_10 : List UInt8 := dkwX9_nextToken_10 ++ dktX9_nextToken_11
def dkwX9_nextToken_9 : List UInt8 := [167, 0, 4, 4, 181, 0, 187, 177, 27, 16, 48, 161, 0, 107, 27, 16, 57, 163, 0, 101, 42, 42]
abbrev dktX9_nextToken_9 : List UInt8 := dkwX9_nextToken_9 ++ dktX9_nextToken_10
def dkwX9_nextToken_8 : List UInt8 := [181, 0, 174, 167, 255, 180, 42, 42, 180, 0, 174, 42, 180, 0, 177, 100, 16, 8, 164, 0, 7, 7]
abbrev dktX9_nextToken_8 : List UInt8 := dkwX9_nextToken_8 ++ dktX9_nextToken_9
def dkwX9_nextToken_7 : List UInt8 := [180, 0, 174, 182, 0, 190, 133, 97, 20, 0, 196, 101, 181, 0, 180, 42, 89, 180, 0, 174, 4, 96]
abbrev dktX9_nextToken_7 : List UInt8 := dkwX9_nextToken_7 ++ dktX9_nextToken_8
def dkwX9_nextToken_6 : List UInt8 := [180, 0, 174, 42, 180, 0, 177, 100, 16, 8, 162, 0, 29, 42, 42, 180, 0, 180, 20, 0, 194, 105, 42, 42]
abbrev dktX9_nextToken_6 : List UInt8 := dkwX9_nextToken_6 ++ dktX9_nextToken_7
def dkwX9_nextToken_5 : List UInt8 := [182, 0, 190, 16, 97, 161, 0, 69, 42, 42, 180, 0, 174, 182, 0, 190, 16, 122, 163, 0, 56, 42]
abbrev dktX9_nextToken_5 : List UInt8 := dkwX9_nextToken_5 ++ dktX9_nextToken_6
def dkwX9_nextToken_4 : List UInt8 := [180, 0, 174, 46, 60, 27, 16, 97, 161, 0, 112, 27, 16, 122, 163, 0, 106, 42, 42, 180, 0, 174]
abbrev dktX9_nextToken_4 : List UInt8 := dkwX9_nextToken_4 ++ dktX9_nextToken_5
def dkwX9_nextToken_3 : List UInt8 := [42, 180, 0, 174, 42, 180, 0, 171, 160, 0, 9, 42, 3, 181, 0, 187, 177, 42, 180, 0, 7, 42]
abbrev dktX9_nextToken_3 : List UInt8 := dkwX9_nextToken_3 ++ dktX9_nextToken_4
def dkwX9_nextToken_2 : List UInt8 := [181, 0, 174, 167, 255, 207, 42, 42, 180, 0, 174, 181, 0, 177, 42, 9, 181, 0, 180, 42, 3, 181, 0, 184]
abbrev dktX9_nextToken_2 : List UInt8 := dkwX9_nextToken_2 ++ dktX9_nextToken_3
def dkwX9_nextToken_1 : List UInt8 := [159, 0, 17, 42, 180, 0, 7, 42, 180, 0, 174, 46, 16, 10, 160, 0, 16, 42, 89, 180, 0, 174, 4, 96]
abbrev dktX9_nextToken_1 : List UInt8 := dkwX9_nextToken_1 ++ dktX9_nextToken_2
def dkwX9_nextToken_0 : List UInt8 := [42, 180, 0, 174, 42, 180, 0, 171, 162, 0, 44, 42, 180, 0, 7, 42, 180, 0, 174, 46, 16, 32]
abbrev dktX9_nextToken_0 : List UInt8 := dkwX9_nextToken_0 ++ dktX9_nextToken_1
theorem dksX9_nextToken_0 : cX9_nextToken.data.toList.drop 0 = dktX9_nextToken_0 := by decide +kernel
theorem dksX9_nextToken_1 : cX9_nextToken.data.toList.drop 22 = dktX9_nextToken_1 := dk_seg dksX9_nextToken_0 22 rfl rfl
theorem dksX9_nextToken_2 : cX9_nextToken.data.toList.drop 46 = dktX9_nextToken_2 := dk_seg dksX9_nextToken_1 24 rfl rfl
theorem dksX9_nextToken_3 : cX9_nextToken.data.toList.drop 70 = dktX9_nextToken_3 := dk_seg dksX9_nextToken_2 24 rfl rfl
theorem dksX9_nextToken_4 : cX9_nextToken.data.toList.drop 92 = dktX9_nextToken_4 := dk_seg dksX9_nextToken_3 22 rfl rfl
theorem dksX9_nextToken_5 : cX9_nextToken.data.toList.drop 114 = dktX9_nextToken_5 := dk_seg dksX9_nextToken_4 22 rfl rfl
theorem dksX9_nextToken_6 : cX9_nextToken.data.toList.drop 136 = dktX9_nextToken_6 := dk_seg dksX9_nextToken_5 22 rfl rfl
theorem dksX9_nextToken_7 : cX9_nextToken.data.toList.drop 160 = dktX9_nextToken_7 := dk_seg dksX9_nextToken_6 24 rfl rfl
theorem dksX9_nextToken_8 : cX9_nextToken.data.toList.drop 182 = dktX9_nextToken_8 := dk_seg dksX9_nextToken_7 22 rfl rfl
theorem dksX9_nextToken_9 : cX9_nextToken.data.toList.drop 204 = dktX9_nextToken_9 := dk_seg dksX9_nextToken_8 22 rfl rfl
theorem dksX9_nextToken_10 : cX9_nextToken.data.toList.drop 226 = dktX9_nextToken_10 := dk_seg dksX9_nextToken_9 22 rfl rfl
theorem dksX9_nextToken_11 : cX9_nextToken.data.toList.drop 250 = dktX9_nextToken_11 := dk_seg dksX9_nextToken_10 24 rfl rfl
theorem dksX9_nextToken_12 : cX9_nextToken.data.toList.drop 273 = dktX9_nextToken_12 := dk_seg dksX9_nextToken_11 23 rfl rfl
theorem dksX9_nextToken_13 : cX9_nextToken.data.toList.drop 296 = dktX9_nextToken_13 := dk_seg dksX9_nextToken_12 23 rfl rfl
theorem dksX9_nextToken_14 : cX9_nextToken.data.toList.drop 318 = dktX9_nextToken_14 := dk_seg dksX9_nextToken_13 22 rfl rfl
theorem dksX9_nextToken_15 : cX9_nextToken.data.toList.drop 342 = dktX9_nextToken_15 := dk_seg dksX9_nextToken_14 24 rfl rfl
theorem dksX9_nextToken_16 : cX9_nextToken.data.toList.drop 364 = dktX9_nextToken_16 := dk_seg dksX9_nextToken_15 22 rfl rfl
theorem dX9_nextToken_0 : decode cX9_nextToken 0 = .ok (.aload_n 0, 1) := dk_42 (dk_at dksX9_nextToken_0 0 rfl rfl)
theorem dX9_nextToken_1 : decode cX9_nextToken 1 = .ok (.getfield 174, 3) := dk_180 0 174 (dk_at dksX9_nextToken_0 1 rfl rfl)
theorem dX9_nextToken_4 : decode cX9_nextToken 4 = .ok (.aload_n 0, 1) := dk_42 (dk_at dksX9_nextToken_0 4 rfl rfl)
theorem dX9_nextToken_5 : decode cX9_nextToken 5 = .ok (.getfield 171, 3) := dk_180 0 171 (dk_at dksX9_nextToken_0 5 rfl rfl)
theorem dX9_nextToken_8 : decode cX9_nextToken 8 = .ok (.if_icmp .ge 44, 3) := dk_162 0 44 (dk_at dksX9_nextToken_0 8 rfl rfl)
theorem dX9_nextToken_11 : decode cX9_nextToken 11 = .ok (.aload_n 0, 1) := dk_42 (dk_at dksX9_nextToken_0 11 rfl rfl)
theorem dX9_nextToken_12 : decode cX9_nextToken 12 = .ok (.getfield 7, 3) := dk_180 0 7 (dk_at dksX9_nextToken_0 12 rfl rfl)
theorem dX9_nextToken_15 : decode cX9_nextToken 15 = .ok (.aload_n 0, 1) := dk_42 (dk_at dksX9_nextToken_0 15 rfl rfl)
theorem dX9_nextToken_16 : decode cX9_nextToken 16 = .ok (.getfield 174, 3) := dk_180 0 174 (dk_at dksX9_nextToken_0 16 rfl rfl)
theorem dX9_nextToken_19 : decode cX9_nextToken 19 = .ok (.iaload, 1) := dk_46 (dk_at dksX9_nextToken_0 19 rfl rfl)
theorem dX9_nextToken_20 : decode cX9_nextToken 20 = .ok (.bipush 32, 2) := dk_16 32 (dk_at dksX9_nextToken_0 20 rfl rfl)
theorem dX9_nextToken_22 : decode cX9_nextToken 22 = .ok (.if_icmp .eq 17, 3) := dk_159 0 17 (dk_at dksX9_nextToken_1 0 rfl rfl)
theorem dX9_nextToken_25 : decode cX9_nextToken 25 = .ok (.aload_n 0, 1) := dk_42 (dk_at dksX9_nextToken_1 3 rfl rfl)
theorem dX9_nextToken_26 : decode cX9_nextToken 26 = .ok (.getfield 7, 3) := dk_180 0 7 (dk_at dksX9_nextToken_1 4 rfl rfl)
theorem dX9_nextToken_29 : decode cX9_nextToken 29 = .ok (.aload_n 0, 1) := dk_42 (dk_at dksX9_nextToken_1 7 rfl rfl)
theorem dX9_nextToken_30 : decode cX9_nextToken 30 = .ok (.getfield 174, 3) := dk_180 0 174 (dk_at dksX9_nextToken_1 8 rfl rfl)
theorem dX9_nextToken_33 : decode cX9_nextToken 33 = .ok (.iaload, 1) := dk_46 (dk_at dksX9_nextToken_1 11 rfl rfl)
theorem dX9_nextToken_34 : decode cX9_nextToken 34 = .ok (.bipush 10, 2) := dk_16 10 (dk_at dksX9_nextToken_1 12 rfl rfl)
theorem dX9_nextToken_36 : decode cX9_nextToken 36 = .ok (.if_icmp .ne 16, 3) := dk_160 0 16 (dk_at dksX9_nextToken_1 14 rfl rfl)
theorem dX9_nextToken_39 : decode cX9_nextToken 39 = .ok (.aload_n 0, 1) := dk_42 (dk_at dksX9_nextToken_1 17 rfl rfl)
theorem dX9_nextToken_40 : decode cX9_nextToken 40 = .ok (.dup, 1) := dk_89 (dk_at dksX9_nextToken_1 18 rfl rfl)
theorem dX9_nextToken_41 : decode cX9_nextToken 41 = .ok (.getfield 174, 3) := dk_180 0 174 (dk_at dksX9_nextToken_1 19 rfl rfl)
theorem dX9_nextToken_44 : decode cX9_nextToken 44 = .ok (.iconst 1, 1) := dk_4 (dk_at dksX9_nextToken_1 22 rfl rfl)
theorem dX9_nextToken_45 : decode cX9_nextToken 45 = .ok (.iadd, 1) := dk_96 (dk_at dksX9_nextToken_1 23 rfl rfl)
theorem dX9_nextToken_46 : decode cX9_nextToken 46 = .ok (.putfield 174, 3) := dk_181 0 174 (dk_at dksX9_nextToken_2 0 rfl rfl)
theorem dX9_nextToken_49 : decode cX9_nextToken 49 = .ok (.goto (-49), 3) := dk_167 255 207 (dk_at dksX9_nextToken_2 3 rfl rfl)
theorem dX9_nextToken_52 : decode cX9_nextToken 52 = .ok (.aload_n 0, 1) := dk_42 (dk_at dksX9_nextToken_2 6 rfl rfl)
theorem dX9_nextToken_53 : decode cX9_nextToken 53 = .ok (.aload_n 0, 1) := dk_42 (dk_at dksX9_nextToken_2 7 rfl rfl)
theorem dX9_nextToken_54 : decode cX9_nextToken 54 = .ok (.getfield 174, 3) := dk_180 0 174 (dk_at dksX9_nextToken_2 8 rfl rfl)
theorem dX9_nextToken_57 : decode cX9_nextToken 57 = .ok (.putfield 177, 3) := dk_181 0 177 (dk_at dksX9_nextToken_2 11 rfl rfl)
theorem dX9_nextToken_60 : decode cX9_nextToken 60 = .ok (.aload_n 0, 1) := dk_42 (dk_at dksX9_nextToken_2 14 rfl rfl)
theorem dX9_nextToken_61 : decode cX9_nextToken 61 = .ok (.lconst 0, 1) := dk_9 (dk_at dksX9_nextToken_2 15 rfl rfl)
theorem dX9_nextToken_62 : decode cX9_nextToken 62 = .ok (.putfield 180, 3) := dk_181 0 180 (dk_at dksX9_nextToken_2 16 rfl rfl)
theorem dX9_nextToken_65 : decode cX9_nextToken 65 = .ok (.aload_n 0, 1) := dk_42 (dk_at dksX9_nextToken_2 19 rfl rfl)
theorem dX9_nextToken_66 : decode cX9_nextToken 66 = .ok (.iconst 0, 1) := dk_3 (dk_at dksX9_nextToken_2 20 rfl rfl)
theorem dX9_nextToken_67 : decode cX9_nextToken 67 = .ok (.putfield 184, 3) := dk_181 0 184 (dk_at dksX9_nextToken_2 21 rfl rfl)
theorem dX9_nextToken_70 : decode cX9_nextToken 70 = .ok (.aload_n 0, 1) := dk_42 (dk_at dksX9_nextToken_3 0 rfl rfl)
theorem dX9_nextToken_71 : decode cX9_nextToken 71 = .ok (.getfield 174, 3) := dk_180 0 174 (dk_at dksX9_nextToken_3 1 rfl rfl)
theorem dX9_nextToken_74 : decode cX9_nextToken 74 = .ok (.aload_n 0, 1) := dk_42 (dk_at dksX9_nextToken_3 4 rfl rfl)
theorem dX9_nextToken_75 : decode cX9_nextToken 75 = .ok (.getfield 171, 3) := dk_180 0 171 (dk_at dksX9_nextToken_3 5 rfl rfl)
theorem dX9_nextToken_78 : decode cX9_nextToken 78 = .ok (.if_icmp .ne 9, 3) := dk_160 0 9 (dk_at dksX9_nextToken_3 8 rfl rfl)
theorem dX9_nextToken_81 : decode cX9_nextToken 81 = .ok (.aload_n 0, 1) := dk_42 (dk_at dksX9_nextToken_3 11 rfl rfl)
theorem dX9_nextToken_82 : decode cX9_nextToken 82 = .ok (.iconst 0, 1) := dk_3 (dk_at dksX9_nextToken_3 12 rfl rfl)
theorem dX9_nextToken_83 : decode cX9_nextToken 83 = .ok (.putfield 187, 3) := dk_181 0 187 (dk_at dksX9_nextToken_3 13 rfl rfl)
theorem dX9_nextToken_86 : decode cX9_nextToken 86 = .ok (.return_, 1) := dk_177 (dk_at dksX9_nextToken_3 16 rfl rfl)
theorem dX9_nextToken_87 : decode cX9_nextToken 87 = .ok (.aload_n 0, 1) := dk_42 (dk_at dksX9_nextToken_3 17 rfl rfl)
theorem dX9_nextToken_88 : decode cX9_nextToken 88 = .ok (.getfield 7, 3) := dk_180 0 7 (dk_at dksX9_nextToken_3 18 rfl rfl)
theorem dX9_nextToken_91 : decode cX9_nextToken 91 = .ok (.aload_n 0, 1) := dk_42 (dk_at dksX9_nextToken_3 21 rfl rfl)
theorem dX9_nextToken_92 : decode cX9_nextToken 92 = .ok (.getfield 174, 3) := dk_180 0 174 (dk_at dksX9_nextToken_4 0 rfl rfl)
theorem dX9_nextToken_95 : decode cX9_nextToken 95 = .ok (.iaload, 1) := dk_46 (dk_at dksX9_nextToken_4 3 rfl rfl)
theorem dX9_nextToken_96 : decode cX9_nextToken 96 = .ok (.istore_n 1, 1) := dk_60 (dk_at dksX9_nextToken_4 4 rfl rfl)
theorem dX9_nextToken_97 : decode cX9_nextToken 97 = .ok (.iload_n 1, 1) := dk_27 (dk_at dksX9_nextToken_4 5 rfl rfl)
theorem dX9_nextToken_98 : decode cX9_nextToken 98 = .ok (.bipush 97, 2) := dk_16 97 (dk_at dksX9_nextToken_4 6 rfl rfl)
theorem dX9_nextToken_100 : decode cX9_nextToken 100 = .ok (.if_icmp .lt 112, 3) := dk_161 0 112 (dk_at dksX9_nextToken_4 8 rfl rfl)
theorem dX9_nextToken_103 : decode cX9_nextToken 103 = .ok (.iload_n 1, 1) := dk_27 (dk_at dksX9_nextToken_4 11 rfl rfl)
theorem dX9_nextToken_104 : decode cX9_nextToken 104 = .ok (.bipush 122, 2) := dk_16 122 (dk_at dksX9_nextToken_4 12 rfl rfl)
theorem dX9_nextToken_106 : decode cX9_nextToken 106 = .ok (.if_icmp .gt 106, 3) := dk_163 0 106 (dk_at dksX9_nextToken_4 14 rfl rfl)
theorem dX9_nextToken_109 : decode cX9_nextToken 109 = .ok (.aload_n 0, 1) := dk_42 (dk_at dksX9_nextToken_4 17 rfl rfl)
theorem dX9_nextToken_110 : decode cX9_nextToken 110 = .ok (.aload_n 0, 1) := dk_42 (dk_at dksX9_nextToken_4 18 rfl rfl)
theorem dX9_nextToken_111 : decode cX9_nextToken 111 = .ok (.getfield 174, 3) := dk_180 0 174 (dk_at dksX9_nextToken_4 19 rfl rfl)
theorem dX9_nextToken_114 : decode cX9_nextToken 114 = .ok (.invokevirtual 190, 3) := dk_182 0 190 (dk_at dksX9_nextToken_5 0 rfl rfl)
theorem dX9_nextToken_117 : decode cX9_nextToken 117 = .ok (.bipush 97, 2) := dk_16 97 (dk_at dksX9_nextToken_5 3 rfl rfl)
theorem dX9_nextToken_119 : decode cX9_nextToken 119 = .ok (.if_icmp .lt 69, 3) := dk_161 0 69 (dk_at dksX9_nextToken_5 5 rfl rfl)
theorem dX9_nextToken_122 : decode cX9_nextToken 122 = .ok (.aload_n 0, 1) := dk_42 (dk_at dksX9_nextToken_5 8 rfl rfl)
theorem dX9_nextToken_123 : decode cX9_nextToken 123 = .ok (.aload_n 0, 1) := dk_42 (dk_at dksX9_nextToken_5 9 rfl rfl)
theorem dX9_nextToken_124 : decode cX9_nextToken 124 = .ok (.getfield 174, 3) := dk_180 0 174 (dk_at dksX9_nextToken_5 10 rfl rfl)
theorem dX9_nextToken_127 : decode cX9_nextToken 127 = .ok (.invokevirtual 190, 3) := dk_182 0 190 (dk_at dksX9_nextToken_5 13 rfl rfl)
theorem dX9_nextToken_130 : decode cX9_nextToken 130 = .ok (.bipush 122, 2) := dk_16 122 (dk_at dksX9_nextToken_5 16 rfl rfl)
theorem dX9_nextToken_132 : decode cX9_nextToken 132 = .ok (.if_icmp .gt 56, 3) := dk_163 0 56 (dk_at dksX9_nextToken_5 18 rfl rfl)
theorem dX9_nextToken_135 : decode cX9_nextToken 135 = .ok (.aload_n 0, 1) := dk_42 (dk_at dksX9_nextToken_5 21 rfl rfl)
theorem dX9_nextToken_136 : decode cX9_nextToken 136 = .ok (.getfield 174, 3) := dk_180 0 174 (dk_at dksX9_nextToken_6 0 rfl rfl)
theorem dX9_nextToken_139 : decode cX9_nextToken 139 = .ok (.aload_n 0, 1) := dk_42 (dk_at dksX9_nextToken_6 3 rfl rfl)
theorem dX9_nextToken_140 : decode cX9_nextToken 140 = .ok (.getfield 177, 3) := dk_180 0 177 (dk_at dksX9_nextToken_6 4 rfl rfl)
theorem dX9_nextToken_143 : decode cX9_nextToken 143 = .ok (.isub, 1) := dk_100 (dk_at dksX9_nextToken_6 7 rfl rfl)
theorem dX9_nextToken_144 : decode cX9_nextToken 144 = .ok (.bipush 8, 2) := dk_16 8 (dk_at dksX9_nextToken_6 8 rfl rfl)
theorem dX9_nextToken_146 : decode cX9_nextToken 146 = .ok (.if_icmp .ge 29, 3) := dk_162 0 29 (dk_at dksX9_nextToken_6 10 rfl rfl)
theorem dX9_nextToken_149 : decode cX9_nextToken 149 = .ok (.aload_n 0, 1) := dk_42 (dk_at dksX9_nextToken_6 13 rfl rfl)
theorem dX9_nextToken_150 : decode cX9_nextToken 150 = .ok (.aload_n 0, 1) := dk_42 (dk_at dksX9_nextToken_6 14 rfl rfl)
theorem dX9_nextToken_151 : decode cX9_nextToken 151 = .ok (.getfield 180, 3) := dk_180 0 180 (dk_at dksX9_nextToken_6 15 rfl rfl)
theorem dX9_nextToken_154 : decode cX9_nextToken 154 = .ok (.ldc2_w 194, 3) := dk_20 0 194 (dk_at dksX9_nextToken_6 18 rfl rfl)
theorem dX9_nextToken_157 : decode cX9_nextToken 157 = .ok (.lmul, 1) := dk_105 (dk_at dksX9_nextToken_6 21 rfl rfl)
theorem dX9_nextToken_158 : decode cX9_nextToken 158 = .ok (.aload_n 0, 1) := dk_42 (dk_at dksX9_nextToken_6 22 rfl rfl)
theorem dX9_nextToken_159 : decode cX9_nextToken 159 = .ok (.aload_n 0, 1) := dk_42 (dk_at dksX9_nextToken_6 23 rfl rfl)
theorem dX9_nextToken_160 : decode cX9_nextToken 160 = .ok (.getfield 174, 3) := dk_180 0 174 (dk_at dksX9_nextToken_7 0 rfl rfl)
theorem dX9_nextToken_163 : decode cX9_nextToken 163 = .ok (.invokevirtual 190, 3) := dk_182 0 190 (dk_at dksX9_nextToken_7 3 rfl rfl)
theorem dX9_nextToken_166 : decode cX9_nextToken 166 = .ok (.i2l, 1) := dk_133 (dk_at dksX9_nextToken_7 6 rfl rfl)
theorem dX9_nextToken_167 : decode cX9_nextToken 167 = .ok (.ladd, 1) := dk_97 (dk_at dksX9_nextToken_7 7 rfl rfl)
theorem dX9_nextToken_168 : decode cX9_nextToken 168 = .ok (.ldc2_w 196, 3) := dk_20 0 196 (dk_at dksX9_nextToken_7 8 rfl rfl)
theorem dX9_nextToken_171 : decode cX9_nextToken 171 = .ok (.lsub, 1) := dk_101 (dk_at dksX9_nextToken_7 11 rfl rfl)
theorem dX9_nextToken_172 : decode cX9_nextToken 172 = .ok (.putfield 180, 3) := dk_181 0 180 (dk_at dksX9_nextToken_7 12 rfl rfl)
theorem dX9_nextToken_175 : decode cX9_nextToken 175 = .ok (.aload_n 0, 1) := dk_42 (dk_at dksX9_nextToken_7 15 rfl rfl)
theorem dX9_nextToken_176 : decode cX9_nextToken 176 = .ok (.dup, 1) := dk_89 (dk_at dksX9_nextToken_7 16 rfl rfl)
theorem dX9_nextToken_177 : decode cX9_nextToken 177 = .ok (.getfield 174, 3) := dk_180 0 174 (dk_at dksX9_nextToken_7 17 rfl rfl)
theorem dX9_nextToken_180 : decode cX9_nextToken 180 = .ok (.iconst 1, 1) := dk_4 (dk_at dksX9_nextToken_7 20 rfl rfl)
theorem dX9_nextToken_181 : decode cX9_nextToken 181 = .ok (.iadd, 1) := dk_96 (dk_at dksX9_nextToken_7 21 rfl rfl)
theorem dX9_nextToken_182 : decode cX9_nextToken 182 = .ok (.putfield 174, 3) := dk_181 0 174 (dk_at dksX9_nextToken_8 0 rfl rfl)
theorem dX9_nextToken_185 : decode cX9_nextToken 185 = .ok (.goto (-76), 3) := dk_167 255 180 (dk_at dksX9_nextToken_8 3 rfl rfl)
theorem dX9_nextToken_188 : decode cX9_nextToken 188 = .ok (.aload_n 0, 1) := dk_42 (dk_at dksX9_nextToken_8 6 rfl rfl)
theorem dX9_nextToken_189 : decode cX9_nextToken 189 = .ok (.aload_n 0, 1) := dk_42 (dk_at dksX9_nextToken_8 7 rfl rfl)
theorem dX9_nextToken_190 : decode cX9_nextToken 190 = .ok (.getfield 174, 3) := dk_180 0 174 (dk_at dksX9_nextToken_8 8 rfl rfl)
theorem dX9_nextToken_193 : decode cX9_nextToken 193 = .ok (.aload_n 0, 1) := dk_42 (dk_at dksX9_nextToken_8 11 rfl rfl)
theorem dX9_nextToken_194 : decode cX9_nextToken 194 = .ok (.getfield 177, 3) := dk_180 0 177 (dk_at dksX9_nextToken_8 12 rfl rfl)
theorem dX9_nextToken_197 : decode cX9_nextToken 197 = .ok (.isub, 1) := dk_100 (dk_at dksX9_nextToken_8 15 rfl rfl)
theorem dX9_nextToken_198 : decode cX9_nextToken 198 = .ok (.bipush 8, 2) := dk_16 8 (dk_at dksX9_nextToken_8 16 rfl rfl)
theorem dX9_nextToken_200 : decode cX9_nextToken 200 = .ok (.if_icmp .le 7, 3) := dk_164 0 7 (dk_at dksX9_nextToken_8 18 rfl rfl)
theorem dX9_nextToken_203 : decode cX9_nextToken 203 = .ok (.iconst 4, 1) := dk_7 (dk_at dksX9_nextToken_8 21 rfl rfl)
theorem dX9_nextToken_204 : decode cX9_nextToken 204 = .ok (.goto 4, 3) := dk_167 0 4 (dk_at dksX9_nextToken_9 0 rfl rfl)
theorem dX9_nextToken_207 : decode cX9_nextToken 207 = .ok (.iconst 1, 1) := dk_4 (dk_at dksX9_nextToken_9 3 rfl rfl)
theorem dX9_nextToken_208 : decode cX9_nextToken 208 = .ok (.putfield 187, 3) := dk_181 0 187 (dk_at dksX9_nextToken_9 4 rfl rfl)
theorem dX9_nextToken_211 : decode cX9_nextToken 211 = .ok (.return_, 1) := dk_177 (dk_at dksX9_nextToken_9 7 rfl rfl)
theorem dX9_nextToken_212 : decode cX9_nextToken 212 = .ok (.iload_n 1, 1) := dk_27 (dk_at dksX9_nextToken_9 8 rfl rfl)
theorem dX9_nextToken_213 : decode cX9_nextToken 213 = .ok (.bipush 48, 2) := dk_16 48 (dk_at dksX9_nextToken_9 9 rfl rfl)
theorem dX9_nextToken_215 : decode cX9_nextToken 215 = .ok (.if_icmp .lt 107, 3) := dk_161 0 107 (dk_at dksX9_nextToken_9 11 rfl rfl)
theorem dX9_nextToken_218 : decode cX9_nextToken 218 = .ok (.iload_n 1, 1) := dk_27 (dk_at dksX9_nextToken_9 14 rfl rfl)
theorem dX9_nextToken_219 : decode cX9_nextToken 219 = .ok (.bipush 57, 2) := dk_16 57 (dk_at dksX9_nextToken_9 15 rfl rfl)
theorem dX9_nextToken_221 : decode cX9_nextToken 221 = .ok (.if_icmp .gt 101, 3) := dk_163 0 101 (dk_at dksX9_nextToken_9 17 rfl rfl)
theorem dX9_nextToken_224 : decode cX9_nextToken 224 = .ok (.aload_n 0, 1) := dk_42 (dk_at dksX9_nextToken_9 20 rfl rfl)
theorem dX9_nextToken_225 : decode cX9_nextToken 225 = .ok (.aload_n 0, 1) := dk_42 (dk_at dksX9_nextToken_9 21 rfl rfl)
theorem dX9_nextToken_226 : decode cX9_nextToken 226 = .ok (.getfield 174, 3) := dk_180 0 174 (dk_at dksX9_nextToken_10 0 rfl rfl)
theorem dX9_nextToken_229 : decode cX9_nextToken 229 = .ok (.invokevirtual 190, 3) := dk_182 0 190 (dk_at dksX9_nextToken_10 3 rfl rfl)
theorem dX9_nextToken_232 : decode cX9_nextToken 232 = .ok (.bipush 48, 2) := dk_16 48 (dk_at dksX9_nextToken_10 6 rfl rfl)
theorem dX9_nextToken_234 : decode cX9_nextToken 234 = .ok (.if_icmp .lt 65, 3) := dk_161 0 65 (dk_at dksX9_nextToken_10 8 rfl rfl)
theorem dX9_nextToken_237 : decode cX9_nextToken 237 = .ok (.aload_n 0, 1) := dk_42 (dk_at dksX9_nextToken_10 11 rfl rfl)
theorem dX9_nextToken_238 : decode cX9_nextToken 238 = .ok (.aload_n 0, 1) := dk_42 (dk_at dksX9_nextToken_10 12 rfl rfl)
theorem dX9_nextToken_239 : decode cX9_nextToken 239 = .ok (.getfield 174, 3) := dk_180 0 174 (dk_at dksX9_nextToken_10 13 rfl rfl)
theorem dX9_nextToken_242 : decode cX9_nextToken 242 = .ok (.invokevirtual 190, 3) := dk_182 0 190 (dk_at dksX9_nextToken_10 16 rfl rfl)
theorem dX9_nextToken_245 : decode cX9_nextToken 245 = .ok (.bipush 57, 2) := dk_16 57 (dk_at dksX9_nextToken_10 19 rfl rfl)
theorem dX9_nextToken_247 : decode cX9_nextToken 247 = .ok (.if_icmp .gt 52, 3) := dk_163 0 52 (dk_at dksX9_nextToken_10 21 rfl rfl)
theorem dX9_nextToken_250 : decode cX9_nextToken 250 = .ok (.aload_n 0, 1) := dk_42 (dk_at dksX9_nextToken_11 0 rfl rfl)
theorem dX9_nextToken_251 : decode cX9_nextToken 251 = .ok (.getfield 174, 3) := dk_180 0 174 (dk_at dksX9_nextToken_11 1 rfl rfl)
theorem dX9_nextToken_254 : decode cX9_nextToken 254 = .ok (.aload_n 0, 1) := dk_42 (dk_at dksX9_nextToken_11 4 rfl rfl)
theorem dX9_nextToken_255 : decode cX9_nextToken 255 = .ok (.getfield 177, 3) := dk_180 0 177 (dk_at dksX9_nextToken_11 5 rfl rfl)
theorem dX9_nextToken_258 : decode cX9_nextToken 258 = .ok (.isub, 1) := dk_100 (dk_at dksX9_nextToken_11 8 rfl rfl)
theorem dX9_nextToken_259 : decode cX9_nextToken 259 = .ok (.iconst 4, 1) := dk_7 (dk_at dksX9_nextToken_11 9 rfl rfl)
theorem dX9_nextToken_260 : decode cX9_nextToken 260 = .ok (.if_icmp .ge 26, 3) := dk_162 0 26 (dk_at dksX9_nextToken_11 10 rfl rfl)
theorem dX9_nextToken_263 : decode cX9_nextToken 263 = .ok (.aload_n 0, 1) := dk_42 (dk_at dksX9_nextToken_11 13 rfl rfl)
theorem dX9_nextToken_264 : decode cX9_nextToken 264 = .ok (.aload_n 0, 1) := dk_42 (dk_at dksX9_nextToken_11 14 rfl rfl)
theorem dX9_nextToken_265 : decode cX9_nextToken 265 = .ok (.getfield 184, 3) := dk_180 0 184 (dk_at dksX9_nextToken_11 15 rfl rfl)
theorem dX9_nextToken_268 : decode cX9_nextToken 268 = .ok (.bipush 10, 2) := dk_16 10 (dk_at dksX9_nextToken_11 18 rfl rfl)
theorem dX9_nextToken_270 : decode cX9_nextToken 270 = .ok (.imul, 1) := dk_104 (dk_at dksX9_nextToken_11 20 rfl rfl)
theorem dX9_nextToken_271 : decode cX9_nextToken 271 = .ok (.aload_n 0, 1) := dk_42 (dk_at dksX9_nextToken_11 21 rfl rfl)
theorem dX9_nextToken_272 : decode cX9_nextToken 272 = .ok (.aload_n 0, 1) := dk_42 (dk_at dksX9_nextToken_11 22 rfl rfl)
theorem dX9_nextToken_273 : decode cX9_nextToken 273 = .ok (.getfield 174, 3) := dk_180 0 174 (dk_at dksX9_nextToken_12 0 rfl rfl)
theorem dX9_nextToken_276 : decode cX9_nextToken 276 = .ok (.invokevirtual 190, 3) := dk_182 0 190 (dk_at dksX9_nextToken_12 3 rfl rfl)
theorem dX9_nextToken_279 : decode cX9_nextToken 279 = .ok (.iadd, 1) := dk_96 (dk_at dksX9_nextToken_12 6 rfl rfl)
theorem dX9_nextToken_280 : decode cX9_nextToken 280 = .ok (.bipush 48, 2) := dk_16 48 (dk_at dksX9_nextToken_12 7 rfl rfl)
theorem dX9_nextToken_282 : decode cX9_nextToken 282 = .ok (.isub, 1) := dk_100 (dk_at dksX9_nextToken_12 9 rfl rfl)
theorem dX9_nextToken_283 : decode cX9_nextToken 283 = .ok (.putfield 184, 3) := dk_181 0 184 (dk_at dksX9_nextToken_12 10 rfl rfl)
theorem dX9_nextToken_286 : decode cX9_nextToken 286 = .ok (.aload_n 0, 1) := dk_42 (dk_at dksX9_nextToken_12 13 rfl rfl)
theorem dX9_nextToken_287 : decode cX9_nextToken 287 = .ok (.dup, 1) := dk_89 (dk_at dksX9_nextToken_12 14 rfl rfl)
theorem dX9_nextToken_288 : decode cX9_nextToken 288 = .ok (.getfield 174, 3) := dk_180 0 174 (dk_at dksX9_nextToken_12 15 rfl rfl)
theorem dX9_nextToken_291 : decode cX9_nextToken 291 = .ok (.iconst 1, 1) := dk_4 (dk_at dksX9_nextToken_12 18 rfl rfl)
theorem dX9_nextToken_292 : decode cX9_nextToken 292 = .ok (.iadd, 1) := dk_96 (dk_at dksX9_nextToken_12 19 rfl rfl)
theorem dX9_nextToken_293 : decode cX9_nextToken 293 = .ok (.putfield 174, 3) := dk_181 0 174 (dk_at dksX9_nextToken_12 20 rfl rfl)
theorem dX9_nextToken_296 : decode cX9_nextToken 296 = .ok (.goto (-72), 3) := dk_167 255 184 (dk_at dksX9_nextToken_13 0 rfl rfl)
theorem dX9_nextToken_299 : decode cX9_nextToken 299 = .ok (.aload_n 0, 1) := dk_42 (dk_at dksX9_nextToken_13 3 rfl rfl)
theorem dX9_nextToken_300 : decode cX9_nextToken 300 = .ok (.aload_n 0, 1) := dk_42 (dk_at dksX9_nextToken_13 4 rfl rfl)
theorem dX9_nextToken_301 : decode cX9_nextToken 301 = .ok (.getfield 174, 3) := dk_180 0 174 (dk_at dksX9_nextToken_13 5 rfl rfl)
theorem dX9_nextToken_304 : decode cX9_nextToken 304 = .ok (.aload_n 0, 1) := dk_42 (dk_at dksX9_nextToken_13 8 rfl rfl)
theorem dX9_nextToken_305 : decode cX9_nextToken 305 = .ok (.getfield 177, 3) := dk_180 0 177 (dk_at dksX9_nextToken_13 9 rfl rfl)
theorem dX9_nextToken_308 : decode cX9_nextToken 308 = .ok (.isub, 1) := dk_100 (dk_at dksX9_nextToken_13 12 rfl rfl)
theorem dX9_nextToken_309 : decode cX9_nextToken 309 = .ok (.iconst 4, 1) := dk_7 (dk_at dksX9_nextToken_13 13 rfl rfl)
theorem dX9_nextToken_310 : decode cX9_nextToken 310 = .ok (.if_icmp .le 7, 3) := dk_164 0 7 (dk_at dksX9_nextToken_13 14 rfl rfl)
theorem dX9_nextToken_313 : decode cX9_nextToken 313 = .ok (.iconst 4, 1) := dk_7 (dk_at dksX9_nextToken_13 17 rfl rfl)
theorem dX9_nextToken_314 : decode cX9_nextToken 314 = .ok (.goto 4, 3) := dk_167 0 4 (dk_at dksX9_nextToken_13 18 rfl rfl)
theorem dX9_nextToken_317 : decode cX9_nextToken 317 = .ok (.iconst 2, 1) := dk_5 (dk_at dksX9_nextToken_13 21 rfl rfl)
theorem dX9_nextToken_318 : decode cX9_nextToken 318 = .ok (.putfield 187, 3) := dk_181 0 187 (dk_at dksX9_nextToken_14 0 rfl rfl)
theorem dX9_nextToken_321 : decode cX9_nextToken 321 = .ok (.return_, 1) := dk_177 (dk_at dksX9_nextToken_14 3 rfl rfl)
theorem dX9_nextToken_322 : decode cX9_nextToken 322 = .ok (.aload_n 0, 1) := dk_42 (dk_at dksX9_nextToken_14 4 rfl rfl)
theorem dX9_nextToken_323 : decode cX9_nextToken 323 = .ok (.dup, 1) := dk_89 (dk_at dksX9_nextToken_14 5 rfl rfl)
theorem dX9_nextToken_324 : decode cX9_nextToken 324 = .ok (.getfield 174, 3) := dk_180 0 174 (dk_at dksX9_nextToken_14 6 rfl rfl)
theorem dX9_nextToken_327 : decode cX9_nextToken 327 = .ok (.iconst 1, 1) := dk_4 (dk_at dksX9_nextToken_14 9 rfl rfl)
theorem dX9_nextToken_328 : decode cX9_nextToken 328 = .ok (.iadd, 1) := dk_96 (dk_at dksX9_nextToken_14 10 rfl rfl)
theorem dX9_nextToken_329 : decode cX9_nextToken 329 = .ok (.putfield 174, 3) := dk_181 0 174 (dk_at dksX9_nextToken_14 11 rfl rfl)
theorem dX9_nextToken_332 : decode cX9_nextToken 332 = .ok (.aload_n 0, 1) := dk_42 (dk_at dksX9_nextToken_14 14 rfl rfl)
theorem dX9_nextToken_333 : decode cX9_nextToken 333 = .ok (.iload_n 1, 1) := dk_27 (dk_at dksX9_nextToken_14 15 rfl rfl)
theorem dX9_nextToken_334 : decode cX9_nextToken 334 = .ok (.bipush 40, 2) := dk_16 40 (dk_at dksX9_nextToken_14 16 rfl rfl)
theorem dX9_nextToken_336 : decode cX9_nextToken 336 = .ok (.if_icmp .lt 9, 3) := dk_161 0 9 (dk_at dksX9_nextToken_14 18 rfl rfl)
theorem dX9_nextToken_339 : decode cX9_nextToken 339 = .ok (.iload_n 1, 1) := dk_27 (dk_at dksX9_nextToken_14 21 rfl rfl)
theorem dX9_nextToken_340 : decode cX9_nextToken 340 = .ok (.bipush 43, 2) := dk_16 43 (dk_at dksX9_nextToken_14 22 rfl rfl)
theorem dX9_nextToken_342 : decode cX9_nextToken 342 = .ok (.if_icmp .le 21, 3) := dk_164 0 21 (dk_at dksX9_nextToken_15 0 rfl rfl)
theorem dX9_nextToken_345 : decode cX9_nextToken 345 = .ok (.iload_n 1, 1) := dk_27 (dk_at dksX9_nextToken_15 3 rfl rfl)
theorem dX9_nextToken_346 : decode cX9_nextToken 346 = .ok (.bipush 45, 2) := dk_16 45 (dk_at dksX9_nextToken_15 4 rfl rfl)
theorem dX9_nextToken_348 : decode cX9_nextToken 348 = .ok (.if_icmp .eq 15, 3) := dk_159 0 15 (dk_at dksX9_nextToken_15 6 rfl rfl)
theorem dX9_nextToken_351 : decode cX9_nextToken 351 = .ok (.iload_n 1, 1) := dk_27 (dk_at dksX9_nextToken_15 9 rfl rfl)
theorem dX9_nextToken_352 : decode cX9_nextToken 352 = .ok (.bipush 59, 2) := dk_16 59 (dk_at dksX9_nextToken_15 10 rfl rfl)
theorem dX9_nextToken_354 : decode cX9_nextToken 354 = .ok (.if_icmp .lt 13, 3) := dk_161 0 13 (dk_at dksX9_nextToken_15 12 rfl rfl)
theorem dX9_nextToken_357 : decode cX9_nextToken 357 = .ok (.iload_n 1, 1) := dk_27 (dk_at dksX9_nextToken_15 15 rfl rfl)
theorem dX9_nextToken_358 : decode cX9_nextToken 358 = .ok (.bipush 61, 2) := dk_16 61 (dk_at dksX9_nextToken_15 16 rfl rfl)
theorem dX9_nextToken_360 : decode cX9_nextToken 360 = .ok (.if_icmp .gt 7, 3) := dk_163 0 7 (dk_at dksX9_nextToken_15 18 rfl rfl)
theorem dX9_nextToken_363 : decode cX9_nextToken 363 = .ok (.iconst 3, 1) := dk_6 (dk_at dksX9_nextToken_15 21 rfl rfl)
theorem dX9_nextToken_364 : decode cX9_nextToken 364 = .ok (.goto 4, 3) := dk_167 0 4 (dk_at dksX9_nextToken_16 0 rfl rfl)
theorem dX9_nextToken_367 : decode cX9_nextToken 367 = .ok (.iconst 4, 1) := dk_7 (dk_at dksX9_nextToken_16 3 rfl rfl)
theorem dX9_nextToken_368 : decode cX9_nextToken 368 = .ok (.putfield 187, 3) := dk_181 0 187 (dk_at dksX9_nextToken_16 4 rfl rfl)
theorem dX9_nextToken_371 : decode cX9_nextToken 371 = .ok (.return_, 1) := dk_177 (dk_at dksX9_nextToken_16 7 rfl rfl)
abbrev cX9_signAt : ByteArray := prog_28_method_8_code
def yX9_signAt : MethodName := ⟨RX9, "signAt", "(I)I"⟩
def dkwX9_signAt_0 : List UInt8 := [27, 42, 180, 0, 171, 162, 0, 12, 42, 180, 0, 7, 27, 46, 167, 0, 4, 3, 172]
abbrev dktX9_signAt_0 : List UInt8 := dkwX9_signAt_0 ++ []
theorem dksX9_signAt_0 : cX9_signAt.data.toList.drop 0 = dktX9_signAt_0 := by decide +kernel
theorem dX9_signAt_0 : decode cX9_signAt 0 = .ok (.iload_n 1, 1) := dk_27 (dk_at dksX9_signAt_0 0 rfl rfl)
theorem dX9_signAt_1 : decode cX9_signAt 1 = .ok (.aload_n 0, 1) := dk_42 (dk_at dksX9_signAt_0 1 rfl rfl)
theorem dX9_signAt_2 : decode cX9_signAt 2 = .ok (.getfield 171, 3) := dk_180 0 171 (dk_at dksX9_signAt_0 2 rfl rfl)
theorem dX9_signAt_5 : decode cX9_signAt 5 = .ok (.if_icmp .ge 12, 3) := dk_162 0 12 (dk_at dksX9_signAt_0 5 rfl rfl)
theorem dX9_signAt_8 : decode cX9_signAt 8 = .ok (.aload_n 0, 1) := dk_42 (dk_at dksX9_signAt_0 8 rfl rfl)
theorem dX9_signAt_9 : decode cX9_signAt 9 = .ok (.getfield 7, 3) := dk_180 0 7 (dk_at dksX9_signAt_0 9 rfl rfl)
theorem dX9_signAt_12 : decode cX9_signAt 12 = .ok (.iload_n 1, 1) := dk_27 (dk_at dksX9_signAt_0 12 rfl rfl)
theorem dX9_signAt_13 : decode cX9_signAt 13 = .ok (.iaload, 1) := dk_46 (dk_at dksX9_signAt_0 13 rfl rfl)
theorem dX9_signAt_14 : decode cX9_signAt 14 = .ok (.goto 4, 3) := dk_167 0 4 (dk_at dksX9_signAt_0 14 rfl rfl)
theorem dX9_signAt_17 : decode cX9_signAt 17 = .ok (.iconst 0, 1) := dk_3 (dk_at dksX9_signAt_0 17 rfl rfl)
theorem dX9_signAt_18 : decode cX9_signAt 18 = .ok (.ireturn, 1) := dk_172 (dk_at dksX9_signAt_0 18 rfl rfl)
abbrev cX9_readsParish : ByteArray := prog_28_method_31_code
def yX9_readsParish : MethodName := ⟨RX9, "readsParish", "()Z"⟩
def dkwX9_readsParish_8 : List UInt8 := [167, 255, 152, 4, 172]
abbrev dktX9_readsParish_8 : List UInt8 := dkwX9_readsParish_8 ++ []
def dkwX9_readsParish_7 : List UInt8 := [153, 0, 10, 42, 182, 1, 48, 167, 0, 8, 42, 4, 182, 0, 247, 60, 27, 154, 0, 5, 3, 172]
abbrev dktX9_readsParish_7 : List UInt8 := dkwX9_readsParish_7 ++ dktX9_readsParish_8
def dkwX9_readsParish_6 : List UInt8 := [20, 0, 220, 182, 0, 239, 153, 0, 10, 42, 182, 1, 45, 167, 0, 25, 42, 20, 0, 218, 182, 0, 239]
abbrev dktX9_readsParish_6 : List UInt8 := dkwX9_readsParish_6 ++ dktX9_readsParish_7
def dkwX9_readsParish_5 : List UInt8 := [182, 1, 39, 167, 0, 59, 42, 20, 0, 212, 182, 0, 239, 153, 0, 10, 42, 182, 1, 42, 167, 0, 42, 42]
abbrev dktX9_readsParish_5 : List UInt8 := dkwX9_readsParish_5 ++ dktX9_readsParish_6
def dkwX9_readsParish_4 : List UInt8 := [182, 0, 239, 153, 0, 10, 42, 182, 1, 36, 167, 0, 76, 42, 20, 0, 208, 182, 0, 239, 153, 0, 10, 42]
abbrev dktX9_readsParish_4 : List UInt8 := dkwX9_readsParish_4 ++ dktX9_readsParish_5
def dkwX9_readsParish_3 : List UInt8 := [180, 0, 90, 27, 3, 84, 132, 1, 1, 167, 255, 206, 42, 180, 0, 187, 153, 0, 103, 42, 20, 0, 204]
abbrev dktX9_readsParish_3 : List UInt8 := dkwX9_readsParish_3 ++ dktX9_readsParish_4
def dkwX9_readsParish_2 : List UInt8 := [27, 96, 3, 79, 42, 180, 0, 38, 5, 27, 96, 27, 154, 0, 7, 4, 167, 0, 4, 3, 84, 42]
abbrev dktX9_readsParish_2 : List UInt8 := dkwX9_readsParish_2 ++ dktX9_readsParish_3
def dkwX9_readsParish_1 : List UInt8 := [181, 1, 25, 3, 60, 27, 5, 162, 0, 51, 42, 180, 0, 32, 5, 27, 96, 3, 79, 42, 180, 0, 35, 5]
abbrev dktX9_readsParish_1 : List UInt8 := dkwX9_readsParish_1 ++ dktX9_readsParish_2
def dkwX9_readsParish_0 : List UInt8 := [6, 60, 27, 16, 6, 162, 0, 16, 42, 180, 0, 13, 27, 3, 79, 132, 1, 1, 167, 255, 240, 42, 3]
abbrev dktX9_readsParish_0 : List UInt8 := dkwX9_readsParish_0 ++ dktX9_readsParish_1
theorem dksX9_readsParish_0 : cX9_readsParish.data.toList.drop 0 = dktX9_readsParish_0 := by decide +kernel
theorem dksX9_readsParish_1 : cX9_readsParish.data.toList.drop 23 = dktX9_readsParish_1 := dk_seg dksX9_readsParish_0 23 rfl rfl
theorem dksX9_readsParish_2 : cX9_readsParish.data.toList.drop 47 = dktX9_readsParish_2 := dk_seg dksX9_readsParish_1 24 rfl rfl
theorem dksX9_readsParish_3 : cX9_readsParish.data.toList.drop 69 = dktX9_readsParish_3 := dk_seg dksX9_readsParish_2 22 rfl rfl
theorem dksX9_readsParish_4 : cX9_readsParish.data.toList.drop 92 = dktX9_readsParish_4 := dk_seg dksX9_readsParish_3 23 rfl rfl
theorem dksX9_readsParish_5 : cX9_readsParish.data.toList.drop 116 = dktX9_readsParish_5 := dk_seg dksX9_readsParish_4 24 rfl rfl
theorem dksX9_readsParish_6 : cX9_readsParish.data.toList.drop 140 = dktX9_readsParish_6 := dk_seg dksX9_readsParish_5 24 rfl rfl
theorem dksX9_readsParish_7 : cX9_readsParish.data.toList.drop 163 = dktX9_readsParish_7 := dk_seg dksX9_readsParish_6 23 rfl rfl
theorem dksX9_readsParish_8 : cX9_readsParish.data.toList.drop 185 = dktX9_readsParish_8 := dk_seg dksX9_readsParish_7 22 rfl rfl
theorem dX9_readsParish_0 : decode cX9_readsParish 0 = .ok (.iconst 3, 1) := dk_6 (dk_at dksX9_readsParish_0 0 rfl rfl)
theorem dX9_readsParish_1 : decode cX9_readsParish 1 = .ok (.istore_n 1, 1) := dk_60 (dk_at dksX9_readsParish_0 1 rfl rfl)
theorem dX9_readsParish_2 : decode cX9_readsParish 2 = .ok (.iload_n 1, 1) := dk_27 (dk_at dksX9_readsParish_0 2 rfl rfl)
theorem dX9_readsParish_3 : decode cX9_readsParish 3 = .ok (.bipush 6, 2) := dk_16 6 (dk_at dksX9_readsParish_0 3 rfl rfl)
theorem dX9_readsParish_5 : decode cX9_readsParish 5 = .ok (.if_icmp .ge 16, 3) := dk_162 0 16 (dk_at dksX9_readsParish_0 5 rfl rfl)
theorem dX9_readsParish_8 : decode cX9_readsParish 8 = .ok (.aload_n 0, 1) := dk_42 (dk_at dksX9_readsParish_0 8 rfl rfl)
theorem dX9_readsParish_9 : decode cX9_readsParish 9 = .ok (.getfield 13, 3) := dk_180 0 13 (dk_at dksX9_readsParish_0 9 rfl rfl)
theorem dX9_readsParish_12 : decode cX9_readsParish 12 = .ok (.iload_n 1, 1) := dk_27 (dk_at dksX9_readsParish_0 12 rfl rfl)
theorem dX9_readsParish_13 : decode cX9_readsParish 13 = .ok (.iconst 0, 1) := dk_3 (dk_at dksX9_readsParish_0 13 rfl rfl)
theorem dX9_readsParish_14 : decode cX9_readsParish 14 = .ok (.iastore, 1) := dk_79 (dk_at dksX9_readsParish_0 14 rfl rfl)
theorem dX9_readsParish_15 : decode cX9_readsParish 15 = .ok (.iinc 1 1, 3) := dk_132 1 1 (dk_at dksX9_readsParish_0 15 rfl rfl)
theorem dX9_readsParish_18 : decode cX9_readsParish 18 = .ok (.goto (-16), 3) := dk_167 255 240 (dk_at dksX9_readsParish_0 18 rfl rfl)
theorem dX9_readsParish_21 : decode cX9_readsParish 21 = .ok (.aload_n 0, 1) := dk_42 (dk_at dksX9_readsParish_0 21 rfl rfl)
theorem dX9_readsParish_22 : decode cX9_readsParish 22 = .ok (.iconst 0, 1) := dk_3 (dk_at dksX9_readsParish_0 22 rfl rfl)
theorem dX9_readsParish_23 : decode cX9_readsParish 23 = .ok (.putfield 281, 3) := dk_181 1 25 (dk_at dksX9_readsParish_1 0 rfl rfl)
theorem dX9_readsParish_26 : decode cX9_readsParish 26 = .ok (.iconst 0, 1) := dk_3 (dk_at dksX9_readsParish_1 3 rfl rfl)
theorem dX9_readsParish_27 : decode cX9_readsParish 27 = .ok (.istore_n 1, 1) := dk_60 (dk_at dksX9_readsParish_1 4 rfl rfl)
theorem dX9_readsParish_28 : decode cX9_readsParish 28 = .ok (.iload_n 1, 1) := dk_27 (dk_at dksX9_readsParish_1 5 rfl rfl)
theorem dX9_readsParish_29 : decode cX9_readsParish 29 = .ok (.iconst 2, 1) := dk_5 (dk_at dksX9_readsParish_1 6 rfl rfl)
theorem dX9_readsParish_30 : decode cX9_readsParish 30 = .ok (.if_icmp .ge 51, 3) := dk_162 0 51 (dk_at dksX9_readsParish_1 7 rfl rfl)
theorem dX9_readsParish_33 : decode cX9_readsParish 33 = .ok (.aload_n 0, 1) := dk_42 (dk_at dksX9_readsParish_1 10 rfl rfl)
theorem dX9_readsParish_34 : decode cX9_readsParish 34 = .ok (.getfield 32, 3) := dk_180 0 32 (dk_at dksX9_readsParish_1 11 rfl rfl)
theorem dX9_readsParish_37 : decode cX9_readsParish 37 = .ok (.iconst 2, 1) := dk_5 (dk_at dksX9_readsParish_1 14 rfl rfl)
theorem dX9_readsParish_38 : decode cX9_readsParish 38 = .ok (.iload_n 1, 1) := dk_27 (dk_at dksX9_readsParish_1 15 rfl rfl)
theorem dX9_readsParish_39 : decode cX9_readsParish 39 = .ok (.iadd, 1) := dk_96 (dk_at dksX9_readsParish_1 16 rfl rfl)
theorem dX9_readsParish_40 : decode cX9_readsParish 40 = .ok (.iconst 0, 1) := dk_3 (dk_at dksX9_readsParish_1 17 rfl rfl)
theorem dX9_readsParish_41 : decode cX9_readsParish 41 = .ok (.iastore, 1) := dk_79 (dk_at dksX9_readsParish_1 18 rfl rfl)
theorem dX9_readsParish_42 : decode cX9_readsParish 42 = .ok (.aload_n 0, 1) := dk_42 (dk_at dksX9_readsParish_1 19 rfl rfl)
theorem dX9_readsParish_43 : decode cX9_readsParish 43 = .ok (.getfield 35, 3) := dk_180 0 35 (dk_at dksX9_readsParish_1 20 rfl rfl)
theorem dX9_readsParish_46 : decode cX9_readsParish 46 = .ok (.iconst 2, 1) := dk_5 (dk_at dksX9_readsParish_1 23 rfl rfl)
theorem dX9_readsParish_47 : decode cX9_readsParish 47 = .ok (.iload_n 1, 1) := dk_27 (dk_at dksX9_readsParish_2 0 rfl rfl)
theorem dX9_readsParish_48 : decode cX9_readsParish 48 = .ok (.iadd, 1) := dk_96 (dk_at dksX9_readsParish_2 1 rfl rfl)
theorem dX9_readsParish_49 : decode cX9_readsParish 49 = .ok (.iconst 0, 1) := dk_3 (dk_at dksX9_readsParish_2 2 rfl rfl)
theorem dX9_readsParish_50 : decode cX9_readsParish 50 = .ok (.iastore, 1) := dk_79 (dk_at dksX9_readsParish_2 3 rfl rfl)
theorem dX9_readsParish_51 : decode cX9_readsParish 51 = .ok (.aload_n 0, 1) := dk_42 (dk_at dksX9_readsParish_2 4 rfl rfl)
theorem dX9_readsParish_52 : decode cX9_readsParish 52 = .ok (.getfield 38, 3) := dk_180 0 38 (dk_at dksX9_readsParish_2 5 rfl rfl)
theorem dX9_readsParish_55 : decode cX9_readsParish 55 = .ok (.iconst 2, 1) := dk_5 (dk_at dksX9_readsParish_2 8 rfl rfl)
theorem dX9_readsParish_56 : decode cX9_readsParish 56 = .ok (.iload_n 1, 1) := dk_27 (dk_at dksX9_readsParish_2 9 rfl rfl)
theorem dX9_readsParish_57 : decode cX9_readsParish 57 = .ok (.iadd, 1) := dk_96 (dk_at dksX9_readsParish_2 10 rfl rfl)
theorem dX9_readsParish_58 : decode cX9_readsParish 58 = .ok (.iload_n 1, 1) := dk_27 (dk_at dksX9_readsParish_2 11 rfl rfl)
theorem dX9_readsParish_59 : decode cX9_readsParish 59 = .ok (.ifCond .ne 7, 3) := dk_154 0 7 (dk_at dksX9_readsParish_2 12 rfl rfl)
theorem dX9_readsParish_62 : decode cX9_readsParish 62 = .ok (.iconst 1, 1) := dk_4 (dk_at dksX9_readsParish_2 15 rfl rfl)
theorem dX9_readsParish_63 : decode cX9_readsParish 63 = .ok (.goto 4, 3) := dk_167 0 4 (dk_at dksX9_readsParish_2 16 rfl rfl)
theorem dX9_readsParish_66 : decode cX9_readsParish 66 = .ok (.iconst 0, 1) := dk_3 (dk_at dksX9_readsParish_2 19 rfl rfl)
theorem dX9_readsParish_67 : decode cX9_readsParish 67 = .ok (.bastore, 1) := dk_84 (dk_at dksX9_readsParish_2 20 rfl rfl)
theorem dX9_readsParish_68 : decode cX9_readsParish 68 = .ok (.aload_n 0, 1) := dk_42 (dk_at dksX9_readsParish_2 21 rfl rfl)
theorem dX9_readsParish_69 : decode cX9_readsParish 69 = .ok (.getfield 90, 3) := dk_180 0 90 (dk_at dksX9_readsParish_3 0 rfl rfl)
theorem dX9_readsParish_72 : decode cX9_readsParish 72 = .ok (.iload_n 1, 1) := dk_27 (dk_at dksX9_readsParish_3 3 rfl rfl)
theorem dX9_readsParish_73 : decode cX9_readsParish 73 = .ok (.iconst 0, 1) := dk_3 (dk_at dksX9_readsParish_3 4 rfl rfl)
theorem dX9_readsParish_74 : decode cX9_readsParish 74 = .ok (.bastore, 1) := dk_84 (dk_at dksX9_readsParish_3 5 rfl rfl)
theorem dX9_readsParish_75 : decode cX9_readsParish 75 = .ok (.iinc 1 1, 3) := dk_132 1 1 (dk_at dksX9_readsParish_3 6 rfl rfl)
theorem dX9_readsParish_78 : decode cX9_readsParish 78 = .ok (.goto (-50), 3) := dk_167 255 206 (dk_at dksX9_readsParish_3 9 rfl rfl)
theorem dX9_readsParish_81 : decode cX9_readsParish 81 = .ok (.aload_n 0, 1) := dk_42 (dk_at dksX9_readsParish_3 12 rfl rfl)
theorem dX9_readsParish_82 : decode cX9_readsParish 82 = .ok (.getfield 187, 3) := dk_180 0 187 (dk_at dksX9_readsParish_3 13 rfl rfl)
theorem dX9_readsParish_85 : decode cX9_readsParish 85 = .ok (.ifCond .eq 103, 3) := dk_153 0 103 (dk_at dksX9_readsParish_3 16 rfl rfl)
theorem dX9_readsParish_88 : decode cX9_readsParish 88 = .ok (.aload_n 0, 1) := dk_42 (dk_at dksX9_readsParish_3 19 rfl rfl)
theorem dX9_readsParish_89 : decode cX9_readsParish 89 = .ok (.ldc2_w 204, 3) := dk_20 0 204 (dk_at dksX9_readsParish_3 20 rfl rfl)
theorem dX9_readsParish_92 : decode cX9_readsParish 92 = .ok (.invokevirtual 239, 3) := dk_182 0 239 (dk_at dksX9_readsParish_4 0 rfl rfl)
theorem dX9_readsParish_95 : decode cX9_readsParish 95 = .ok (.ifCond .eq 10, 3) := dk_153 0 10 (dk_at dksX9_readsParish_4 3 rfl rfl)
theorem dX9_readsParish_98 : decode cX9_readsParish 98 = .ok (.aload_n 0, 1) := dk_42 (dk_at dksX9_readsParish_4 6 rfl rfl)
theorem dX9_readsParish_99 : decode cX9_readsParish 99 = .ok (.invokevirtual 292, 3) := dk_182 1 36 (dk_at dksX9_readsParish_4 7 rfl rfl)
theorem dX9_readsParish_102 : decode cX9_readsParish 102 = .ok (.goto 76, 3) := dk_167 0 76 (dk_at dksX9_readsParish_4 10 rfl rfl)
theorem dX9_readsParish_105 : decode cX9_readsParish 105 = .ok (.aload_n 0, 1) := dk_42 (dk_at dksX9_readsParish_4 13 rfl rfl)
theorem dX9_readsParish_106 : decode cX9_readsParish 106 = .ok (.ldc2_w 208, 3) := dk_20 0 208 (dk_at dksX9_readsParish_4 14 rfl rfl)
theorem dX9_readsParish_109 : decode cX9_readsParish 109 = .ok (.invokevirtual 239, 3) := dk_182 0 239 (dk_at dksX9_readsParish_4 17 rfl rfl)
theorem dX9_readsParish_112 : decode cX9_readsParish 112 = .ok (.ifCond .eq 10, 3) := dk_153 0 10 (dk_at dksX9_readsParish_4 20 rfl rfl)
theorem dX9_readsParish_115 : decode cX9_readsParish 115 = .ok (.aload_n 0, 1) := dk_42 (dk_at dksX9_readsParish_4 23 rfl rfl)
theorem dX9_readsParish_116 : decode cX9_readsParish 116 = .ok (.invokevirtual 295, 3) := dk_182 1 39 (dk_at dksX9_readsParish_5 0 rfl rfl)
theorem dX9_readsParish_119 : decode cX9_readsParish 119 = .ok (.goto 59, 3) := dk_167 0 59 (dk_at dksX9_readsParish_5 3 rfl rfl)
theorem dX9_readsParish_122 : decode cX9_readsParish 122 = .ok (.aload_n 0, 1) := dk_42 (dk_at dksX9_readsParish_5 6 rfl rfl)
theorem dX9_readsParish_123 : decode cX9_readsParish 123 = .ok (.ldc2_w 212, 3) := dk_20 0 212 (dk_at dksX9_readsParish_5 7 rfl rfl)
theorem dX9_readsParish_126 : decode cX9_readsParish 126 = .ok (.invokevirtual 239, 3) := dk_182 0 239 (dk_at dksX9_readsParish_5 10 rfl rfl)
theorem dX9_readsParish_129 : decode cX9_readsParish 129 = .ok (.ifCond .eq 10, 3) := dk_153 0 10 (dk_at dksX9_readsParish_5 13 rfl rfl)
theorem dX9_readsParish_132 : decode cX9_readsParish 132 = .ok (.aload_n 0, 1) := dk_42 (dk_at dksX9_readsParish_5 16 rfl rfl)
theorem dX9_readsParish_133 : decode cX9_readsParish 133 = .ok (.invokevirtual 298, 3) := dk_182 1 42 (dk_at dksX9_readsParish_5 17 rfl rfl)
theorem dX9_readsParish_136 : decode cX9_readsParish 136 = .ok (.goto 42, 3) := dk_167 0 42 (dk_at dksX9_readsParish_5 20 rfl rfl)
theorem dX9_readsParish_139 : decode cX9_readsParish 139 = .ok (.aload_n 0, 1) := dk_42 (dk_at dksX9_readsParish_5 23 rfl rfl)
theorem dX9_readsParish_140 : decode cX9_readsParish 140 = .ok (.ldc2_w 220, 3) := dk_20 0 220 (dk_at dksX9_readsParish_6 0 rfl rfl)
theorem dX9_readsParish_143 : decode cX9_readsParish 143 = .ok (.invokevirtual 239, 3) := dk_182 0 239 (dk_at dksX9_readsParish_6 3 rfl rfl)
theorem dX9_readsParish_146 : decode cX9_readsParish 146 = .ok (.ifCond .eq 10, 3) := dk_153 0 10 (dk_at dksX9_readsParish_6 6 rfl rfl)
theorem dX9_readsParish_149 : decode cX9_readsParish 149 = .ok (.aload_n 0, 1) := dk_42 (dk_at dksX9_readsParish_6 9 rfl rfl)
theorem dX9_readsParish_150 : decode cX9_readsParish 150 = .ok (.invokevirtual 301, 3) := dk_182 1 45 (dk_at dksX9_readsParish_6 10 rfl rfl)
theorem dX9_readsParish_153 : decode cX9_readsParish 153 = .ok (.goto 25, 3) := dk_167 0 25 (dk_at dksX9_readsParish_6 13 rfl rfl)
theorem dX9_readsParish_156 : decode cX9_readsParish 156 = .ok (.aload_n 0, 1) := dk_42 (dk_at dksX9_readsParish_6 16 rfl rfl)
theorem dX9_readsParish_157 : decode cX9_readsParish 157 = .ok (.ldc2_w 218, 3) := dk_20 0 218 (dk_at dksX9_readsParish_6 17 rfl rfl)
theorem dX9_readsParish_160 : decode cX9_readsParish 160 = .ok (.invokevirtual 239, 3) := dk_182 0 239 (dk_at dksX9_readsParish_6 20 rfl rfl)
theorem dX9_readsParish_163 : decode cX9_readsParish 163 = .ok (.ifCond .eq 10, 3) := dk_153 0 10 (dk_at dksX9_readsParish_7 0 rfl rfl)
theorem dX9_readsParish_166 : decode cX9_readsParish 166 = .ok (.aload_n 0, 1) := dk_42 (dk_at dksX9_readsParish_7 3 rfl rfl)
theorem dX9_readsParish_167 : decode cX9_readsParish 167 = .ok (.invokevirtual 304, 3) := dk_182 1 48 (dk_at dksX9_readsParish_7 4 rfl rfl)
theorem dX9_readsParish_170 : decode cX9_readsParish 170 = .ok (.goto 8, 3) := dk_167 0 8 (dk_at dksX9_readsParish_7 7 rfl rfl)
theorem dX9_readsParish_173 : decode cX9_readsParish 173 = .ok (.aload_n 0, 1) := dk_42 (dk_at dksX9_readsParish_7 10 rfl rfl)
theorem dX9_readsParish_174 : decode cX9_readsParish 174 = .ok (.iconst 1, 1) := dk_4 (dk_at dksX9_readsParish_7 11 rfl rfl)
theorem dX9_readsParish_175 : decode cX9_readsParish 175 = .ok (.invokevirtual 247, 3) := dk_182 0 247 (dk_at dksX9_readsParish_7 12 rfl rfl)
theorem dX9_readsParish_178 : decode cX9_readsParish 178 = .ok (.istore_n 1, 1) := dk_60 (dk_at dksX9_readsParish_7 15 rfl rfl)
theorem dX9_readsParish_179 : decode cX9_readsParish 179 = .ok (.iload_n 1, 1) := dk_27 (dk_at dksX9_readsParish_7 16 rfl rfl)
theorem dX9_readsParish_180 : decode cX9_readsParish 180 = .ok (.ifCond .ne 5, 3) := dk_154 0 5 (dk_at dksX9_readsParish_7 17 rfl rfl)
theorem dX9_readsParish_183 : decode cX9_readsParish 183 = .ok (.iconst 0, 1) := dk_3 (dk_at dksX9_readsParish_7 20 rfl rfl)
theorem dX9_readsParish_184 : decode cX9_readsParish 184 = .ok (.ireturn, 1) := dk_172 (dk_at dksX9_readsParish_7 21 rfl rfl)
theorem dX9_readsParish_185 : decode cX9_readsParish 185 = .ok (.goto (-104), 3) := dk_167 255 152 (dk_at dksX9_readsParish_8 0 rfl rfl)
theorem dX9_readsParish_188 : decode cX9_readsParish 188 = .ok (.iconst 1, 1) := dk_4 (dk_at dksX9_readsParish_8 3 rfl rfl)
theorem dX9_readsParish_189 : decode cX9_readsParish 189 = .ok (.ireturn, 1) := dk_172 (dk_at dksX9_readsParish_8 4 rfl rfl)
abbrev cX9_isWord : ByteArray := prog_28_method_10_code
def yX9_isWord : MethodName := ⟨RX9, "isWord", "(J)Z"⟩
def dkwX9_isWord_0 : List UInt8 := [42, 180, 0, 187, 4, 160, 0, 16, 42, 180, 0, 180, 31, 148, 154, 0, 7, 4, 167, 0, 4, 3, 172]
abbrev dktX9_isWord_0 : List UInt8 := dkwX9_isWord_0 ++ []
theorem dksX9_isWord_0 : cX9_isWord.data.toList.drop 0 = dktX9_isWord_0 := by decide +kernel
theorem dX9_isWord_0 : decode cX9_isWord 0 = .ok (.aload_n 0, 1) := dk_42 (dk_at dksX9_isWord_0 0 rfl rfl)
theorem dX9_isWord_1 : decode cX9_isWord 1 = .ok (.getfield 187, 3) := dk_180 0 187 (dk_at dksX9_isWord_0 1 rfl rfl)
theorem dX9_isWord_4 : decode cX9_isWord 4 = .ok (.iconst 1, 1) := dk_4 (dk_at dksX9_isWord_0 4 rfl rfl)
theorem dX9_isWord_5 : decode cX9_isWord 5 = .ok (.if_icmp .ne 16, 3) := dk_160 0 16 (dk_at dksX9_isWord_0 5 rfl rfl)
theorem dX9_isWord_8 : decode cX9_isWord 8 = .ok (.aload_n 0, 1) := dk_42 (dk_at dksX9_isWord_0 8 rfl rfl)
theorem dX9_isWord_9 : decode cX9_isWord 9 = .ok (.getfield 180, 3) := dk_180 0 180 (dk_at dksX9_isWord_0 9 rfl rfl)
theorem dX9_isWord_12 : decode cX9_isWord 12 = .ok (.lload_n 1, 1) := dk_31 (dk_at dksX9_isWord_0 12 rfl rfl)
theorem dX9_isWord_13 : decode cX9_isWord 13 = .ok (.lcmp, 1) := dk_148 (dk_at dksX9_isWord_0 13 rfl rfl)
theorem dX9_isWord_14 : decode cX9_isWord 14 = .ok (.ifCond .ne 7, 3) := dk_154 0 7 (dk_at dksX9_isWord_0 14 rfl rfl)
theorem dX9_isWord_17 : decode cX9_isWord 17 = .ok (.iconst 1, 1) := dk_4 (dk_at dksX9_isWord_0 17 rfl rfl)
theorem dX9_isWord_18 : decode cX9_isWord 18 = .ok (.goto 4, 3) := dk_167 0 4 (dk_at dksX9_isWord_0 18 rfl rfl)
theorem dX9_isWord_21 : decode cX9_isWord 21 = .ok (.iconst 0, 1) := dk_3 (dk_at dksX9_isWord_0 21 rfl rfl)
theorem dX9_isWord_22 : decode cX9_isWord 22 = .ok (.ireturn, 1) := dk_172 (dk_at dksX9_isWord_0 22 rfl rfl)
abbrev cX9_readsFact : ByteArray := prog_28_method_26_code
def yX9_readsFact : MethodName := ⟨RX9, "readsFact", "()Z"⟩
def dkwX9_readsFact_4 : List UInt8 := [96, 79, 42, 182, 1, 19, 172]
abbrev dktX9_readsFact_4 : List UInt8 := dkwX9_readsFact_4 ++ []
def dkwX9_readsFact_3 : List UInt8 := [3, 172, 42, 180, 0, 20, 27, 42, 180, 0, 184, 79, 42, 182, 0, 254, 42, 180, 0, 13, 6, 92, 46, 4]
abbrev dktX9_readsFact_3 : List UInt8 := dkwX9_readsFact_3 ++ dktX9_readsFact_4
def dkwX9_readsFact_2 : List UInt8 := [79, 42, 20, 0, 206, 182, 0, 239, 153, 0, 32, 42, 182, 0, 254, 42, 16, 10, 182, 1, 16, 154, 0, 5]
abbrev dktX9_readsFact_2 : List UInt8 := dkwX9_readsFact_2 ++ dktX9_readsFact_3
def dkwX9_readsFact_1 : List UInt8 := [182, 1, 13, 154, 0, 5, 3, 172, 16, 6, 42, 180, 0, 13, 6, 46, 96, 60, 42, 180, 0, 20, 27, 8]
abbrev dktX9_readsFact_1 : List UInt8 := dkwX9_readsFact_1 ++ dktX9_readsFact_2
def dkwX9_readsFact_0 : List UInt8 := [42, 180, 0, 13, 6, 46, 16, 6, 160, 0, 9, 42, 8, 182, 0, 247, 172, 42, 182, 0, 254, 42, 3]
abbrev dktX9_readsFact_0 : List UInt8 := dkwX9_readsFact_0 ++ dktX9_readsFact_1
theorem dksX9_readsFact_0 : cX9_readsFact.data.toList.drop 0 = dktX9_readsFact_0 := by decide +kernel
theorem dksX9_readsFact_1 : cX9_readsFact.data.toList.drop 23 = dktX9_readsFact_1 := dk_seg dksX9_readsFact_0 23 rfl rfl
theorem dksX9_readsFact_2 : cX9_readsFact.data.toList.drop 47 = dktX9_readsFact_2 := dk_seg dksX9_readsFact_1 24 rfl rfl
theorem dksX9_readsFact_3 : cX9_readsFact.data.toList.drop 71 = dktX9_readsFact_3 := dk_seg dksX9_readsFact_2 24 rfl rfl
theorem dksX9_readsFact_4 : cX9_readsFact.data.toList.drop 95 = dktX9_readsFact_4 := dk_seg dksX9_readsFact_3 24 rfl rfl
theorem dX9_readsFact_0 : decode cX9_readsFact 0 = .ok (.aload_n 0, 1) := dk_42 (dk_at dksX9_readsFact_0 0 rfl rfl)
theorem dX9_readsFact_1 : decode cX9_readsFact 1 = .ok (.getfield 13, 3) := dk_180 0 13 (dk_at dksX9_readsFact_0 1 rfl rfl)
theorem dX9_readsFact_4 : decode cX9_readsFact 4 = .ok (.iconst 3, 1) := dk_6 (dk_at dksX9_readsFact_0 4 rfl rfl)
theorem dX9_readsFact_5 : decode cX9_readsFact 5 = .ok (.iaload, 1) := dk_46 (dk_at dksX9_readsFact_0 5 rfl rfl)
theorem dX9_readsFact_6 : decode cX9_readsFact 6 = .ok (.bipush 6, 2) := dk_16 6 (dk_at dksX9_readsFact_0 6 rfl rfl)
theorem dX9_readsFact_8 : decode cX9_readsFact 8 = .ok (.if_icmp .ne 9, 3) := dk_160 0 9 (dk_at dksX9_readsFact_0 8 rfl rfl)
theorem dX9_readsFact_11 : decode cX9_readsFact 11 = .ok (.aload_n 0, 1) := dk_42 (dk_at dksX9_readsFact_0 11 rfl rfl)
theorem dX9_readsFact_12 : decode cX9_readsFact 12 = .ok (.iconst 5, 1) := dk_8 (dk_at dksX9_readsFact_0 12 rfl rfl)
theorem dX9_readsFact_13 : decode cX9_readsFact 13 = .ok (.invokevirtual 247, 3) := dk_182 0 247 (dk_at dksX9_readsFact_0 13 rfl rfl)
theorem dX9_readsFact_16 : decode cX9_readsFact 16 = .ok (.ireturn, 1) := dk_172 (dk_at dksX9_readsFact_0 16 rfl rfl)
theorem dX9_readsFact_17 : decode cX9_readsFact 17 = .ok (.aload_n 0, 1) := dk_42 (dk_at dksX9_readsFact_0 17 rfl rfl)
theorem dX9_readsFact_18 : decode cX9_readsFact 18 = .ok (.invokevirtual 254, 3) := dk_182 0 254 (dk_at dksX9_readsFact_0 18 rfl rfl)
theorem dX9_readsFact_21 : decode cX9_readsFact 21 = .ok (.aload_n 0, 1) := dk_42 (dk_at dksX9_readsFact_0 21 rfl rfl)
theorem dX9_readsFact_22 : decode cX9_readsFact 22 = .ok (.iconst 0, 1) := dk_3 (dk_at dksX9_readsFact_0 22 rfl rfl)
theorem dX9_readsFact_23 : decode cX9_readsFact 23 = .ok (.invokevirtual 269, 3) := dk_182 1 13 (dk_at dksX9_readsFact_1 0 rfl rfl)
theorem dX9_readsFact_26 : decode cX9_readsFact 26 = .ok (.ifCond .ne 5, 3) := dk_154 0 5 (dk_at dksX9_readsFact_1 3 rfl rfl)
theorem dX9_readsFact_29 : decode cX9_readsFact 29 = .ok (.iconst 0, 1) := dk_3 (dk_at dksX9_readsFact_1 6 rfl rfl)
theorem dX9_readsFact_30 : decode cX9_readsFact 30 = .ok (.ireturn, 1) := dk_172 (dk_at dksX9_readsFact_1 7 rfl rfl)
theorem dX9_readsFact_31 : decode cX9_readsFact 31 = .ok (.bipush 6, 2) := dk_16 6 (dk_at dksX9_readsFact_1 8 rfl rfl)
theorem dX9_readsFact_33 : decode cX9_readsFact 33 = .ok (.aload_n 0, 1) := dk_42 (dk_at dksX9_readsFact_1 10 rfl rfl)
theorem dX9_readsFact_34 : decode cX9_readsFact 34 = .ok (.getfield 13, 3) := dk_180 0 13 (dk_at dksX9_readsFact_1 11 rfl rfl)
theorem dX9_readsFact_37 : decode cX9_readsFact 37 = .ok (.iconst 3, 1) := dk_6 (dk_at dksX9_readsFact_1 14 rfl rfl)
theorem dX9_readsFact_38 : decode cX9_readsFact 38 = .ok (.iaload, 1) := dk_46 (dk_at dksX9_readsFact_1 15 rfl rfl)
theorem dX9_readsFact_39 : decode cX9_readsFact 39 = .ok (.iadd, 1) := dk_96 (dk_at dksX9_readsFact_1 16 rfl rfl)
theorem dX9_readsFact_40 : decode cX9_readsFact 40 = .ok (.istore_n 1, 1) := dk_60 (dk_at dksX9_readsFact_1 17 rfl rfl)
theorem dX9_readsFact_41 : decode cX9_readsFact 41 = .ok (.aload_n 0, 1) := dk_42 (dk_at dksX9_readsFact_1 18 rfl rfl)
theorem dX9_readsFact_42 : decode cX9_readsFact 42 = .ok (.getfield 20, 3) := dk_180 0 20 (dk_at dksX9_readsFact_1 19 rfl rfl)
theorem dX9_readsFact_45 : decode cX9_readsFact 45 = .ok (.iload_n 1, 1) := dk_27 (dk_at dksX9_readsFact_1 22 rfl rfl)
theorem dX9_readsFact_46 : decode cX9_readsFact 46 = .ok (.iconst 5, 1) := dk_8 (dk_at dksX9_readsFact_1 23 rfl rfl)
theorem dX9_readsFact_47 : decode cX9_readsFact 47 = .ok (.iastore, 1) := dk_79 (dk_at dksX9_readsFact_2 0 rfl rfl)
theorem dX9_readsFact_48 : decode cX9_readsFact 48 = .ok (.aload_n 0, 1) := dk_42 (dk_at dksX9_readsFact_2 1 rfl rfl)
theorem dX9_readsFact_49 : decode cX9_readsFact 49 = .ok (.ldc2_w 206, 3) := dk_20 0 206 (dk_at dksX9_readsFact_2 2 rfl rfl)
theorem dX9_readsFact_52 : decode cX9_readsFact 52 = .ok (.invokevirtual 239, 3) := dk_182 0 239 (dk_at dksX9_readsFact_2 5 rfl rfl)
theorem dX9_readsFact_55 : decode cX9_readsFact 55 = .ok (.ifCond .eq 32, 3) := dk_153 0 32 (dk_at dksX9_readsFact_2 8 rfl rfl)
theorem dX9_readsFact_58 : decode cX9_readsFact 58 = .ok (.aload_n 0, 1) := dk_42 (dk_at dksX9_readsFact_2 11 rfl rfl)
theorem dX9_readsFact_59 : decode cX9_readsFact 59 = .ok (.invokevirtual 254, 3) := dk_182 0 254 (dk_at dksX9_readsFact_2 12 rfl rfl)
theorem dX9_readsFact_62 : decode cX9_readsFact 62 = .ok (.aload_n 0, 1) := dk_42 (dk_at dksX9_readsFact_2 15 rfl rfl)
theorem dX9_readsFact_63 : decode cX9_readsFact 63 = .ok (.bipush 10, 2) := dk_16 10 (dk_at dksX9_readsFact_2 16 rfl rfl)
theorem dX9_readsFact_65 : decode cX9_readsFact 65 = .ok (.invokevirtual 272, 3) := dk_182 1 16 (dk_at dksX9_readsFact_2 18 rfl rfl)
theorem dX9_readsFact_68 : decode cX9_readsFact 68 = .ok (.ifCond .ne 5, 3) := dk_154 0 5 (dk_at dksX9_readsFact_2 21 rfl rfl)
theorem dX9_readsFact_71 : decode cX9_readsFact 71 = .ok (.iconst 0, 1) := dk_3 (dk_at dksX9_readsFact_3 0 rfl rfl)
theorem dX9_readsFact_72 : decode cX9_readsFact 72 = .ok (.ireturn, 1) := dk_172 (dk_at dksX9_readsFact_3 1 rfl rfl)
theorem dX9_readsFact_73 : decode cX9_readsFact 73 = .ok (.aload_n 0, 1) := dk_42 (dk_at dksX9_readsFact_3 2 rfl rfl)
theorem dX9_readsFact_74 : decode cX9_readsFact 74 = .ok (.getfield 20, 3) := dk_180 0 20 (dk_at dksX9_readsFact_3 3 rfl rfl)
theorem dX9_readsFact_77 : decode cX9_readsFact 77 = .ok (.iload_n 1, 1) := dk_27 (dk_at dksX9_readsFact_3 6 rfl rfl)
theorem dX9_readsFact_78 : decode cX9_readsFact 78 = .ok (.aload_n 0, 1) := dk_42 (dk_at dksX9_readsFact_3 7 rfl rfl)
theorem dX9_readsFact_79 : decode cX9_readsFact 79 = .ok (.getfield 184, 3) := dk_180 0 184 (dk_at dksX9_readsFact_3 8 rfl rfl)
theorem dX9_readsFact_82 : decode cX9_readsFact 82 = .ok (.iastore, 1) := dk_79 (dk_at dksX9_readsFact_3 11 rfl rfl)
theorem dX9_readsFact_83 : decode cX9_readsFact 83 = .ok (.aload_n 0, 1) := dk_42 (dk_at dksX9_readsFact_3 12 rfl rfl)
theorem dX9_readsFact_84 : decode cX9_readsFact 84 = .ok (.invokevirtual 254, 3) := dk_182 0 254 (dk_at dksX9_readsFact_3 13 rfl rfl)
theorem dX9_readsFact_87 : decode cX9_readsFact 87 = .ok (.aload_n 0, 1) := dk_42 (dk_at dksX9_readsFact_3 16 rfl rfl)
theorem dX9_readsFact_88 : decode cX9_readsFact 88 = .ok (.getfield 13, 3) := dk_180 0 13 (dk_at dksX9_readsFact_3 17 rfl rfl)
theorem dX9_readsFact_91 : decode cX9_readsFact 91 = .ok (.iconst 3, 1) := dk_6 (dk_at dksX9_readsFact_3 20 rfl rfl)
theorem dX9_readsFact_92 : decode cX9_readsFact 92 = .ok (.dup2, 1) := dk_92 (dk_at dksX9_readsFact_3 21 rfl rfl)
theorem dX9_readsFact_93 : decode cX9_readsFact 93 = .ok (.iaload, 1) := dk_46 (dk_at dksX9_readsFact_3 22 rfl rfl)
theorem dX9_readsFact_94 : decode cX9_readsFact 94 = .ok (.iconst 1, 1) := dk_4 (dk_at dksX9_readsFact_3 23 rfl rfl)
theorem dX9_readsFact_95 : decode cX9_readsFact 95 = .ok (.iadd, 1) := dk_96 (dk_at dksX9_readsFact_4 0 rfl rfl)
theorem dX9_readsFact_96 : decode cX9_readsFact 96 = .ok (.iastore, 1) := dk_79 (dk_at dksX9_readsFact_4 1 rfl rfl)
theorem dX9_readsFact_97 : decode cX9_readsFact 97 = .ok (.aload_n 0, 1) := dk_42 (dk_at dksX9_readsFact_4 2 rfl rfl)
theorem dX9_readsFact_98 : decode cX9_readsFact 98 = .ok (.invokevirtual 275, 3) := dk_182 1 19 (dk_at dksX9_readsFact_4 3 rfl rfl)
theorem dX9_readsFact_101 : decode cX9_readsFact 101 = .ok (.ireturn, 1) := dk_172 (dk_at dksX9_readsFact_4 6 rfl rfl)
abbrev cX9_fails : ByteArray := prog_28_method_12_code
def yX9_fails : MethodName := ⟨RX9, "fails", "(I)Z"⟩
def dkwX9_fails_0 : List UInt8 := [42, 27, 16, 16, 42, 180, 0, 177, 104, 96, 181, 0, 198, 3, 172]
abbrev dktX9_fails_0 : List UInt8 := dkwX9_fails_0 ++ []
theorem dksX9_fails_0 : cX9_fails.data.toList.drop 0 = dktX9_fails_0 := by decide +kernel
theorem dX9_fails_0 : decode cX9_fails 0 = .ok (.aload_n 0, 1) := dk_42 (dk_at dksX9_fails_0 0 rfl rfl)
theorem dX9_fails_1 : decode cX9_fails 1 = .ok (.iload_n 1, 1) := dk_27 (dk_at dksX9_fails_0 1 rfl rfl)
theorem dX9_fails_2 : decode cX9_fails 2 = .ok (.bipush 16, 2) := dk_16 16 (dk_at dksX9_fails_0 2 rfl rfl)
theorem dX9_fails_4 : decode cX9_fails 4 = .ok (.aload_n 0, 1) := dk_42 (dk_at dksX9_fails_0 4 rfl rfl)
theorem dX9_fails_5 : decode cX9_fails 5 = .ok (.getfield 177, 3) := dk_180 0 177 (dk_at dksX9_fails_0 5 rfl rfl)
theorem dX9_fails_8 : decode cX9_fails 8 = .ok (.imul, 1) := dk_104 (dk_at dksX9_fails_0 8 rfl rfl)
theorem dX9_fails_9 : decode cX9_fails 9 = .ok (.iadd, 1) := dk_96 (dk_at dksX9_fails_0 9 rfl rfl)
theorem dX9_fails_10 : decode cX9_fails 10 = .ok (.putfield 198, 3) := dk_181 0 198 (dk_at dksX9_fails_0 10 rfl rfl)
theorem dX9_fails_13 : decode cX9_fails 13 = .ok (.iconst 0, 1) := dk_3 (dk_at dksX9_fails_0 13 rfl rfl)
theorem dX9_fails_14 : decode cX9_fails 14 = .ok (.ireturn, 1) := dk_172 (dk_at dksX9_fails_0 14 rfl rfl)
abbrev cX9_needsNew : ByteArray := prog_28_method_25_code
def yX9_needsNew : MethodName := ⟨RX9, "needsNew", "(I)Z"⟩
def dkwX9_needsNew_3 : List UInt8 := [182, 0, 254, 4, 172]
abbrev dktX9_needsNew_3 : List UInt8 := dkwX9_needsNew_3 ++ []
def dkwX9_needsNew_2 : List UInt8 := [16, 18, 16, 6, 27, 104, 96, 42, 180, 0, 13, 6, 27, 96, 46, 96, 42, 180, 0, 180, 80, 42]
abbrev dktX9_needsNew_2 : List UInt8 := dkwX9_needsNew_2 ++ dktX9_needsNew_3
def dkwX9_needsNew_1 : List UInt8 := [182, 0, 236, 156, 0, 11, 42, 5, 182, 0, 236, 155, 0, 9, 42, 6, 182, 0, 247, 172, 42, 180, 0, 16]
abbrev dktX9_needsNew_1 : List UInt8 := dkwX9_needsNew_1 ++ dktX9_needsNew_2
def dkwX9_needsNew_0 : List UInt8 := [42, 182, 0, 232, 153, 0, 9, 42, 4, 182, 0, 247, 172, 42, 3, 182, 0, 236, 156, 0, 19, 42, 4]
abbrev dktX9_needsNew_0 : List UInt8 := dkwX9_needsNew_0 ++ dktX9_needsNew_1
theorem dksX9_needsNew_0 : cX9_needsNew.data.toList.drop 0 = dktX9_needsNew_0 := by decide +kernel
theorem dksX9_needsNew_1 : cX9_needsNew.data.toList.drop 23 = dktX9_needsNew_1 := dk_seg dksX9_needsNew_0 23 rfl rfl
theorem dksX9_needsNew_2 : cX9_needsNew.data.toList.drop 47 = dktX9_needsNew_2 := dk_seg dksX9_needsNew_1 24 rfl rfl
theorem dksX9_needsNew_3 : cX9_needsNew.data.toList.drop 69 = dktX9_needsNew_3 := dk_seg dksX9_needsNew_2 22 rfl rfl
theorem dX9_needsNew_0 : decode cX9_needsNew 0 = .ok (.aload_n 0, 1) := dk_42 (dk_at dksX9_needsNew_0 0 rfl rfl)
theorem dX9_needsNew_1 : decode cX9_needsNew 1 = .ok (.invokevirtual 232, 3) := dk_182 0 232 (dk_at dksX9_needsNew_0 1 rfl rfl)
theorem dX9_needsNew_4 : decode cX9_needsNew 4 = .ok (.ifCond .eq 9, 3) := dk_153 0 9 (dk_at dksX9_needsNew_0 4 rfl rfl)
theorem dX9_needsNew_7 : decode cX9_needsNew 7 = .ok (.aload_n 0, 1) := dk_42 (dk_at dksX9_needsNew_0 7 rfl rfl)
theorem dX9_needsNew_8 : decode cX9_needsNew 8 = .ok (.iconst 1, 1) := dk_4 (dk_at dksX9_needsNew_0 8 rfl rfl)
theorem dX9_needsNew_9 : decode cX9_needsNew 9 = .ok (.invokevirtual 247, 3) := dk_182 0 247 (dk_at dksX9_needsNew_0 9 rfl rfl)
theorem dX9_needsNew_12 : decode cX9_needsNew 12 = .ok (.ireturn, 1) := dk_172 (dk_at dksX9_needsNew_0 12 rfl rfl)
theorem dX9_needsNew_13 : decode cX9_needsNew 13 = .ok (.aload_n 0, 1) := dk_42 (dk_at dksX9_needsNew_0 13 rfl rfl)
theorem dX9_needsNew_14 : decode cX9_needsNew 14 = .ok (.iconst 0, 1) := dk_3 (dk_at dksX9_needsNew_0 14 rfl rfl)
theorem dX9_needsNew_15 : decode cX9_needsNew 15 = .ok (.invokevirtual 236, 3) := dk_182 0 236 (dk_at dksX9_needsNew_0 15 rfl rfl)
theorem dX9_needsNew_18 : decode cX9_needsNew 18 = .ok (.ifCond .ge 19, 3) := dk_156 0 19 (dk_at dksX9_needsNew_0 18 rfl rfl)
theorem dX9_needsNew_21 : decode cX9_needsNew 21 = .ok (.aload_n 0, 1) := dk_42 (dk_at dksX9_needsNew_0 21 rfl rfl)
theorem dX9_needsNew_22 : decode cX9_needsNew 22 = .ok (.iconst 1, 1) := dk_4 (dk_at dksX9_needsNew_0 22 rfl rfl)
theorem dX9_needsNew_23 : decode cX9_needsNew 23 = .ok (.invokevirtual 236, 3) := dk_182 0 236 (dk_at dksX9_needsNew_1 0 rfl rfl)
theorem dX9_needsNew_26 : decode cX9_needsNew 26 = .ok (.ifCond .ge 11, 3) := dk_156 0 11 (dk_at dksX9_needsNew_1 3 rfl rfl)
theorem dX9_needsNew_29 : decode cX9_needsNew 29 = .ok (.aload_n 0, 1) := dk_42 (dk_at dksX9_needsNew_1 6 rfl rfl)
theorem dX9_needsNew_30 : decode cX9_needsNew 30 = .ok (.iconst 2, 1) := dk_5 (dk_at dksX9_needsNew_1 7 rfl rfl)
theorem dX9_needsNew_31 : decode cX9_needsNew 31 = .ok (.invokevirtual 236, 3) := dk_182 0 236 (dk_at dksX9_needsNew_1 8 rfl rfl)
theorem dX9_needsNew_34 : decode cX9_needsNew 34 = .ok (.ifCond .lt 9, 3) := dk_155 0 9 (dk_at dksX9_needsNew_1 11 rfl rfl)
theorem dX9_needsNew_37 : decode cX9_needsNew 37 = .ok (.aload_n 0, 1) := dk_42 (dk_at dksX9_needsNew_1 14 rfl rfl)
theorem dX9_needsNew_38 : decode cX9_needsNew 38 = .ok (.iconst 3, 1) := dk_6 (dk_at dksX9_needsNew_1 15 rfl rfl)
theorem dX9_needsNew_39 : decode cX9_needsNew 39 = .ok (.invokevirtual 247, 3) := dk_182 0 247 (dk_at dksX9_needsNew_1 16 rfl rfl)
theorem dX9_needsNew_42 : decode cX9_needsNew 42 = .ok (.ireturn, 1) := dk_172 (dk_at dksX9_needsNew_1 19 rfl rfl)
theorem dX9_needsNew_43 : decode cX9_needsNew 43 = .ok (.aload_n 0, 1) := dk_42 (dk_at dksX9_needsNew_1 20 rfl rfl)
theorem dX9_needsNew_44 : decode cX9_needsNew 44 = .ok (.getfield 16, 3) := dk_180 0 16 (dk_at dksX9_needsNew_1 21 rfl rfl)
theorem dX9_needsNew_47 : decode cX9_needsNew 47 = .ok (.bipush 18, 2) := dk_16 18 (dk_at dksX9_needsNew_2 0 rfl rfl)
theorem dX9_needsNew_49 : decode cX9_needsNew 49 = .ok (.bipush 6, 2) := dk_16 6 (dk_at dksX9_needsNew_2 2 rfl rfl)
theorem dX9_needsNew_51 : decode cX9_needsNew 51 = .ok (.iload_n 1, 1) := dk_27 (dk_at dksX9_needsNew_2 4 rfl rfl)
theorem dX9_needsNew_52 : decode cX9_needsNew 52 = .ok (.imul, 1) := dk_104 (dk_at dksX9_needsNew_2 5 rfl rfl)
theorem dX9_needsNew_53 : decode cX9_needsNew 53 = .ok (.iadd, 1) := dk_96 (dk_at dksX9_needsNew_2 6 rfl rfl)
theorem dX9_needsNew_54 : decode cX9_needsNew 54 = .ok (.aload_n 0, 1) := dk_42 (dk_at dksX9_needsNew_2 7 rfl rfl)
theorem dX9_needsNew_55 : decode cX9_needsNew 55 = .ok (.getfield 13, 3) := dk_180 0 13 (dk_at dksX9_needsNew_2 8 rfl rfl)
theorem dX9_needsNew_58 : decode cX9_needsNew 58 = .ok (.iconst 3, 1) := dk_6 (dk_at dksX9_needsNew_2 11 rfl rfl)
theorem dX9_needsNew_59 : decode cX9_needsNew 59 = .ok (.iload_n 1, 1) := dk_27 (dk_at dksX9_needsNew_2 12 rfl rfl)
theorem dX9_needsNew_60 : decode cX9_needsNew 60 = .ok (.iadd, 1) := dk_96 (dk_at dksX9_needsNew_2 13 rfl rfl)
theorem dX9_needsNew_61 : decode cX9_needsNew 61 = .ok (.iaload, 1) := dk_46 (dk_at dksX9_needsNew_2 14 rfl rfl)
theorem dX9_needsNew_62 : decode cX9_needsNew 62 = .ok (.iadd, 1) := dk_96 (dk_at dksX9_needsNew_2 15 rfl rfl)
theorem dX9_needsNew_63 : decode cX9_needsNew 63 = .ok (.aload_n 0, 1) := dk_42 (dk_at dksX9_needsNew_2 16 rfl rfl)
theorem dX9_needsNew_64 : decode cX9_needsNew 64 = .ok (.getfield 180, 3) := dk_180 0 180 (dk_at dksX9_needsNew_2 17 rfl rfl)
theorem dX9_needsNew_67 : decode cX9_needsNew 67 = .ok (.lastore, 1) := dk_80 (dk_at dksX9_needsNew_2 20 rfl rfl)
theorem dX9_needsNew_68 : decode cX9_needsNew 68 = .ok (.aload_n 0, 1) := dk_42 (dk_at dksX9_needsNew_2 21 rfl rfl)
theorem dX9_needsNew_69 : decode cX9_needsNew 69 = .ok (.invokevirtual 254, 3) := dk_182 0 254 (dk_at dksX9_needsNew_3 0 rfl rfl)
theorem dX9_needsNew_72 : decode cX9_needsNew 72 = .ok (.iconst 1, 1) := dk_4 (dk_at dksX9_needsNew_3 3 rfl rfl)
theorem dX9_needsNew_73 : decode cX9_needsNew 73 = .ok (.ireturn, 1) := dk_172 (dk_at dksX9_needsNew_3 4 rfl rfl)
abbrev cX9_isKept : ByteArray := prog_28_method_14_code
def yX9_isKept : MethodName := ⟨RX9, "isKept", "()Z"⟩
def dkwX9_isKept_7 : List UInt8 := [180, 0, 180, 20, 0, 230, 148, 154, 0, 7, 4, 167, 0, 4, 3, 172]
abbrev dktX9_isKept_7 : List UInt8 := dkwX9_isKept_7 ++ []
def dkwX9_isKept_6 : List UInt8 := [180, 0, 180, 20, 0, 226, 148, 153, 0, 25, 42, 180, 0, 180, 20, 0, 228, 148, 153, 0, 14, 42]
abbrev dktX9_isKept_6 : List UInt8 := dkwX9_isKept_6 ++ dktX9_isKept_7
def dkwX9_isKept_5 : List UInt8 := [180, 0, 180, 20, 0, 222, 148, 153, 0, 47, 42, 180, 0, 180, 20, 0, 224, 148, 153, 0, 36, 42]
abbrev dktX9_isKept_5 : List UInt8 := dkwX9_isKept_5 ++ dktX9_isKept_6
def dkwX9_isKept_4 : List UInt8 := [180, 0, 180, 20, 0, 218, 148, 153, 0, 69, 42, 180, 0, 180, 20, 0, 220, 148, 153, 0, 58, 42]
abbrev dktX9_isKept_4 : List UInt8 := dkwX9_isKept_4 ++ dktX9_isKept_5
def dkwX9_isKept_3 : List UInt8 := [180, 0, 180, 20, 0, 214, 148, 153, 0, 91, 42, 180, 0, 180, 20, 0, 216, 148, 153, 0, 80, 42]
abbrev dktX9_isKept_3 : List UInt8 := dkwX9_isKept_3 ++ dktX9_isKept_4
def dkwX9_isKept_2 : List UInt8 := [180, 0, 180, 20, 0, 210, 148, 153, 0, 113, 42, 180, 0, 180, 20, 0, 212, 148, 153, 0, 102, 42]
abbrev dktX9_isKept_2 : List UInt8 := dkwX9_isKept_2 ++ dktX9_isKept_3
def dkwX9_isKept_1 : List UInt8 := [180, 0, 180, 20, 0, 206, 148, 153, 0, 135, 42, 180, 0, 180, 20, 0, 208, 148, 153, 0, 124, 42]
abbrev dktX9_isKept_1 : List UInt8 := dkwX9_isKept_1 ++ dktX9_isKept_2
def dkwX9_isKept_0 : List UInt8 := [42, 180, 0, 187, 4, 159, 0, 5, 4, 172, 42, 180, 0, 180, 20, 0, 204, 148, 153, 0, 146, 42]
abbrev dktX9_isKept_0 : List UInt8 := dkwX9_isKept_0 ++ dktX9_isKept_1
theorem dksX9_isKept_0 : cX9_isKept.data.toList.drop 0 = dktX9_isKept_0 := by decide +kernel
theorem dksX9_isKept_1 : cX9_isKept.data.toList.drop 22 = dktX9_isKept_1 := dk_seg dksX9_isKept_0 22 rfl rfl
theorem dksX9_isKept_2 : cX9_isKept.data.toList.drop 44 = dktX9_isKept_2 := dk_seg dksX9_isKept_1 22 rfl rfl
theorem dksX9_isKept_3 : cX9_isKept.data.toList.drop 66 = dktX9_isKept_3 := dk_seg dksX9_isKept_2 22 rfl rfl
theorem dksX9_isKept_4 : cX9_isKept.data.toList.drop 88 = dktX9_isKept_4 := dk_seg dksX9_isKept_3 22 rfl rfl
theorem dksX9_isKept_5 : cX9_isKept.data.toList.drop 110 = dktX9_isKept_5 := dk_seg dksX9_isKept_4 22 rfl rfl
theorem dksX9_isKept_6 : cX9_isKept.data.toList.drop 132 = dktX9_isKept_6 := dk_seg dksX9_isKept_5 22 rfl rfl
theorem dksX9_isKept_7 : cX9_isKept.data.toList.drop 154 = dktX9_isKept_7 := dk_seg dksX9_isKept_6 22 rfl rfl
theorem dX9_isKept_0 : decode cX9_isKept 0 = .ok (.aload_n 0, 1) := dk_42 (dk_at dksX9_isKept_0 0 rfl rfl)
theorem dX9_isKept_1 : decode cX9_isKept 1 = .ok (.getfield 187, 3) := dk_180 0 187 (dk_at dksX9_isKept_0 1 rfl rfl)
theorem dX9_isKept_4 : decode cX9_isKept 4 = .ok (.iconst 1, 1) := dk_4 (dk_at dksX9_isKept_0 4 rfl rfl)
theorem dX9_isKept_5 : decode cX9_isKept 5 = .ok (.if_icmp .eq 5, 3) := dk_159 0 5 (dk_at dksX9_isKept_0 5 rfl rfl)
theorem dX9_isKept_8 : decode cX9_isKept 8 = .ok (.iconst 1, 1) := dk_4 (dk_at dksX9_isKept_0 8 rfl rfl)
theorem dX9_isKept_9 : decode cX9_isKept 9 = .ok (.ireturn, 1) := dk_172 (dk_at dksX9_isKept_0 9 rfl rfl)
theorem dX9_isKept_10 : decode cX9_isKept 10 = .ok (.aload_n 0, 1) := dk_42 (dk_at dksX9_isKept_0 10 rfl rfl)
theorem dX9_isKept_11 : decode cX9_isKept 11 = .ok (.getfield 180, 3) := dk_180 0 180 (dk_at dksX9_isKept_0 11 rfl rfl)
theorem dX9_isKept_14 : decode cX9_isKept 14 = .ok (.ldc2_w 204, 3) := dk_20 0 204 (dk_at dksX9_isKept_0 14 rfl rfl)
theorem dX9_isKept_17 : decode cX9_isKept 17 = .ok (.lcmp, 1) := dk_148 (dk_at dksX9_isKept_0 17 rfl rfl)
theorem dX9_isKept_18 : decode cX9_isKept 18 = .ok (.ifCond .eq 146, 3) := dk_153 0 146 (dk_at dksX9_isKept_0 18 rfl rfl)
theorem dX9_isKept_21 : decode cX9_isKept 21 = .ok (.aload_n 0, 1) := dk_42 (dk_at dksX9_isKept_0 21 rfl rfl)
theorem dX9_isKept_22 : decode cX9_isKept 22 = .ok (.getfield 180, 3) := dk_180 0 180 (dk_at dksX9_isKept_1 0 rfl rfl)
theorem dX9_isKept_25 : decode cX9_isKept 25 = .ok (.ldc2_w 206, 3) := dk_20 0 206 (dk_at dksX9_isKept_1 3 rfl rfl)
theorem dX9_isKept_28 : decode cX9_isKept 28 = .ok (.lcmp, 1) := dk_148 (dk_at dksX9_isKept_1 6 rfl rfl)
theorem dX9_isKept_29 : decode cX9_isKept 29 = .ok (.ifCond .eq 135, 3) := dk_153 0 135 (dk_at dksX9_isKept_1 7 rfl rfl)
theorem dX9_isKept_32 : decode cX9_isKept 32 = .ok (.aload_n 0, 1) := dk_42 (dk_at dksX9_isKept_1 10 rfl rfl)
theorem dX9_isKept_33 : decode cX9_isKept 33 = .ok (.getfield 180, 3) := dk_180 0 180 (dk_at dksX9_isKept_1 11 rfl rfl)
theorem dX9_isKept_36 : decode cX9_isKept 36 = .ok (.ldc2_w 208, 3) := dk_20 0 208 (dk_at dksX9_isKept_1 14 rfl rfl)
theorem dX9_isKept_39 : decode cX9_isKept 39 = .ok (.lcmp, 1) := dk_148 (dk_at dksX9_isKept_1 17 rfl rfl)
theorem dX9_isKept_40 : decode cX9_isKept 40 = .ok (.ifCond .eq 124, 3) := dk_153 0 124 (dk_at dksX9_isKept_1 18 rfl rfl)
theorem dX9_isKept_43 : decode cX9_isKept 43 = .ok (.aload_n 0, 1) := dk_42 (dk_at dksX9_isKept_1 21 rfl rfl)
theorem dX9_isKept_44 : decode cX9_isKept 44 = .ok (.getfield 180, 3) := dk_180 0 180 (dk_at dksX9_isKept_2 0 rfl rfl)
theorem dX9_isKept_47 : decode cX9_isKept 47 = .ok (.ldc2_w 210, 3) := dk_20 0 210 (dk_at dksX9_isKept_2 3 rfl rfl)
theorem dX9_isKept_50 : decode cX9_isKept 50 = .ok (.lcmp, 1) := dk_148 (dk_at dksX9_isKept_2 6 rfl rfl)
theorem dX9_isKept_51 : decode cX9_isKept 51 = .ok (.ifCond .eq 113, 3) := dk_153 0 113 (dk_at dksX9_isKept_2 7 rfl rfl)
theorem dX9_isKept_54 : decode cX9_isKept 54 = .ok (.aload_n 0, 1) := dk_42 (dk_at dksX9_isKept_2 10 rfl rfl)
theorem dX9_isKept_55 : decode cX9_isKept 55 = .ok (.getfield 180, 3) := dk_180 0 180 (dk_at dksX9_isKept_2 11 rfl rfl)
theorem dX9_isKept_58 : decode cX9_isKept 58 = .ok (.ldc2_w 212, 3) := dk_20 0 212 (dk_at dksX9_isKept_2 14 rfl rfl)
theorem dX9_isKept_61 : decode cX9_isKept 61 = .ok (.lcmp, 1) := dk_148 (dk_at dksX9_isKept_2 17 rfl rfl)
theorem dX9_isKept_62 : decode cX9_isKept 62 = .ok (.ifCond .eq 102, 3) := dk_153 0 102 (dk_at dksX9_isKept_2 18 rfl rfl)
theorem dX9_isKept_65 : decode cX9_isKept 65 = .ok (.aload_n 0, 1) := dk_42 (dk_at dksX9_isKept_2 21 rfl rfl)
theorem dX9_isKept_66 : decode cX9_isKept 66 = .ok (.getfield 180, 3) := dk_180 0 180 (dk_at dksX9_isKept_3 0 rfl rfl)
theorem dX9_isKept_69 : decode cX9_isKept 69 = .ok (.ldc2_w 214, 3) := dk_20 0 214 (dk_at dksX9_isKept_3 3 rfl rfl)
theorem dX9_isKept_72 : decode cX9_isKept 72 = .ok (.lcmp, 1) := dk_148 (dk_at dksX9_isKept_3 6 rfl rfl)
theorem dX9_isKept_73 : decode cX9_isKept 73 = .ok (.ifCond .eq 91, 3) := dk_153 0 91 (dk_at dksX9_isKept_3 7 rfl rfl)
theorem dX9_isKept_76 : decode cX9_isKept 76 = .ok (.aload_n 0, 1) := dk_42 (dk_at dksX9_isKept_3 10 rfl rfl)
theorem dX9_isKept_77 : decode cX9_isKept 77 = .ok (.getfield 180, 3) := dk_180 0 180 (dk_at dksX9_isKept_3 11 rfl rfl)
theorem dX9_isKept_80 : decode cX9_isKept 80 = .ok (.ldc2_w 216, 3) := dk_20 0 216 (dk_at dksX9_isKept_3 14 rfl rfl)
theorem dX9_isKept_83 : decode cX9_isKept 83 = .ok (.lcmp, 1) := dk_148 (dk_at dksX9_isKept_3 17 rfl rfl)
theorem dX9_isKept_84 : decode cX9_isKept 84 = .ok (.ifCond .eq 80, 3) := dk_153 0 80 (dk_at dksX9_isKept_3 18 rfl rfl)
theorem dX9_isKept_87 : decode cX9_isKept 87 = .ok (.aload_n 0, 1) := dk_42 (dk_at dksX9_isKept_3 21 rfl rfl)
theorem dX9_isKept_88 : decode cX9_isKept 88 = .ok (.getfield 180, 3) := dk_180 0 180 (dk_at dksX9_isKept_4 0 rfl rfl)
theorem dX9_isKept_91 : decode cX9_isKept 91 = .ok (.ldc2_w 218, 3) := dk_20 0 218 (dk_at dksX9_isKept_4 3 rfl rfl)
theorem dX9_isKept_94 : decode cX9_isKept 94 = .ok (.lcmp, 1) := dk_148 (dk_at dksX9_isKept_4 6 rfl rfl)
theorem dX9_isKept_95 : decode cX9_isKept 95 = .ok (.ifCond .eq 69, 3) := dk_153 0 69 (dk_at dksX9_isKept_4 7 rfl rfl)
theorem dX9_isKept_98 : decode cX9_isKept 98 = .ok (.aload_n 0, 1) := dk_42 (dk_at dksX9_isKept_4 10 rfl rfl)
theorem dX9_isKept_99 : decode cX9_isKept 99 = .ok (.getfield 180, 3) := dk_180 0 180 (dk_at dksX9_isKept_4 11 rfl rfl)
theorem dX9_isKept_102 : decode cX9_isKept 102 = .ok (.ldc2_w 220, 3) := dk_20 0 220 (dk_at dksX9_isKept_4 14 rfl rfl)
theorem dX9_isKept_105 : decode cX9_isKept 105 = .ok (.lcmp, 1) := dk_148 (dk_at dksX9_isKept_4 17 rfl rfl)
theorem dX9_isKept_106 : decode cX9_isKept 106 = .ok (.ifCond .eq 58, 3) := dk_153 0 58 (dk_at dksX9_isKept_4 18 rfl rfl)
theorem dX9_isKept_109 : decode cX9_isKept 109 = .ok (.aload_n 0, 1) := dk_42 (dk_at dksX9_isKept_4 21 rfl rfl)
theorem dX9_isKept_110 : decode cX9_isKept 110 = .ok (.getfield 180, 3) := dk_180 0 180 (dk_at dksX9_isKept_5 0 rfl rfl)
theorem dX9_isKept_113 : decode cX9_isKept 113 = .ok (.ldc2_w 222, 3) := dk_20 0 222 (dk_at dksX9_isKept_5 3 rfl rfl)
theorem dX9_isKept_116 : decode cX9_isKept 116 = .ok (.lcmp, 1) := dk_148 (dk_at dksX9_isKept_5 6 rfl rfl)
theorem dX9_isKept_117 : decode cX9_isKept 117 = .ok (.ifCond .eq 47, 3) := dk_153 0 47 (dk_at dksX9_isKept_5 7 rfl rfl)
theorem dX9_isKept_120 : decode cX9_isKept 120 = .ok (.aload_n 0, 1) := dk_42 (dk_at dksX9_isKept_5 10 rfl rfl)
theorem dX9_isKept_121 : decode cX9_isKept 121 = .ok (.getfield 180, 3) := dk_180 0 180 (dk_at dksX9_isKept_5 11 rfl rfl)
theorem dX9_isKept_124 : decode cX9_isKept 124 = .ok (.ldc2_w 224, 3) := dk_20 0 224 (dk_at dksX9_isKept_5 14 rfl rfl)
theorem dX9_isKept_127 : decode cX9_isKept 127 = .ok (.lcmp, 1) := dk_148 (dk_at dksX9_isKept_5 17 rfl rfl)
theorem dX9_isKept_128 : decode cX9_isKept 128 = .ok (.ifCond .eq 36, 3) := dk_153 0 36 (dk_at dksX9_isKept_5 18 rfl rfl)
theorem dX9_isKept_131 : decode cX9_isKept 131 = .ok (.aload_n 0, 1) := dk_42 (dk_at dksX9_isKept_5 21 rfl rfl)
theorem dX9_isKept_132 : decode cX9_isKept 132 = .ok (.getfield 180, 3) := dk_180 0 180 (dk_at dksX9_isKept_6 0 rfl rfl)
theorem dX9_isKept_135 : decode cX9_isKept 135 = .ok (.ldc2_w 226, 3) := dk_20 0 226 (dk_at dksX9_isKept_6 3 rfl rfl)
theorem dX9_isKept_138 : decode cX9_isKept 138 = .ok (.lcmp, 1) := dk_148 (dk_at dksX9_isKept_6 6 rfl rfl)
theorem dX9_isKept_139 : decode cX9_isKept 139 = .ok (.ifCond .eq 25, 3) := dk_153 0 25 (dk_at dksX9_isKept_6 7 rfl rfl)
theorem dX9_isKept_142 : decode cX9_isKept 142 = .ok (.aload_n 0, 1) := dk_42 (dk_at dksX9_isKept_6 10 rfl rfl)
theorem dX9_isKept_143 : decode cX9_isKept 143 = .ok (.getfield 180, 3) := dk_180 0 180 (dk_at dksX9_isKept_6 11 rfl rfl)
theorem dX9_isKept_146 : decode cX9_isKept 146 = .ok (.ldc2_w 228, 3) := dk_20 0 228 (dk_at dksX9_isKept_6 14 rfl rfl)
theorem dX9_isKept_149 : decode cX9_isKept 149 = .ok (.lcmp, 1) := dk_148 (dk_at dksX9_isKept_6 17 rfl rfl)
theorem dX9_isKept_150 : decode cX9_isKept 150 = .ok (.ifCond .eq 14, 3) := dk_153 0 14 (dk_at dksX9_isKept_6 18 rfl rfl)
theorem dX9_isKept_153 : decode cX9_isKept 153 = .ok (.aload_n 0, 1) := dk_42 (dk_at dksX9_isKept_6 21 rfl rfl)
theorem dX9_isKept_154 : decode cX9_isKept 154 = .ok (.getfield 180, 3) := dk_180 0 180 (dk_at dksX9_isKept_7 0 rfl rfl)
theorem dX9_isKept_157 : decode cX9_isKept 157 = .ok (.ldc2_w 230, 3) := dk_20 0 230 (dk_at dksX9_isKept_7 3 rfl rfl)
theorem dX9_isKept_160 : decode cX9_isKept 160 = .ok (.lcmp, 1) := dk_148 (dk_at dksX9_isKept_7 6 rfl rfl)
theorem dX9_isKept_161 : decode cX9_isKept 161 = .ok (.ifCond .ne 7, 3) := dk_154 0 7 (dk_at dksX9_isKept_7 7 rfl rfl)
theorem dX9_isKept_164 : decode cX9_isKept 164 = .ok (.iconst 1, 1) := dk_4 (dk_at dksX9_isKept_7 10 rfl rfl)
theorem dX9_isKept_165 : decode cX9_isKept 165 = .ok (.goto 4, 3) := dk_167 0 4 (dk_at dksX9_isKept_7 11 rfl rfl)
theorem dX9_isKept_168 : decode cX9_isKept 168 = .ok (.iconst 0, 1) := dk_3 (dk_at dksX9_isKept_7 14 rfl rfl)
theorem dX9_isKept_169 : decode cX9_isKept 169 = .ok (.ireturn, 1) := dk_172 (dk_at dksX9_isKept_7 15 rfl rfl)
abbrev cX9_whichOf : ByteArray := prog_28_method_15_code
def yX9_whichOf : MethodName := ⟨RX9, "whichOf", "(I)I"⟩
def dkwX9_whichOf_1 : List UInt8 := [96, 28, 96, 47, 42, 180, 0, 180, 148, 154, 0, 5, 28, 172, 132, 2, 1, 167, 255, 217, 2, 172]
abbrev dktX9_whichOf_1 : List UInt8 := dkwX9_whichOf_1 ++ []
def dkwX9_whichOf_0 : List UInt8 := [3, 61, 28, 42, 180, 0, 13, 6, 27, 96, 46, 162, 0, 33, 42, 180, 0, 16, 16, 18, 16, 6, 27, 104]
abbrev dktX9_whichOf_0 : List UInt8 := dkwX9_whichOf_0 ++ dktX9_whichOf_1
theorem dksX9_whichOf_0 : cX9_whichOf.data.toList.drop 0 = dktX9_whichOf_0 := by decide +kernel
theorem dksX9_whichOf_1 : cX9_whichOf.data.toList.drop 24 = dktX9_whichOf_1 := dk_seg dksX9_whichOf_0 24 rfl rfl
theorem dX9_whichOf_0 : decode cX9_whichOf 0 = .ok (.iconst 0, 1) := dk_3 (dk_at dksX9_whichOf_0 0 rfl rfl)
theorem dX9_whichOf_1 : decode cX9_whichOf 1 = .ok (.istore_n 2, 1) := dk_61 (dk_at dksX9_whichOf_0 1 rfl rfl)
theorem dX9_whichOf_2 : decode cX9_whichOf 2 = .ok (.iload_n 2, 1) := dk_28 (dk_at dksX9_whichOf_0 2 rfl rfl)
theorem dX9_whichOf_3 : decode cX9_whichOf 3 = .ok (.aload_n 0, 1) := dk_42 (dk_at dksX9_whichOf_0 3 rfl rfl)
theorem dX9_whichOf_4 : decode cX9_whichOf 4 = .ok (.getfield 13, 3) := dk_180 0 13 (dk_at dksX9_whichOf_0 4 rfl rfl)
theorem dX9_whichOf_7 : decode cX9_whichOf 7 = .ok (.iconst 3, 1) := dk_6 (dk_at dksX9_whichOf_0 7 rfl rfl)
theorem dX9_whichOf_8 : decode cX9_whichOf 8 = .ok (.iload_n 1, 1) := dk_27 (dk_at dksX9_whichOf_0 8 rfl rfl)
theorem dX9_whichOf_9 : decode cX9_whichOf 9 = .ok (.iadd, 1) := dk_96 (dk_at dksX9_whichOf_0 9 rfl rfl)
theorem dX9_whichOf_10 : decode cX9_whichOf 10 = .ok (.iaload, 1) := dk_46 (dk_at dksX9_whichOf_0 10 rfl rfl)
theorem dX9_whichOf_11 : decode cX9_whichOf 11 = .ok (.if_icmp .ge 33, 3) := dk_162 0 33 (dk_at dksX9_whichOf_0 11 rfl rfl)
theorem dX9_whichOf_14 : decode cX9_whichOf 14 = .ok (.aload_n 0, 1) := dk_42 (dk_at dksX9_whichOf_0 14 rfl rfl)
theorem dX9_whichOf_15 : decode cX9_whichOf 15 = .ok (.getfield 16, 3) := dk_180 0 16 (dk_at dksX9_whichOf_0 15 rfl rfl)
theorem dX9_whichOf_18 : decode cX9_whichOf 18 = .ok (.bipush 18, 2) := dk_16 18 (dk_at dksX9_whichOf_0 18 rfl rfl)
theorem dX9_whichOf_20 : decode cX9_whichOf 20 = .ok (.bipush 6, 2) := dk_16 6 (dk_at dksX9_whichOf_0 20 rfl rfl)
theorem dX9_whichOf_22 : decode cX9_whichOf 22 = .ok (.iload_n 1, 1) := dk_27 (dk_at dksX9_whichOf_0 22 rfl rfl)
theorem dX9_whichOf_23 : decode cX9_whichOf 23 = .ok (.imul, 1) := dk_104 (dk_at dksX9_whichOf_0 23 rfl rfl)
theorem dX9_whichOf_24 : decode cX9_whichOf 24 = .ok (.iadd, 1) := dk_96 (dk_at dksX9_whichOf_1 0 rfl rfl)
theorem dX9_whichOf_25 : decode cX9_whichOf 25 = .ok (.iload_n 2, 1) := dk_28 (dk_at dksX9_whichOf_1 1 rfl rfl)
theorem dX9_whichOf_26 : decode cX9_whichOf 26 = .ok (.iadd, 1) := dk_96 (dk_at dksX9_whichOf_1 2 rfl rfl)
theorem dX9_whichOf_27 : decode cX9_whichOf 27 = .ok (.laload, 1) := dk_47 (dk_at dksX9_whichOf_1 3 rfl rfl)
theorem dX9_whichOf_28 : decode cX9_whichOf 28 = .ok (.aload_n 0, 1) := dk_42 (dk_at dksX9_whichOf_1 4 rfl rfl)
theorem dX9_whichOf_29 : decode cX9_whichOf 29 = .ok (.getfield 180, 3) := dk_180 0 180 (dk_at dksX9_whichOf_1 5 rfl rfl)
theorem dX9_whichOf_32 : decode cX9_whichOf 32 = .ok (.lcmp, 1) := dk_148 (dk_at dksX9_whichOf_1 8 rfl rfl)
theorem dX9_whichOf_33 : decode cX9_whichOf 33 = .ok (.ifCond .ne 5, 3) := dk_154 0 5 (dk_at dksX9_whichOf_1 9 rfl rfl)
theorem dX9_whichOf_36 : decode cX9_whichOf 36 = .ok (.iload_n 2, 1) := dk_28 (dk_at dksX9_whichOf_1 12 rfl rfl)
theorem dX9_whichOf_37 : decode cX9_whichOf 37 = .ok (.ireturn, 1) := dk_172 (dk_at dksX9_whichOf_1 13 rfl rfl)
theorem dX9_whichOf_38 : decode cX9_whichOf 38 = .ok (.iinc 2 1, 3) := dk_132 2 1 (dk_at dksX9_whichOf_1 14 rfl rfl)
theorem dX9_whichOf_41 : decode cX9_whichOf 41 = .ok (.goto (-39), 3) := dk_167 255 217 (dk_at dksX9_whichOf_1 17 rfl rfl)
theorem dX9_whichOf_44 : decode cX9_whichOf 44 = .ok (.iconst (-1), 1) := dk_2 (dk_at dksX9_whichOf_1 20 rfl rfl)
theorem dX9_whichOf_45 : decode cX9_whichOf 45 = .ok (.ireturn, 1) := dk_172 (dk_at dksX9_whichOf_1 21 rfl rfl)
abbrev cX9_needsNumber : ByteArray := prog_28_method_24_code
def yX9_needsNumber : MethodName := ⟨RX9, "needsNumber", "(I)Z"⟩
def dkwX9_needsNumber_1 : List UInt8 := [42, 7, 182, 0, 247, 153, 0, 7, 4, 167, 0, 4, 3, 172]
abbrev dktX9_needsNumber_1 : List UInt8 := dkwX9_needsNumber_1 ++ []
def dkwX9_needsNumber_0 : List UInt8 := [42, 180, 0, 187, 5, 159, 0, 11, 42, 4, 182, 0, 247, 167, 0, 24, 42, 180, 0, 184, 27, 164, 0, 11]
abbrev dktX9_needsNumber_0 : List UInt8 := dkwX9_needsNumber_0 ++ dktX9_needsNumber_1
theorem dksX9_needsNumber_0 : cX9_needsNumber.data.toList.drop 0 = dktX9_needsNumber_0 := by decide +kernel
theorem dksX9_needsNumber_1 : cX9_needsNumber.data.toList.drop 24 = dktX9_needsNumber_1 := dk_seg dksX9_needsNumber_0 24 rfl rfl
theorem dX9_needsNumber_0 : decode cX9_needsNumber 0 = .ok (.aload_n 0, 1) := dk_42 (dk_at dksX9_needsNumber_0 0 rfl rfl)
theorem dX9_needsNumber_1 : decode cX9_needsNumber 1 = .ok (.getfield 187, 3) := dk_180 0 187 (dk_at dksX9_needsNumber_0 1 rfl rfl)
theorem dX9_needsNumber_4 : decode cX9_needsNumber 4 = .ok (.iconst 2, 1) := dk_5 (dk_at dksX9_needsNumber_0 4 rfl rfl)
theorem dX9_needsNumber_5 : decode cX9_needsNumber 5 = .ok (.if_icmp .eq 11, 3) := dk_159 0 11 (dk_at dksX9_needsNumber_0 5 rfl rfl)
theorem dX9_needsNumber_8 : decode cX9_needsNumber 8 = .ok (.aload_n 0, 1) := dk_42 (dk_at dksX9_needsNumber_0 8 rfl rfl)
theorem dX9_needsNumber_9 : decode cX9_needsNumber 9 = .ok (.iconst 1, 1) := dk_4 (dk_at dksX9_needsNumber_0 9 rfl rfl)
theorem dX9_needsNumber_10 : decode cX9_needsNumber 10 = .ok (.invokevirtual 247, 3) := dk_182 0 247 (dk_at dksX9_needsNumber_0 10 rfl rfl)
theorem dX9_needsNumber_13 : decode cX9_needsNumber 13 = .ok (.goto 24, 3) := dk_167 0 24 (dk_at dksX9_needsNumber_0 13 rfl rfl)
theorem dX9_needsNumber_16 : decode cX9_needsNumber 16 = .ok (.aload_n 0, 1) := dk_42 (dk_at dksX9_needsNumber_0 16 rfl rfl)
theorem dX9_needsNumber_17 : decode cX9_needsNumber 17 = .ok (.getfield 184, 3) := dk_180 0 184 (dk_at dksX9_needsNumber_0 17 rfl rfl)
theorem dX9_needsNumber_20 : decode cX9_needsNumber 20 = .ok (.iload_n 1, 1) := dk_27 (dk_at dksX9_needsNumber_0 20 rfl rfl)
theorem dX9_needsNumber_21 : decode cX9_needsNumber 21 = .ok (.if_icmp .le 11, 3) := dk_164 0 11 (dk_at dksX9_needsNumber_0 21 rfl rfl)
theorem dX9_needsNumber_24 : decode cX9_needsNumber 24 = .ok (.aload_n 0, 1) := dk_42 (dk_at dksX9_needsNumber_1 0 rfl rfl)
theorem dX9_needsNumber_25 : decode cX9_needsNumber 25 = .ok (.iconst 4, 1) := dk_7 (dk_at dksX9_needsNumber_1 1 rfl rfl)
theorem dX9_needsNumber_26 : decode cX9_needsNumber 26 = .ok (.invokevirtual 247, 3) := dk_182 0 247 (dk_at dksX9_needsNumber_1 2 rfl rfl)
theorem dX9_needsNumber_29 : decode cX9_needsNumber 29 = .ok (.ifCond .eq 7, 3) := dk_153 0 7 (dk_at dksX9_needsNumber_1 5 rfl rfl)
theorem dX9_needsNumber_32 : decode cX9_needsNumber 32 = .ok (.iconst 1, 1) := dk_4 (dk_at dksX9_needsNumber_1 8 rfl rfl)
theorem dX9_needsNumber_33 : decode cX9_needsNumber 33 = .ok (.goto 4, 3) := dk_167 0 4 (dk_at dksX9_needsNumber_1 9 rfl rfl)
theorem dX9_needsNumber_36 : decode cX9_needsNumber 36 = .ok (.iconst 0, 1) := dk_3 (dk_at dksX9_needsNumber_1 12 rfl rfl)
theorem dX9_needsNumber_37 : decode cX9_needsNumber 37 = .ok (.ireturn, 1) := dk_172 (dk_at dksX9_needsNumber_1 13 rfl rfl)
abbrev cX9_ends : ByteArray := prog_28_method_22_code
def yX9_ends : MethodName := ⟨RX9, "ends", "()Z"⟩
def dkwX9_ends_0 : List UInt8 := [42, 16, 59, 182, 0, 243, 154, 0, 9, 42, 4, 182, 0, 247, 172, 42, 182, 0, 254, 4, 172]
abbrev dktX9_ends_0 : List UInt8 := dkwX9_ends_0 ++ []
theorem dksX9_ends_0 : cX9_ends.data.toList.drop 0 = dktX9_ends_0 := by decide +kernel
theorem dX9_ends_0 : decode cX9_ends 0 = .ok (.aload_n 0, 1) := dk_42 (dk_at dksX9_ends_0 0 rfl rfl)
theorem dX9_ends_1 : decode cX9_ends 1 = .ok (.bipush 59, 2) := dk_16 59 (dk_at dksX9_ends_0 1 rfl rfl)
theorem dX9_ends_3 : decode cX9_ends 3 = .ok (.invokevirtual 243, 3) := dk_182 0 243 (dk_at dksX9_ends_0 3 rfl rfl)
theorem dX9_ends_6 : decode cX9_ends 6 = .ok (.ifCond .ne 9, 3) := dk_154 0 9 (dk_at dksX9_ends_0 6 rfl rfl)
theorem dX9_ends_9 : decode cX9_ends 9 = .ok (.aload_n 0, 1) := dk_42 (dk_at dksX9_ends_0 9 rfl rfl)
theorem dX9_ends_10 : decode cX9_ends 10 = .ok (.iconst 1, 1) := dk_4 (dk_at dksX9_ends_0 10 rfl rfl)
theorem dX9_ends_11 : decode cX9_ends 11 = .ok (.invokevirtual 247, 3) := dk_182 0 247 (dk_at dksX9_ends_0 11 rfl rfl)
theorem dX9_ends_14 : decode cX9_ends 14 = .ok (.ireturn, 1) := dk_172 (dk_at dksX9_ends_0 14 rfl rfl)
theorem dX9_ends_15 : decode cX9_ends 15 = .ok (.aload_n 0, 1) := dk_42 (dk_at dksX9_ends_0 15 rfl rfl)
theorem dX9_ends_16 : decode cX9_ends 16 = .ok (.invokevirtual 254, 3) := dk_182 0 254 (dk_at dksX9_ends_0 16 rfl rfl)
theorem dX9_ends_19 : decode cX9_ends 19 = .ok (.iconst 1, 1) := dk_4 (dk_at dksX9_ends_0 19 rfl rfl)
theorem dX9_ends_20 : decode cX9_ends 20 = .ok (.ireturn, 1) := dk_172 (dk_at dksX9_ends_0 20 rfl rfl)
abbrev cX9_isSign : ByteArray := prog_28_method_11_code
def yX9_isSign : MethodName := ⟨RX9, "isSign", "(I)Z"⟩
def dkwX9_isSign_1 : List UInt8 := [167, 0, 4, 3, 172]
abbrev dktX9_isSign_1 : List UInt8 := dkwX9_isSign_1 ++ []
def dkwX9_isSign_0 : List UInt8 := [42, 180, 0, 187, 6, 160, 0, 20, 42, 180, 0, 7, 42, 180, 0, 177, 46, 27, 160, 0, 7, 4]
abbrev dktX9_isSign_0 : List UInt8 := dkwX9_isSign_0 ++ dktX9_isSign_1
theorem dksX9_isSign_0 : cX9_isSign.data.toList.drop 0 = dktX9_isSign_0 := by decide +kernel
theorem dksX9_isSign_1 : cX9_isSign.data.toList.drop 22 = dktX9_isSign_1 := dk_seg dksX9_isSign_0 22 rfl rfl
theorem dX9_isSign_0 : decode cX9_isSign 0 = .ok (.aload_n 0, 1) := dk_42 (dk_at dksX9_isSign_0 0 rfl rfl)
theorem dX9_isSign_1 : decode cX9_isSign 1 = .ok (.getfield 187, 3) := dk_180 0 187 (dk_at dksX9_isSign_0 1 rfl rfl)
theorem dX9_isSign_4 : decode cX9_isSign 4 = .ok (.iconst 3, 1) := dk_6 (dk_at dksX9_isSign_0 4 rfl rfl)
theorem dX9_isSign_5 : decode cX9_isSign 5 = .ok (.if_icmp .ne 20, 3) := dk_160 0 20 (dk_at dksX9_isSign_0 5 rfl rfl)
theorem dX9_isSign_8 : decode cX9_isSign 8 = .ok (.aload_n 0, 1) := dk_42 (dk_at dksX9_isSign_0 8 rfl rfl)
theorem dX9_isSign_9 : decode cX9_isSign 9 = .ok (.getfield 7, 3) := dk_180 0 7 (dk_at dksX9_isSign_0 9 rfl rfl)
theorem dX9_isSign_12 : decode cX9_isSign 12 = .ok (.aload_n 0, 1) := dk_42 (dk_at dksX9_isSign_0 12 rfl rfl)
theorem dX9_isSign_13 : decode cX9_isSign 13 = .ok (.getfield 177, 3) := dk_180 0 177 (dk_at dksX9_isSign_0 13 rfl rfl)
theorem dX9_isSign_16 : decode cX9_isSign 16 = .ok (.iaload, 1) := dk_46 (dk_at dksX9_isSign_0 16 rfl rfl)
theorem dX9_isSign_17 : decode cX9_isSign 17 = .ok (.iload_n 1, 1) := dk_27 (dk_at dksX9_isSign_0 17 rfl rfl)
theorem dX9_isSign_18 : decode cX9_isSign 18 = .ok (.if_icmp .ne 7, 3) := dk_160 0 7 (dk_at dksX9_isSign_0 18 rfl rfl)
theorem dX9_isSign_21 : decode cX9_isSign 21 = .ok (.iconst 1, 1) := dk_4 (dk_at dksX9_isSign_0 21 rfl rfl)
theorem dX9_isSign_22 : decode cX9_isSign 22 = .ok (.goto 4, 3) := dk_167 0 4 (dk_at dksX9_isSign_1 0 rfl rfl)
theorem dX9_isSign_25 : decode cX9_isSign 25 = .ok (.iconst 0, 1) := dk_3 (dk_at dksX9_isSign_1 3 rfl rfl)
theorem dX9_isSign_26 : decode cX9_isSign 26 = .ok (.ireturn, 1) := dk_172 (dk_at dksX9_isSign_1 4 rfl rfl)
abbrev cX9_readsPlace : ByteArray := prog_28_method_27_code
def yX9_readsPlace : MethodName := ⟨RX9, "readsPlace", "()Z"⟩
def dkwX9_readsPlace_3 : List UInt8 := [180, 0, 13, 7, 92, 46, 4, 96, 79, 42, 182, 0, 254, 42, 182, 1, 19, 172]
abbrev dktX9_readsPlace_3 : List UInt8 := dkwX9_readsPlace_3 ++ []
def dkwX9_readsPlace_2 : List UInt8 := [154, 0, 5, 3, 172, 42, 180, 0, 23, 16, 6, 42, 180, 0, 13, 7, 46, 96, 42, 180, 0, 184, 79, 42]
abbrev dktX9_readsPlace_2 : List UInt8 := dkwX9_readsPlace_2 ++ dktX9_readsPlace_3
def dkwX9_readsPlace_1 : List UInt8 := [182, 1, 13, 153, 0, 23, 42, 20, 0, 210, 182, 1, 22, 153, 0, 13, 42, 17, 1, 103, 182, 1, 16]
abbrev dktX9_readsPlace_1 : List UInt8 := dkwX9_readsPlace_1 ++ dktX9_readsPlace_2
def dkwX9_readsPlace_0 : List UInt8 := [42, 180, 0, 13, 7, 46, 16, 6, 160, 0, 9, 42, 8, 182, 0, 247, 172, 42, 182, 0, 254, 42, 4]
abbrev dktX9_readsPlace_0 : List UInt8 := dkwX9_readsPlace_0 ++ dktX9_readsPlace_1
theorem dksX9_readsPlace_0 : cX9_readsPlace.data.toList.drop 0 = dktX9_readsPlace_0 := by decide +kernel
theorem dksX9_readsPlace_1 : cX9_readsPlace.data.toList.drop 23 = dktX9_readsPlace_1 := dk_seg dksX9_readsPlace_0 23 rfl rfl
theorem dksX9_readsPlace_2 : cX9_readsPlace.data.toList.drop 46 = dktX9_readsPlace_2 := dk_seg dksX9_readsPlace_1 23 rfl rfl
theorem dksX9_readsPlace_3 : cX9_readsPlace.data.toList.drop 70 = dktX9_readsPlace_3 := dk_seg dksX9_readsPlace_2 24 rfl rfl
theorem dX9_readsPlace_0 : decode cX9_readsPlace 0 = .ok (.aload_n 0, 1) := dk_42 (dk_at dksX9_readsPlace_0 0 rfl rfl)
theorem dX9_readsPlace_1 : decode cX9_readsPlace 1 = .ok (.getfield 13, 3) := dk_180 0 13 (dk_at dksX9_readsPlace_0 1 rfl rfl)
theorem dX9_readsPlace_4 : decode cX9_readsPlace 4 = .ok (.iconst 4, 1) := dk_7 (dk_at dksX9_readsPlace_0 4 rfl rfl)
theorem dX9_readsPlace_5 : decode cX9_readsPlace 5 = .ok (.iaload, 1) := dk_46 (dk_at dksX9_readsPlace_0 5 rfl rfl)
theorem dX9_readsPlace_6 : decode cX9_readsPlace 6 = .ok (.bipush 6, 2) := dk_16 6 (dk_at dksX9_readsPlace_0 6 rfl rfl)
theorem dX9_readsPlace_8 : decode cX9_readsPlace 8 = .ok (.if_icmp .ne 9, 3) := dk_160 0 9 (dk_at dksX9_readsPlace_0 8 rfl rfl)
theorem dX9_readsPlace_11 : decode cX9_readsPlace 11 = .ok (.aload_n 0, 1) := dk_42 (dk_at dksX9_readsPlace_0 11 rfl rfl)
theorem dX9_readsPlace_12 : decode cX9_readsPlace 12 = .ok (.iconst 5, 1) := dk_8 (dk_at dksX9_readsPlace_0 12 rfl rfl)
theorem dX9_readsPlace_13 : decode cX9_readsPlace 13 = .ok (.invokevirtual 247, 3) := dk_182 0 247 (dk_at dksX9_readsPlace_0 13 rfl rfl)
theorem dX9_readsPlace_16 : decode cX9_readsPlace 16 = .ok (.ireturn, 1) := dk_172 (dk_at dksX9_readsPlace_0 16 rfl rfl)
theorem dX9_readsPlace_17 : decode cX9_readsPlace 17 = .ok (.aload_n 0, 1) := dk_42 (dk_at dksX9_readsPlace_0 17 rfl rfl)
theorem dX9_readsPlace_18 : decode cX9_readsPlace 18 = .ok (.invokevirtual 254, 3) := dk_182 0 254 (dk_at dksX9_readsPlace_0 18 rfl rfl)
theorem dX9_readsPlace_21 : decode cX9_readsPlace 21 = .ok (.aload_n 0, 1) := dk_42 (dk_at dksX9_readsPlace_0 21 rfl rfl)
theorem dX9_readsPlace_22 : decode cX9_readsPlace 22 = .ok (.iconst 1, 1) := dk_4 (dk_at dksX9_readsPlace_0 22 rfl rfl)
theorem dX9_readsPlace_23 : decode cX9_readsPlace 23 = .ok (.invokevirtual 269, 3) := dk_182 1 13 (dk_at dksX9_readsPlace_1 0 rfl rfl)
theorem dX9_readsPlace_26 : decode cX9_readsPlace 26 = .ok (.ifCond .eq 23, 3) := dk_153 0 23 (dk_at dksX9_readsPlace_1 3 rfl rfl)
theorem dX9_readsPlace_29 : decode cX9_readsPlace 29 = .ok (.aload_n 0, 1) := dk_42 (dk_at dksX9_readsPlace_1 6 rfl rfl)
theorem dX9_readsPlace_30 : decode cX9_readsPlace 30 = .ok (.ldc2_w 210, 3) := dk_20 0 210 (dk_at dksX9_readsPlace_1 7 rfl rfl)
theorem dX9_readsPlace_33 : decode cX9_readsPlace 33 = .ok (.invokevirtual 278, 3) := dk_182 1 22 (dk_at dksX9_readsPlace_1 10 rfl rfl)
theorem dX9_readsPlace_36 : decode cX9_readsPlace 36 = .ok (.ifCond .eq 13, 3) := dk_153 0 13 (dk_at dksX9_readsPlace_1 13 rfl rfl)
theorem dX9_readsPlace_39 : decode cX9_readsPlace 39 = .ok (.aload_n 0, 1) := dk_42 (dk_at dksX9_readsPlace_1 16 rfl rfl)
theorem dX9_readsPlace_40 : decode cX9_readsPlace 40 = .ok (.sipush 359, 3) := dk_17 1 103 (dk_at dksX9_readsPlace_1 17 rfl rfl)
theorem dX9_readsPlace_43 : decode cX9_readsPlace 43 = .ok (.invokevirtual 272, 3) := dk_182 1 16 (dk_at dksX9_readsPlace_1 20 rfl rfl)
theorem dX9_readsPlace_46 : decode cX9_readsPlace 46 = .ok (.ifCond .ne 5, 3) := dk_154 0 5 (dk_at dksX9_readsPlace_2 0 rfl rfl)
theorem dX9_readsPlace_49 : decode cX9_readsPlace 49 = .ok (.iconst 0, 1) := dk_3 (dk_at dksX9_readsPlace_2 3 rfl rfl)
theorem dX9_readsPlace_50 : decode cX9_readsPlace 50 = .ok (.ireturn, 1) := dk_172 (dk_at dksX9_readsPlace_2 4 rfl rfl)
theorem dX9_readsPlace_51 : decode cX9_readsPlace 51 = .ok (.aload_n 0, 1) := dk_42 (dk_at dksX9_readsPlace_2 5 rfl rfl)
theorem dX9_readsPlace_52 : decode cX9_readsPlace 52 = .ok (.getfield 23, 3) := dk_180 0 23 (dk_at dksX9_readsPlace_2 6 rfl rfl)
theorem dX9_readsPlace_55 : decode cX9_readsPlace 55 = .ok (.bipush 6, 2) := dk_16 6 (dk_at dksX9_readsPlace_2 9 rfl rfl)
theorem dX9_readsPlace_57 : decode cX9_readsPlace 57 = .ok (.aload_n 0, 1) := dk_42 (dk_at dksX9_readsPlace_2 11 rfl rfl)
theorem dX9_readsPlace_58 : decode cX9_readsPlace 58 = .ok (.getfield 13, 3) := dk_180 0 13 (dk_at dksX9_readsPlace_2 12 rfl rfl)
theorem dX9_readsPlace_61 : decode cX9_readsPlace 61 = .ok (.iconst 4, 1) := dk_7 (dk_at dksX9_readsPlace_2 15 rfl rfl)
theorem dX9_readsPlace_62 : decode cX9_readsPlace 62 = .ok (.iaload, 1) := dk_46 (dk_at dksX9_readsPlace_2 16 rfl rfl)
theorem dX9_readsPlace_63 : decode cX9_readsPlace 63 = .ok (.iadd, 1) := dk_96 (dk_at dksX9_readsPlace_2 17 rfl rfl)
theorem dX9_readsPlace_64 : decode cX9_readsPlace 64 = .ok (.aload_n 0, 1) := dk_42 (dk_at dksX9_readsPlace_2 18 rfl rfl)
theorem dX9_readsPlace_65 : decode cX9_readsPlace 65 = .ok (.getfield 184, 3) := dk_180 0 184 (dk_at dksX9_readsPlace_2 19 rfl rfl)
theorem dX9_readsPlace_68 : decode cX9_readsPlace 68 = .ok (.iastore, 1) := dk_79 (dk_at dksX9_readsPlace_2 22 rfl rfl)
theorem dX9_readsPlace_69 : decode cX9_readsPlace 69 = .ok (.aload_n 0, 1) := dk_42 (dk_at dksX9_readsPlace_2 23 rfl rfl)
theorem dX9_readsPlace_70 : decode cX9_readsPlace 70 = .ok (.getfield 13, 3) := dk_180 0 13 (dk_at dksX9_readsPlace_3 0 rfl rfl)
theorem dX9_readsPlace_73 : decode cX9_readsPlace 73 = .ok (.iconst 4, 1) := dk_7 (dk_at dksX9_readsPlace_3 3 rfl rfl)
theorem dX9_readsPlace_74 : decode cX9_readsPlace 74 = .ok (.dup2, 1) := dk_92 (dk_at dksX9_readsPlace_3 4 rfl rfl)
theorem dX9_readsPlace_75 : decode cX9_readsPlace 75 = .ok (.iaload, 1) := dk_46 (dk_at dksX9_readsPlace_3 5 rfl rfl)
theorem dX9_readsPlace_76 : decode cX9_readsPlace 76 = .ok (.iconst 1, 1) := dk_4 (dk_at dksX9_readsPlace_3 6 rfl rfl)
theorem dX9_readsPlace_77 : decode cX9_readsPlace 77 = .ok (.iadd, 1) := dk_96 (dk_at dksX9_readsPlace_3 7 rfl rfl)
theorem dX9_readsPlace_78 : decode cX9_readsPlace 78 = .ok (.iastore, 1) := dk_79 (dk_at dksX9_readsPlace_3 8 rfl rfl)
theorem dX9_readsPlace_79 : decode cX9_readsPlace 79 = .ok (.aload_n 0, 1) := dk_42 (dk_at dksX9_readsPlace_3 9 rfl rfl)
theorem dX9_readsPlace_80 : decode cX9_readsPlace 80 = .ok (.invokevirtual 254, 3) := dk_182 0 254 (dk_at dksX9_readsPlace_3 10 rfl rfl)
theorem dX9_readsPlace_83 : decode cX9_readsPlace 83 = .ok (.aload_n 0, 1) := dk_42 (dk_at dksX9_readsPlace_3 13 rfl rfl)
theorem dX9_readsPlace_84 : decode cX9_readsPlace 84 = .ok (.invokevirtual 275, 3) := dk_182 1 19 (dk_at dksX9_readsPlace_3 14 rfl rfl)
theorem dX9_readsPlace_87 : decode cX9_readsPlace 87 = .ok (.ireturn, 1) := dk_172 (dk_at dksX9_readsPlace_3 17 rfl rfl)
abbrev cX9_needsWord : ByteArray := prog_28_method_23_code
def yX9_needsWord : MethodName := ⟨RX9, "needsWord", "(J)Z"⟩
def dkwX9_needsWord_0 : List UInt8 := [42, 31, 182, 0, 239, 154, 0, 9, 42, 4, 182, 0, 247, 172, 42, 182, 0, 254, 4, 172]
abbrev dktX9_needsWord_0 : List UInt8 := dkwX9_needsWord_0 ++ []
theorem dksX9_needsWord_0 : cX9_needsWord.data.toList.drop 0 = dktX9_needsWord_0 := by decide +kernel
theorem dX9_needsWord_0 : decode cX9_needsWord 0 = .ok (.aload_n 0, 1) := dk_42 (dk_at dksX9_needsWord_0 0 rfl rfl)
theorem dX9_needsWord_1 : decode cX9_needsWord 1 = .ok (.lload_n 1, 1) := dk_31 (dk_at dksX9_needsWord_0 1 rfl rfl)
theorem dX9_needsWord_2 : decode cX9_needsWord 2 = .ok (.invokevirtual 239, 3) := dk_182 0 239 (dk_at dksX9_needsWord_0 2 rfl rfl)
theorem dX9_needsWord_5 : decode cX9_needsWord 5 = .ok (.ifCond .ne 9, 3) := dk_154 0 9 (dk_at dksX9_needsWord_0 5 rfl rfl)
theorem dX9_needsWord_8 : decode cX9_needsWord 8 = .ok (.aload_n 0, 1) := dk_42 (dk_at dksX9_needsWord_0 8 rfl rfl)
theorem dX9_needsWord_9 : decode cX9_needsWord 9 = .ok (.iconst 1, 1) := dk_4 (dk_at dksX9_needsWord_0 9 rfl rfl)
theorem dX9_needsWord_10 : decode cX9_needsWord 10 = .ok (.invokevirtual 247, 3) := dk_182 0 247 (dk_at dksX9_needsWord_0 10 rfl rfl)
theorem dX9_needsWord_13 : decode cX9_needsWord 13 = .ok (.ireturn, 1) := dk_172 (dk_at dksX9_needsWord_0 13 rfl rfl)
theorem dX9_needsWord_14 : decode cX9_needsWord 14 = .ok (.aload_n 0, 1) := dk_42 (dk_at dksX9_needsWord_0 14 rfl rfl)
theorem dX9_needsWord_15 : decode cX9_needsWord 15 = .ok (.invokevirtual 254, 3) := dk_182 0 254 (dk_at dksX9_needsWord_0 15 rfl rfl)
theorem dX9_needsWord_18 : decode cX9_needsWord 18 = .ok (.iconst 1, 1) := dk_4 (dk_at dksX9_needsWord_0 18 rfl rfl)
theorem dX9_needsWord_19 : decode cX9_needsWord 19 = .ok (.ireturn, 1) := dk_172 (dk_at dksX9_needsWord_0 19 rfl rfl)
abbrev cX9_readsPerson : ByteArray := prog_28_method_28_code
def yX9_readsPerson : MethodName := ⟨RX9, "readsPerson", "()Z"⟩
def dkwX9_readsPerson_8 : List UInt8 := [172]
abbrev dktX9_readsPerson_8 : List UInt8 := dkwX9_readsPerson_8 ++ []
def dkwX9_readsPerson_7 : List UInt8 := [120, 128, 79, 42, 182, 0, 254, 167, 255, 197, 42, 180, 0, 13, 8, 92, 46, 4, 96, 79, 42, 182, 1, 19]
abbrev dktX9_readsPerson_7 : List UInt8 := dkwX9_readsPerson_7 ++ dktX9_readsPerson_8
def dkwX9_readsPerson_6 : List UInt8 := [46, 28, 122, 4, 126, 4, 160, 0, 9, 42, 6, 182, 0, 247, 172, 42, 180, 0, 29, 27, 92, 46, 4, 28]
abbrev dktX9_readsPerson_6 : List UInt8 := dkwX9_readsPerson_6 ++ dktX9_readsPerson_7
def dkwX9_readsPerson_5 : List UInt8 := [154, 0, 58, 42, 3, 182, 0, 236, 61, 28, 156, 0, 9, 42, 5, 182, 0, 247, 172, 42, 180, 0, 29, 27]
abbrev dktX9_readsPerson_5 : List UInt8 := dkwX9_readsPerson_5 ++ dktX9_readsPerson_6
def dkwX9_readsPerson_4 : List UInt8 := [182, 0, 247, 172, 42, 182, 0, 254, 42, 20, 0, 216, 182, 1, 22, 154, 0, 5, 3, 172, 42, 182, 0, 232]
abbrev dktX9_readsPerson_4 : List UInt8 := dkwX9_readsPerson_4 ++ dktX9_readsPerson_5
def dkwX9_readsPerson_3 : List UInt8 := [42, 4, 182, 0, 236, 79, 42, 180, 0, 29, 27, 3, 79, 42, 180, 0, 26, 27, 46, 156, 0, 9, 42, 5]
abbrev dktX9_readsPerson_3 : List UInt8 := dkwX9_readsPerson_3 ++ dktX9_readsPerson_4
def dkwX9_readsPerson_2 : List UInt8 := [153, 0, 9, 42, 4, 182, 0, 247, 172, 16, 6, 42, 180, 0, 13, 8, 46, 96, 60, 42, 180, 0, 26, 27]
abbrev dktX9_readsPerson_2 : List UInt8 := dkwX9_readsPerson_2 ++ dktX9_readsPerson_3
def dkwX9_readsPerson_1 : List UInt8 := [182, 1, 13, 153, 0, 13, 42, 20, 0, 214, 182, 1, 22, 154, 0, 5, 3, 172, 42, 182, 0, 232]
abbrev dktX9_readsPerson_1 : List UInt8 := dkwX9_readsPerson_1 ++ dktX9_readsPerson_2
def dkwX9_readsPerson_0 : List UInt8 := [42, 180, 0, 13, 8, 46, 16, 6, 160, 0, 9, 42, 8, 182, 0, 247, 172, 42, 182, 0, 254, 42, 5]
abbrev dktX9_readsPerson_0 : List UInt8 := dkwX9_readsPerson_0 ++ dktX9_readsPerson_1
theorem dksX9_readsPerson_0 : cX9_readsPerson.data.toList.drop 0 = dktX9_readsPerson_0 := by decide +kernel
theorem dksX9_readsPerson_1 : cX9_readsPerson.data.toList.drop 23 = dktX9_readsPerson_1 := dk_seg dksX9_readsPerson_0 23 rfl rfl
theorem dksX9_readsPerson_2 : cX9_readsPerson.data.toList.drop 45 = dktX9_readsPerson_2 := dk_seg dksX9_readsPerson_1 22 rfl rfl
theorem dksX9_readsPerson_3 : cX9_readsPerson.data.toList.drop 69 = dktX9_readsPerson_3 := dk_seg dksX9_readsPerson_2 24 rfl rfl
theorem dksX9_readsPerson_4 : cX9_readsPerson.data.toList.drop 93 = dktX9_readsPerson_4 := dk_seg dksX9_readsPerson_3 24 rfl rfl
theorem dksX9_readsPerson_5 : cX9_readsPerson.data.toList.drop 117 = dktX9_readsPerson_5 := dk_seg dksX9_readsPerson_4 24 rfl rfl
theorem dksX9_readsPerson_6 : cX9_readsPerson.data.toList.drop 141 = dktX9_readsPerson_6 := dk_seg dksX9_readsPerson_5 24 rfl rfl
theorem dksX9_readsPerson_7 : cX9_readsPerson.data.toList.drop 165 = dktX9_readsPerson_7 := dk_seg dksX9_readsPerson_6 24 rfl rfl
theorem dksX9_readsPerson_8 : cX9_readsPerson.data.toList.drop 189 = dktX9_readsPerson_8 := dk_seg dksX9_readsPerson_7 24 rfl rfl
theorem dX9_readsPerson_0 : decode cX9_readsPerson 0 = .ok (.aload_n 0, 1) := dk_42 (dk_at dksX9_readsPerson_0 0 rfl rfl)
theorem dX9_readsPerson_1 : decode cX9_readsPerson 1 = .ok (.getfield 13, 3) := dk_180 0 13 (dk_at dksX9_readsPerson_0 1 rfl rfl)
theorem dX9_readsPerson_4 : decode cX9_readsPerson 4 = .ok (.iconst 5, 1) := dk_8 (dk_at dksX9_readsPerson_0 4 rfl rfl)
theorem dX9_readsPerson_5 : decode cX9_readsPerson 5 = .ok (.iaload, 1) := dk_46 (dk_at dksX9_readsPerson_0 5 rfl rfl)
theorem dX9_readsPerson_6 : decode cX9_readsPerson 6 = .ok (.bipush 6, 2) := dk_16 6 (dk_at dksX9_readsPerson_0 6 rfl rfl)
theorem dX9_readsPerson_8 : decode cX9_readsPerson 8 = .ok (.if_icmp .ne 9, 3) := dk_160 0 9 (dk_at dksX9_readsPerson_0 8 rfl rfl)
theorem dX9_readsPerson_11 : decode cX9_readsPerson 11 = .ok (.aload_n 0, 1) := dk_42 (dk_at dksX9_readsPerson_0 11 rfl rfl)
theorem dX9_readsPerson_12 : decode cX9_readsPerson 12 = .ok (.iconst 5, 1) := dk_8 (dk_at dksX9_readsPerson_0 12 rfl rfl)
theorem dX9_readsPerson_13 : decode cX9_readsPerson 13 = .ok (.invokevirtual 247, 3) := dk_182 0 247 (dk_at dksX9_readsPerson_0 13 rfl rfl)
theorem dX9_readsPerson_16 : decode cX9_readsPerson 16 = .ok (.ireturn, 1) := dk_172 (dk_at dksX9_readsPerson_0 16 rfl rfl)
theorem dX9_readsPerson_17 : decode cX9_readsPerson 17 = .ok (.aload_n 0, 1) := dk_42 (dk_at dksX9_readsPerson_0 17 rfl rfl)
theorem dX9_readsPerson_18 : decode cX9_readsPerson 18 = .ok (.invokevirtual 254, 3) := dk_182 0 254 (dk_at dksX9_readsPerson_0 18 rfl rfl)
theorem dX9_readsPerson_21 : decode cX9_readsPerson 21 = .ok (.aload_n 0, 1) := dk_42 (dk_at dksX9_readsPerson_0 21 rfl rfl)
theorem dX9_readsPerson_22 : decode cX9_readsPerson 22 = .ok (.iconst 2, 1) := dk_5 (dk_at dksX9_readsPerson_0 22 rfl rfl)
theorem dX9_readsPerson_23 : decode cX9_readsPerson 23 = .ok (.invokevirtual 269, 3) := dk_182 1 13 (dk_at dksX9_readsPerson_1 0 rfl rfl)
theorem dX9_readsPerson_26 : decode cX9_readsPerson 26 = .ok (.ifCond .eq 13, 3) := dk_153 0 13 (dk_at dksX9_readsPerson_1 3 rfl rfl)
theorem dX9_readsPerson_29 : decode cX9_readsPerson 29 = .ok (.aload_n 0, 1) := dk_42 (dk_at dksX9_readsPerson_1 6 rfl rfl)
theorem dX9_readsPerson_30 : decode cX9_readsPerson 30 = .ok (.ldc2_w 214, 3) := dk_20 0 214 (dk_at dksX9_readsPerson_1 7 rfl rfl)
theorem dX9_readsPerson_33 : decode cX9_readsPerson 33 = .ok (.invokevirtual 278, 3) := dk_182 1 22 (dk_at dksX9_readsPerson_1 10 rfl rfl)
theorem dX9_readsPerson_36 : decode cX9_readsPerson 36 = .ok (.ifCond .ne 5, 3) := dk_154 0 5 (dk_at dksX9_readsPerson_1 13 rfl rfl)
theorem dX9_readsPerson_39 : decode cX9_readsPerson 39 = .ok (.iconst 0, 1) := dk_3 (dk_at dksX9_readsPerson_1 16 rfl rfl)
theorem dX9_readsPerson_40 : decode cX9_readsPerson 40 = .ok (.ireturn, 1) := dk_172 (dk_at dksX9_readsPerson_1 17 rfl rfl)
theorem dX9_readsPerson_41 : decode cX9_readsPerson 41 = .ok (.aload_n 0, 1) := dk_42 (dk_at dksX9_readsPerson_1 18 rfl rfl)
theorem dX9_readsPerson_42 : decode cX9_readsPerson 42 = .ok (.invokevirtual 232, 3) := dk_182 0 232 (dk_at dksX9_readsPerson_1 19 rfl rfl)
theorem dX9_readsPerson_45 : decode cX9_readsPerson 45 = .ok (.ifCond .eq 9, 3) := dk_153 0 9 (dk_at dksX9_readsPerson_2 0 rfl rfl)
theorem dX9_readsPerson_48 : decode cX9_readsPerson 48 = .ok (.aload_n 0, 1) := dk_42 (dk_at dksX9_readsPerson_2 3 rfl rfl)
theorem dX9_readsPerson_49 : decode cX9_readsPerson 49 = .ok (.iconst 1, 1) := dk_4 (dk_at dksX9_readsPerson_2 4 rfl rfl)
theorem dX9_readsPerson_50 : decode cX9_readsPerson 50 = .ok (.invokevirtual 247, 3) := dk_182 0 247 (dk_at dksX9_readsPerson_2 5 rfl rfl)
theorem dX9_readsPerson_53 : decode cX9_readsPerson 53 = .ok (.ireturn, 1) := dk_172 (dk_at dksX9_readsPerson_2 8 rfl rfl)
theorem dX9_readsPerson_54 : decode cX9_readsPerson 54 = .ok (.bipush 6, 2) := dk_16 6 (dk_at dksX9_readsPerson_2 9 rfl rfl)
theorem dX9_readsPerson_56 : decode cX9_readsPerson 56 = .ok (.aload_n 0, 1) := dk_42 (dk_at dksX9_readsPerson_2 11 rfl rfl)
theorem dX9_readsPerson_57 : decode cX9_readsPerson 57 = .ok (.getfield 13, 3) := dk_180 0 13 (dk_at dksX9_readsPerson_2 12 rfl rfl)
theorem dX9_readsPerson_60 : decode cX9_readsPerson 60 = .ok (.iconst 5, 1) := dk_8 (dk_at dksX9_readsPerson_2 15 rfl rfl)
theorem dX9_readsPerson_61 : decode cX9_readsPerson 61 = .ok (.iaload, 1) := dk_46 (dk_at dksX9_readsPerson_2 16 rfl rfl)
theorem dX9_readsPerson_62 : decode cX9_readsPerson 62 = .ok (.iadd, 1) := dk_96 (dk_at dksX9_readsPerson_2 17 rfl rfl)
theorem dX9_readsPerson_63 : decode cX9_readsPerson 63 = .ok (.istore_n 1, 1) := dk_60 (dk_at dksX9_readsPerson_2 18 rfl rfl)
theorem dX9_readsPerson_64 : decode cX9_readsPerson 64 = .ok (.aload_n 0, 1) := dk_42 (dk_at dksX9_readsPerson_2 19 rfl rfl)
theorem dX9_readsPerson_65 : decode cX9_readsPerson 65 = .ok (.getfield 26, 3) := dk_180 0 26 (dk_at dksX9_readsPerson_2 20 rfl rfl)
theorem dX9_readsPerson_68 : decode cX9_readsPerson 68 = .ok (.iload_n 1, 1) := dk_27 (dk_at dksX9_readsPerson_2 23 rfl rfl)
theorem dX9_readsPerson_69 : decode cX9_readsPerson 69 = .ok (.aload_n 0, 1) := dk_42 (dk_at dksX9_readsPerson_3 0 rfl rfl)
theorem dX9_readsPerson_70 : decode cX9_readsPerson 70 = .ok (.iconst 1, 1) := dk_4 (dk_at dksX9_readsPerson_3 1 rfl rfl)
theorem dX9_readsPerson_71 : decode cX9_readsPerson 71 = .ok (.invokevirtual 236, 3) := dk_182 0 236 (dk_at dksX9_readsPerson_3 2 rfl rfl)
theorem dX9_readsPerson_74 : decode cX9_readsPerson 74 = .ok (.iastore, 1) := dk_79 (dk_at dksX9_readsPerson_3 5 rfl rfl)
theorem dX9_readsPerson_75 : decode cX9_readsPerson 75 = .ok (.aload_n 0, 1) := dk_42 (dk_at dksX9_readsPerson_3 6 rfl rfl)
theorem dX9_readsPerson_76 : decode cX9_readsPerson 76 = .ok (.getfield 29, 3) := dk_180 0 29 (dk_at dksX9_readsPerson_3 7 rfl rfl)
theorem dX9_readsPerson_79 : decode cX9_readsPerson 79 = .ok (.iload_n 1, 1) := dk_27 (dk_at dksX9_readsPerson_3 10 rfl rfl)
theorem dX9_readsPerson_80 : decode cX9_readsPerson 80 = .ok (.iconst 0, 1) := dk_3 (dk_at dksX9_readsPerson_3 11 rfl rfl)
theorem dX9_readsPerson_81 : decode cX9_readsPerson 81 = .ok (.iastore, 1) := dk_79 (dk_at dksX9_readsPerson_3 12 rfl rfl)
theorem dX9_readsPerson_82 : decode cX9_readsPerson 82 = .ok (.aload_n 0, 1) := dk_42 (dk_at dksX9_readsPerson_3 13 rfl rfl)
theorem dX9_readsPerson_83 : decode cX9_readsPerson 83 = .ok (.getfield 26, 3) := dk_180 0 26 (dk_at dksX9_readsPerson_3 14 rfl rfl)
theorem dX9_readsPerson_86 : decode cX9_readsPerson 86 = .ok (.iload_n 1, 1) := dk_27 (dk_at dksX9_readsPerson_3 17 rfl rfl)
theorem dX9_readsPerson_87 : decode cX9_readsPerson 87 = .ok (.iaload, 1) := dk_46 (dk_at dksX9_readsPerson_3 18 rfl rfl)
theorem dX9_readsPerson_88 : decode cX9_readsPerson 88 = .ok (.ifCond .ge 9, 3) := dk_156 0 9 (dk_at dksX9_readsPerson_3 19 rfl rfl)
theorem dX9_readsPerson_91 : decode cX9_readsPerson 91 = .ok (.aload_n 0, 1) := dk_42 (dk_at dksX9_readsPerson_3 22 rfl rfl)
theorem dX9_readsPerson_92 : decode cX9_readsPerson 92 = .ok (.iconst 2, 1) := dk_5 (dk_at dksX9_readsPerson_3 23 rfl rfl)
theorem dX9_readsPerson_93 : decode cX9_readsPerson 93 = .ok (.invokevirtual 247, 3) := dk_182 0 247 (dk_at dksX9_readsPerson_4 0 rfl rfl)
theorem dX9_readsPerson_96 : decode cX9_readsPerson 96 = .ok (.ireturn, 1) := dk_172 (dk_at dksX9_readsPerson_4 3 rfl rfl)
theorem dX9_readsPerson_97 : decode cX9_readsPerson 97 = .ok (.aload_n 0, 1) := dk_42 (dk_at dksX9_readsPerson_4 4 rfl rfl)
theorem dX9_readsPerson_98 : decode cX9_readsPerson 98 = .ok (.invokevirtual 254, 3) := dk_182 0 254 (dk_at dksX9_readsPerson_4 5 rfl rfl)
theorem dX9_readsPerson_101 : decode cX9_readsPerson 101 = .ok (.aload_n 0, 1) := dk_42 (dk_at dksX9_readsPerson_4 8 rfl rfl)
theorem dX9_readsPerson_102 : decode cX9_readsPerson 102 = .ok (.ldc2_w 216, 3) := dk_20 0 216 (dk_at dksX9_readsPerson_4 9 rfl rfl)
theorem dX9_readsPerson_105 : decode cX9_readsPerson 105 = .ok (.invokevirtual 278, 3) := dk_182 1 22 (dk_at dksX9_readsPerson_4 12 rfl rfl)
theorem dX9_readsPerson_108 : decode cX9_readsPerson 108 = .ok (.ifCond .ne 5, 3) := dk_154 0 5 (dk_at dksX9_readsPerson_4 15 rfl rfl)
theorem dX9_readsPerson_111 : decode cX9_readsPerson 111 = .ok (.iconst 0, 1) := dk_3 (dk_at dksX9_readsPerson_4 18 rfl rfl)
theorem dX9_readsPerson_112 : decode cX9_readsPerson 112 = .ok (.ireturn, 1) := dk_172 (dk_at dksX9_readsPerson_4 19 rfl rfl)
theorem dX9_readsPerson_113 : decode cX9_readsPerson 113 = .ok (.aload_n 0, 1) := dk_42 (dk_at dksX9_readsPerson_4 20 rfl rfl)
theorem dX9_readsPerson_114 : decode cX9_readsPerson 114 = .ok (.invokevirtual 232, 3) := dk_182 0 232 (dk_at dksX9_readsPerson_4 21 rfl rfl)
theorem dX9_readsPerson_117 : decode cX9_readsPerson 117 = .ok (.ifCond .ne 58, 3) := dk_154 0 58 (dk_at dksX9_readsPerson_5 0 rfl rfl)
theorem dX9_readsPerson_120 : decode cX9_readsPerson 120 = .ok (.aload_n 0, 1) := dk_42 (dk_at dksX9_readsPerson_5 3 rfl rfl)
theorem dX9_readsPerson_121 : decode cX9_readsPerson 121 = .ok (.iconst 0, 1) := dk_3 (dk_at dksX9_readsPerson_5 4 rfl rfl)
theorem dX9_readsPerson_122 : decode cX9_readsPerson 122 = .ok (.invokevirtual 236, 3) := dk_182 0 236 (dk_at dksX9_readsPerson_5 5 rfl rfl)
theorem dX9_readsPerson_125 : decode cX9_readsPerson 125 = .ok (.istore_n 2, 1) := dk_61 (dk_at dksX9_readsPerson_5 8 rfl rfl)
theorem dX9_readsPerson_126 : decode cX9_readsPerson 126 = .ok (.iload_n 2, 1) := dk_28 (dk_at dksX9_readsPerson_5 9 rfl rfl)
theorem dX9_readsPerson_127 : decode cX9_readsPerson 127 = .ok (.ifCond .ge 9, 3) := dk_156 0 9 (dk_at dksX9_readsPerson_5 10 rfl rfl)
theorem dX9_readsPerson_130 : decode cX9_readsPerson 130 = .ok (.aload_n 0, 1) := dk_42 (dk_at dksX9_readsPerson_5 13 rfl rfl)
theorem dX9_readsPerson_131 : decode cX9_readsPerson 131 = .ok (.iconst 2, 1) := dk_5 (dk_at dksX9_readsPerson_5 14 rfl rfl)
theorem dX9_readsPerson_132 : decode cX9_readsPerson 132 = .ok (.invokevirtual 247, 3) := dk_182 0 247 (dk_at dksX9_readsPerson_5 15 rfl rfl)
theorem dX9_readsPerson_135 : decode cX9_readsPerson 135 = .ok (.ireturn, 1) := dk_172 (dk_at dksX9_readsPerson_5 18 rfl rfl)
theorem dX9_readsPerson_136 : decode cX9_readsPerson 136 = .ok (.aload_n 0, 1) := dk_42 (dk_at dksX9_readsPerson_5 19 rfl rfl)
theorem dX9_readsPerson_137 : decode cX9_readsPerson 137 = .ok (.getfield 29, 3) := dk_180 0 29 (dk_at dksX9_readsPerson_5 20 rfl rfl)
theorem dX9_readsPerson_140 : decode cX9_readsPerson 140 = .ok (.iload_n 1, 1) := dk_27 (dk_at dksX9_readsPerson_5 23 rfl rfl)
theorem dX9_readsPerson_141 : decode cX9_readsPerson 141 = .ok (.iaload, 1) := dk_46 (dk_at dksX9_readsPerson_6 0 rfl rfl)
theorem dX9_readsPerson_142 : decode cX9_readsPerson 142 = .ok (.iload_n 2, 1) := dk_28 (dk_at dksX9_readsPerson_6 1 rfl rfl)
theorem dX9_readsPerson_143 : decode cX9_readsPerson 143 = .ok (.ishr, 1) := dk_122 (dk_at dksX9_readsPerson_6 2 rfl rfl)
theorem dX9_readsPerson_144 : decode cX9_readsPerson 144 = .ok (.iconst 1, 1) := dk_4 (dk_at dksX9_readsPerson_6 3 rfl rfl)
theorem dX9_readsPerson_145 : decode cX9_readsPerson 145 = .ok (.iand, 1) := dk_126 (dk_at dksX9_readsPerson_6 4 rfl rfl)
theorem dX9_readsPerson_146 : decode cX9_readsPerson 146 = .ok (.iconst 1, 1) := dk_4 (dk_at dksX9_readsPerson_6 5 rfl rfl)
theorem dX9_readsPerson_147 : decode cX9_readsPerson 147 = .ok (.if_icmp .ne 9, 3) := dk_160 0 9 (dk_at dksX9_readsPerson_6 6 rfl rfl)
theorem dX9_readsPerson_150 : decode cX9_readsPerson 150 = .ok (.aload_n 0, 1) := dk_42 (dk_at dksX9_readsPerson_6 9 rfl rfl)
theorem dX9_readsPerson_151 : decode cX9_readsPerson 151 = .ok (.iconst 3, 1) := dk_6 (dk_at dksX9_readsPerson_6 10 rfl rfl)
theorem dX9_readsPerson_152 : decode cX9_readsPerson 152 = .ok (.invokevirtual 247, 3) := dk_182 0 247 (dk_at dksX9_readsPerson_6 11 rfl rfl)
theorem dX9_readsPerson_155 : decode cX9_readsPerson 155 = .ok (.ireturn, 1) := dk_172 (dk_at dksX9_readsPerson_6 14 rfl rfl)
theorem dX9_readsPerson_156 : decode cX9_readsPerson 156 = .ok (.aload_n 0, 1) := dk_42 (dk_at dksX9_readsPerson_6 15 rfl rfl)
theorem dX9_readsPerson_157 : decode cX9_readsPerson 157 = .ok (.getfield 29, 3) := dk_180 0 29 (dk_at dksX9_readsPerson_6 16 rfl rfl)
theorem dX9_readsPerson_160 : decode cX9_readsPerson 160 = .ok (.iload_n 1, 1) := dk_27 (dk_at dksX9_readsPerson_6 19 rfl rfl)
theorem dX9_readsPerson_161 : decode cX9_readsPerson 161 = .ok (.dup2, 1) := dk_92 (dk_at dksX9_readsPerson_6 20 rfl rfl)
theorem dX9_readsPerson_162 : decode cX9_readsPerson 162 = .ok (.iaload, 1) := dk_46 (dk_at dksX9_readsPerson_6 21 rfl rfl)
theorem dX9_readsPerson_163 : decode cX9_readsPerson 163 = .ok (.iconst 1, 1) := dk_4 (dk_at dksX9_readsPerson_6 22 rfl rfl)
theorem dX9_readsPerson_164 : decode cX9_readsPerson 164 = .ok (.iload_n 2, 1) := dk_28 (dk_at dksX9_readsPerson_6 23 rfl rfl)
theorem dX9_readsPerson_165 : decode cX9_readsPerson 165 = .ok (.ishl, 1) := dk_120 (dk_at dksX9_readsPerson_7 0 rfl rfl)
theorem dX9_readsPerson_166 : decode cX9_readsPerson 166 = .ok (.ior, 1) := dk_128 (dk_at dksX9_readsPerson_7 1 rfl rfl)
theorem dX9_readsPerson_167 : decode cX9_readsPerson 167 = .ok (.iastore, 1) := dk_79 (dk_at dksX9_readsPerson_7 2 rfl rfl)
theorem dX9_readsPerson_168 : decode cX9_readsPerson 168 = .ok (.aload_n 0, 1) := dk_42 (dk_at dksX9_readsPerson_7 3 rfl rfl)
theorem dX9_readsPerson_169 : decode cX9_readsPerson 169 = .ok (.invokevirtual 254, 3) := dk_182 0 254 (dk_at dksX9_readsPerson_7 4 rfl rfl)
theorem dX9_readsPerson_172 : decode cX9_readsPerson 172 = .ok (.goto (-59), 3) := dk_167 255 197 (dk_at dksX9_readsPerson_7 7 rfl rfl)
theorem dX9_readsPerson_175 : decode cX9_readsPerson 175 = .ok (.aload_n 0, 1) := dk_42 (dk_at dksX9_readsPerson_7 10 rfl rfl)
theorem dX9_readsPerson_176 : decode cX9_readsPerson 176 = .ok (.getfield 13, 3) := dk_180 0 13 (dk_at dksX9_readsPerson_7 11 rfl rfl)
theorem dX9_readsPerson_179 : decode cX9_readsPerson 179 = .ok (.iconst 5, 1) := dk_8 (dk_at dksX9_readsPerson_7 14 rfl rfl)
theorem dX9_readsPerson_180 : decode cX9_readsPerson 180 = .ok (.dup2, 1) := dk_92 (dk_at dksX9_readsPerson_7 15 rfl rfl)
theorem dX9_readsPerson_181 : decode cX9_readsPerson 181 = .ok (.iaload, 1) := dk_46 (dk_at dksX9_readsPerson_7 16 rfl rfl)
theorem dX9_readsPerson_182 : decode cX9_readsPerson 182 = .ok (.iconst 1, 1) := dk_4 (dk_at dksX9_readsPerson_7 17 rfl rfl)
theorem dX9_readsPerson_183 : decode cX9_readsPerson 183 = .ok (.iadd, 1) := dk_96 (dk_at dksX9_readsPerson_7 18 rfl rfl)
theorem dX9_readsPerson_184 : decode cX9_readsPerson 184 = .ok (.iastore, 1) := dk_79 (dk_at dksX9_readsPerson_7 19 rfl rfl)
theorem dX9_readsPerson_185 : decode cX9_readsPerson 185 = .ok (.aload_n 0, 1) := dk_42 (dk_at dksX9_readsPerson_7 20 rfl rfl)
theorem dX9_readsPerson_186 : decode cX9_readsPerson 186 = .ok (.invokevirtual 275, 3) := dk_182 1 19 (dk_at dksX9_readsPerson_7 21 rfl rfl)
theorem dX9_readsPerson_189 : decode cX9_readsPerson 189 = .ok (.ireturn, 1) := dk_172 (dk_at dksX9_readsPerson_8 0 rfl rfl)
abbrev cX9_readsCock : ByteArray := prog_28_method_29_code
def yX9_readsCock : MethodName := ⟨RX9, "readsCock", "()Z"⟩
def dkwX9_readsCock_5 : List UInt8 := [180, 0, 184, 79, 42, 180, 0, 38, 27, 4, 84, 42, 182, 0, 254, 42, 182, 1, 19, 172]
abbrev dktX9_readsCock_5 : List UInt8 := dkwX9_readsCock_5 ++ []
def dkwX9_readsCock_4 : List UInt8 := [182, 1, 22, 153, 0, 12, 42, 16, 60, 182, 1, 16, 154, 0, 5, 3, 172, 42, 180, 0, 35, 27, 42]
abbrev dktX9_readsCock_4 : List UInt8 := dkwX9_readsCock_4 ++ dktX9_readsCock_5
def dkwX9_readsCock_3 : List UInt8 := [154, 0, 5, 3, 172, 42, 180, 0, 32, 27, 42, 180, 0, 184, 79, 42, 182, 0, 254, 42, 20, 0, 224]
abbrev dktX9_readsCock_3 : List UInt8 := dkwX9_readsCock_3 ++ dktX9_readsCock_4
def dkwX9_readsCock_2 : List UInt8 := [180, 0, 184, 4, 84, 42, 182, 0, 254, 42, 20, 0, 222, 182, 1, 22, 153, 0, 11, 42, 4, 182, 1, 16]
abbrev dktX9_readsCock_2 : List UInt8 := dkwX9_readsCock_2 ++ dktX9_readsCock_3
def dkwX9_readsCock_1 : List UInt8 := [180, 0, 90, 42, 180, 0, 184, 51, 153, 0, 9, 42, 6, 182, 0, 247, 172, 42, 180, 0, 90, 42]
abbrev dktX9_readsCock_1 : List UInt8 := dkwX9_readsCock_1 ++ dktX9_readsCock_2
def dkwX9_readsCock_0 : List UInt8 := [42, 182, 0, 254, 42, 4, 182, 1, 16, 154, 0, 5, 3, 172, 5, 42, 180, 0, 184, 96, 60, 42]
abbrev dktX9_readsCock_0 : List UInt8 := dkwX9_readsCock_0 ++ dktX9_readsCock_1
theorem dksX9_readsCock_0 : cX9_readsCock.data.toList.drop 0 = dktX9_readsCock_0 := by decide +kernel
theorem dksX9_readsCock_1 : cX9_readsCock.data.toList.drop 22 = dktX9_readsCock_1 := dk_seg dksX9_readsCock_0 22 rfl rfl
theorem dksX9_readsCock_2 : cX9_readsCock.data.toList.drop 44 = dktX9_readsCock_2 := dk_seg dksX9_readsCock_1 22 rfl rfl
theorem dksX9_readsCock_3 : cX9_readsCock.data.toList.drop 68 = dktX9_readsCock_3 := dk_seg dksX9_readsCock_2 24 rfl rfl
theorem dksX9_readsCock_4 : cX9_readsCock.data.toList.drop 91 = dktX9_readsCock_4 := dk_seg dksX9_readsCock_3 23 rfl rfl
theorem dksX9_readsCock_5 : cX9_readsCock.data.toList.drop 114 = dktX9_readsCock_5 := dk_seg dksX9_readsCock_4 23 rfl rfl
theorem dX9_readsCock_0 : decode cX9_readsCock 0 = .ok (.aload_n 0, 1) := dk_42 (dk_at dksX9_readsCock_0 0 rfl rfl)
theorem dX9_readsCock_1 : decode cX9_readsCock 1 = .ok (.invokevirtual 254, 3) := dk_182 0 254 (dk_at dksX9_readsCock_0 1 rfl rfl)
theorem dX9_readsCock_4 : decode cX9_readsCock 4 = .ok (.aload_n 0, 1) := dk_42 (dk_at dksX9_readsCock_0 4 rfl rfl)
theorem dX9_readsCock_5 : decode cX9_readsCock 5 = .ok (.iconst 1, 1) := dk_4 (dk_at dksX9_readsCock_0 5 rfl rfl)
theorem dX9_readsCock_6 : decode cX9_readsCock 6 = .ok (.invokevirtual 272, 3) := dk_182 1 16 (dk_at dksX9_readsCock_0 6 rfl rfl)
theorem dX9_readsCock_9 : decode cX9_readsCock 9 = .ok (.ifCond .ne 5, 3) := dk_154 0 5 (dk_at dksX9_readsCock_0 9 rfl rfl)
theorem dX9_readsCock_12 : decode cX9_readsCock 12 = .ok (.iconst 0, 1) := dk_3 (dk_at dksX9_readsCock_0 12 rfl rfl)
theorem dX9_readsCock_13 : decode cX9_readsCock 13 = .ok (.ireturn, 1) := dk_172 (dk_at dksX9_readsCock_0 13 rfl rfl)
theorem dX9_readsCock_14 : decode cX9_readsCock 14 = .ok (.iconst 2, 1) := dk_5 (dk_at dksX9_readsCock_0 14 rfl rfl)
theorem dX9_readsCock_15 : decode cX9_readsCock 15 = .ok (.aload_n 0, 1) := dk_42 (dk_at dksX9_readsCock_0 15 rfl rfl)
theorem dX9_readsCock_16 : decode cX9_readsCock 16 = .ok (.getfield 184, 3) := dk_180 0 184 (dk_at dksX9_readsCock_0 16 rfl rfl)
theorem dX9_readsCock_19 : decode cX9_readsCock 19 = .ok (.iadd, 1) := dk_96 (dk_at dksX9_readsCock_0 19 rfl rfl)
theorem dX9_readsCock_20 : decode cX9_readsCock 20 = .ok (.istore_n 1, 1) := dk_60 (dk_at dksX9_readsCock_0 20 rfl rfl)
theorem dX9_readsCock_21 : decode cX9_readsCock 21 = .ok (.aload_n 0, 1) := dk_42 (dk_at dksX9_readsCock_0 21 rfl rfl)
theorem dX9_readsCock_22 : decode cX9_readsCock 22 = .ok (.getfield 90, 3) := dk_180 0 90 (dk_at dksX9_readsCock_1 0 rfl rfl)
theorem dX9_readsCock_25 : decode cX9_readsCock 25 = .ok (.aload_n 0, 1) := dk_42 (dk_at dksX9_readsCock_1 3 rfl rfl)
theorem dX9_readsCock_26 : decode cX9_readsCock 26 = .ok (.getfield 184, 3) := dk_180 0 184 (dk_at dksX9_readsCock_1 4 rfl rfl)
theorem dX9_readsCock_29 : decode cX9_readsCock 29 = .ok (.baload, 1) := dk_51 (dk_at dksX9_readsCock_1 7 rfl rfl)
theorem dX9_readsCock_30 : decode cX9_readsCock 30 = .ok (.ifCond .eq 9, 3) := dk_153 0 9 (dk_at dksX9_readsCock_1 8 rfl rfl)
theorem dX9_readsCock_33 : decode cX9_readsCock 33 = .ok (.aload_n 0, 1) := dk_42 (dk_at dksX9_readsCock_1 11 rfl rfl)
theorem dX9_readsCock_34 : decode cX9_readsCock 34 = .ok (.iconst 3, 1) := dk_6 (dk_at dksX9_readsCock_1 12 rfl rfl)
theorem dX9_readsCock_35 : decode cX9_readsCock 35 = .ok (.invokevirtual 247, 3) := dk_182 0 247 (dk_at dksX9_readsCock_1 13 rfl rfl)
theorem dX9_readsCock_38 : decode cX9_readsCock 38 = .ok (.ireturn, 1) := dk_172 (dk_at dksX9_readsCock_1 16 rfl rfl)
theorem dX9_readsCock_39 : decode cX9_readsCock 39 = .ok (.aload_n 0, 1) := dk_42 (dk_at dksX9_readsCock_1 17 rfl rfl)
theorem dX9_readsCock_40 : decode cX9_readsCock 40 = .ok (.getfield 90, 3) := dk_180 0 90 (dk_at dksX9_readsCock_1 18 rfl rfl)
theorem dX9_readsCock_43 : decode cX9_readsCock 43 = .ok (.aload_n 0, 1) := dk_42 (dk_at dksX9_readsCock_1 21 rfl rfl)
theorem dX9_readsCock_44 : decode cX9_readsCock 44 = .ok (.getfield 184, 3) := dk_180 0 184 (dk_at dksX9_readsCock_2 0 rfl rfl)
theorem dX9_readsCock_47 : decode cX9_readsCock 47 = .ok (.iconst 1, 1) := dk_4 (dk_at dksX9_readsCock_2 3 rfl rfl)
theorem dX9_readsCock_48 : decode cX9_readsCock 48 = .ok (.bastore, 1) := dk_84 (dk_at dksX9_readsCock_2 4 rfl rfl)
theorem dX9_readsCock_49 : decode cX9_readsCock 49 = .ok (.aload_n 0, 1) := dk_42 (dk_at dksX9_readsCock_2 5 rfl rfl)
theorem dX9_readsCock_50 : decode cX9_readsCock 50 = .ok (.invokevirtual 254, 3) := dk_182 0 254 (dk_at dksX9_readsCock_2 6 rfl rfl)
theorem dX9_readsCock_53 : decode cX9_readsCock 53 = .ok (.aload_n 0, 1) := dk_42 (dk_at dksX9_readsCock_2 9 rfl rfl)
theorem dX9_readsCock_54 : decode cX9_readsCock 54 = .ok (.ldc2_w 222, 3) := dk_20 0 222 (dk_at dksX9_readsCock_2 10 rfl rfl)
theorem dX9_readsCock_57 : decode cX9_readsCock 57 = .ok (.invokevirtual 278, 3) := dk_182 1 22 (dk_at dksX9_readsCock_2 13 rfl rfl)
theorem dX9_readsCock_60 : decode cX9_readsCock 60 = .ok (.ifCond .eq 11, 3) := dk_153 0 11 (dk_at dksX9_readsCock_2 16 rfl rfl)
theorem dX9_readsCock_63 : decode cX9_readsCock 63 = .ok (.aload_n 0, 1) := dk_42 (dk_at dksX9_readsCock_2 19 rfl rfl)
theorem dX9_readsCock_64 : decode cX9_readsCock 64 = .ok (.iconst 1, 1) := dk_4 (dk_at dksX9_readsCock_2 20 rfl rfl)
theorem dX9_readsCock_65 : decode cX9_readsCock 65 = .ok (.invokevirtual 272, 3) := dk_182 1 16 (dk_at dksX9_readsCock_2 21 rfl rfl)
theorem dX9_readsCock_68 : decode cX9_readsCock 68 = .ok (.ifCond .ne 5, 3) := dk_154 0 5 (dk_at dksX9_readsCock_3 0 rfl rfl)
theorem dX9_readsCock_71 : decode cX9_readsCock 71 = .ok (.iconst 0, 1) := dk_3 (dk_at dksX9_readsCock_3 3 rfl rfl)
theorem dX9_readsCock_72 : decode cX9_readsCock 72 = .ok (.ireturn, 1) := dk_172 (dk_at dksX9_readsCock_3 4 rfl rfl)
theorem dX9_readsCock_73 : decode cX9_readsCock 73 = .ok (.aload_n 0, 1) := dk_42 (dk_at dksX9_readsCock_3 5 rfl rfl)
theorem dX9_readsCock_74 : decode cX9_readsCock 74 = .ok (.getfield 32, 3) := dk_180 0 32 (dk_at dksX9_readsCock_3 6 rfl rfl)
theorem dX9_readsCock_77 : decode cX9_readsCock 77 = .ok (.iload_n 1, 1) := dk_27 (dk_at dksX9_readsCock_3 9 rfl rfl)
theorem dX9_readsCock_78 : decode cX9_readsCock 78 = .ok (.aload_n 0, 1) := dk_42 (dk_at dksX9_readsCock_3 10 rfl rfl)
theorem dX9_readsCock_79 : decode cX9_readsCock 79 = .ok (.getfield 184, 3) := dk_180 0 184 (dk_at dksX9_readsCock_3 11 rfl rfl)
theorem dX9_readsCock_82 : decode cX9_readsCock 82 = .ok (.iastore, 1) := dk_79 (dk_at dksX9_readsCock_3 14 rfl rfl)
theorem dX9_readsCock_83 : decode cX9_readsCock 83 = .ok (.aload_n 0, 1) := dk_42 (dk_at dksX9_readsCock_3 15 rfl rfl)
theorem dX9_readsCock_84 : decode cX9_readsCock 84 = .ok (.invokevirtual 254, 3) := dk_182 0 254 (dk_at dksX9_readsCock_3 16 rfl rfl)
theorem dX9_readsCock_87 : decode cX9_readsCock 87 = .ok (.aload_n 0, 1) := dk_42 (dk_at dksX9_readsCock_3 19 rfl rfl)
theorem dX9_readsCock_88 : decode cX9_readsCock 88 = .ok (.ldc2_w 224, 3) := dk_20 0 224 (dk_at dksX9_readsCock_3 20 rfl rfl)
theorem dX9_readsCock_91 : decode cX9_readsCock 91 = .ok (.invokevirtual 278, 3) := dk_182 1 22 (dk_at dksX9_readsCock_4 0 rfl rfl)
theorem dX9_readsCock_94 : decode cX9_readsCock 94 = .ok (.ifCond .eq 12, 3) := dk_153 0 12 (dk_at dksX9_readsCock_4 3 rfl rfl)
theorem dX9_readsCock_97 : decode cX9_readsCock 97 = .ok (.aload_n 0, 1) := dk_42 (dk_at dksX9_readsCock_4 6 rfl rfl)
theorem dX9_readsCock_98 : decode cX9_readsCock 98 = .ok (.bipush 60, 2) := dk_16 60 (dk_at dksX9_readsCock_4 7 rfl rfl)
theorem dX9_readsCock_100 : decode cX9_readsCock 100 = .ok (.invokevirtual 272, 3) := dk_182 1 16 (dk_at dksX9_readsCock_4 9 rfl rfl)
theorem dX9_readsCock_103 : decode cX9_readsCock 103 = .ok (.ifCond .ne 5, 3) := dk_154 0 5 (dk_at dksX9_readsCock_4 12 rfl rfl)
theorem dX9_readsCock_106 : decode cX9_readsCock 106 = .ok (.iconst 0, 1) := dk_3 (dk_at dksX9_readsCock_4 15 rfl rfl)
theorem dX9_readsCock_107 : decode cX9_readsCock 107 = .ok (.ireturn, 1) := dk_172 (dk_at dksX9_readsCock_4 16 rfl rfl)
theorem dX9_readsCock_108 : decode cX9_readsCock 108 = .ok (.aload_n 0, 1) := dk_42 (dk_at dksX9_readsCock_4 17 rfl rfl)
theorem dX9_readsCock_109 : decode cX9_readsCock 109 = .ok (.getfield 35, 3) := dk_180 0 35 (dk_at dksX9_readsCock_4 18 rfl rfl)
theorem dX9_readsCock_112 : decode cX9_readsCock 112 = .ok (.iload_n 1, 1) := dk_27 (dk_at dksX9_readsCock_4 21 rfl rfl)
theorem dX9_readsCock_113 : decode cX9_readsCock 113 = .ok (.aload_n 0, 1) := dk_42 (dk_at dksX9_readsCock_4 22 rfl rfl)
theorem dX9_readsCock_114 : decode cX9_readsCock 114 = .ok (.getfield 184, 3) := dk_180 0 184 (dk_at dksX9_readsCock_5 0 rfl rfl)
theorem dX9_readsCock_117 : decode cX9_readsCock 117 = .ok (.iastore, 1) := dk_79 (dk_at dksX9_readsCock_5 3 rfl rfl)
theorem dX9_readsCock_118 : decode cX9_readsCock 118 = .ok (.aload_n 0, 1) := dk_42 (dk_at dksX9_readsCock_5 4 rfl rfl)
theorem dX9_readsCock_119 : decode cX9_readsCock 119 = .ok (.getfield 38, 3) := dk_180 0 38 (dk_at dksX9_readsCock_5 5 rfl rfl)
theorem dX9_readsCock_122 : decode cX9_readsCock 122 = .ok (.iload_n 1, 1) := dk_27 (dk_at dksX9_readsCock_5 8 rfl rfl)
theorem dX9_readsCock_123 : decode cX9_readsCock 123 = .ok (.iconst 1, 1) := dk_4 (dk_at dksX9_readsCock_5 9 rfl rfl)
theorem dX9_readsCock_124 : decode cX9_readsCock 124 = .ok (.bastore, 1) := dk_84 (dk_at dksX9_readsCock_5 10 rfl rfl)
theorem dX9_readsCock_125 : decode cX9_readsCock 125 = .ok (.aload_n 0, 1) := dk_42 (dk_at dksX9_readsCock_5 11 rfl rfl)
theorem dX9_readsCock_126 : decode cX9_readsCock 126 = .ok (.invokevirtual 254, 3) := dk_182 0 254 (dk_at dksX9_readsCock_5 12 rfl rfl)
theorem dX9_readsCock_129 : decode cX9_readsCock 129 = .ok (.aload_n 0, 1) := dk_42 (dk_at dksX9_readsCock_5 15 rfl rfl)
theorem dX9_readsCock_130 : decode cX9_readsCock 130 = .ok (.invokevirtual 275, 3) := dk_182 1 19 (dk_at dksX9_readsCock_5 16 rfl rfl)
theorem dX9_readsCock_133 : decode cX9_readsCock 133 = .ok (.ireturn, 1) := dk_172 (dk_at dksX9_readsCock_5 19 rfl rfl)
abbrev cX9_readsCommon : ByteArray := prog_28_method_30_code
def yX9_readsCommon : MethodName := ⟨RX9, "readsCommon", "()Z"⟩
def dkwX9_readsCommon_2 : List UInt8 := [180, 1, 25, 4, 96, 181, 1, 25, 42, 182, 1, 19, 172]
abbrev dktX9_readsCommon_2 : List UInt8 := dkwX9_readsCommon_2 ++ []
def dkwX9_readsCommon_1 : List UInt8 := [154, 0, 5, 3, 172, 42, 180, 0, 93, 42, 180, 1, 25, 42, 16, 6, 182, 1, 32, 80, 42, 89]
abbrev dktX9_readsCommon_1 : List UInt8 := dkwX9_readsCommon_1 ++ dktX9_readsCommon_2
def dkwX9_readsCommon_0 : List UInt8 := [42, 180, 1, 25, 7, 160, 0, 9, 42, 8, 182, 0, 247, 172, 42, 182, 0, 254, 42, 3, 182, 1, 28]
abbrev dktX9_readsCommon_0 : List UInt8 := dkwX9_readsCommon_0 ++ dktX9_readsCommon_1
theorem dksX9_readsCommon_0 : cX9_readsCommon.data.toList.drop 0 = dktX9_readsCommon_0 := by decide +kernel
theorem dksX9_readsCommon_1 : cX9_readsCommon.data.toList.drop 23 = dktX9_readsCommon_1 := dk_seg dksX9_readsCommon_0 23 rfl rfl
theorem dksX9_readsCommon_2 : cX9_readsCommon.data.toList.drop 45 = dktX9_readsCommon_2 := dk_seg dksX9_readsCommon_1 22 rfl rfl
theorem dX9_readsCommon_0 : decode cX9_readsCommon 0 = .ok (.aload_n 0, 1) := dk_42 (dk_at dksX9_readsCommon_0 0 rfl rfl)
theorem dX9_readsCommon_1 : decode cX9_readsCommon 1 = .ok (.getfield 281, 3) := dk_180 1 25 (dk_at dksX9_readsCommon_0 1 rfl rfl)
theorem dX9_readsCommon_4 : decode cX9_readsCommon 4 = .ok (.iconst 4, 1) := dk_7 (dk_at dksX9_readsCommon_0 4 rfl rfl)
theorem dX9_readsCommon_5 : decode cX9_readsCommon 5 = .ok (.if_icmp .ne 9, 3) := dk_160 0 9 (dk_at dksX9_readsCommon_0 5 rfl rfl)
theorem dX9_readsCommon_8 : decode cX9_readsCommon 8 = .ok (.aload_n 0, 1) := dk_42 (dk_at dksX9_readsCommon_0 8 rfl rfl)
theorem dX9_readsCommon_9 : decode cX9_readsCommon 9 = .ok (.iconst 5, 1) := dk_8 (dk_at dksX9_readsCommon_0 9 rfl rfl)
theorem dX9_readsCommon_10 : decode cX9_readsCommon 10 = .ok (.invokevirtual 247, 3) := dk_182 0 247 (dk_at dksX9_readsCommon_0 10 rfl rfl)
theorem dX9_readsCommon_13 : decode cX9_readsCommon 13 = .ok (.ireturn, 1) := dk_172 (dk_at dksX9_readsCommon_0 13 rfl rfl)
theorem dX9_readsCommon_14 : decode cX9_readsCommon 14 = .ok (.aload_n 0, 1) := dk_42 (dk_at dksX9_readsCommon_0 14 rfl rfl)
theorem dX9_readsCommon_15 : decode cX9_readsCommon 15 = .ok (.invokevirtual 254, 3) := dk_182 0 254 (dk_at dksX9_readsCommon_0 15 rfl rfl)
theorem dX9_readsCommon_18 : decode cX9_readsCommon 18 = .ok (.aload_n 0, 1) := dk_42 (dk_at dksX9_readsCommon_0 18 rfl rfl)
theorem dX9_readsCommon_19 : decode cX9_readsCommon 19 = .ok (.iconst 0, 1) := dk_3 (dk_at dksX9_readsCommon_0 19 rfl rfl)
theorem dX9_readsCommon_20 : decode cX9_readsCommon 20 = .ok (.invokevirtual 284, 3) := dk_182 1 28 (dk_at dksX9_readsCommon_0 20 rfl rfl)
theorem dX9_readsCommon_23 : decode cX9_readsCommon 23 = .ok (.ifCond .ne 5, 3) := dk_154 0 5 (dk_at dksX9_readsCommon_1 0 rfl rfl)
theorem dX9_readsCommon_26 : decode cX9_readsCommon 26 = .ok (.iconst 0, 1) := dk_3 (dk_at dksX9_readsCommon_1 3 rfl rfl)
theorem dX9_readsCommon_27 : decode cX9_readsCommon 27 = .ok (.ireturn, 1) := dk_172 (dk_at dksX9_readsCommon_1 4 rfl rfl)
theorem dX9_readsCommon_28 : decode cX9_readsCommon 28 = .ok (.aload_n 0, 1) := dk_42 (dk_at dksX9_readsCommon_1 5 rfl rfl)
theorem dX9_readsCommon_29 : decode cX9_readsCommon 29 = .ok (.getfield 93, 3) := dk_180 0 93 (dk_at dksX9_readsCommon_1 6 rfl rfl)
theorem dX9_readsCommon_32 : decode cX9_readsCommon 32 = .ok (.aload_n 0, 1) := dk_42 (dk_at dksX9_readsCommon_1 9 rfl rfl)
theorem dX9_readsCommon_33 : decode cX9_readsCommon 33 = .ok (.getfield 281, 3) := dk_180 1 25 (dk_at dksX9_readsCommon_1 10 rfl rfl)
theorem dX9_readsCommon_36 : decode cX9_readsCommon 36 = .ok (.aload_n 0, 1) := dk_42 (dk_at dksX9_readsCommon_1 13 rfl rfl)
theorem dX9_readsCommon_37 : decode cX9_readsCommon 37 = .ok (.bipush 6, 2) := dk_16 6 (dk_at dksX9_readsCommon_1 14 rfl rfl)
theorem dX9_readsCommon_39 : decode cX9_readsCommon 39 = .ok (.invokevirtual 288, 3) := dk_182 1 32 (dk_at dksX9_readsCommon_1 16 rfl rfl)
theorem dX9_readsCommon_42 : decode cX9_readsCommon 42 = .ok (.lastore, 1) := dk_80 (dk_at dksX9_readsCommon_1 19 rfl rfl)
theorem dX9_readsCommon_43 : decode cX9_readsCommon 43 = .ok (.aload_n 0, 1) := dk_42 (dk_at dksX9_readsCommon_1 20 rfl rfl)
theorem dX9_readsCommon_44 : decode cX9_readsCommon 44 = .ok (.dup, 1) := dk_89 (dk_at dksX9_readsCommon_1 21 rfl rfl)
theorem dX9_readsCommon_45 : decode cX9_readsCommon 45 = .ok (.getfield 281, 3) := dk_180 1 25 (dk_at dksX9_readsCommon_2 0 rfl rfl)
theorem dX9_readsCommon_48 : decode cX9_readsCommon 48 = .ok (.iconst 1, 1) := dk_4 (dk_at dksX9_readsCommon_2 3 rfl rfl)
theorem dX9_readsCommon_49 : decode cX9_readsCommon 49 = .ok (.iadd, 1) := dk_96 (dk_at dksX9_readsCommon_2 4 rfl rfl)
theorem dX9_readsCommon_50 : decode cX9_readsCommon 50 = .ok (.putfield 281, 3) := dk_181 1 25 (dk_at dksX9_readsCommon_2 5 rfl rfl)
theorem dX9_readsCommon_53 : decode cX9_readsCommon 53 = .ok (.aload_n 0, 1) := dk_42 (dk_at dksX9_readsCommon_2 8 rfl rfl)
theorem dX9_readsCommon_54 : decode cX9_readsCommon 54 = .ok (.invokevirtual 275, 3) := dk_182 1 19 (dk_at dksX9_readsCommon_2 9 rfl rfl)
theorem dX9_readsCommon_57 : decode cX9_readsCommon 57 = .ok (.ireturn, 1) := dk_172 (dk_at dksX9_readsCommon_2 12 rfl rfl)
abbrev cX9_reads : ByteArray := prog_28_method_16_code
def yX9_reads : MethodName := ⟨RX9, "reads", "(Z)Z"⟩
def dkwX9_reads_21 : List UInt8 := [182, 0, 247, 172, 42, 182, 0, 254, 167, 254, 29]
abbrev dktX9_reads_21 : List UInt8 := dkwX9_reads_21 ++ []
def dkwX9_reads_20 : List UInt8 := [42, 16, 59, 182, 0, 243, 153, 0, 15, 42, 180, 0, 51, 3, 42, 180, 0, 201, 79, 4, 172, 42, 4]
abbrev dktX9_reads_20 : List UInt8 := dkwX9_reads_20 ++ dktX9_reads_21
def dkwX9_reads_19 : List UInt8 := [132, 2, 255, 167, 255, 239, 28, 154, 0, 38, 27, 153, 0, 13, 42, 180, 0, 187, 154, 0, 27, 167, 0, 12]
abbrev dktX9_reads_19 : List UInt8 := dkwX9_reads_19 ++ dktX9_reads_20
def dkwX9_reads_18 : List UInt8 := [42, 16, 29, 182, 0, 250, 132, 2, 255, 28, 158, 0, 64, 42, 180, 0, 54, 28, 46, 4, 160, 0, 54]
abbrev dktX9_reads_18 : List UInt8 := dkwX9_reads_18 ++ dktX9_reads_19
def dkwX9_reads_17 : List UInt8 := [180, 0, 57, 28, 3, 84, 4, 62, 167, 0, 90, 42, 16, 41, 182, 0, 243, 153, 0, 36, 28, 158, 0, 32]
abbrev dktX9_reads_17 : List UInt8 := dkwX9_reads_17 ++ dktX9_reads_18
def dkwX9_reads_16 : List UInt8 := [42, 42, 20, 0, 228, 182, 0, 239, 153, 0, 8, 16, 26, 167, 0, 5, 16, 27, 182, 0, 250, 42]
abbrev dktX9_reads_16 : List UInt8 := dkwX9_reads_16 ++ dktX9_reads_17
def dkwX9_reads_15 : List UInt8 := [62, 167, 0, 143, 42, 20, 0, 228, 182, 0, 239, 154, 0, 13, 42, 20, 0, 230, 182, 0, 239, 153, 0, 36]
abbrev dktX9_reads_15 : List UInt8 := dkwX9_reads_15 ++ dktX9_reads_16
def dkwX9_reads_14 : List UInt8 := [182, 0, 243, 153, 0, 8, 16, 24, 167, 0, 5, 16, 25, 182, 0, 250, 42, 180, 0, 57, 28, 4, 84, 4]
abbrev dktX9_reads_14 : List UInt8 := dkwX9_reads_14 ++ dktX9_reads_15
def dkwX9_reads_13 : List UInt8 := [42, 16, 61, 182, 0, 243, 153, 0, 44, 42, 180, 0, 57, 28, 51, 154, 0, 35, 42, 42, 16, 60]
abbrev dktX9_reads_13 : List UInt8 := dkwX9_reads_13 ++ dktX9_reads_14
def dkwX9_reads_12 : List UInt8 := [16, 21, 167, 0, 5, 16, 22, 182, 0, 250, 4, 62, 167, 0, 202, 42, 16, 60, 182, 0, 243, 154, 0, 12]
abbrev dktX9_reads_12 : List UInt8 := dkwX9_reads_12 ++ dktX9_reads_13
def dkwX9_reads_11 : List UInt8 := [42, 42, 16, 43, 182, 0, 243, 153, 0, 8, 16, 20, 167, 0, 19, 42, 16, 45, 182, 0, 243, 153, 0, 8]
abbrev dktX9_reads_11 : List UInt8 := dkwX9_reads_11 ++ dktX9_reads_12
def dkwX9_reads_10 : List UInt8 := [182, 0, 243, 154, 0, 21, 42, 16, 45, 182, 0, 243, 154, 0, 12, 42, 16, 42, 182, 0, 243, 153, 0, 42]
abbrev dktX9_reads_10 : List UInt8 := dkwX9_reads_10 ++ dktX9_reads_11
def dkwX9_reads_9 : List UInt8 := [28, 46, 4, 160, 0, 9, 132, 2, 255, 167, 255, 239, 42, 182, 0, 254, 167, 255, 45, 42, 16, 43]
abbrev dktX9_reads_9 : List UInt8 := dkwX9_reads_9 ++ dktX9_reads_10
def dkwX9_reads_8 : List UInt8 := [96, 167, 0, 10, 16, 100, 42, 180, 0, 184, 96, 182, 0, 250, 3, 62, 28, 158, 0, 19, 42, 180, 0, 54]
abbrev dktX9_reads_8 : List UInt8 := dkwX9_reads_8 ++ dktX9_reads_9
def dkwX9_reads_7 : List UInt8 := [167, 0, 4, 5, 79, 42, 180, 0, 57, 28, 3, 84, 167, 0, 48, 42, 21, 4, 153, 0, 10, 4, 21, 5]
abbrev dktX9_reads_7 : List UInt8 := dkwX9_reads_7 ++ dktX9_reads_8
def dkwX9_reads_6 : List UInt8 := [167, 0, 5, 16, 28, 182, 0, 250, 132, 2, 1, 42, 180, 0, 54, 28, 21, 6, 153, 0, 7, 4]
abbrev dktX9_reads_6 : List UInt8 := dkwX9_reads_6 ++ dktX9_reads_7
def dkwX9_reads_5 : List UInt8 := [182, 0, 247, 172, 21, 6, 154, 0, 8, 21, 7, 153, 0, 48, 42, 21, 6, 153, 0, 8, 16, 30]
abbrev dktX9_reads_5 : List UInt8 := dkwX9_reads_5 ++ dktX9_reads_6
def dkwX9_reads_4 : List UInt8 := [154, 0, 17, 42, 180, 0, 187, 5, 159, 0, 9, 42, 4, 182, 0, 247, 172, 28, 8, 160, 0, 9, 42, 8]
abbrev dktX9_reads_4 : List UInt8 := dkwX9_reads_4 ++ dktX9_reads_5
def dkwX9_reads_3 : List UInt8 := [21, 5, 156, 0, 9, 42, 5, 182, 0, 247, 172, 21, 4, 154, 0, 27, 21, 6, 154, 0, 22, 21, 7]
abbrev dktX9_reads_3 : List UInt8 := dkwX9_reads_3 ++ dktX9_reads_4
def dkwX9_reads_2 : List UInt8 := [54, 5, 42, 20, 0, 226, 182, 0, 239, 54, 6, 42, 16, 40, 182, 0, 243, 54, 7, 21, 4, 153, 0, 14]
abbrev dktX9_reads_2 : List UInt8 := dkwX9_reads_2 ++ dktX9_reads_3
def dkwX9_reads_1 : List UInt8 := [154, 0, 7, 4, 167, 0, 4, 3, 54, 4, 21, 4, 153, 0, 11, 42, 3, 182, 0, 236, 167, 0, 4, 2]
abbrev dktX9_reads_1 : List UInt8 := dkwX9_reads_1 ++ dktX9_reads_2
def dkwX9_reads_0 : List UInt8 := [3, 61, 4, 62, 42, 180, 0, 57, 3, 3, 84, 42, 3, 181, 0, 201, 29, 153, 0, 213, 42, 182, 0, 232]
abbrev dktX9_reads_0 : List UInt8 := dkwX9_reads_0 ++ dktX9_reads_1
theorem dksX9_reads_0 : cX9_reads.data.toList.drop 0 = dktX9_reads_0 := by decide +kernel
theorem dksX9_reads_1 : cX9_reads.data.toList.drop 24 = dktX9_reads_1 := dk_seg dksX9_reads_0 24 rfl rfl
theorem dksX9_reads_2 : cX9_reads.data.toList.drop 48 = dktX9_reads_2 := dk_seg dksX9_reads_1 24 rfl rfl
theorem dksX9_reads_3 : cX9_reads.data.toList.drop 72 = dktX9_reads_3 := dk_seg dksX9_reads_2 24 rfl rfl
theorem dksX9_reads_4 : cX9_reads.data.toList.drop 95 = dktX9_reads_4 := dk_seg dksX9_reads_3 23 rfl rfl
theorem dksX9_reads_5 : cX9_reads.data.toList.drop 119 = dktX9_reads_5 := dk_seg dksX9_reads_4 24 rfl rfl
theorem dksX9_reads_6 : cX9_reads.data.toList.drop 141 = dktX9_reads_6 := dk_seg dksX9_reads_5 22 rfl rfl
theorem dksX9_reads_7 : cX9_reads.data.toList.drop 163 = dktX9_reads_7 := dk_seg dksX9_reads_6 22 rfl rfl
theorem dksX9_reads_8 : cX9_reads.data.toList.drop 187 = dktX9_reads_8 := dk_seg dksX9_reads_7 24 rfl rfl
theorem dksX9_reads_9 : cX9_reads.data.toList.drop 211 = dktX9_reads_9 := dk_seg dksX9_reads_8 24 rfl rfl
theorem dksX9_reads_10 : cX9_reads.data.toList.drop 233 = dktX9_reads_10 := dk_seg dksX9_reads_9 22 rfl rfl
theorem dksX9_reads_11 : cX9_reads.data.toList.drop 257 = dktX9_reads_11 := dk_seg dksX9_reads_10 24 rfl rfl
theorem dksX9_reads_12 : cX9_reads.data.toList.drop 281 = dktX9_reads_12 := dk_seg dksX9_reads_11 24 rfl rfl
theorem dksX9_reads_13 : cX9_reads.data.toList.drop 305 = dktX9_reads_13 := dk_seg dksX9_reads_12 24 rfl rfl
theorem dksX9_reads_14 : cX9_reads.data.toList.drop 327 = dktX9_reads_14 := dk_seg dksX9_reads_13 22 rfl rfl
theorem dksX9_reads_15 : cX9_reads.data.toList.drop 351 = dktX9_reads_15 := dk_seg dksX9_reads_14 24 rfl rfl
theorem dksX9_reads_16 : cX9_reads.data.toList.drop 375 = dktX9_reads_16 := dk_seg dksX9_reads_15 24 rfl rfl
theorem dksX9_reads_17 : cX9_reads.data.toList.drop 397 = dktX9_reads_17 := dk_seg dksX9_reads_16 22 rfl rfl
theorem dksX9_reads_18 : cX9_reads.data.toList.drop 421 = dktX9_reads_18 := dk_seg dksX9_reads_17 24 rfl rfl
theorem dksX9_reads_19 : cX9_reads.data.toList.drop 444 = dktX9_reads_19 := dk_seg dksX9_reads_18 23 rfl rfl
theorem dksX9_reads_20 : cX9_reads.data.toList.drop 468 = dktX9_reads_20 := dk_seg dksX9_reads_19 24 rfl rfl
theorem dksX9_reads_21 : cX9_reads.data.toList.drop 491 = dktX9_reads_21 := dk_seg dksX9_reads_20 23 rfl rfl
theorem dX9_reads_0 : decode cX9_reads 0 = .ok (.iconst 0, 1) := dk_3 (dk_at dksX9_reads_0 0 rfl rfl)
theorem dX9_reads_1 : decode cX9_reads 1 = .ok (.istore_n 2, 1) := dk_61 (dk_at dksX9_reads_0 1 rfl rfl)
theorem dX9_reads_2 : decode cX9_reads 2 = .ok (.iconst 1, 1) := dk_4 (dk_at dksX9_reads_0 2 rfl rfl)
theorem dX9_reads_3 : decode cX9_reads 3 = .ok (.istore_n 3, 1) := dk_62 (dk_at dksX9_reads_0 3 rfl rfl)
theorem dX9_reads_4 : decode cX9_reads 4 = .ok (.aload_n 0, 1) := dk_42 (dk_at dksX9_reads_0 4 rfl rfl)
theorem dX9_reads_5 : decode cX9_reads 5 = .ok (.getfield 57, 3) := dk_180 0 57 (dk_at dksX9_reads_0 5 rfl rfl)
theorem dX9_reads_8 : decode cX9_reads 8 = .ok (.iconst 0, 1) := dk_3 (dk_at dksX9_reads_0 8 rfl rfl)
theorem dX9_reads_9 : decode cX9_reads 9 = .ok (.iconst 0, 1) := dk_3 (dk_at dksX9_reads_0 9 rfl rfl)
theorem dX9_reads_10 : decode cX9_reads 10 = .ok (.bastore, 1) := dk_84 (dk_at dksX9_reads_0 10 rfl rfl)
theorem dX9_reads_11 : decode cX9_reads 11 = .ok (.aload_n 0, 1) := dk_42 (dk_at dksX9_reads_0 11 rfl rfl)
theorem dX9_reads_12 : decode cX9_reads 12 = .ok (.iconst 0, 1) := dk_3 (dk_at dksX9_reads_0 12 rfl rfl)
theorem dX9_reads_13 : decode cX9_reads 13 = .ok (.putfield 201, 3) := dk_181 0 201 (dk_at dksX9_reads_0 13 rfl rfl)
theorem dX9_reads_16 : decode cX9_reads 16 = .ok (.iload_n 3, 1) := dk_29 (dk_at dksX9_reads_0 16 rfl rfl)
theorem dX9_reads_17 : decode cX9_reads 17 = .ok (.ifCond .eq 213, 3) := dk_153 0 213 (dk_at dksX9_reads_0 17 rfl rfl)
theorem dX9_reads_20 : decode cX9_reads 20 = .ok (.aload_n 0, 1) := dk_42 (dk_at dksX9_reads_0 20 rfl rfl)
theorem dX9_reads_21 : decode cX9_reads 21 = .ok (.invokevirtual 232, 3) := dk_182 0 232 (dk_at dksX9_reads_0 21 rfl rfl)
theorem dX9_reads_24 : decode cX9_reads 24 = .ok (.ifCond .ne 7, 3) := dk_154 0 7 (dk_at dksX9_reads_1 0 rfl rfl)
theorem dX9_reads_27 : decode cX9_reads 27 = .ok (.iconst 1, 1) := dk_4 (dk_at dksX9_reads_1 3 rfl rfl)
theorem dX9_reads_28 : decode cX9_reads 28 = .ok (.goto 4, 3) := dk_167 0 4 (dk_at dksX9_reads_1 4 rfl rfl)
theorem dX9_reads_31 : decode cX9_reads 31 = .ok (.iconst 0, 1) := dk_3 (dk_at dksX9_reads_1 7 rfl rfl)
theorem dX9_reads_32 : decode cX9_reads 32 = .ok (.istore 4, 2) := dk_54 4 (dk_at dksX9_reads_1 8 rfl rfl)
theorem dX9_reads_34 : decode cX9_reads 34 = .ok (.iload 4, 2) := dk_21 4 (dk_at dksX9_reads_1 10 rfl rfl)
theorem dX9_reads_36 : decode cX9_reads 36 = .ok (.ifCond .eq 11, 3) := dk_153 0 11 (dk_at dksX9_reads_1 12 rfl rfl)
theorem dX9_reads_39 : decode cX9_reads 39 = .ok (.aload_n 0, 1) := dk_42 (dk_at dksX9_reads_1 15 rfl rfl)
theorem dX9_reads_40 : decode cX9_reads 40 = .ok (.iconst 0, 1) := dk_3 (dk_at dksX9_reads_1 16 rfl rfl)
theorem dX9_reads_41 : decode cX9_reads 41 = .ok (.invokevirtual 236, 3) := dk_182 0 236 (dk_at dksX9_reads_1 17 rfl rfl)
theorem dX9_reads_44 : decode cX9_reads 44 = .ok (.goto 4, 3) := dk_167 0 4 (dk_at dksX9_reads_1 20 rfl rfl)
theorem dX9_reads_47 : decode cX9_reads 47 = .ok (.iconst (-1), 1) := dk_2 (dk_at dksX9_reads_1 23 rfl rfl)
theorem dX9_reads_48 : decode cX9_reads 48 = .ok (.istore 5, 2) := dk_54 5 (dk_at dksX9_reads_2 0 rfl rfl)
theorem dX9_reads_50 : decode cX9_reads 50 = .ok (.aload_n 0, 1) := dk_42 (dk_at dksX9_reads_2 2 rfl rfl)
theorem dX9_reads_51 : decode cX9_reads 51 = .ok (.ldc2_w 226, 3) := dk_20 0 226 (dk_at dksX9_reads_2 3 rfl rfl)
theorem dX9_reads_54 : decode cX9_reads 54 = .ok (.invokevirtual 239, 3) := dk_182 0 239 (dk_at dksX9_reads_2 6 rfl rfl)
theorem dX9_reads_57 : decode cX9_reads 57 = .ok (.istore 6, 2) := dk_54 6 (dk_at dksX9_reads_2 9 rfl rfl)
theorem dX9_reads_59 : decode cX9_reads 59 = .ok (.aload_n 0, 1) := dk_42 (dk_at dksX9_reads_2 11 rfl rfl)
theorem dX9_reads_60 : decode cX9_reads 60 = .ok (.bipush 40, 2) := dk_16 40 (dk_at dksX9_reads_2 12 rfl rfl)
theorem dX9_reads_62 : decode cX9_reads 62 = .ok (.invokevirtual 243, 3) := dk_182 0 243 (dk_at dksX9_reads_2 14 rfl rfl)
theorem dX9_reads_65 : decode cX9_reads 65 = .ok (.istore 7, 2) := dk_54 7 (dk_at dksX9_reads_2 17 rfl rfl)
theorem dX9_reads_67 : decode cX9_reads 67 = .ok (.iload 4, 2) := dk_21 4 (dk_at dksX9_reads_2 19 rfl rfl)
theorem dX9_reads_69 : decode cX9_reads 69 = .ok (.ifCond .eq 14, 3) := dk_153 0 14 (dk_at dksX9_reads_2 21 rfl rfl)
theorem dX9_reads_72 : decode cX9_reads 72 = .ok (.iload 5, 2) := dk_21 5 (dk_at dksX9_reads_3 0 rfl rfl)
theorem dX9_reads_74 : decode cX9_reads 74 = .ok (.ifCond .ge 9, 3) := dk_156 0 9 (dk_at dksX9_reads_3 2 rfl rfl)
theorem dX9_reads_77 : decode cX9_reads 77 = .ok (.aload_n 0, 1) := dk_42 (dk_at dksX9_reads_3 5 rfl rfl)
theorem dX9_reads_78 : decode cX9_reads 78 = .ok (.iconst 2, 1) := dk_5 (dk_at dksX9_reads_3 6 rfl rfl)
theorem dX9_reads_79 : decode cX9_reads 79 = .ok (.invokevirtual 247, 3) := dk_182 0 247 (dk_at dksX9_reads_3 7 rfl rfl)
theorem dX9_reads_82 : decode cX9_reads 82 = .ok (.ireturn, 1) := dk_172 (dk_at dksX9_reads_3 10 rfl rfl)
theorem dX9_reads_83 : decode cX9_reads 83 = .ok (.iload 4, 2) := dk_21 4 (dk_at dksX9_reads_3 11 rfl rfl)
theorem dX9_reads_85 : decode cX9_reads 85 = .ok (.ifCond .ne 27, 3) := dk_154 0 27 (dk_at dksX9_reads_3 13 rfl rfl)
theorem dX9_reads_88 : decode cX9_reads 88 = .ok (.iload 6, 2) := dk_21 6 (dk_at dksX9_reads_3 16 rfl rfl)
theorem dX9_reads_90 : decode cX9_reads 90 = .ok (.ifCond .ne 22, 3) := dk_154 0 22 (dk_at dksX9_reads_3 18 rfl rfl)
theorem dX9_reads_93 : decode cX9_reads 93 = .ok (.iload 7, 2) := dk_21 7 (dk_at dksX9_reads_3 21 rfl rfl)
theorem dX9_reads_95 : decode cX9_reads 95 = .ok (.ifCond .ne 17, 3) := dk_154 0 17 (dk_at dksX9_reads_4 0 rfl rfl)
theorem dX9_reads_98 : decode cX9_reads 98 = .ok (.aload_n 0, 1) := dk_42 (dk_at dksX9_reads_4 3 rfl rfl)
theorem dX9_reads_99 : decode cX9_reads 99 = .ok (.getfield 187, 3) := dk_180 0 187 (dk_at dksX9_reads_4 4 rfl rfl)
theorem dX9_reads_102 : decode cX9_reads 102 = .ok (.iconst 2, 1) := dk_5 (dk_at dksX9_reads_4 7 rfl rfl)
theorem dX9_reads_103 : decode cX9_reads 103 = .ok (.if_icmp .eq 9, 3) := dk_159 0 9 (dk_at dksX9_reads_4 8 rfl rfl)
theorem dX9_reads_106 : decode cX9_reads 106 = .ok (.aload_n 0, 1) := dk_42 (dk_at dksX9_reads_4 11 rfl rfl)
theorem dX9_reads_107 : decode cX9_reads 107 = .ok (.iconst 1, 1) := dk_4 (dk_at dksX9_reads_4 12 rfl rfl)
theorem dX9_reads_108 : decode cX9_reads 108 = .ok (.invokevirtual 247, 3) := dk_182 0 247 (dk_at dksX9_reads_4 13 rfl rfl)
theorem dX9_reads_111 : decode cX9_reads 111 = .ok (.ireturn, 1) := dk_172 (dk_at dksX9_reads_4 16 rfl rfl)
theorem dX9_reads_112 : decode cX9_reads 112 = .ok (.iload_n 2, 1) := dk_28 (dk_at dksX9_reads_4 17 rfl rfl)
theorem dX9_reads_113 : decode cX9_reads 113 = .ok (.iconst 5, 1) := dk_8 (dk_at dksX9_reads_4 18 rfl rfl)
theorem dX9_reads_114 : decode cX9_reads 114 = .ok (.if_icmp .ne 9, 3) := dk_160 0 9 (dk_at dksX9_reads_4 19 rfl rfl)
theorem dX9_reads_117 : decode cX9_reads 117 = .ok (.aload_n 0, 1) := dk_42 (dk_at dksX9_reads_4 22 rfl rfl)
theorem dX9_reads_118 : decode cX9_reads 118 = .ok (.iconst 5, 1) := dk_8 (dk_at dksX9_reads_4 23 rfl rfl)
theorem dX9_reads_119 : decode cX9_reads 119 = .ok (.invokevirtual 247, 3) := dk_182 0 247 (dk_at dksX9_reads_5 0 rfl rfl)
theorem dX9_reads_122 : decode cX9_reads 122 = .ok (.ireturn, 1) := dk_172 (dk_at dksX9_reads_5 3 rfl rfl)
theorem dX9_reads_123 : decode cX9_reads 123 = .ok (.iload 6, 2) := dk_21 6 (dk_at dksX9_reads_5 4 rfl rfl)
theorem dX9_reads_125 : decode cX9_reads 125 = .ok (.ifCond .ne 8, 3) := dk_154 0 8 (dk_at dksX9_reads_5 6 rfl rfl)
theorem dX9_reads_128 : decode cX9_reads 128 = .ok (.iload 7, 2) := dk_21 7 (dk_at dksX9_reads_5 9 rfl rfl)
theorem dX9_reads_130 : decode cX9_reads 130 = .ok (.ifCond .eq 48, 3) := dk_153 0 48 (dk_at dksX9_reads_5 11 rfl rfl)
theorem dX9_reads_133 : decode cX9_reads 133 = .ok (.aload_n 0, 1) := dk_42 (dk_at dksX9_reads_5 14 rfl rfl)
theorem dX9_reads_134 : decode cX9_reads 134 = .ok (.iload 6, 2) := dk_21 6 (dk_at dksX9_reads_5 15 rfl rfl)
theorem dX9_reads_136 : decode cX9_reads 136 = .ok (.ifCond .eq 8, 3) := dk_153 0 8 (dk_at dksX9_reads_5 17 rfl rfl)
theorem dX9_reads_139 : decode cX9_reads 139 = .ok (.bipush 30, 2) := dk_16 30 (dk_at dksX9_reads_5 20 rfl rfl)
theorem dX9_reads_141 : decode cX9_reads 141 = .ok (.goto 5, 3) := dk_167 0 5 (dk_at dksX9_reads_6 0 rfl rfl)
theorem dX9_reads_144 : decode cX9_reads 144 = .ok (.bipush 28, 2) := dk_16 28 (dk_at dksX9_reads_6 3 rfl rfl)
theorem dX9_reads_146 : decode cX9_reads 146 = .ok (.invokevirtual 250, 3) := dk_182 0 250 (dk_at dksX9_reads_6 5 rfl rfl)
theorem dX9_reads_149 : decode cX9_reads 149 = .ok (.iinc 2 1, 3) := dk_132 2 1 (dk_at dksX9_reads_6 8 rfl rfl)
theorem dX9_reads_152 : decode cX9_reads 152 = .ok (.aload_n 0, 1) := dk_42 (dk_at dksX9_reads_6 11 rfl rfl)
theorem dX9_reads_153 : decode cX9_reads 153 = .ok (.getfield 54, 3) := dk_180 0 54 (dk_at dksX9_reads_6 12 rfl rfl)
theorem dX9_reads_156 : decode cX9_reads 156 = .ok (.iload_n 2, 1) := dk_28 (dk_at dksX9_reads_6 15 rfl rfl)
theorem dX9_reads_157 : decode cX9_reads 157 = .ok (.iload 6, 2) := dk_21 6 (dk_at dksX9_reads_6 16 rfl rfl)
theorem dX9_reads_159 : decode cX9_reads 159 = .ok (.ifCond .eq 7, 3) := dk_153 0 7 (dk_at dksX9_reads_6 18 rfl rfl)
theorem dX9_reads_162 : decode cX9_reads 162 = .ok (.iconst 1, 1) := dk_4 (dk_at dksX9_reads_6 21 rfl rfl)
theorem dX9_reads_163 : decode cX9_reads 163 = .ok (.goto 4, 3) := dk_167 0 4 (dk_at dksX9_reads_7 0 rfl rfl)
theorem dX9_reads_166 : decode cX9_reads 166 = .ok (.iconst 2, 1) := dk_5 (dk_at dksX9_reads_7 3 rfl rfl)
theorem dX9_reads_167 : decode cX9_reads 167 = .ok (.iastore, 1) := dk_79 (dk_at dksX9_reads_7 4 rfl rfl)
theorem dX9_reads_168 : decode cX9_reads 168 = .ok (.aload_n 0, 1) := dk_42 (dk_at dksX9_reads_7 5 rfl rfl)
theorem dX9_reads_169 : decode cX9_reads 169 = .ok (.getfield 57, 3) := dk_180 0 57 (dk_at dksX9_reads_7 6 rfl rfl)
theorem dX9_reads_172 : decode cX9_reads 172 = .ok (.iload_n 2, 1) := dk_28 (dk_at dksX9_reads_7 9 rfl rfl)
theorem dX9_reads_173 : decode cX9_reads 173 = .ok (.iconst 0, 1) := dk_3 (dk_at dksX9_reads_7 10 rfl rfl)
theorem dX9_reads_174 : decode cX9_reads 174 = .ok (.bastore, 1) := dk_84 (dk_at dksX9_reads_7 11 rfl rfl)
theorem dX9_reads_175 : decode cX9_reads 175 = .ok (.goto 48, 3) := dk_167 0 48 (dk_at dksX9_reads_7 12 rfl rfl)
theorem dX9_reads_178 : decode cX9_reads 178 = .ok (.aload_n 0, 1) := dk_42 (dk_at dksX9_reads_7 15 rfl rfl)
theorem dX9_reads_179 : decode cX9_reads 179 = .ok (.iload 4, 2) := dk_21 4 (dk_at dksX9_reads_7 16 rfl rfl)
theorem dX9_reads_181 : decode cX9_reads 181 = .ok (.ifCond .eq 10, 3) := dk_153 0 10 (dk_at dksX9_reads_7 18 rfl rfl)
theorem dX9_reads_184 : decode cX9_reads 184 = .ok (.iconst 1, 1) := dk_4 (dk_at dksX9_reads_7 21 rfl rfl)
theorem dX9_reads_185 : decode cX9_reads 185 = .ok (.iload 5, 2) := dk_21 5 (dk_at dksX9_reads_7 22 rfl rfl)
theorem dX9_reads_187 : decode cX9_reads 187 = .ok (.iadd, 1) := dk_96 (dk_at dksX9_reads_8 0 rfl rfl)
theorem dX9_reads_188 : decode cX9_reads 188 = .ok (.goto 10, 3) := dk_167 0 10 (dk_at dksX9_reads_8 1 rfl rfl)
theorem dX9_reads_191 : decode cX9_reads 191 = .ok (.bipush 100, 2) := dk_16 100 (dk_at dksX9_reads_8 4 rfl rfl)
theorem dX9_reads_193 : decode cX9_reads 193 = .ok (.aload_n 0, 1) := dk_42 (dk_at dksX9_reads_8 6 rfl rfl)
theorem dX9_reads_194 : decode cX9_reads 194 = .ok (.getfield 184, 3) := dk_180 0 184 (dk_at dksX9_reads_8 7 rfl rfl)
theorem dX9_reads_197 : decode cX9_reads 197 = .ok (.iadd, 1) := dk_96 (dk_at dksX9_reads_8 10 rfl rfl)
theorem dX9_reads_198 : decode cX9_reads 198 = .ok (.invokevirtual 250, 3) := dk_182 0 250 (dk_at dksX9_reads_8 11 rfl rfl)
theorem dX9_reads_201 : decode cX9_reads 201 = .ok (.iconst 0, 1) := dk_3 (dk_at dksX9_reads_8 14 rfl rfl)
theorem dX9_reads_202 : decode cX9_reads 202 = .ok (.istore_n 3, 1) := dk_62 (dk_at dksX9_reads_8 15 rfl rfl)
theorem dX9_reads_203 : decode cX9_reads 203 = .ok (.iload_n 2, 1) := dk_28 (dk_at dksX9_reads_8 16 rfl rfl)
theorem dX9_reads_204 : decode cX9_reads 204 = .ok (.ifCond .le 19, 3) := dk_158 0 19 (dk_at dksX9_reads_8 17 rfl rfl)
theorem dX9_reads_207 : decode cX9_reads 207 = .ok (.aload_n 0, 1) := dk_42 (dk_at dksX9_reads_8 20 rfl rfl)
theorem dX9_reads_208 : decode cX9_reads 208 = .ok (.getfield 54, 3) := dk_180 0 54 (dk_at dksX9_reads_8 21 rfl rfl)
theorem dX9_reads_211 : decode cX9_reads 211 = .ok (.iload_n 2, 1) := dk_28 (dk_at dksX9_reads_9 0 rfl rfl)
theorem dX9_reads_212 : decode cX9_reads 212 = .ok (.iaload, 1) := dk_46 (dk_at dksX9_reads_9 1 rfl rfl)
theorem dX9_reads_213 : decode cX9_reads 213 = .ok (.iconst 1, 1) := dk_4 (dk_at dksX9_reads_9 2 rfl rfl)
theorem dX9_reads_214 : decode cX9_reads 214 = .ok (.if_icmp .ne 9, 3) := dk_160 0 9 (dk_at dksX9_reads_9 3 rfl rfl)
theorem dX9_reads_217 : decode cX9_reads 217 = .ok (.iinc 2 (-1), 3) := dk_132 2 255 (dk_at dksX9_reads_9 6 rfl rfl)
theorem dX9_reads_220 : decode cX9_reads 220 = .ok (.goto (-17), 3) := dk_167 255 239 (dk_at dksX9_reads_9 9 rfl rfl)
theorem dX9_reads_223 : decode cX9_reads 223 = .ok (.aload_n 0, 1) := dk_42 (dk_at dksX9_reads_9 12 rfl rfl)
theorem dX9_reads_224 : decode cX9_reads 224 = .ok (.invokevirtual 254, 3) := dk_182 0 254 (dk_at dksX9_reads_9 13 rfl rfl)
theorem dX9_reads_227 : decode cX9_reads 227 = .ok (.goto (-211), 3) := dk_167 255 45 (dk_at dksX9_reads_9 16 rfl rfl)
theorem dX9_reads_230 : decode cX9_reads 230 = .ok (.aload_n 0, 1) := dk_42 (dk_at dksX9_reads_9 19 rfl rfl)
theorem dX9_reads_231 : decode cX9_reads 231 = .ok (.bipush 43, 2) := dk_16 43 (dk_at dksX9_reads_9 20 rfl rfl)
theorem dX9_reads_233 : decode cX9_reads 233 = .ok (.invokevirtual 243, 3) := dk_182 0 243 (dk_at dksX9_reads_10 0 rfl rfl)
theorem dX9_reads_236 : decode cX9_reads 236 = .ok (.ifCond .ne 21, 3) := dk_154 0 21 (dk_at dksX9_reads_10 3 rfl rfl)
theorem dX9_reads_239 : decode cX9_reads 239 = .ok (.aload_n 0, 1) := dk_42 (dk_at dksX9_reads_10 6 rfl rfl)
theorem dX9_reads_240 : decode cX9_reads 240 = .ok (.bipush 45, 2) := dk_16 45 (dk_at dksX9_reads_10 7 rfl rfl)
theorem dX9_reads_242 : decode cX9_reads 242 = .ok (.invokevirtual 243, 3) := dk_182 0 243 (dk_at dksX9_reads_10 9 rfl rfl)
theorem dX9_reads_245 : decode cX9_reads 245 = .ok (.ifCond .ne 12, 3) := dk_154 0 12 (dk_at dksX9_reads_10 12 rfl rfl)
theorem dX9_reads_248 : decode cX9_reads 248 = .ok (.aload_n 0, 1) := dk_42 (dk_at dksX9_reads_10 15 rfl rfl)
theorem dX9_reads_249 : decode cX9_reads 249 = .ok (.bipush 42, 2) := dk_16 42 (dk_at dksX9_reads_10 16 rfl rfl)
theorem dX9_reads_251 : decode cX9_reads 251 = .ok (.invokevirtual 243, 3) := dk_182 0 243 (dk_at dksX9_reads_10 18 rfl rfl)
theorem dX9_reads_254 : decode cX9_reads 254 = .ok (.ifCond .eq 42, 3) := dk_153 0 42 (dk_at dksX9_reads_10 21 rfl rfl)
theorem dX9_reads_257 : decode cX9_reads 257 = .ok (.aload_n 0, 1) := dk_42 (dk_at dksX9_reads_11 0 rfl rfl)
theorem dX9_reads_258 : decode cX9_reads 258 = .ok (.aload_n 0, 1) := dk_42 (dk_at dksX9_reads_11 1 rfl rfl)
theorem dX9_reads_259 : decode cX9_reads 259 = .ok (.bipush 43, 2) := dk_16 43 (dk_at dksX9_reads_11 2 rfl rfl)
theorem dX9_reads_261 : decode cX9_reads 261 = .ok (.invokevirtual 243, 3) := dk_182 0 243 (dk_at dksX9_reads_11 4 rfl rfl)
theorem dX9_reads_264 : decode cX9_reads 264 = .ok (.ifCond .eq 8, 3) := dk_153 0 8 (dk_at dksX9_reads_11 7 rfl rfl)
theorem dX9_reads_267 : decode cX9_reads 267 = .ok (.bipush 20, 2) := dk_16 20 (dk_at dksX9_reads_11 10 rfl rfl)
theorem dX9_reads_269 : decode cX9_reads 269 = .ok (.goto 19, 3) := dk_167 0 19 (dk_at dksX9_reads_11 12 rfl rfl)
theorem dX9_reads_272 : decode cX9_reads 272 = .ok (.aload_n 0, 1) := dk_42 (dk_at dksX9_reads_11 15 rfl rfl)
theorem dX9_reads_273 : decode cX9_reads 273 = .ok (.bipush 45, 2) := dk_16 45 (dk_at dksX9_reads_11 16 rfl rfl)
theorem dX9_reads_275 : decode cX9_reads 275 = .ok (.invokevirtual 243, 3) := dk_182 0 243 (dk_at dksX9_reads_11 18 rfl rfl)
theorem dX9_reads_278 : decode cX9_reads 278 = .ok (.ifCond .eq 8, 3) := dk_153 0 8 (dk_at dksX9_reads_11 21 rfl rfl)
theorem dX9_reads_281 : decode cX9_reads 281 = .ok (.bipush 21, 2) := dk_16 21 (dk_at dksX9_reads_12 0 rfl rfl)
theorem dX9_reads_283 : decode cX9_reads 283 = .ok (.goto 5, 3) := dk_167 0 5 (dk_at dksX9_reads_12 2 rfl rfl)
theorem dX9_reads_286 : decode cX9_reads 286 = .ok (.bipush 22, 2) := dk_16 22 (dk_at dksX9_reads_12 5 rfl rfl)
theorem dX9_reads_288 : decode cX9_reads 288 = .ok (.invokevirtual 250, 3) := dk_182 0 250 (dk_at dksX9_reads_12 7 rfl rfl)
theorem dX9_reads_291 : decode cX9_reads 291 = .ok (.iconst 1, 1) := dk_4 (dk_at dksX9_reads_12 10 rfl rfl)
theorem dX9_reads_292 : decode cX9_reads 292 = .ok (.istore_n 3, 1) := dk_62 (dk_at dksX9_reads_12 11 rfl rfl)
theorem dX9_reads_293 : decode cX9_reads 293 = .ok (.goto 202, 3) := dk_167 0 202 (dk_at dksX9_reads_12 12 rfl rfl)
theorem dX9_reads_296 : decode cX9_reads 296 = .ok (.aload_n 0, 1) := dk_42 (dk_at dksX9_reads_12 15 rfl rfl)
theorem dX9_reads_297 : decode cX9_reads 297 = .ok (.bipush 60, 2) := dk_16 60 (dk_at dksX9_reads_12 16 rfl rfl)
theorem dX9_reads_299 : decode cX9_reads 299 = .ok (.invokevirtual 243, 3) := dk_182 0 243 (dk_at dksX9_reads_12 18 rfl rfl)
theorem dX9_reads_302 : decode cX9_reads 302 = .ok (.ifCond .ne 12, 3) := dk_154 0 12 (dk_at dksX9_reads_12 21 rfl rfl)
theorem dX9_reads_305 : decode cX9_reads 305 = .ok (.aload_n 0, 1) := dk_42 (dk_at dksX9_reads_13 0 rfl rfl)
theorem dX9_reads_306 : decode cX9_reads 306 = .ok (.bipush 61, 2) := dk_16 61 (dk_at dksX9_reads_13 1 rfl rfl)
theorem dX9_reads_308 : decode cX9_reads 308 = .ok (.invokevirtual 243, 3) := dk_182 0 243 (dk_at dksX9_reads_13 3 rfl rfl)
theorem dX9_reads_311 : decode cX9_reads 311 = .ok (.ifCond .eq 44, 3) := dk_153 0 44 (dk_at dksX9_reads_13 6 rfl rfl)
theorem dX9_reads_314 : decode cX9_reads 314 = .ok (.aload_n 0, 1) := dk_42 (dk_at dksX9_reads_13 9 rfl rfl)
theorem dX9_reads_315 : decode cX9_reads 315 = .ok (.getfield 57, 3) := dk_180 0 57 (dk_at dksX9_reads_13 10 rfl rfl)
theorem dX9_reads_318 : decode cX9_reads 318 = .ok (.iload_n 2, 1) := dk_28 (dk_at dksX9_reads_13 13 rfl rfl)
theorem dX9_reads_319 : decode cX9_reads 319 = .ok (.baload, 1) := dk_51 (dk_at dksX9_reads_13 14 rfl rfl)
theorem dX9_reads_320 : decode cX9_reads 320 = .ok (.ifCond .ne 35, 3) := dk_154 0 35 (dk_at dksX9_reads_13 15 rfl rfl)
theorem dX9_reads_323 : decode cX9_reads 323 = .ok (.aload_n 0, 1) := dk_42 (dk_at dksX9_reads_13 18 rfl rfl)
theorem dX9_reads_324 : decode cX9_reads 324 = .ok (.aload_n 0, 1) := dk_42 (dk_at dksX9_reads_13 19 rfl rfl)
theorem dX9_reads_325 : decode cX9_reads 325 = .ok (.bipush 60, 2) := dk_16 60 (dk_at dksX9_reads_13 20 rfl rfl)
theorem dX9_reads_327 : decode cX9_reads 327 = .ok (.invokevirtual 243, 3) := dk_182 0 243 (dk_at dksX9_reads_14 0 rfl rfl)
theorem dX9_reads_330 : decode cX9_reads 330 = .ok (.ifCond .eq 8, 3) := dk_153 0 8 (dk_at dksX9_reads_14 3 rfl rfl)
theorem dX9_reads_333 : decode cX9_reads 333 = .ok (.bipush 24, 2) := dk_16 24 (dk_at dksX9_reads_14 6 rfl rfl)
theorem dX9_reads_335 : decode cX9_reads 335 = .ok (.goto 5, 3) := dk_167 0 5 (dk_at dksX9_reads_14 8 rfl rfl)
theorem dX9_reads_338 : decode cX9_reads 338 = .ok (.bipush 25, 2) := dk_16 25 (dk_at dksX9_reads_14 11 rfl rfl)
theorem dX9_reads_340 : decode cX9_reads 340 = .ok (.invokevirtual 250, 3) := dk_182 0 250 (dk_at dksX9_reads_14 13 rfl rfl)
theorem dX9_reads_343 : decode cX9_reads 343 = .ok (.aload_n 0, 1) := dk_42 (dk_at dksX9_reads_14 16 rfl rfl)
theorem dX9_reads_344 : decode cX9_reads 344 = .ok (.getfield 57, 3) := dk_180 0 57 (dk_at dksX9_reads_14 17 rfl rfl)
theorem dX9_reads_347 : decode cX9_reads 347 = .ok (.iload_n 2, 1) := dk_28 (dk_at dksX9_reads_14 20 rfl rfl)
theorem dX9_reads_348 : decode cX9_reads 348 = .ok (.iconst 1, 1) := dk_4 (dk_at dksX9_reads_14 21 rfl rfl)
theorem dX9_reads_349 : decode cX9_reads 349 = .ok (.bastore, 1) := dk_84 (dk_at dksX9_reads_14 22 rfl rfl)
theorem dX9_reads_350 : decode cX9_reads 350 = .ok (.iconst 1, 1) := dk_4 (dk_at dksX9_reads_14 23 rfl rfl)
theorem dX9_reads_351 : decode cX9_reads 351 = .ok (.istore_n 3, 1) := dk_62 (dk_at dksX9_reads_15 0 rfl rfl)
theorem dX9_reads_352 : decode cX9_reads 352 = .ok (.goto 143, 3) := dk_167 0 143 (dk_at dksX9_reads_15 1 rfl rfl)
theorem dX9_reads_355 : decode cX9_reads 355 = .ok (.aload_n 0, 1) := dk_42 (dk_at dksX9_reads_15 4 rfl rfl)
theorem dX9_reads_356 : decode cX9_reads 356 = .ok (.ldc2_w 228, 3) := dk_20 0 228 (dk_at dksX9_reads_15 5 rfl rfl)
theorem dX9_reads_359 : decode cX9_reads 359 = .ok (.invokevirtual 239, 3) := dk_182 0 239 (dk_at dksX9_reads_15 8 rfl rfl)
theorem dX9_reads_362 : decode cX9_reads 362 = .ok (.ifCond .ne 13, 3) := dk_154 0 13 (dk_at dksX9_reads_15 11 rfl rfl)
theorem dX9_reads_365 : decode cX9_reads 365 = .ok (.aload_n 0, 1) := dk_42 (dk_at dksX9_reads_15 14 rfl rfl)
theorem dX9_reads_366 : decode cX9_reads 366 = .ok (.ldc2_w 230, 3) := dk_20 0 230 (dk_at dksX9_reads_15 15 rfl rfl)
theorem dX9_reads_369 : decode cX9_reads 369 = .ok (.invokevirtual 239, 3) := dk_182 0 239 (dk_at dksX9_reads_15 18 rfl rfl)
theorem dX9_reads_372 : decode cX9_reads 372 = .ok (.ifCond .eq 36, 3) := dk_153 0 36 (dk_at dksX9_reads_15 21 rfl rfl)
theorem dX9_reads_375 : decode cX9_reads 375 = .ok (.aload_n 0, 1) := dk_42 (dk_at dksX9_reads_16 0 rfl rfl)
theorem dX9_reads_376 : decode cX9_reads 376 = .ok (.aload_n 0, 1) := dk_42 (dk_at dksX9_reads_16 1 rfl rfl)
theorem dX9_reads_377 : decode cX9_reads 377 = .ok (.ldc2_w 228, 3) := dk_20 0 228 (dk_at dksX9_reads_16 2 rfl rfl)
theorem dX9_reads_380 : decode cX9_reads 380 = .ok (.invokevirtual 239, 3) := dk_182 0 239 (dk_at dksX9_reads_16 5 rfl rfl)
theorem dX9_reads_383 : decode cX9_reads 383 = .ok (.ifCond .eq 8, 3) := dk_153 0 8 (dk_at dksX9_reads_16 8 rfl rfl)
theorem dX9_reads_386 : decode cX9_reads 386 = .ok (.bipush 26, 2) := dk_16 26 (dk_at dksX9_reads_16 11 rfl rfl)
theorem dX9_reads_388 : decode cX9_reads 388 = .ok (.goto 5, 3) := dk_167 0 5 (dk_at dksX9_reads_16 13 rfl rfl)
theorem dX9_reads_391 : decode cX9_reads 391 = .ok (.bipush 27, 2) := dk_16 27 (dk_at dksX9_reads_16 16 rfl rfl)
theorem dX9_reads_393 : decode cX9_reads 393 = .ok (.invokevirtual 250, 3) := dk_182 0 250 (dk_at dksX9_reads_16 18 rfl rfl)
theorem dX9_reads_396 : decode cX9_reads 396 = .ok (.aload_n 0, 1) := dk_42 (dk_at dksX9_reads_16 21 rfl rfl)
theorem dX9_reads_397 : decode cX9_reads 397 = .ok (.getfield 57, 3) := dk_180 0 57 (dk_at dksX9_reads_17 0 rfl rfl)
theorem dX9_reads_400 : decode cX9_reads 400 = .ok (.iload_n 2, 1) := dk_28 (dk_at dksX9_reads_17 3 rfl rfl)
theorem dX9_reads_401 : decode cX9_reads 401 = .ok (.iconst 0, 1) := dk_3 (dk_at dksX9_reads_17 4 rfl rfl)
theorem dX9_reads_402 : decode cX9_reads 402 = .ok (.bastore, 1) := dk_84 (dk_at dksX9_reads_17 5 rfl rfl)
theorem dX9_reads_403 : decode cX9_reads 403 = .ok (.iconst 1, 1) := dk_4 (dk_at dksX9_reads_17 6 rfl rfl)
theorem dX9_reads_404 : decode cX9_reads 404 = .ok (.istore_n 3, 1) := dk_62 (dk_at dksX9_reads_17 7 rfl rfl)
theorem dX9_reads_405 : decode cX9_reads 405 = .ok (.goto 90, 3) := dk_167 0 90 (dk_at dksX9_reads_17 8 rfl rfl)
theorem dX9_reads_408 : decode cX9_reads 408 = .ok (.aload_n 0, 1) := dk_42 (dk_at dksX9_reads_17 11 rfl rfl)
theorem dX9_reads_409 : decode cX9_reads 409 = .ok (.bipush 41, 2) := dk_16 41 (dk_at dksX9_reads_17 12 rfl rfl)
theorem dX9_reads_411 : decode cX9_reads 411 = .ok (.invokevirtual 243, 3) := dk_182 0 243 (dk_at dksX9_reads_17 14 rfl rfl)
theorem dX9_reads_414 : decode cX9_reads 414 = .ok (.ifCond .eq 36, 3) := dk_153 0 36 (dk_at dksX9_reads_17 17 rfl rfl)
theorem dX9_reads_417 : decode cX9_reads 417 = .ok (.iload_n 2, 1) := dk_28 (dk_at dksX9_reads_17 20 rfl rfl)
theorem dX9_reads_418 : decode cX9_reads 418 = .ok (.ifCond .le 32, 3) := dk_158 0 32 (dk_at dksX9_reads_17 21 rfl rfl)
theorem dX9_reads_421 : decode cX9_reads 421 = .ok (.aload_n 0, 1) := dk_42 (dk_at dksX9_reads_18 0 rfl rfl)
theorem dX9_reads_422 : decode cX9_reads 422 = .ok (.bipush 29, 2) := dk_16 29 (dk_at dksX9_reads_18 1 rfl rfl)
theorem dX9_reads_424 : decode cX9_reads 424 = .ok (.invokevirtual 250, 3) := dk_182 0 250 (dk_at dksX9_reads_18 3 rfl rfl)
theorem dX9_reads_427 : decode cX9_reads 427 = .ok (.iinc 2 (-1), 3) := dk_132 2 255 (dk_at dksX9_reads_18 6 rfl rfl)
theorem dX9_reads_430 : decode cX9_reads 430 = .ok (.iload_n 2, 1) := dk_28 (dk_at dksX9_reads_18 9 rfl rfl)
theorem dX9_reads_431 : decode cX9_reads 431 = .ok (.ifCond .le 64, 3) := dk_158 0 64 (dk_at dksX9_reads_18 10 rfl rfl)
theorem dX9_reads_434 : decode cX9_reads 434 = .ok (.aload_n 0, 1) := dk_42 (dk_at dksX9_reads_18 13 rfl rfl)
theorem dX9_reads_435 : decode cX9_reads 435 = .ok (.getfield 54, 3) := dk_180 0 54 (dk_at dksX9_reads_18 14 rfl rfl)
theorem dX9_reads_438 : decode cX9_reads 438 = .ok (.iload_n 2, 1) := dk_28 (dk_at dksX9_reads_18 17 rfl rfl)
theorem dX9_reads_439 : decode cX9_reads 439 = .ok (.iaload, 1) := dk_46 (dk_at dksX9_reads_18 18 rfl rfl)
theorem dX9_reads_440 : decode cX9_reads 440 = .ok (.iconst 1, 1) := dk_4 (dk_at dksX9_reads_18 19 rfl rfl)
theorem dX9_reads_441 : decode cX9_reads 441 = .ok (.if_icmp .ne 54, 3) := dk_160 0 54 (dk_at dksX9_reads_18 20 rfl rfl)
theorem dX9_reads_444 : decode cX9_reads 444 = .ok (.iinc 2 (-1), 3) := dk_132 2 255 (dk_at dksX9_reads_19 0 rfl rfl)
theorem dX9_reads_447 : decode cX9_reads 447 = .ok (.goto (-17), 3) := dk_167 255 239 (dk_at dksX9_reads_19 3 rfl rfl)
theorem dX9_reads_450 : decode cX9_reads 450 = .ok (.iload_n 2, 1) := dk_28 (dk_at dksX9_reads_19 6 rfl rfl)
theorem dX9_reads_451 : decode cX9_reads 451 = .ok (.ifCond .ne 38, 3) := dk_154 0 38 (dk_at dksX9_reads_19 7 rfl rfl)
theorem dX9_reads_454 : decode cX9_reads 454 = .ok (.iload_n 1, 1) := dk_27 (dk_at dksX9_reads_19 10 rfl rfl)
theorem dX9_reads_455 : decode cX9_reads 455 = .ok (.ifCond .eq 13, 3) := dk_153 0 13 (dk_at dksX9_reads_19 11 rfl rfl)
theorem dX9_reads_458 : decode cX9_reads 458 = .ok (.aload_n 0, 1) := dk_42 (dk_at dksX9_reads_19 14 rfl rfl)
theorem dX9_reads_459 : decode cX9_reads 459 = .ok (.getfield 187, 3) := dk_180 0 187 (dk_at dksX9_reads_19 15 rfl rfl)
theorem dX9_reads_462 : decode cX9_reads 462 = .ok (.ifCond .ne 27, 3) := dk_154 0 27 (dk_at dksX9_reads_19 18 rfl rfl)
theorem dX9_reads_465 : decode cX9_reads 465 = .ok (.goto 12, 3) := dk_167 0 12 (dk_at dksX9_reads_19 21 rfl rfl)
theorem dX9_reads_468 : decode cX9_reads 468 = .ok (.aload_n 0, 1) := dk_42 (dk_at dksX9_reads_20 0 rfl rfl)
theorem dX9_reads_469 : decode cX9_reads 469 = .ok (.bipush 59, 2) := dk_16 59 (dk_at dksX9_reads_20 1 rfl rfl)
theorem dX9_reads_471 : decode cX9_reads 471 = .ok (.invokevirtual 243, 3) := dk_182 0 243 (dk_at dksX9_reads_20 3 rfl rfl)
theorem dX9_reads_474 : decode cX9_reads 474 = .ok (.ifCond .eq 15, 3) := dk_153 0 15 (dk_at dksX9_reads_20 6 rfl rfl)
theorem dX9_reads_477 : decode cX9_reads 477 = .ok (.aload_n 0, 1) := dk_42 (dk_at dksX9_reads_20 9 rfl rfl)
theorem dX9_reads_478 : decode cX9_reads 478 = .ok (.getfield 51, 3) := dk_180 0 51 (dk_at dksX9_reads_20 10 rfl rfl)
theorem dX9_reads_481 : decode cX9_reads 481 = .ok (.iconst 0, 1) := dk_3 (dk_at dksX9_reads_20 13 rfl rfl)
theorem dX9_reads_482 : decode cX9_reads 482 = .ok (.aload_n 0, 1) := dk_42 (dk_at dksX9_reads_20 14 rfl rfl)
theorem dX9_reads_483 : decode cX9_reads 483 = .ok (.getfield 201, 3) := dk_180 0 201 (dk_at dksX9_reads_20 15 rfl rfl)
theorem dX9_reads_486 : decode cX9_reads 486 = .ok (.iastore, 1) := dk_79 (dk_at dksX9_reads_20 18 rfl rfl)
theorem dX9_reads_487 : decode cX9_reads 487 = .ok (.iconst 1, 1) := dk_4 (dk_at dksX9_reads_20 19 rfl rfl)
theorem dX9_reads_488 : decode cX9_reads 488 = .ok (.ireturn, 1) := dk_172 (dk_at dksX9_reads_20 20 rfl rfl)
theorem dX9_reads_489 : decode cX9_reads 489 = .ok (.aload_n 0, 1) := dk_42 (dk_at dksX9_reads_20 21 rfl rfl)
theorem dX9_reads_490 : decode cX9_reads 490 = .ok (.iconst 1, 1) := dk_4 (dk_at dksX9_reads_20 22 rfl rfl)
theorem dX9_reads_491 : decode cX9_reads 491 = .ok (.invokevirtual 247, 3) := dk_182 0 247 (dk_at dksX9_reads_21 0 rfl rfl)
theorem dX9_reads_494 : decode cX9_reads 494 = .ok (.ireturn, 1) := dk_172 (dk_at dksX9_reads_21 3 rfl rfl)
theorem dX9_reads_495 : decode cX9_reads 495 = .ok (.aload_n 0, 1) := dk_42 (dk_at dksX9_reads_21 4 rfl rfl)
theorem dX9_reads_496 : decode cX9_reads 496 = .ok (.invokevirtual 254, 3) := dk_182 0 254 (dk_at dksX9_reads_21 5 rfl rfl)
theorem dX9_reads_499 : decode cX9_reads 499 = .ok (.goto (-483), 3) := dk_167 254 29 (dk_at dksX9_reads_21 8 rfl rfl)
abbrev cX9_puts : ByteArray := prog_28_method_13_code
def yX9_puts : MethodName := ⟨RX9, "puts", "(I)V"⟩
def dkwX9_puts_0 : List UInt8 := [42, 180, 0, 45, 42, 180, 0, 201, 27, 79, 42, 89, 180, 0, 201, 4, 96, 181, 0, 201, 177]
abbrev dktX9_puts_0 : List UInt8 := dkwX9_puts_0 ++ []
theorem dksX9_puts_0 : cX9_puts.data.toList.drop 0 = dktX9_puts_0 := by decide +kernel
theorem dX9_puts_0 : decode cX9_puts 0 = .ok (.aload_n 0, 1) := dk_42 (dk_at dksX9_puts_0 0 rfl rfl)
theorem dX9_puts_1 : decode cX9_puts 1 = .ok (.getfield 45, 3) := dk_180 0 45 (dk_at dksX9_puts_0 1 rfl rfl)
theorem dX9_puts_4 : decode cX9_puts 4 = .ok (.aload_n 0, 1) := dk_42 (dk_at dksX9_puts_0 4 rfl rfl)
theorem dX9_puts_5 : decode cX9_puts 5 = .ok (.getfield 201, 3) := dk_180 0 201 (dk_at dksX9_puts_0 5 rfl rfl)
theorem dX9_puts_8 : decode cX9_puts 8 = .ok (.iload_n 1, 1) := dk_27 (dk_at dksX9_puts_0 8 rfl rfl)
theorem dX9_puts_9 : decode cX9_puts 9 = .ok (.iastore, 1) := dk_79 (dk_at dksX9_puts_0 9 rfl rfl)
theorem dX9_puts_10 : decode cX9_puts 10 = .ok (.aload_n 0, 1) := dk_42 (dk_at dksX9_puts_0 10 rfl rfl)
theorem dX9_puts_11 : decode cX9_puts 11 = .ok (.dup, 1) := dk_89 (dk_at dksX9_puts_0 11 rfl rfl)
theorem dX9_puts_12 : decode cX9_puts 12 = .ok (.getfield 201, 3) := dk_180 0 201 (dk_at dksX9_puts_0 12 rfl rfl)
theorem dX9_puts_15 : decode cX9_puts 15 = .ok (.iconst 1, 1) := dk_4 (dk_at dksX9_puts_0 15 rfl rfl)
theorem dX9_puts_16 : decode cX9_puts 16 = .ok (.iadd, 1) := dk_96 (dk_at dksX9_puts_0 16 rfl rfl)
theorem dX9_puts_17 : decode cX9_puts 17 = .ok (.putfield 201, 3) := dk_181 0 201 (dk_at dksX9_puts_0 17 rfl rfl)
theorem dX9_puts_20 : decode cX9_puts 20 = .ok (.return_, 1) := dk_177 (dk_at dksX9_puts_0 20 rfl rfl)
abbrev cX9_soIn : ByteArray := prog_28_method_21_code
def yX9_soIn : MethodName := ⟨RX9, "soIn", "(I)J"⟩
def dkwX9_soIn_2 : List UInt8 := [182, 1, 10, 153, 0, 10, 32, 10, 21, 4, 121, 129, 65, 132, 4, 1, 167, 255, 198, 32, 173]
abbrev dktX9_soIn_2 : List UInt8 := dkwX9_soIn_2 ++ []
def dkwX9_soIn_1 : List UInt8 := [180, 0, 87, 4, 21, 5, 96, 21, 4, 21, 5, 122, 4, 126, 79, 132, 5, 1, 167, 255, 230, 42, 3]
abbrev dktX9_soIn_1 : List UInt8 := dkwX9_soIn_1 ++ dktX9_soIn_2
def dkwX9_soIn_0 : List UInt8 := [9, 65, 3, 54, 4, 21, 4, 4, 27, 120, 162, 0, 56, 3, 54, 5, 21, 5, 16, 6, 162, 0, 25, 42]
abbrev dktX9_soIn_0 : List UInt8 := dkwX9_soIn_0 ++ dktX9_soIn_1
theorem dksX9_soIn_0 : cX9_soIn.data.toList.drop 0 = dktX9_soIn_0 := by decide +kernel
theorem dksX9_soIn_1 : cX9_soIn.data.toList.drop 24 = dktX9_soIn_1 := dk_seg dksX9_soIn_0 24 rfl rfl
theorem dksX9_soIn_2 : cX9_soIn.data.toList.drop 47 = dktX9_soIn_2 := dk_seg dksX9_soIn_1 23 rfl rfl
theorem dX9_soIn_0 : decode cX9_soIn 0 = .ok (.lconst 0, 1) := dk_9 (dk_at dksX9_soIn_0 0 rfl rfl)
theorem dX9_soIn_1 : decode cX9_soIn 1 = .ok (.lstore_n 2, 1) := dk_65 (dk_at dksX9_soIn_0 1 rfl rfl)
theorem dX9_soIn_2 : decode cX9_soIn 2 = .ok (.iconst 0, 1) := dk_3 (dk_at dksX9_soIn_0 2 rfl rfl)
theorem dX9_soIn_3 : decode cX9_soIn 3 = .ok (.istore 4, 2) := dk_54 4 (dk_at dksX9_soIn_0 3 rfl rfl)
theorem dX9_soIn_5 : decode cX9_soIn 5 = .ok (.iload 4, 2) := dk_21 4 (dk_at dksX9_soIn_0 5 rfl rfl)
theorem dX9_soIn_7 : decode cX9_soIn 7 = .ok (.iconst 1, 1) := dk_4 (dk_at dksX9_soIn_0 7 rfl rfl)
theorem dX9_soIn_8 : decode cX9_soIn 8 = .ok (.iload_n 1, 1) := dk_27 (dk_at dksX9_soIn_0 8 rfl rfl)
theorem dX9_soIn_9 : decode cX9_soIn 9 = .ok (.ishl, 1) := dk_120 (dk_at dksX9_soIn_0 9 rfl rfl)
theorem dX9_soIn_10 : decode cX9_soIn 10 = .ok (.if_icmp .ge 56, 3) := dk_162 0 56 (dk_at dksX9_soIn_0 10 rfl rfl)
theorem dX9_soIn_13 : decode cX9_soIn 13 = .ok (.iconst 0, 1) := dk_3 (dk_at dksX9_soIn_0 13 rfl rfl)
theorem dX9_soIn_14 : decode cX9_soIn 14 = .ok (.istore 5, 2) := dk_54 5 (dk_at dksX9_soIn_0 14 rfl rfl)
theorem dX9_soIn_16 : decode cX9_soIn 16 = .ok (.iload 5, 2) := dk_21 5 (dk_at dksX9_soIn_0 16 rfl rfl)
theorem dX9_soIn_18 : decode cX9_soIn 18 = .ok (.bipush 6, 2) := dk_16 6 (dk_at dksX9_soIn_0 18 rfl rfl)
theorem dX9_soIn_20 : decode cX9_soIn 20 = .ok (.if_icmp .ge 25, 3) := dk_162 0 25 (dk_at dksX9_soIn_0 20 rfl rfl)
theorem dX9_soIn_23 : decode cX9_soIn 23 = .ok (.aload_n 0, 1) := dk_42 (dk_at dksX9_soIn_0 23 rfl rfl)
theorem dX9_soIn_24 : decode cX9_soIn 24 = .ok (.getfield 87, 3) := dk_180 0 87 (dk_at dksX9_soIn_1 0 rfl rfl)
theorem dX9_soIn_27 : decode cX9_soIn 27 = .ok (.iconst 1, 1) := dk_4 (dk_at dksX9_soIn_1 3 rfl rfl)
theorem dX9_soIn_28 : decode cX9_soIn 28 = .ok (.iload 5, 2) := dk_21 5 (dk_at dksX9_soIn_1 4 rfl rfl)
theorem dX9_soIn_30 : decode cX9_soIn 30 = .ok (.iadd, 1) := dk_96 (dk_at dksX9_soIn_1 6 rfl rfl)
theorem dX9_soIn_31 : decode cX9_soIn 31 = .ok (.iload 4, 2) := dk_21 4 (dk_at dksX9_soIn_1 7 rfl rfl)
theorem dX9_soIn_33 : decode cX9_soIn 33 = .ok (.iload 5, 2) := dk_21 5 (dk_at dksX9_soIn_1 9 rfl rfl)
theorem dX9_soIn_35 : decode cX9_soIn 35 = .ok (.ishr, 1) := dk_122 (dk_at dksX9_soIn_1 11 rfl rfl)
theorem dX9_soIn_36 : decode cX9_soIn 36 = .ok (.iconst 1, 1) := dk_4 (dk_at dksX9_soIn_1 12 rfl rfl)
theorem dX9_soIn_37 : decode cX9_soIn 37 = .ok (.iand, 1) := dk_126 (dk_at dksX9_soIn_1 13 rfl rfl)
theorem dX9_soIn_38 : decode cX9_soIn 38 = .ok (.iastore, 1) := dk_79 (dk_at dksX9_soIn_1 14 rfl rfl)
theorem dX9_soIn_39 : decode cX9_soIn 39 = .ok (.iinc 5 1, 3) := dk_132 5 1 (dk_at dksX9_soIn_1 15 rfl rfl)
theorem dX9_soIn_42 : decode cX9_soIn 42 = .ok (.goto (-26), 3) := dk_167 255 230 (dk_at dksX9_soIn_1 18 rfl rfl)
theorem dX9_soIn_45 : decode cX9_soIn 45 = .ok (.aload_n 0, 1) := dk_42 (dk_at dksX9_soIn_1 21 rfl rfl)
theorem dX9_soIn_46 : decode cX9_soIn 46 = .ok (.iconst 0, 1) := dk_3 (dk_at dksX9_soIn_1 22 rfl rfl)
theorem dX9_soIn_47 : decode cX9_soIn 47 = .ok (.invokevirtual 266, 3) := dk_182 1 10 (dk_at dksX9_soIn_2 0 rfl rfl)
theorem dX9_soIn_50 : decode cX9_soIn 50 = .ok (.ifCond .eq 10, 3) := dk_153 0 10 (dk_at dksX9_soIn_2 3 rfl rfl)
theorem dX9_soIn_53 : decode cX9_soIn 53 = .ok (.lload_n 2, 1) := dk_32 (dk_at dksX9_soIn_2 6 rfl rfl)
theorem dX9_soIn_54 : decode cX9_soIn 54 = .ok (.lconst 1, 1) := dk_10 (dk_at dksX9_soIn_2 7 rfl rfl)
theorem dX9_soIn_55 : decode cX9_soIn 55 = .ok (.iload 4, 2) := dk_21 4 (dk_at dksX9_soIn_2 8 rfl rfl)
theorem dX9_soIn_57 : decode cX9_soIn 57 = .ok (.lshl, 1) := dk_121 (dk_at dksX9_soIn_2 10 rfl rfl)
theorem dX9_soIn_58 : decode cX9_soIn 58 = .ok (.lor, 1) := dk_129 (dk_at dksX9_soIn_2 11 rfl rfl)
theorem dX9_soIn_59 : decode cX9_soIn 59 = .ok (.lstore_n 2, 1) := dk_65 (dk_at dksX9_soIn_2 12 rfl rfl)
theorem dX9_soIn_60 : decode cX9_soIn 60 = .ok (.iinc 4 1, 3) := dk_132 4 1 (dk_at dksX9_soIn_2 13 rfl rfl)
theorem dX9_soIn_63 : decode cX9_soIn 63 = .ok (.goto (-58), 3) := dk_167 255 198 (dk_at dksX9_soIn_2 16 rfl rfl)
theorem dX9_soIn_66 : decode cX9_soIn 66 = .ok (.lload_n 2, 1) := dk_32 (dk_at dksX9_soIn_2 19 rfl rfl)
theorem dX9_soIn_67 : decode cX9_soIn 67 = .ok (.lreturn, 1) := dk_173 (dk_at dksX9_soIn_2 20 rfl rfl)
abbrev cX9_worked : ByteArray := prog_28_method_20_code
def yX9_worked : MethodName := ⟨RX9, "worked", "(I)I"⟩
def dkwX9_worked_14 : List UInt8 := [21, 5, 104, 79, 132, 3, 1, 167, 254, 194, 42, 3, 182, 1, 7, 42, 180, 0, 60, 3, 46, 172]
abbrev dktX9_worked_14 : List UInt8 := dkwX9_worked_14 ++ []
def dkwX9_worked_13 : List UInt8 := [180, 0, 78, 28, 42, 180, 0, 81, 28, 46, 154, 0, 8, 21, 5, 167, 0, 12, 42, 180, 0, 78, 28, 46]
abbrev dktX9_worked_13 : List UInt8 := dkwX9_worked_13 ++ dktX9_worked_14
def dkwX9_worked_12 : List UInt8 := [46, 4, 160, 0, 21, 21, 5, 154, 0, 7, 4, 167, 0, 4, 3, 54, 5, 132, 2, 255, 167, 255, 227, 42]
abbrev dktX9_worked_12 : List UInt8 := dkwX9_worked_12 ++ dktX9_worked_13
def dkwX9_worked_11 : List UInt8 := [28, 182, 1, 7, 42, 180, 0, 60, 28, 46, 54, 5, 132, 2, 255, 28, 158, 0, 31, 42, 180, 0, 84, 28]
abbrev dktX9_worked_11 : List UInt8 := dkwX9_worked_11 ++ dktX9_worked_12
def dkwX9_worked_10 : List UInt8 := [162, 0, 13, 42, 180, 0, 87, 21, 4, 46, 167, 0, 4, 3, 54, 5, 21, 4, 16, 29, 160, 0, 19, 42]
abbrev dktX9_worked_10 : List UInt8 := dkwX9_worked_10 ++ dktX9_worked_11
def dkwX9_worked_9 : List UInt8 := [167, 0, 122, 21, 4, 16, 100, 161, 0, 11, 21, 4, 16, 100, 100, 167, 0, 21, 21, 4, 16, 20]
abbrev dktX9_worked_9 : List UInt8 := dkwX9_worked_9 ++ dktX9_worked_10
def dkwX9_worked_8 : List UInt8 := [159, 0, 10, 21, 4, 16, 27, 160, 0, 19, 42, 28, 182, 1, 7, 42, 180, 0, 63, 28, 21, 4, 79]
abbrev dktX9_worked_8 : List UInt8 := dkwX9_worked_8 ++ dktX9_worked_9
def dkwX9_worked_7 : List UInt8 := [79, 42, 180, 0, 72, 28, 3, 79, 42, 180, 0, 75, 28, 16, 20, 79, 167, 0, 152, 21, 4, 16, 26]
abbrev dktX9_worked_7 : List UInt8 := dkwX9_worked_7 ++ dktX9_worked_8
def dkwX9_worked_6 : List UInt8 := [42, 28, 182, 1, 1, 42, 180, 0, 66, 28, 42, 180, 0, 72, 28, 46, 79, 42, 180, 0, 69, 28, 21, 4]
abbrev dktX9_worked_6 : List UInt8 := dkwX9_worked_6 ++ dktX9_worked_7
def dkwX9_worked_5 : List UInt8 := [180, 0, 81, 28, 21, 4, 79, 167, 0, 209, 21, 4, 16, 24, 159, 0, 10, 21, 4, 16, 25, 160, 0, 46]
abbrev dktX9_worked_5 : List UInt8 := dkwX9_worked_5 ++ dktX9_worked_6
def dkwX9_worked_4 : List UInt8 := [182, 1, 1, 42, 180, 0, 75, 28, 21, 4, 79, 167, 0, 227, 21, 4, 16, 22, 160, 0, 14, 42]
abbrev dktX9_worked_4 : List UInt8 := dkwX9_worked_4 ++ dktX9_worked_5
def dkwX9_worked_3 : List UInt8 := [182, 1, 4, 167, 1, 1, 21, 4, 16, 20, 159, 0, 10, 21, 4, 16, 21, 160, 0, 19, 42, 28]
abbrev dktX9_worked_3 : List UInt8 := dkwX9_worked_3 ++ dktX9_worked_4
def dkwX9_worked_2 : List UInt8 := [132, 2, 1, 42, 180, 0, 84, 28, 21, 4, 16, 30, 160, 0, 7, 4, 167, 0, 4, 3, 79, 42, 28]
abbrev dktX9_worked_2 : List UInt8 := dkwX9_worked_2 ++ dktX9_worked_3
def dkwX9_worked_1 : List UInt8 := [42, 180, 0, 45, 29, 46, 54, 4, 21, 4, 16, 28, 159, 0, 10, 21, 4, 16, 30, 160, 0, 32]
abbrev dktX9_worked_1 : List UInt8 := dkwX9_worked_1 ++ dktX9_worked_2
def dkwX9_worked_0 : List UInt8 := [3, 61, 42, 3, 182, 1, 4, 42, 180, 0, 48, 27, 46, 62, 29, 42, 180, 0, 51, 27, 46, 162, 1, 58]
abbrev dktX9_worked_0 : List UInt8 := dkwX9_worked_0 ++ dktX9_worked_1
theorem dksX9_worked_0 : cX9_worked.data.toList.drop 0 = dktX9_worked_0 := by decide +kernel
theorem dksX9_worked_1 : cX9_worked.data.toList.drop 24 = dktX9_worked_1 := dk_seg dksX9_worked_0 24 rfl rfl
theorem dksX9_worked_2 : cX9_worked.data.toList.drop 46 = dktX9_worked_2 := dk_seg dksX9_worked_1 22 rfl rfl
theorem dksX9_worked_3 : cX9_worked.data.toList.drop 69 = dktX9_worked_3 := dk_seg dksX9_worked_2 23 rfl rfl
theorem dksX9_worked_4 : cX9_worked.data.toList.drop 91 = dktX9_worked_4 := dk_seg dksX9_worked_3 22 rfl rfl
theorem dksX9_worked_5 : cX9_worked.data.toList.drop 113 = dktX9_worked_5 := dk_seg dksX9_worked_4 22 rfl rfl
theorem dksX9_worked_6 : cX9_worked.data.toList.drop 137 = dktX9_worked_6 := dk_seg dksX9_worked_5 24 rfl rfl
theorem dksX9_worked_7 : cX9_worked.data.toList.drop 161 = dktX9_worked_7 := dk_seg dksX9_worked_6 24 rfl rfl
theorem dksX9_worked_8 : cX9_worked.data.toList.drop 184 = dktX9_worked_8 := dk_seg dksX9_worked_7 23 rfl rfl
theorem dksX9_worked_9 : cX9_worked.data.toList.drop 207 = dktX9_worked_9 := dk_seg dksX9_worked_8 23 rfl rfl
theorem dksX9_worked_10 : cX9_worked.data.toList.drop 229 = dktX9_worked_10 := dk_seg dksX9_worked_9 22 rfl rfl
theorem dksX9_worked_11 : cX9_worked.data.toList.drop 253 = dktX9_worked_11 := dk_seg dksX9_worked_10 24 rfl rfl
theorem dksX9_worked_12 : cX9_worked.data.toList.drop 277 = dktX9_worked_12 := dk_seg dksX9_worked_11 24 rfl rfl
theorem dksX9_worked_13 : cX9_worked.data.toList.drop 301 = dktX9_worked_13 := dk_seg dksX9_worked_12 24 rfl rfl
theorem dksX9_worked_14 : cX9_worked.data.toList.drop 325 = dktX9_worked_14 := dk_seg dksX9_worked_13 24 rfl rfl
theorem dX9_worked_0 : decode cX9_worked 0 = .ok (.iconst 0, 1) := dk_3 (dk_at dksX9_worked_0 0 rfl rfl)
theorem dX9_worked_1 : decode cX9_worked 1 = .ok (.istore_n 2, 1) := dk_61 (dk_at dksX9_worked_0 1 rfl rfl)
theorem dX9_worked_2 : decode cX9_worked 2 = .ok (.aload_n 0, 1) := dk_42 (dk_at dksX9_worked_0 2 rfl rfl)
theorem dX9_worked_3 : decode cX9_worked 3 = .ok (.iconst 0, 1) := dk_3 (dk_at dksX9_worked_0 3 rfl rfl)
theorem dX9_worked_4 : decode cX9_worked 4 = .ok (.invokevirtual 260, 3) := dk_182 1 4 (dk_at dksX9_worked_0 4 rfl rfl)
theorem dX9_worked_7 : decode cX9_worked 7 = .ok (.aload_n 0, 1) := dk_42 (dk_at dksX9_worked_0 7 rfl rfl)
theorem dX9_worked_8 : decode cX9_worked 8 = .ok (.getfield 48, 3) := dk_180 0 48 (dk_at dksX9_worked_0 8 rfl rfl)
theorem dX9_worked_11 : decode cX9_worked 11 = .ok (.iload_n 1, 1) := dk_27 (dk_at dksX9_worked_0 11 rfl rfl)
theorem dX9_worked_12 : decode cX9_worked 12 = .ok (.iaload, 1) := dk_46 (dk_at dksX9_worked_0 12 rfl rfl)
theorem dX9_worked_13 : decode cX9_worked 13 = .ok (.istore_n 3, 1) := dk_62 (dk_at dksX9_worked_0 13 rfl rfl)
theorem dX9_worked_14 : decode cX9_worked 14 = .ok (.iload_n 3, 1) := dk_29 (dk_at dksX9_worked_0 14 rfl rfl)
theorem dX9_worked_15 : decode cX9_worked 15 = .ok (.aload_n 0, 1) := dk_42 (dk_at dksX9_worked_0 15 rfl rfl)
theorem dX9_worked_16 : decode cX9_worked 16 = .ok (.getfield 51, 3) := dk_180 0 51 (dk_at dksX9_worked_0 16 rfl rfl)
theorem dX9_worked_19 : decode cX9_worked 19 = .ok (.iload_n 1, 1) := dk_27 (dk_at dksX9_worked_0 19 rfl rfl)
theorem dX9_worked_20 : decode cX9_worked 20 = .ok (.iaload, 1) := dk_46 (dk_at dksX9_worked_0 20 rfl rfl)
theorem dX9_worked_21 : decode cX9_worked 21 = .ok (.if_icmp .ge 314, 3) := dk_162 1 58 (dk_at dksX9_worked_0 21 rfl rfl)
theorem dX9_worked_24 : decode cX9_worked 24 = .ok (.aload_n 0, 1) := dk_42 (dk_at dksX9_worked_1 0 rfl rfl)
theorem dX9_worked_25 : decode cX9_worked 25 = .ok (.getfield 45, 3) := dk_180 0 45 (dk_at dksX9_worked_1 1 rfl rfl)
theorem dX9_worked_28 : decode cX9_worked 28 = .ok (.iload_n 3, 1) := dk_29 (dk_at dksX9_worked_1 4 rfl rfl)
theorem dX9_worked_29 : decode cX9_worked 29 = .ok (.iaload, 1) := dk_46 (dk_at dksX9_worked_1 5 rfl rfl)
theorem dX9_worked_30 : decode cX9_worked 30 = .ok (.istore 4, 2) := dk_54 4 (dk_at dksX9_worked_1 6 rfl rfl)
theorem dX9_worked_32 : decode cX9_worked 32 = .ok (.iload 4, 2) := dk_21 4 (dk_at dksX9_worked_1 8 rfl rfl)
theorem dX9_worked_34 : decode cX9_worked 34 = .ok (.bipush 28, 2) := dk_16 28 (dk_at dksX9_worked_1 10 rfl rfl)
theorem dX9_worked_36 : decode cX9_worked 36 = .ok (.if_icmp .eq 10, 3) := dk_159 0 10 (dk_at dksX9_worked_1 12 rfl rfl)
theorem dX9_worked_39 : decode cX9_worked 39 = .ok (.iload 4, 2) := dk_21 4 (dk_at dksX9_worked_1 15 rfl rfl)
theorem dX9_worked_41 : decode cX9_worked 41 = .ok (.bipush 30, 2) := dk_16 30 (dk_at dksX9_worked_1 17 rfl rfl)
theorem dX9_worked_43 : decode cX9_worked 43 = .ok (.if_icmp .ne 32, 3) := dk_160 0 32 (dk_at dksX9_worked_1 19 rfl rfl)
theorem dX9_worked_46 : decode cX9_worked 46 = .ok (.iinc 2 1, 3) := dk_132 2 1 (dk_at dksX9_worked_2 0 rfl rfl)
theorem dX9_worked_49 : decode cX9_worked 49 = .ok (.aload_n 0, 1) := dk_42 (dk_at dksX9_worked_2 3 rfl rfl)
theorem dX9_worked_50 : decode cX9_worked 50 = .ok (.getfield 84, 3) := dk_180 0 84 (dk_at dksX9_worked_2 4 rfl rfl)
theorem dX9_worked_53 : decode cX9_worked 53 = .ok (.iload_n 2, 1) := dk_28 (dk_at dksX9_worked_2 7 rfl rfl)
theorem dX9_worked_54 : decode cX9_worked 54 = .ok (.iload 4, 2) := dk_21 4 (dk_at dksX9_worked_2 8 rfl rfl)
theorem dX9_worked_56 : decode cX9_worked 56 = .ok (.bipush 30, 2) := dk_16 30 (dk_at dksX9_worked_2 10 rfl rfl)
theorem dX9_worked_58 : decode cX9_worked 58 = .ok (.if_icmp .ne 7, 3) := dk_160 0 7 (dk_at dksX9_worked_2 12 rfl rfl)
theorem dX9_worked_61 : decode cX9_worked 61 = .ok (.iconst 1, 1) := dk_4 (dk_at dksX9_worked_2 15 rfl rfl)
theorem dX9_worked_62 : decode cX9_worked 62 = .ok (.goto 4, 3) := dk_167 0 4 (dk_at dksX9_worked_2 16 rfl rfl)
theorem dX9_worked_65 : decode cX9_worked 65 = .ok (.iconst 0, 1) := dk_3 (dk_at dksX9_worked_2 19 rfl rfl)
theorem dX9_worked_66 : decode cX9_worked 66 = .ok (.iastore, 1) := dk_79 (dk_at dksX9_worked_2 20 rfl rfl)
theorem dX9_worked_67 : decode cX9_worked 67 = .ok (.aload_n 0, 1) := dk_42 (dk_at dksX9_worked_2 21 rfl rfl)
theorem dX9_worked_68 : decode cX9_worked 68 = .ok (.iload_n 2, 1) := dk_28 (dk_at dksX9_worked_2 22 rfl rfl)
theorem dX9_worked_69 : decode cX9_worked 69 = .ok (.invokevirtual 260, 3) := dk_182 1 4 (dk_at dksX9_worked_3 0 rfl rfl)
theorem dX9_worked_72 : decode cX9_worked 72 = .ok (.goto 257, 3) := dk_167 1 1 (dk_at dksX9_worked_3 3 rfl rfl)
theorem dX9_worked_75 : decode cX9_worked 75 = .ok (.iload 4, 2) := dk_21 4 (dk_at dksX9_worked_3 6 rfl rfl)
theorem dX9_worked_77 : decode cX9_worked 77 = .ok (.bipush 20, 2) := dk_16 20 (dk_at dksX9_worked_3 8 rfl rfl)
theorem dX9_worked_79 : decode cX9_worked 79 = .ok (.if_icmp .eq 10, 3) := dk_159 0 10 (dk_at dksX9_worked_3 10 rfl rfl)
theorem dX9_worked_82 : decode cX9_worked 82 = .ok (.iload 4, 2) := dk_21 4 (dk_at dksX9_worked_3 13 rfl rfl)
theorem dX9_worked_84 : decode cX9_worked 84 = .ok (.bipush 21, 2) := dk_16 21 (dk_at dksX9_worked_3 15 rfl rfl)
theorem dX9_worked_86 : decode cX9_worked 86 = .ok (.if_icmp .ne 19, 3) := dk_160 0 19 (dk_at dksX9_worked_3 17 rfl rfl)
theorem dX9_worked_89 : decode cX9_worked 89 = .ok (.aload_n 0, 1) := dk_42 (dk_at dksX9_worked_3 20 rfl rfl)
theorem dX9_worked_90 : decode cX9_worked 90 = .ok (.iload_n 2, 1) := dk_28 (dk_at dksX9_worked_3 21 rfl rfl)
theorem dX9_worked_91 : decode cX9_worked 91 = .ok (.invokevirtual 257, 3) := dk_182 1 1 (dk_at dksX9_worked_4 0 rfl rfl)
theorem dX9_worked_94 : decode cX9_worked 94 = .ok (.aload_n 0, 1) := dk_42 (dk_at dksX9_worked_4 3 rfl rfl)
theorem dX9_worked_95 : decode cX9_worked 95 = .ok (.getfield 75, 3) := dk_180 0 75 (dk_at dksX9_worked_4 4 rfl rfl)
theorem dX9_worked_98 : decode cX9_worked 98 = .ok (.iload_n 2, 1) := dk_28 (dk_at dksX9_worked_4 7 rfl rfl)
theorem dX9_worked_99 : decode cX9_worked 99 = .ok (.iload 4, 2) := dk_21 4 (dk_at dksX9_worked_4 8 rfl rfl)
theorem dX9_worked_101 : decode cX9_worked 101 = .ok (.iastore, 1) := dk_79 (dk_at dksX9_worked_4 10 rfl rfl)
theorem dX9_worked_102 : decode cX9_worked 102 = .ok (.goto 227, 3) := dk_167 0 227 (dk_at dksX9_worked_4 11 rfl rfl)
theorem dX9_worked_105 : decode cX9_worked 105 = .ok (.iload 4, 2) := dk_21 4 (dk_at dksX9_worked_4 14 rfl rfl)
theorem dX9_worked_107 : decode cX9_worked 107 = .ok (.bipush 22, 2) := dk_16 22 (dk_at dksX9_worked_4 16 rfl rfl)
theorem dX9_worked_109 : decode cX9_worked 109 = .ok (.if_icmp .ne 14, 3) := dk_160 0 14 (dk_at dksX9_worked_4 18 rfl rfl)
theorem dX9_worked_112 : decode cX9_worked 112 = .ok (.aload_n 0, 1) := dk_42 (dk_at dksX9_worked_4 21 rfl rfl)
theorem dX9_worked_113 : decode cX9_worked 113 = .ok (.getfield 81, 3) := dk_180 0 81 (dk_at dksX9_worked_5 0 rfl rfl)
theorem dX9_worked_116 : decode cX9_worked 116 = .ok (.iload_n 2, 1) := dk_28 (dk_at dksX9_worked_5 3 rfl rfl)
theorem dX9_worked_117 : decode cX9_worked 117 = .ok (.iload 4, 2) := dk_21 4 (dk_at dksX9_worked_5 4 rfl rfl)
theorem dX9_worked_119 : decode cX9_worked 119 = .ok (.iastore, 1) := dk_79 (dk_at dksX9_worked_5 6 rfl rfl)
theorem dX9_worked_120 : decode cX9_worked 120 = .ok (.goto 209, 3) := dk_167 0 209 (dk_at dksX9_worked_5 7 rfl rfl)
theorem dX9_worked_123 : decode cX9_worked 123 = .ok (.iload 4, 2) := dk_21 4 (dk_at dksX9_worked_5 10 rfl rfl)
theorem dX9_worked_125 : decode cX9_worked 125 = .ok (.bipush 24, 2) := dk_16 24 (dk_at dksX9_worked_5 12 rfl rfl)
theorem dX9_worked_127 : decode cX9_worked 127 = .ok (.if_icmp .eq 10, 3) := dk_159 0 10 (dk_at dksX9_worked_5 14 rfl rfl)
theorem dX9_worked_130 : decode cX9_worked 130 = .ok (.iload 4, 2) := dk_21 4 (dk_at dksX9_worked_5 17 rfl rfl)
theorem dX9_worked_132 : decode cX9_worked 132 = .ok (.bipush 25, 2) := dk_16 25 (dk_at dksX9_worked_5 19 rfl rfl)
theorem dX9_worked_134 : decode cX9_worked 134 = .ok (.if_icmp .ne 46, 3) := dk_160 0 46 (dk_at dksX9_worked_5 21 rfl rfl)
theorem dX9_worked_137 : decode cX9_worked 137 = .ok (.aload_n 0, 1) := dk_42 (dk_at dksX9_worked_6 0 rfl rfl)
theorem dX9_worked_138 : decode cX9_worked 138 = .ok (.iload_n 2, 1) := dk_28 (dk_at dksX9_worked_6 1 rfl rfl)
theorem dX9_worked_139 : decode cX9_worked 139 = .ok (.invokevirtual 257, 3) := dk_182 1 1 (dk_at dksX9_worked_6 2 rfl rfl)
theorem dX9_worked_142 : decode cX9_worked 142 = .ok (.aload_n 0, 1) := dk_42 (dk_at dksX9_worked_6 5 rfl rfl)
theorem dX9_worked_143 : decode cX9_worked 143 = .ok (.getfield 66, 3) := dk_180 0 66 (dk_at dksX9_worked_6 6 rfl rfl)
theorem dX9_worked_146 : decode cX9_worked 146 = .ok (.iload_n 2, 1) := dk_28 (dk_at dksX9_worked_6 9 rfl rfl)
theorem dX9_worked_147 : decode cX9_worked 147 = .ok (.aload_n 0, 1) := dk_42 (dk_at dksX9_worked_6 10 rfl rfl)
theorem dX9_worked_148 : decode cX9_worked 148 = .ok (.getfield 72, 3) := dk_180 0 72 (dk_at dksX9_worked_6 11 rfl rfl)
theorem dX9_worked_151 : decode cX9_worked 151 = .ok (.iload_n 2, 1) := dk_28 (dk_at dksX9_worked_6 14 rfl rfl)
theorem dX9_worked_152 : decode cX9_worked 152 = .ok (.iaload, 1) := dk_46 (dk_at dksX9_worked_6 15 rfl rfl)
theorem dX9_worked_153 : decode cX9_worked 153 = .ok (.iastore, 1) := dk_79 (dk_at dksX9_worked_6 16 rfl rfl)
theorem dX9_worked_154 : decode cX9_worked 154 = .ok (.aload_n 0, 1) := dk_42 (dk_at dksX9_worked_6 17 rfl rfl)
theorem dX9_worked_155 : decode cX9_worked 155 = .ok (.getfield 69, 3) := dk_180 0 69 (dk_at dksX9_worked_6 18 rfl rfl)
theorem dX9_worked_158 : decode cX9_worked 158 = .ok (.iload_n 2, 1) := dk_28 (dk_at dksX9_worked_6 21 rfl rfl)
theorem dX9_worked_159 : decode cX9_worked 159 = .ok (.iload 4, 2) := dk_21 4 (dk_at dksX9_worked_6 22 rfl rfl)
theorem dX9_worked_161 : decode cX9_worked 161 = .ok (.iastore, 1) := dk_79 (dk_at dksX9_worked_7 0 rfl rfl)
theorem dX9_worked_162 : decode cX9_worked 162 = .ok (.aload_n 0, 1) := dk_42 (dk_at dksX9_worked_7 1 rfl rfl)
theorem dX9_worked_163 : decode cX9_worked 163 = .ok (.getfield 72, 3) := dk_180 0 72 (dk_at dksX9_worked_7 2 rfl rfl)
theorem dX9_worked_166 : decode cX9_worked 166 = .ok (.iload_n 2, 1) := dk_28 (dk_at dksX9_worked_7 5 rfl rfl)
theorem dX9_worked_167 : decode cX9_worked 167 = .ok (.iconst 0, 1) := dk_3 (dk_at dksX9_worked_7 6 rfl rfl)
theorem dX9_worked_168 : decode cX9_worked 168 = .ok (.iastore, 1) := dk_79 (dk_at dksX9_worked_7 7 rfl rfl)
theorem dX9_worked_169 : decode cX9_worked 169 = .ok (.aload_n 0, 1) := dk_42 (dk_at dksX9_worked_7 8 rfl rfl)
theorem dX9_worked_170 : decode cX9_worked 170 = .ok (.getfield 75, 3) := dk_180 0 75 (dk_at dksX9_worked_7 9 rfl rfl)
theorem dX9_worked_173 : decode cX9_worked 173 = .ok (.iload_n 2, 1) := dk_28 (dk_at dksX9_worked_7 12 rfl rfl)
theorem dX9_worked_174 : decode cX9_worked 174 = .ok (.bipush 20, 2) := dk_16 20 (dk_at dksX9_worked_7 13 rfl rfl)
theorem dX9_worked_176 : decode cX9_worked 176 = .ok (.iastore, 1) := dk_79 (dk_at dksX9_worked_7 15 rfl rfl)
theorem dX9_worked_177 : decode cX9_worked 177 = .ok (.goto 152, 3) := dk_167 0 152 (dk_at dksX9_worked_7 16 rfl rfl)
theorem dX9_worked_180 : decode cX9_worked 180 = .ok (.iload 4, 2) := dk_21 4 (dk_at dksX9_worked_7 19 rfl rfl)
theorem dX9_worked_182 : decode cX9_worked 182 = .ok (.bipush 26, 2) := dk_16 26 (dk_at dksX9_worked_7 21 rfl rfl)
theorem dX9_worked_184 : decode cX9_worked 184 = .ok (.if_icmp .eq 10, 3) := dk_159 0 10 (dk_at dksX9_worked_8 0 rfl rfl)
theorem dX9_worked_187 : decode cX9_worked 187 = .ok (.iload 4, 2) := dk_21 4 (dk_at dksX9_worked_8 3 rfl rfl)
theorem dX9_worked_189 : decode cX9_worked 189 = .ok (.bipush 27, 2) := dk_16 27 (dk_at dksX9_worked_8 5 rfl rfl)
theorem dX9_worked_191 : decode cX9_worked 191 = .ok (.if_icmp .ne 19, 3) := dk_160 0 19 (dk_at dksX9_worked_8 7 rfl rfl)
theorem dX9_worked_194 : decode cX9_worked 194 = .ok (.aload_n 0, 1) := dk_42 (dk_at dksX9_worked_8 10 rfl rfl)
theorem dX9_worked_195 : decode cX9_worked 195 = .ok (.iload_n 2, 1) := dk_28 (dk_at dksX9_worked_8 11 rfl rfl)
theorem dX9_worked_196 : decode cX9_worked 196 = .ok (.invokevirtual 263, 3) := dk_182 1 7 (dk_at dksX9_worked_8 12 rfl rfl)
theorem dX9_worked_199 : decode cX9_worked 199 = .ok (.aload_n 0, 1) := dk_42 (dk_at dksX9_worked_8 15 rfl rfl)
theorem dX9_worked_200 : decode cX9_worked 200 = .ok (.getfield 63, 3) := dk_180 0 63 (dk_at dksX9_worked_8 16 rfl rfl)
theorem dX9_worked_203 : decode cX9_worked 203 = .ok (.iload_n 2, 1) := dk_28 (dk_at dksX9_worked_8 19 rfl rfl)
theorem dX9_worked_204 : decode cX9_worked 204 = .ok (.iload 4, 2) := dk_21 4 (dk_at dksX9_worked_8 20 rfl rfl)
theorem dX9_worked_206 : decode cX9_worked 206 = .ok (.iastore, 1) := dk_79 (dk_at dksX9_worked_8 22 rfl rfl)
theorem dX9_worked_207 : decode cX9_worked 207 = .ok (.goto 122, 3) := dk_167 0 122 (dk_at dksX9_worked_9 0 rfl rfl)
theorem dX9_worked_210 : decode cX9_worked 210 = .ok (.iload 4, 2) := dk_21 4 (dk_at dksX9_worked_9 3 rfl rfl)
theorem dX9_worked_212 : decode cX9_worked 212 = .ok (.bipush 100, 2) := dk_16 100 (dk_at dksX9_worked_9 5 rfl rfl)
theorem dX9_worked_214 : decode cX9_worked 214 = .ok (.if_icmp .lt 11, 3) := dk_161 0 11 (dk_at dksX9_worked_9 7 rfl rfl)
theorem dX9_worked_217 : decode cX9_worked 217 = .ok (.iload 4, 2) := dk_21 4 (dk_at dksX9_worked_9 10 rfl rfl)
theorem dX9_worked_219 : decode cX9_worked 219 = .ok (.bipush 100, 2) := dk_16 100 (dk_at dksX9_worked_9 12 rfl rfl)
theorem dX9_worked_221 : decode cX9_worked 221 = .ok (.isub, 1) := dk_100 (dk_at dksX9_worked_9 14 rfl rfl)
theorem dX9_worked_222 : decode cX9_worked 222 = .ok (.goto 21, 3) := dk_167 0 21 (dk_at dksX9_worked_9 15 rfl rfl)
theorem dX9_worked_225 : decode cX9_worked 225 = .ok (.iload 4, 2) := dk_21 4 (dk_at dksX9_worked_9 18 rfl rfl)
theorem dX9_worked_227 : decode cX9_worked 227 = .ok (.bipush 20, 2) := dk_16 20 (dk_at dksX9_worked_9 20 rfl rfl)
theorem dX9_worked_229 : decode cX9_worked 229 = .ok (.if_icmp .ge 13, 3) := dk_162 0 13 (dk_at dksX9_worked_10 0 rfl rfl)
theorem dX9_worked_232 : decode cX9_worked 232 = .ok (.aload_n 0, 1) := dk_42 (dk_at dksX9_worked_10 3 rfl rfl)
theorem dX9_worked_233 : decode cX9_worked 233 = .ok (.getfield 87, 3) := dk_180 0 87 (dk_at dksX9_worked_10 4 rfl rfl)
theorem dX9_worked_236 : decode cX9_worked 236 = .ok (.iload 4, 2) := dk_21 4 (dk_at dksX9_worked_10 7 rfl rfl)
theorem dX9_worked_238 : decode cX9_worked 238 = .ok (.iaload, 1) := dk_46 (dk_at dksX9_worked_10 9 rfl rfl)
theorem dX9_worked_239 : decode cX9_worked 239 = .ok (.goto 4, 3) := dk_167 0 4 (dk_at dksX9_worked_10 10 rfl rfl)
theorem dX9_worked_242 : decode cX9_worked 242 = .ok (.iconst 0, 1) := dk_3 (dk_at dksX9_worked_10 13 rfl rfl)
theorem dX9_worked_243 : decode cX9_worked 243 = .ok (.istore 5, 2) := dk_54 5 (dk_at dksX9_worked_10 14 rfl rfl)
theorem dX9_worked_245 : decode cX9_worked 245 = .ok (.iload 4, 2) := dk_21 4 (dk_at dksX9_worked_10 16 rfl rfl)
theorem dX9_worked_247 : decode cX9_worked 247 = .ok (.bipush 29, 2) := dk_16 29 (dk_at dksX9_worked_10 18 rfl rfl)
theorem dX9_worked_249 : decode cX9_worked 249 = .ok (.if_icmp .ne 19, 3) := dk_160 0 19 (dk_at dksX9_worked_10 20 rfl rfl)
theorem dX9_worked_252 : decode cX9_worked 252 = .ok (.aload_n 0, 1) := dk_42 (dk_at dksX9_worked_10 23 rfl rfl)
theorem dX9_worked_253 : decode cX9_worked 253 = .ok (.iload_n 2, 1) := dk_28 (dk_at dksX9_worked_11 0 rfl rfl)
theorem dX9_worked_254 : decode cX9_worked 254 = .ok (.invokevirtual 263, 3) := dk_182 1 7 (dk_at dksX9_worked_11 1 rfl rfl)
theorem dX9_worked_257 : decode cX9_worked 257 = .ok (.aload_n 0, 1) := dk_42 (dk_at dksX9_worked_11 4 rfl rfl)
theorem dX9_worked_258 : decode cX9_worked 258 = .ok (.getfield 60, 3) := dk_180 0 60 (dk_at dksX9_worked_11 5 rfl rfl)
theorem dX9_worked_261 : decode cX9_worked 261 = .ok (.iload_n 2, 1) := dk_28 (dk_at dksX9_worked_11 8 rfl rfl)
theorem dX9_worked_262 : decode cX9_worked 262 = .ok (.iaload, 1) := dk_46 (dk_at dksX9_worked_11 9 rfl rfl)
theorem dX9_worked_263 : decode cX9_worked 263 = .ok (.istore 5, 2) := dk_54 5 (dk_at dksX9_worked_11 10 rfl rfl)
theorem dX9_worked_265 : decode cX9_worked 265 = .ok (.iinc 2 (-1), 3) := dk_132 2 255 (dk_at dksX9_worked_11 12 rfl rfl)
theorem dX9_worked_268 : decode cX9_worked 268 = .ok (.iload_n 2, 1) := dk_28 (dk_at dksX9_worked_11 15 rfl rfl)
theorem dX9_worked_269 : decode cX9_worked 269 = .ok (.ifCond .le 31, 3) := dk_158 0 31 (dk_at dksX9_worked_11 16 rfl rfl)
theorem dX9_worked_272 : decode cX9_worked 272 = .ok (.aload_n 0, 1) := dk_42 (dk_at dksX9_worked_11 19 rfl rfl)
theorem dX9_worked_273 : decode cX9_worked 273 = .ok (.getfield 84, 3) := dk_180 0 84 (dk_at dksX9_worked_11 20 rfl rfl)
theorem dX9_worked_276 : decode cX9_worked 276 = .ok (.iload_n 2, 1) := dk_28 (dk_at dksX9_worked_11 23 rfl rfl)
theorem dX9_worked_277 : decode cX9_worked 277 = .ok (.iaload, 1) := dk_46 (dk_at dksX9_worked_12 0 rfl rfl)
theorem dX9_worked_278 : decode cX9_worked 278 = .ok (.iconst 1, 1) := dk_4 (dk_at dksX9_worked_12 1 rfl rfl)
theorem dX9_worked_279 : decode cX9_worked 279 = .ok (.if_icmp .ne 21, 3) := dk_160 0 21 (dk_at dksX9_worked_12 2 rfl rfl)
theorem dX9_worked_282 : decode cX9_worked 282 = .ok (.iload 5, 2) := dk_21 5 (dk_at dksX9_worked_12 5 rfl rfl)
theorem dX9_worked_284 : decode cX9_worked 284 = .ok (.ifCond .ne 7, 3) := dk_154 0 7 (dk_at dksX9_worked_12 7 rfl rfl)
theorem dX9_worked_287 : decode cX9_worked 287 = .ok (.iconst 1, 1) := dk_4 (dk_at dksX9_worked_12 10 rfl rfl)
theorem dX9_worked_288 : decode cX9_worked 288 = .ok (.goto 4, 3) := dk_167 0 4 (dk_at dksX9_worked_12 11 rfl rfl)
theorem dX9_worked_291 : decode cX9_worked 291 = .ok (.iconst 0, 1) := dk_3 (dk_at dksX9_worked_12 14 rfl rfl)
theorem dX9_worked_292 : decode cX9_worked 292 = .ok (.istore 5, 2) := dk_54 5 (dk_at dksX9_worked_12 15 rfl rfl)
theorem dX9_worked_294 : decode cX9_worked 294 = .ok (.iinc 2 (-1), 3) := dk_132 2 255 (dk_at dksX9_worked_12 17 rfl rfl)
theorem dX9_worked_297 : decode cX9_worked 297 = .ok (.goto (-29), 3) := dk_167 255 227 (dk_at dksX9_worked_12 20 rfl rfl)
theorem dX9_worked_300 : decode cX9_worked 300 = .ok (.aload_n 0, 1) := dk_42 (dk_at dksX9_worked_12 23 rfl rfl)
theorem dX9_worked_301 : decode cX9_worked 301 = .ok (.getfield 78, 3) := dk_180 0 78 (dk_at dksX9_worked_13 0 rfl rfl)
theorem dX9_worked_304 : decode cX9_worked 304 = .ok (.iload_n 2, 1) := dk_28 (dk_at dksX9_worked_13 3 rfl rfl)
theorem dX9_worked_305 : decode cX9_worked 305 = .ok (.aload_n 0, 1) := dk_42 (dk_at dksX9_worked_13 4 rfl rfl)
theorem dX9_worked_306 : decode cX9_worked 306 = .ok (.getfield 81, 3) := dk_180 0 81 (dk_at dksX9_worked_13 5 rfl rfl)
theorem dX9_worked_309 : decode cX9_worked 309 = .ok (.iload_n 2, 1) := dk_28 (dk_at dksX9_worked_13 8 rfl rfl)
theorem dX9_worked_310 : decode cX9_worked 310 = .ok (.iaload, 1) := dk_46 (dk_at dksX9_worked_13 9 rfl rfl)
theorem dX9_worked_311 : decode cX9_worked 311 = .ok (.ifCond .ne 8, 3) := dk_154 0 8 (dk_at dksX9_worked_13 10 rfl rfl)
theorem dX9_worked_314 : decode cX9_worked 314 = .ok (.iload 5, 2) := dk_21 5 (dk_at dksX9_worked_13 13 rfl rfl)
theorem dX9_worked_316 : decode cX9_worked 316 = .ok (.goto 12, 3) := dk_167 0 12 (dk_at dksX9_worked_13 15 rfl rfl)
theorem dX9_worked_319 : decode cX9_worked 319 = .ok (.aload_n 0, 1) := dk_42 (dk_at dksX9_worked_13 18 rfl rfl)
theorem dX9_worked_320 : decode cX9_worked 320 = .ok (.getfield 78, 3) := dk_180 0 78 (dk_at dksX9_worked_13 19 rfl rfl)
theorem dX9_worked_323 : decode cX9_worked 323 = .ok (.iload_n 2, 1) := dk_28 (dk_at dksX9_worked_13 22 rfl rfl)
theorem dX9_worked_324 : decode cX9_worked 324 = .ok (.iaload, 1) := dk_46 (dk_at dksX9_worked_13 23 rfl rfl)
theorem dX9_worked_325 : decode cX9_worked 325 = .ok (.iload 5, 2) := dk_21 5 (dk_at dksX9_worked_14 0 rfl rfl)
theorem dX9_worked_327 : decode cX9_worked 327 = .ok (.imul, 1) := dk_104 (dk_at dksX9_worked_14 2 rfl rfl)
theorem dX9_worked_328 : decode cX9_worked 328 = .ok (.iastore, 1) := dk_79 (dk_at dksX9_worked_14 3 rfl rfl)
theorem dX9_worked_329 : decode cX9_worked 329 = .ok (.iinc 3 1, 3) := dk_132 3 1 (dk_at dksX9_worked_14 4 rfl rfl)
theorem dX9_worked_332 : decode cX9_worked 332 = .ok (.goto (-318), 3) := dk_167 254 194 (dk_at dksX9_worked_14 7 rfl rfl)
theorem dX9_worked_335 : decode cX9_worked 335 = .ok (.aload_n 0, 1) := dk_42 (dk_at dksX9_worked_14 10 rfl rfl)
theorem dX9_worked_336 : decode cX9_worked 336 = .ok (.iconst 0, 1) := dk_3 (dk_at dksX9_worked_14 11 rfl rfl)
theorem dX9_worked_337 : decode cX9_worked 337 = .ok (.invokevirtual 263, 3) := dk_182 1 7 (dk_at dksX9_worked_14 12 rfl rfl)
theorem dX9_worked_340 : decode cX9_worked 340 = .ok (.aload_n 0, 1) := dk_42 (dk_at dksX9_worked_14 15 rfl rfl)
theorem dX9_worked_341 : decode cX9_worked 341 = .ok (.getfield 60, 3) := dk_180 0 60 (dk_at dksX9_worked_14 16 rfl rfl)
theorem dX9_worked_344 : decode cX9_worked 344 = .ok (.iconst 0, 1) := dk_3 (dk_at dksX9_worked_14 19 rfl rfl)
theorem dX9_worked_345 : decode cX9_worked 345 = .ok (.iaload, 1) := dk_46 (dk_at dksX9_worked_14 20 rfl rfl)
theorem dX9_worked_346 : decode cX9_worked 346 = .ok (.ireturn, 1) := dk_172 (dk_at dksX9_worked_14 21 rfl rfl)
abbrev cX9_opens : ByteArray := prog_28_method_17_code
def yX9_opens : MethodName := ⟨RX9, "opens", "(I)V"⟩
def dkwX9_opens_1 : List UInt8 := [180, 0, 75, 27, 16, 20, 79, 42, 180, 0, 81, 27, 3, 79, 177]
abbrev dktX9_opens_1 : List UInt8 := dkwX9_opens_1 ++ []
def dkwX9_opens_0 : List UInt8 := [42, 180, 0, 63, 27, 3, 79, 42, 180, 0, 69, 27, 3, 79, 42, 180, 0, 72, 27, 3, 79, 42]
abbrev dktX9_opens_0 : List UInt8 := dkwX9_opens_0 ++ dktX9_opens_1
theorem dksX9_opens_0 : cX9_opens.data.toList.drop 0 = dktX9_opens_0 := by decide +kernel
theorem dksX9_opens_1 : cX9_opens.data.toList.drop 22 = dktX9_opens_1 := dk_seg dksX9_opens_0 22 rfl rfl
theorem dX9_opens_0 : decode cX9_opens 0 = .ok (.aload_n 0, 1) := dk_42 (dk_at dksX9_opens_0 0 rfl rfl)
theorem dX9_opens_1 : decode cX9_opens 1 = .ok (.getfield 63, 3) := dk_180 0 63 (dk_at dksX9_opens_0 1 rfl rfl)
theorem dX9_opens_4 : decode cX9_opens 4 = .ok (.iload_n 1, 1) := dk_27 (dk_at dksX9_opens_0 4 rfl rfl)
theorem dX9_opens_5 : decode cX9_opens 5 = .ok (.iconst 0, 1) := dk_3 (dk_at dksX9_opens_0 5 rfl rfl)
theorem dX9_opens_6 : decode cX9_opens 6 = .ok (.iastore, 1) := dk_79 (dk_at dksX9_opens_0 6 rfl rfl)
theorem dX9_opens_7 : decode cX9_opens 7 = .ok (.aload_n 0, 1) := dk_42 (dk_at dksX9_opens_0 7 rfl rfl)
theorem dX9_opens_8 : decode cX9_opens 8 = .ok (.getfield 69, 3) := dk_180 0 69 (dk_at dksX9_opens_0 8 rfl rfl)
theorem dX9_opens_11 : decode cX9_opens 11 = .ok (.iload_n 1, 1) := dk_27 (dk_at dksX9_opens_0 11 rfl rfl)
theorem dX9_opens_12 : decode cX9_opens 12 = .ok (.iconst 0, 1) := dk_3 (dk_at dksX9_opens_0 12 rfl rfl)
theorem dX9_opens_13 : decode cX9_opens 13 = .ok (.iastore, 1) := dk_79 (dk_at dksX9_opens_0 13 rfl rfl)
theorem dX9_opens_14 : decode cX9_opens 14 = .ok (.aload_n 0, 1) := dk_42 (dk_at dksX9_opens_0 14 rfl rfl)
theorem dX9_opens_15 : decode cX9_opens 15 = .ok (.getfield 72, 3) := dk_180 0 72 (dk_at dksX9_opens_0 15 rfl rfl)
theorem dX9_opens_18 : decode cX9_opens 18 = .ok (.iload_n 1, 1) := dk_27 (dk_at dksX9_opens_0 18 rfl rfl)
theorem dX9_opens_19 : decode cX9_opens 19 = .ok (.iconst 0, 1) := dk_3 (dk_at dksX9_opens_0 19 rfl rfl)
theorem dX9_opens_20 : decode cX9_opens 20 = .ok (.iastore, 1) := dk_79 (dk_at dksX9_opens_0 20 rfl rfl)
theorem dX9_opens_21 : decode cX9_opens 21 = .ok (.aload_n 0, 1) := dk_42 (dk_at dksX9_opens_0 21 rfl rfl)
theorem dX9_opens_22 : decode cX9_opens 22 = .ok (.getfield 75, 3) := dk_180 0 75 (dk_at dksX9_opens_1 0 rfl rfl)
theorem dX9_opens_25 : decode cX9_opens 25 = .ok (.iload_n 1, 1) := dk_27 (dk_at dksX9_opens_1 3 rfl rfl)
theorem dX9_opens_26 : decode cX9_opens 26 = .ok (.bipush 20, 2) := dk_16 20 (dk_at dksX9_opens_1 4 rfl rfl)
theorem dX9_opens_28 : decode cX9_opens 28 = .ok (.iastore, 1) := dk_79 (dk_at dksX9_opens_1 6 rfl rfl)
theorem dX9_opens_29 : decode cX9_opens 29 = .ok (.aload_n 0, 1) := dk_42 (dk_at dksX9_opens_1 7 rfl rfl)
theorem dX9_opens_30 : decode cX9_opens 30 = .ok (.getfield 81, 3) := dk_180 0 81 (dk_at dksX9_opens_1 8 rfl rfl)
theorem dX9_opens_33 : decode cX9_opens 33 = .ok (.iload_n 1, 1) := dk_27 (dk_at dksX9_opens_1 11 rfl rfl)
theorem dX9_opens_34 : decode cX9_opens 34 = .ok (.iconst 0, 1) := dk_3 (dk_at dksX9_opens_1 12 rfl rfl)
theorem dX9_opens_35 : decode cX9_opens 35 = .ok (.iastore, 1) := dk_79 (dk_at dksX9_opens_1 13 rfl rfl)
theorem dX9_opens_36 : decode cX9_opens 36 = .ok (.return_, 1) := dk_177 (dk_at dksX9_opens_1 14 rfl rfl)
abbrev cX9_sums : ByteArray := prog_28_method_18_code
def yX9_sums : MethodName := ⟨RX9, "sums", "(I)V"⟩
def dkwX9_sums_2 : List UInt8 := [180, 0, 81, 27, 3, 79, 177]
abbrev dktX9_sums_2 : List UInt8 := dkwX9_sums_2 ++ []
def dkwX9_sums_1 : List UInt8 := [180, 0, 78, 27, 46, 100, 167, 0, 16, 42, 180, 0, 72, 27, 46, 42, 180, 0, 78, 27, 46, 96, 79, 42]
abbrev dktX9_sums_1 : List UInt8 := dkwX9_sums_1 ++ dktX9_sums_2
def dkwX9_sums_0 : List UInt8 := [42, 180, 0, 72, 27, 42, 180, 0, 75, 27, 46, 16, 21, 160, 0, 19, 42, 180, 0, 72, 27, 46, 42]
abbrev dktX9_sums_0 : List UInt8 := dkwX9_sums_0 ++ dktX9_sums_1
theorem dksX9_sums_0 : cX9_sums.data.toList.drop 0 = dktX9_sums_0 := by decide +kernel
theorem dksX9_sums_1 : cX9_sums.data.toList.drop 23 = dktX9_sums_1 := dk_seg dksX9_sums_0 23 rfl rfl
theorem dksX9_sums_2 : cX9_sums.data.toList.drop 47 = dktX9_sums_2 := dk_seg dksX9_sums_1 24 rfl rfl
theorem dX9_sums_0 : decode cX9_sums 0 = .ok (.aload_n 0, 1) := dk_42 (dk_at dksX9_sums_0 0 rfl rfl)
theorem dX9_sums_1 : decode cX9_sums 1 = .ok (.getfield 72, 3) := dk_180 0 72 (dk_at dksX9_sums_0 1 rfl rfl)
theorem dX9_sums_4 : decode cX9_sums 4 = .ok (.iload_n 1, 1) := dk_27 (dk_at dksX9_sums_0 4 rfl rfl)
theorem dX9_sums_5 : decode cX9_sums 5 = .ok (.aload_n 0, 1) := dk_42 (dk_at dksX9_sums_0 5 rfl rfl)
theorem dX9_sums_6 : decode cX9_sums 6 = .ok (.getfield 75, 3) := dk_180 0 75 (dk_at dksX9_sums_0 6 rfl rfl)
theorem dX9_sums_9 : decode cX9_sums 9 = .ok (.iload_n 1, 1) := dk_27 (dk_at dksX9_sums_0 9 rfl rfl)
theorem dX9_sums_10 : decode cX9_sums 10 = .ok (.iaload, 1) := dk_46 (dk_at dksX9_sums_0 10 rfl rfl)
theorem dX9_sums_11 : decode cX9_sums 11 = .ok (.bipush 21, 2) := dk_16 21 (dk_at dksX9_sums_0 11 rfl rfl)
theorem dX9_sums_13 : decode cX9_sums 13 = .ok (.if_icmp .ne 19, 3) := dk_160 0 19 (dk_at dksX9_sums_0 13 rfl rfl)
theorem dX9_sums_16 : decode cX9_sums 16 = .ok (.aload_n 0, 1) := dk_42 (dk_at dksX9_sums_0 16 rfl rfl)
theorem dX9_sums_17 : decode cX9_sums 17 = .ok (.getfield 72, 3) := dk_180 0 72 (dk_at dksX9_sums_0 17 rfl rfl)
theorem dX9_sums_20 : decode cX9_sums 20 = .ok (.iload_n 1, 1) := dk_27 (dk_at dksX9_sums_0 20 rfl rfl)
theorem dX9_sums_21 : decode cX9_sums 21 = .ok (.iaload, 1) := dk_46 (dk_at dksX9_sums_0 21 rfl rfl)
theorem dX9_sums_22 : decode cX9_sums 22 = .ok (.aload_n 0, 1) := dk_42 (dk_at dksX9_sums_0 22 rfl rfl)
theorem dX9_sums_23 : decode cX9_sums 23 = .ok (.getfield 78, 3) := dk_180 0 78 (dk_at dksX9_sums_1 0 rfl rfl)
theorem dX9_sums_26 : decode cX9_sums 26 = .ok (.iload_n 1, 1) := dk_27 (dk_at dksX9_sums_1 3 rfl rfl)
theorem dX9_sums_27 : decode cX9_sums 27 = .ok (.iaload, 1) := dk_46 (dk_at dksX9_sums_1 4 rfl rfl)
theorem dX9_sums_28 : decode cX9_sums 28 = .ok (.isub, 1) := dk_100 (dk_at dksX9_sums_1 5 rfl rfl)
theorem dX9_sums_29 : decode cX9_sums 29 = .ok (.goto 16, 3) := dk_167 0 16 (dk_at dksX9_sums_1 6 rfl rfl)
theorem dX9_sums_32 : decode cX9_sums 32 = .ok (.aload_n 0, 1) := dk_42 (dk_at dksX9_sums_1 9 rfl rfl)
theorem dX9_sums_33 : decode cX9_sums 33 = .ok (.getfield 72, 3) := dk_180 0 72 (dk_at dksX9_sums_1 10 rfl rfl)
theorem dX9_sums_36 : decode cX9_sums 36 = .ok (.iload_n 1, 1) := dk_27 (dk_at dksX9_sums_1 13 rfl rfl)
theorem dX9_sums_37 : decode cX9_sums 37 = .ok (.iaload, 1) := dk_46 (dk_at dksX9_sums_1 14 rfl rfl)
theorem dX9_sums_38 : decode cX9_sums 38 = .ok (.aload_n 0, 1) := dk_42 (dk_at dksX9_sums_1 15 rfl rfl)
theorem dX9_sums_39 : decode cX9_sums 39 = .ok (.getfield 78, 3) := dk_180 0 78 (dk_at dksX9_sums_1 16 rfl rfl)
theorem dX9_sums_42 : decode cX9_sums 42 = .ok (.iload_n 1, 1) := dk_27 (dk_at dksX9_sums_1 19 rfl rfl)
theorem dX9_sums_43 : decode cX9_sums 43 = .ok (.iaload, 1) := dk_46 (dk_at dksX9_sums_1 20 rfl rfl)
theorem dX9_sums_44 : decode cX9_sums 44 = .ok (.iadd, 1) := dk_96 (dk_at dksX9_sums_1 21 rfl rfl)
theorem dX9_sums_45 : decode cX9_sums 45 = .ok (.iastore, 1) := dk_79 (dk_at dksX9_sums_1 22 rfl rfl)
theorem dX9_sums_46 : decode cX9_sums 46 = .ok (.aload_n 0, 1) := dk_42 (dk_at dksX9_sums_1 23 rfl rfl)
theorem dX9_sums_47 : decode cX9_sums 47 = .ok (.getfield 81, 3) := dk_180 0 81 (dk_at dksX9_sums_2 0 rfl rfl)
theorem dX9_sums_50 : decode cX9_sums 50 = .ok (.iload_n 1, 1) := dk_27 (dk_at dksX9_sums_2 3 rfl rfl)
theorem dX9_sums_51 : decode cX9_sums 51 = .ok (.iconst 0, 1) := dk_3 (dk_at dksX9_sums_2 4 rfl rfl)
theorem dX9_sums_52 : decode cX9_sums 52 = .ok (.iastore, 1) := dk_79 (dk_at dksX9_sums_2 5 rfl rfl)
theorem dX9_sums_53 : decode cX9_sums 53 = .ok (.return_, 1) := dk_177 (dk_at dksX9_sums_2 6 rfl rfl)
abbrev cX9_tests : ByteArray := prog_28_method_19_code
def yX9_tests : MethodName := ⟨RX9, "tests", "(I)V"⟩
def dkwX9_tests_7 : List UInt8 := [177]
abbrev dktX9_tests_7 : List UInt8 := dkwX9_tests_7 ++ []
def dkwX9_tests_6 : List UInt8 := [28, 79, 42, 180, 0, 69, 27, 3, 79, 42, 180, 0, 72, 27, 3, 79, 42, 180, 0, 75, 27, 16, 20, 79]
abbrev dktX9_tests_6 : List UInt8 := dkwX9_tests_6 ++ dktX9_tests_7
def dkwX9_tests_5 : List UInt8 := [42, 180, 0, 60, 27, 46, 154, 0, 7, 28, 153, 0, 7, 4, 167, 0, 4, 3, 61, 42, 180, 0, 60, 27]
abbrev dktX9_tests_5 : List UInt8 := dkwX9_tests_5 ++ dktX9_tests_6
def dkwX9_tests_4 : List UInt8 := [153, 0, 11, 28, 153, 0, 7, 4, 167, 0, 4, 3, 61, 42, 180, 0, 63, 27, 46, 16, 27, 160, 0, 22]
abbrev dktX9_tests_4 : List UInt8 := dkwX9_tests_4 ++ dktX9_tests_5
def dkwX9_tests_3 : List UInt8 := [167, 0, 4, 3, 61, 42, 180, 0, 63, 27, 46, 16, 26, 160, 0, 22, 42, 180, 0, 60, 27, 46]
abbrev dktX9_tests_3 : List UInt8 := dkwX9_tests_3 ++ dktX9_tests_4
def dkwX9_tests_2 : List UInt8 := [27, 46, 16, 25, 160, 0, 24, 42, 180, 0, 66, 27, 46, 42, 180, 0, 72, 27, 46, 160, 0, 7, 4]
abbrev dktX9_tests_2 : List UInt8 := dkwX9_tests_2 ++ dktX9_tests_3
def dkwX9_tests_1 : List UInt8 := [180, 0, 66, 27, 46, 42, 180, 0, 72, 27, 46, 162, 0, 7, 4, 167, 0, 4, 3, 61, 42, 180, 0, 69]
abbrev dktX9_tests_1 : List UInt8 := dkwX9_tests_1 ++ dktX9_tests_2
def dkwX9_tests_0 : List UInt8 := [42, 27, 182, 1, 1, 42, 180, 0, 72, 27, 46, 61, 42, 180, 0, 69, 27, 46, 16, 24, 160, 0, 24, 42]
abbrev dktX9_tests_0 : List UInt8 := dkwX9_tests_0 ++ dktX9_tests_1
theorem dksX9_tests_0 : cX9_tests.data.toList.drop 0 = dktX9_tests_0 := by decide +kernel
theorem dksX9_tests_1 : cX9_tests.data.toList.drop 24 = dktX9_tests_1 := dk_seg dksX9_tests_0 24 rfl rfl
theorem dksX9_tests_2 : cX9_tests.data.toList.drop 48 = dktX9_tests_2 := dk_seg dksX9_tests_1 24 rfl rfl
theorem dksX9_tests_3 : cX9_tests.data.toList.drop 71 = dktX9_tests_3 := dk_seg dksX9_tests_2 23 rfl rfl
theorem dksX9_tests_4 : cX9_tests.data.toList.drop 93 = dktX9_tests_4 := dk_seg dksX9_tests_3 22 rfl rfl
theorem dksX9_tests_5 : cX9_tests.data.toList.drop 117 = dktX9_tests_5 := dk_seg dksX9_tests_4 24 rfl rfl
theorem dksX9_tests_6 : cX9_tests.data.toList.drop 141 = dktX9_tests_6 := dk_seg dksX9_tests_5 24 rfl rfl
theorem dksX9_tests_7 : cX9_tests.data.toList.drop 165 = dktX9_tests_7 := dk_seg dksX9_tests_6 24 rfl rfl
theorem dX9_tests_0 : decode cX9_tests 0 = .ok (.aload_n 0, 1) := dk_42 (dk_at dksX9_tests_0 0 rfl rfl)
theorem dX9_tests_1 : decode cX9_tests 1 = .ok (.iload_n 1, 1) := dk_27 (dk_at dksX9_tests_0 1 rfl rfl)
theorem dX9_tests_2 : decode cX9_tests 2 = .ok (.invokevirtual 257, 3) := dk_182 1 1 (dk_at dksX9_tests_0 2 rfl rfl)
theorem dX9_tests_5 : decode cX9_tests 5 = .ok (.aload_n 0, 1) := dk_42 (dk_at dksX9_tests_0 5 rfl rfl)
theorem dX9_tests_6 : decode cX9_tests 6 = .ok (.getfield 72, 3) := dk_180 0 72 (dk_at dksX9_tests_0 6 rfl rfl)
theorem dX9_tests_9 : decode cX9_tests 9 = .ok (.iload_n 1, 1) := dk_27 (dk_at dksX9_tests_0 9 rfl rfl)
theorem dX9_tests_10 : decode cX9_tests 10 = .ok (.iaload, 1) := dk_46 (dk_at dksX9_tests_0 10 rfl rfl)
theorem dX9_tests_11 : decode cX9_tests 11 = .ok (.istore_n 2, 1) := dk_61 (dk_at dksX9_tests_0 11 rfl rfl)
theorem dX9_tests_12 : decode cX9_tests 12 = .ok (.aload_n 0, 1) := dk_42 (dk_at dksX9_tests_0 12 rfl rfl)
theorem dX9_tests_13 : decode cX9_tests 13 = .ok (.getfield 69, 3) := dk_180 0 69 (dk_at dksX9_tests_0 13 rfl rfl)
theorem dX9_tests_16 : decode cX9_tests 16 = .ok (.iload_n 1, 1) := dk_27 (dk_at dksX9_tests_0 16 rfl rfl)
theorem dX9_tests_17 : decode cX9_tests 17 = .ok (.iaload, 1) := dk_46 (dk_at dksX9_tests_0 17 rfl rfl)
theorem dX9_tests_18 : decode cX9_tests 18 = .ok (.bipush 24, 2) := dk_16 24 (dk_at dksX9_tests_0 18 rfl rfl)
theorem dX9_tests_20 : decode cX9_tests 20 = .ok (.if_icmp .ne 24, 3) := dk_160 0 24 (dk_at dksX9_tests_0 20 rfl rfl)
theorem dX9_tests_23 : decode cX9_tests 23 = .ok (.aload_n 0, 1) := dk_42 (dk_at dksX9_tests_0 23 rfl rfl)
theorem dX9_tests_24 : decode cX9_tests 24 = .ok (.getfield 66, 3) := dk_180 0 66 (dk_at dksX9_tests_1 0 rfl rfl)
theorem dX9_tests_27 : decode cX9_tests 27 = .ok (.iload_n 1, 1) := dk_27 (dk_at dksX9_tests_1 3 rfl rfl)
theorem dX9_tests_28 : decode cX9_tests 28 = .ok (.iaload, 1) := dk_46 (dk_at dksX9_tests_1 4 rfl rfl)
theorem dX9_tests_29 : decode cX9_tests 29 = .ok (.aload_n 0, 1) := dk_42 (dk_at dksX9_tests_1 5 rfl rfl)
theorem dX9_tests_30 : decode cX9_tests 30 = .ok (.getfield 72, 3) := dk_180 0 72 (dk_at dksX9_tests_1 6 rfl rfl)
theorem dX9_tests_33 : decode cX9_tests 33 = .ok (.iload_n 1, 1) := dk_27 (dk_at dksX9_tests_1 9 rfl rfl)
theorem dX9_tests_34 : decode cX9_tests 34 = .ok (.iaload, 1) := dk_46 (dk_at dksX9_tests_1 10 rfl rfl)
theorem dX9_tests_35 : decode cX9_tests 35 = .ok (.if_icmp .ge 7, 3) := dk_162 0 7 (dk_at dksX9_tests_1 11 rfl rfl)
theorem dX9_tests_38 : decode cX9_tests 38 = .ok (.iconst 1, 1) := dk_4 (dk_at dksX9_tests_1 14 rfl rfl)
theorem dX9_tests_39 : decode cX9_tests 39 = .ok (.goto 4, 3) := dk_167 0 4 (dk_at dksX9_tests_1 15 rfl rfl)
theorem dX9_tests_42 : decode cX9_tests 42 = .ok (.iconst 0, 1) := dk_3 (dk_at dksX9_tests_1 18 rfl rfl)
theorem dX9_tests_43 : decode cX9_tests 43 = .ok (.istore_n 2, 1) := dk_61 (dk_at dksX9_tests_1 19 rfl rfl)
theorem dX9_tests_44 : decode cX9_tests 44 = .ok (.aload_n 0, 1) := dk_42 (dk_at dksX9_tests_1 20 rfl rfl)
theorem dX9_tests_45 : decode cX9_tests 45 = .ok (.getfield 69, 3) := dk_180 0 69 (dk_at dksX9_tests_1 21 rfl rfl)
theorem dX9_tests_48 : decode cX9_tests 48 = .ok (.iload_n 1, 1) := dk_27 (dk_at dksX9_tests_2 0 rfl rfl)
theorem dX9_tests_49 : decode cX9_tests 49 = .ok (.iaload, 1) := dk_46 (dk_at dksX9_tests_2 1 rfl rfl)
theorem dX9_tests_50 : decode cX9_tests 50 = .ok (.bipush 25, 2) := dk_16 25 (dk_at dksX9_tests_2 2 rfl rfl)
theorem dX9_tests_52 : decode cX9_tests 52 = .ok (.if_icmp .ne 24, 3) := dk_160 0 24 (dk_at dksX9_tests_2 4 rfl rfl)
theorem dX9_tests_55 : decode cX9_tests 55 = .ok (.aload_n 0, 1) := dk_42 (dk_at dksX9_tests_2 7 rfl rfl)
theorem dX9_tests_56 : decode cX9_tests 56 = .ok (.getfield 66, 3) := dk_180 0 66 (dk_at dksX9_tests_2 8 rfl rfl)
theorem dX9_tests_59 : decode cX9_tests 59 = .ok (.iload_n 1, 1) := dk_27 (dk_at dksX9_tests_2 11 rfl rfl)
theorem dX9_tests_60 : decode cX9_tests 60 = .ok (.iaload, 1) := dk_46 (dk_at dksX9_tests_2 12 rfl rfl)
theorem dX9_tests_61 : decode cX9_tests 61 = .ok (.aload_n 0, 1) := dk_42 (dk_at dksX9_tests_2 13 rfl rfl)
theorem dX9_tests_62 : decode cX9_tests 62 = .ok (.getfield 72, 3) := dk_180 0 72 (dk_at dksX9_tests_2 14 rfl rfl)
theorem dX9_tests_65 : decode cX9_tests 65 = .ok (.iload_n 1, 1) := dk_27 (dk_at dksX9_tests_2 17 rfl rfl)
theorem dX9_tests_66 : decode cX9_tests 66 = .ok (.iaload, 1) := dk_46 (dk_at dksX9_tests_2 18 rfl rfl)
theorem dX9_tests_67 : decode cX9_tests 67 = .ok (.if_icmp .ne 7, 3) := dk_160 0 7 (dk_at dksX9_tests_2 19 rfl rfl)
theorem dX9_tests_70 : decode cX9_tests 70 = .ok (.iconst 1, 1) := dk_4 (dk_at dksX9_tests_2 22 rfl rfl)
theorem dX9_tests_71 : decode cX9_tests 71 = .ok (.goto 4, 3) := dk_167 0 4 (dk_at dksX9_tests_3 0 rfl rfl)
theorem dX9_tests_74 : decode cX9_tests 74 = .ok (.iconst 0, 1) := dk_3 (dk_at dksX9_tests_3 3 rfl rfl)
theorem dX9_tests_75 : decode cX9_tests 75 = .ok (.istore_n 2, 1) := dk_61 (dk_at dksX9_tests_3 4 rfl rfl)
theorem dX9_tests_76 : decode cX9_tests 76 = .ok (.aload_n 0, 1) := dk_42 (dk_at dksX9_tests_3 5 rfl rfl)
theorem dX9_tests_77 : decode cX9_tests 77 = .ok (.getfield 63, 3) := dk_180 0 63 (dk_at dksX9_tests_3 6 rfl rfl)
theorem dX9_tests_80 : decode cX9_tests 80 = .ok (.iload_n 1, 1) := dk_27 (dk_at dksX9_tests_3 9 rfl rfl)
theorem dX9_tests_81 : decode cX9_tests 81 = .ok (.iaload, 1) := dk_46 (dk_at dksX9_tests_3 10 rfl rfl)
theorem dX9_tests_82 : decode cX9_tests 82 = .ok (.bipush 26, 2) := dk_16 26 (dk_at dksX9_tests_3 11 rfl rfl)
theorem dX9_tests_84 : decode cX9_tests 84 = .ok (.if_icmp .ne 22, 3) := dk_160 0 22 (dk_at dksX9_tests_3 13 rfl rfl)
theorem dX9_tests_87 : decode cX9_tests 87 = .ok (.aload_n 0, 1) := dk_42 (dk_at dksX9_tests_3 16 rfl rfl)
theorem dX9_tests_88 : decode cX9_tests 88 = .ok (.getfield 60, 3) := dk_180 0 60 (dk_at dksX9_tests_3 17 rfl rfl)
theorem dX9_tests_91 : decode cX9_tests 91 = .ok (.iload_n 1, 1) := dk_27 (dk_at dksX9_tests_3 20 rfl rfl)
theorem dX9_tests_92 : decode cX9_tests 92 = .ok (.iaload, 1) := dk_46 (dk_at dksX9_tests_3 21 rfl rfl)
theorem dX9_tests_93 : decode cX9_tests 93 = .ok (.ifCond .eq 11, 3) := dk_153 0 11 (dk_at dksX9_tests_4 0 rfl rfl)
theorem dX9_tests_96 : decode cX9_tests 96 = .ok (.iload_n 2, 1) := dk_28 (dk_at dksX9_tests_4 3 rfl rfl)
theorem dX9_tests_97 : decode cX9_tests 97 = .ok (.ifCond .eq 7, 3) := dk_153 0 7 (dk_at dksX9_tests_4 4 rfl rfl)
theorem dX9_tests_100 : decode cX9_tests 100 = .ok (.iconst 1, 1) := dk_4 (dk_at dksX9_tests_4 7 rfl rfl)
theorem dX9_tests_101 : decode cX9_tests 101 = .ok (.goto 4, 3) := dk_167 0 4 (dk_at dksX9_tests_4 8 rfl rfl)
theorem dX9_tests_104 : decode cX9_tests 104 = .ok (.iconst 0, 1) := dk_3 (dk_at dksX9_tests_4 11 rfl rfl)
theorem dX9_tests_105 : decode cX9_tests 105 = .ok (.istore_n 2, 1) := dk_61 (dk_at dksX9_tests_4 12 rfl rfl)
theorem dX9_tests_106 : decode cX9_tests 106 = .ok (.aload_n 0, 1) := dk_42 (dk_at dksX9_tests_4 13 rfl rfl)
theorem dX9_tests_107 : decode cX9_tests 107 = .ok (.getfield 63, 3) := dk_180 0 63 (dk_at dksX9_tests_4 14 rfl rfl)
theorem dX9_tests_110 : decode cX9_tests 110 = .ok (.iload_n 1, 1) := dk_27 (dk_at dksX9_tests_4 17 rfl rfl)
theorem dX9_tests_111 : decode cX9_tests 111 = .ok (.iaload, 1) := dk_46 (dk_at dksX9_tests_4 18 rfl rfl)
theorem dX9_tests_112 : decode cX9_tests 112 = .ok (.bipush 27, 2) := dk_16 27 (dk_at dksX9_tests_4 19 rfl rfl)
theorem dX9_tests_114 : decode cX9_tests 114 = .ok (.if_icmp .ne 22, 3) := dk_160 0 22 (dk_at dksX9_tests_4 21 rfl rfl)
theorem dX9_tests_117 : decode cX9_tests 117 = .ok (.aload_n 0, 1) := dk_42 (dk_at dksX9_tests_5 0 rfl rfl)
theorem dX9_tests_118 : decode cX9_tests 118 = .ok (.getfield 60, 3) := dk_180 0 60 (dk_at dksX9_tests_5 1 rfl rfl)
theorem dX9_tests_121 : decode cX9_tests 121 = .ok (.iload_n 1, 1) := dk_27 (dk_at dksX9_tests_5 4 rfl rfl)
theorem dX9_tests_122 : decode cX9_tests 122 = .ok (.iaload, 1) := dk_46 (dk_at dksX9_tests_5 5 rfl rfl)
theorem dX9_tests_123 : decode cX9_tests 123 = .ok (.ifCond .ne 7, 3) := dk_154 0 7 (dk_at dksX9_tests_5 6 rfl rfl)
theorem dX9_tests_126 : decode cX9_tests 126 = .ok (.iload_n 2, 1) := dk_28 (dk_at dksX9_tests_5 9 rfl rfl)
theorem dX9_tests_127 : decode cX9_tests 127 = .ok (.ifCond .eq 7, 3) := dk_153 0 7 (dk_at dksX9_tests_5 10 rfl rfl)
theorem dX9_tests_130 : decode cX9_tests 130 = .ok (.iconst 1, 1) := dk_4 (dk_at dksX9_tests_5 13 rfl rfl)
theorem dX9_tests_131 : decode cX9_tests 131 = .ok (.goto 4, 3) := dk_167 0 4 (dk_at dksX9_tests_5 14 rfl rfl)
theorem dX9_tests_134 : decode cX9_tests 134 = .ok (.iconst 0, 1) := dk_3 (dk_at dksX9_tests_5 17 rfl rfl)
theorem dX9_tests_135 : decode cX9_tests 135 = .ok (.istore_n 2, 1) := dk_61 (dk_at dksX9_tests_5 18 rfl rfl)
theorem dX9_tests_136 : decode cX9_tests 136 = .ok (.aload_n 0, 1) := dk_42 (dk_at dksX9_tests_5 19 rfl rfl)
theorem dX9_tests_137 : decode cX9_tests 137 = .ok (.getfield 60, 3) := dk_180 0 60 (dk_at dksX9_tests_5 20 rfl rfl)
theorem dX9_tests_140 : decode cX9_tests 140 = .ok (.iload_n 1, 1) := dk_27 (dk_at dksX9_tests_5 23 rfl rfl)
theorem dX9_tests_141 : decode cX9_tests 141 = .ok (.iload_n 2, 1) := dk_28 (dk_at dksX9_tests_6 0 rfl rfl)
theorem dX9_tests_142 : decode cX9_tests 142 = .ok (.iastore, 1) := dk_79 (dk_at dksX9_tests_6 1 rfl rfl)
theorem dX9_tests_143 : decode cX9_tests 143 = .ok (.aload_n 0, 1) := dk_42 (dk_at dksX9_tests_6 2 rfl rfl)
theorem dX9_tests_144 : decode cX9_tests 144 = .ok (.getfield 69, 3) := dk_180 0 69 (dk_at dksX9_tests_6 3 rfl rfl)
theorem dX9_tests_147 : decode cX9_tests 147 = .ok (.iload_n 1, 1) := dk_27 (dk_at dksX9_tests_6 6 rfl rfl)
theorem dX9_tests_148 : decode cX9_tests 148 = .ok (.iconst 0, 1) := dk_3 (dk_at dksX9_tests_6 7 rfl rfl)
theorem dX9_tests_149 : decode cX9_tests 149 = .ok (.iastore, 1) := dk_79 (dk_at dksX9_tests_6 8 rfl rfl)
theorem dX9_tests_150 : decode cX9_tests 150 = .ok (.aload_n 0, 1) := dk_42 (dk_at dksX9_tests_6 9 rfl rfl)
theorem dX9_tests_151 : decode cX9_tests 151 = .ok (.getfield 72, 3) := dk_180 0 72 (dk_at dksX9_tests_6 10 rfl rfl)
theorem dX9_tests_154 : decode cX9_tests 154 = .ok (.iload_n 1, 1) := dk_27 (dk_at dksX9_tests_6 13 rfl rfl)
theorem dX9_tests_155 : decode cX9_tests 155 = .ok (.iconst 0, 1) := dk_3 (dk_at dksX9_tests_6 14 rfl rfl)
theorem dX9_tests_156 : decode cX9_tests 156 = .ok (.iastore, 1) := dk_79 (dk_at dksX9_tests_6 15 rfl rfl)
theorem dX9_tests_157 : decode cX9_tests 157 = .ok (.aload_n 0, 1) := dk_42 (dk_at dksX9_tests_6 16 rfl rfl)
theorem dX9_tests_158 : decode cX9_tests 158 = .ok (.getfield 75, 3) := dk_180 0 75 (dk_at dksX9_tests_6 17 rfl rfl)
theorem dX9_tests_161 : decode cX9_tests 161 = .ok (.iload_n 1, 1) := dk_27 (dk_at dksX9_tests_6 20 rfl rfl)
theorem dX9_tests_162 : decode cX9_tests 162 = .ok (.bipush 20, 2) := dk_16 20 (dk_at dksX9_tests_6 21 rfl rfl)
theorem dX9_tests_164 : decode cX9_tests 164 = .ok (.iastore, 1) := dk_79 (dk_at dksX9_tests_6 23 rfl rfl)
theorem dX9_tests_165 : decode cX9_tests 165 = .ok (.return_, 1) := dk_177 (dk_at dksX9_tests_7 0 rfl rfl)
abbrev cX9_allWorlds : ByteArray := prog_28_method_33_code
def yX9_allWorlds : MethodName := ⟨RX9, "allWorlds", "()J"⟩
def dkwX9_allWorlds_1 : List UInt8 := [46, 120, 121, 10, 101, 173]
abbrev dktX9_allWorlds_1 : List UInt8 := dkwX9_allWorlds_1 ++ []
def dkwX9_allWorlds_0 : List UInt8 := [42, 180, 0, 13, 3, 46, 16, 6, 160, 0, 9, 20, 1, 51, 167, 0, 15, 10, 4, 42, 180, 0, 13, 3]
abbrev dktX9_allWorlds_0 : List UInt8 := dkwX9_allWorlds_0 ++ dktX9_allWorlds_1
theorem dksX9_allWorlds_0 : cX9_allWorlds.data.toList.drop 0 = dktX9_allWorlds_0 := by decide +kernel
theorem dksX9_allWorlds_1 : cX9_allWorlds.data.toList.drop 24 = dktX9_allWorlds_1 := dk_seg dksX9_allWorlds_0 24 rfl rfl
theorem dX9_allWorlds_0 : decode cX9_allWorlds 0 = .ok (.aload_n 0, 1) := dk_42 (dk_at dksX9_allWorlds_0 0 rfl rfl)
theorem dX9_allWorlds_1 : decode cX9_allWorlds 1 = .ok (.getfield 13, 3) := dk_180 0 13 (dk_at dksX9_allWorlds_0 1 rfl rfl)
theorem dX9_allWorlds_4 : decode cX9_allWorlds 4 = .ok (.iconst 0, 1) := dk_3 (dk_at dksX9_allWorlds_0 4 rfl rfl)
theorem dX9_allWorlds_5 : decode cX9_allWorlds 5 = .ok (.iaload, 1) := dk_46 (dk_at dksX9_allWorlds_0 5 rfl rfl)
theorem dX9_allWorlds_6 : decode cX9_allWorlds 6 = .ok (.bipush 6, 2) := dk_16 6 (dk_at dksX9_allWorlds_0 6 rfl rfl)
theorem dX9_allWorlds_8 : decode cX9_allWorlds 8 = .ok (.if_icmp .ne 9, 3) := dk_160 0 9 (dk_at dksX9_allWorlds_0 8 rfl rfl)
theorem dX9_allWorlds_11 : decode cX9_allWorlds 11 = .ok (.ldc2_w 307, 3) := dk_20 1 51 (dk_at dksX9_allWorlds_0 11 rfl rfl)
theorem dX9_allWorlds_14 : decode cX9_allWorlds 14 = .ok (.goto 15, 3) := dk_167 0 15 (dk_at dksX9_allWorlds_0 14 rfl rfl)
theorem dX9_allWorlds_17 : decode cX9_allWorlds 17 = .ok (.lconst 1, 1) := dk_10 (dk_at dksX9_allWorlds_0 17 rfl rfl)
theorem dX9_allWorlds_18 : decode cX9_allWorlds 18 = .ok (.iconst 1, 1) := dk_4 (dk_at dksX9_allWorlds_0 18 rfl rfl)
theorem dX9_allWorlds_19 : decode cX9_allWorlds 19 = .ok (.aload_n 0, 1) := dk_42 (dk_at dksX9_allWorlds_0 19 rfl rfl)
theorem dX9_allWorlds_20 : decode cX9_allWorlds 20 = .ok (.getfield 13, 3) := dk_180 0 13 (dk_at dksX9_allWorlds_0 20 rfl rfl)
theorem dX9_allWorlds_23 : decode cX9_allWorlds 23 = .ok (.iconst 0, 1) := dk_3 (dk_at dksX9_allWorlds_0 23 rfl rfl)
theorem dX9_allWorlds_24 : decode cX9_allWorlds 24 = .ok (.iaload, 1) := dk_46 (dk_at dksX9_allWorlds_1 0 rfl rfl)
theorem dX9_allWorlds_25 : decode cX9_allWorlds 25 = .ok (.ishl, 1) := dk_120 (dk_at dksX9_allWorlds_1 1 rfl rfl)
theorem dX9_allWorlds_26 : decode cX9_allWorlds 26 = .ok (.lshl, 1) := dk_121 (dk_at dksX9_allWorlds_1 2 rfl rfl)
theorem dX9_allWorlds_27 : decode cX9_allWorlds 27 = .ok (.lconst 1, 1) := dk_10 (dk_at dksX9_allWorlds_1 3 rfl rfl)
theorem dX9_allWorlds_28 : decode cX9_allWorlds 28 = .ok (.lsub, 1) := dk_101 (dk_at dksX9_allWorlds_1 4 rfl rfl)
theorem dX9_allWorlds_29 : decode cX9_allWorlds 29 = .ok (.lreturn, 1) := dk_173 (dk_at dksX9_allWorlds_1 5 rfl rfl)
abbrev cX9_say : ByteArray := prog_28_method_42_code
def yX9_say : MethodName := ⟨RX9, "say", "(II)I"⟩
def dkwX9_say_3 : List UInt8 := [180, 1, 66, 29, 154, 0, 7, 4, 167, 0, 4, 3, 96, 181, 1, 66, 29, 172]
abbrev dktX9_say_3 : List UInt8 := dkwX9_say_3 ++ []
def dkwX9_say_2 : List UInt8 := [162, 0, 10, 42, 3, 181, 0, 168, 2, 172, 42, 42, 180, 1, 66, 27, 28, 182, 1, 87, 62, 42, 89]
abbrev dktX9_say_2 : List UInt8 := dkwX9_say_2 ++ dktX9_say_3
def dkwX9_say_1 : List UInt8 := [16, 24, 159, 0, 25, 42, 180, 1, 66, 158, 0, 25, 28, 42, 180, 0, 99, 42, 180, 1, 66, 4, 100, 46]
abbrev dktX9_say_1 : List UInt8 := dkwX9_say_1 ++ dktX9_say_2
def dkwX9_say_0 : List UInt8 := [42, 3, 181, 0, 162, 42, 27, 182, 1, 81, 153, 0, 41, 28, 184, 1, 84, 153, 0, 34, 42, 180, 1, 66]
abbrev dktX9_say_0 : List UInt8 := dkwX9_say_0 ++ dktX9_say_1
theorem dksX9_say_0 : cX9_say.data.toList.drop 0 = dktX9_say_0 := by decide +kernel
theorem dksX9_say_1 : cX9_say.data.toList.drop 24 = dktX9_say_1 := dk_seg dksX9_say_0 24 rfl rfl
theorem dksX9_say_2 : cX9_say.data.toList.drop 48 = dktX9_say_2 := dk_seg dksX9_say_1 24 rfl rfl
theorem dksX9_say_3 : cX9_say.data.toList.drop 71 = dktX9_say_3 := dk_seg dksX9_say_2 23 rfl rfl
theorem dX9_say_0 : decode cX9_say 0 = .ok (.aload_n 0, 1) := dk_42 (dk_at dksX9_say_0 0 rfl rfl)
theorem dX9_say_1 : decode cX9_say 1 = .ok (.iconst 0, 1) := dk_3 (dk_at dksX9_say_0 1 rfl rfl)
theorem dX9_say_2 : decode cX9_say 2 = .ok (.putfield 162, 3) := dk_181 0 162 (dk_at dksX9_say_0 2 rfl rfl)
theorem dX9_say_5 : decode cX9_say 5 = .ok (.aload_n 0, 1) := dk_42 (dk_at dksX9_say_0 5 rfl rfl)
theorem dX9_say_6 : decode cX9_say 6 = .ok (.iload_n 1, 1) := dk_27 (dk_at dksX9_say_0 6 rfl rfl)
theorem dX9_say_7 : decode cX9_say 7 = .ok (.invokevirtual 337, 3) := dk_182 1 81 (dk_at dksX9_say_0 7 rfl rfl)
theorem dX9_say_10 : decode cX9_say 10 = .ok (.ifCond .eq 41, 3) := dk_153 0 41 (dk_at dksX9_say_0 10 rfl rfl)
theorem dX9_say_13 : decode cX9_say 13 = .ok (.iload_n 2, 1) := dk_28 (dk_at dksX9_say_0 13 rfl rfl)
theorem dX9_say_14 : decode cX9_say 14 = .ok (.invokestatic 340, 3) := dk_184 1 84 (dk_at dksX9_say_0 14 rfl rfl)
theorem dX9_say_17 : decode cX9_say 17 = .ok (.ifCond .eq 34, 3) := dk_153 0 34 (dk_at dksX9_say_0 17 rfl rfl)
theorem dX9_say_20 : decode cX9_say 20 = .ok (.aload_n 0, 1) := dk_42 (dk_at dksX9_say_0 20 rfl rfl)
theorem dX9_say_21 : decode cX9_say 21 = .ok (.getfield 322, 3) := dk_180 1 66 (dk_at dksX9_say_0 21 rfl rfl)
theorem dX9_say_24 : decode cX9_say 24 = .ok (.bipush 24, 2) := dk_16 24 (dk_at dksX9_say_1 0 rfl rfl)
theorem dX9_say_26 : decode cX9_say 26 = .ok (.if_icmp .eq 25, 3) := dk_159 0 25 (dk_at dksX9_say_1 2 rfl rfl)
theorem dX9_say_29 : decode cX9_say 29 = .ok (.aload_n 0, 1) := dk_42 (dk_at dksX9_say_1 5 rfl rfl)
theorem dX9_say_30 : decode cX9_say 30 = .ok (.getfield 322, 3) := dk_180 1 66 (dk_at dksX9_say_1 6 rfl rfl)
theorem dX9_say_33 : decode cX9_say 33 = .ok (.ifCond .le 25, 3) := dk_158 0 25 (dk_at dksX9_say_1 9 rfl rfl)
theorem dX9_say_36 : decode cX9_say 36 = .ok (.iload_n 2, 1) := dk_28 (dk_at dksX9_say_1 12 rfl rfl)
theorem dX9_say_37 : decode cX9_say 37 = .ok (.aload_n 0, 1) := dk_42 (dk_at dksX9_say_1 13 rfl rfl)
theorem dX9_say_38 : decode cX9_say 38 = .ok (.getfield 99, 3) := dk_180 0 99 (dk_at dksX9_say_1 14 rfl rfl)
theorem dX9_say_41 : decode cX9_say 41 = .ok (.aload_n 0, 1) := dk_42 (dk_at dksX9_say_1 17 rfl rfl)
theorem dX9_say_42 : decode cX9_say 42 = .ok (.getfield 322, 3) := dk_180 1 66 (dk_at dksX9_say_1 18 rfl rfl)
theorem dX9_say_45 : decode cX9_say 45 = .ok (.iconst 1, 1) := dk_4 (dk_at dksX9_say_1 21 rfl rfl)
theorem dX9_say_46 : decode cX9_say 46 = .ok (.isub, 1) := dk_100 (dk_at dksX9_say_1 22 rfl rfl)
theorem dX9_say_47 : decode cX9_say 47 = .ok (.iaload, 1) := dk_46 (dk_at dksX9_say_1 23 rfl rfl)
theorem dX9_say_48 : decode cX9_say 48 = .ok (.if_icmp .ge 10, 3) := dk_162 0 10 (dk_at dksX9_say_2 0 rfl rfl)
theorem dX9_say_51 : decode cX9_say 51 = .ok (.aload_n 0, 1) := dk_42 (dk_at dksX9_say_2 3 rfl rfl)
theorem dX9_say_52 : decode cX9_say 52 = .ok (.iconst 0, 1) := dk_3 (dk_at dksX9_say_2 4 rfl rfl)
theorem dX9_say_53 : decode cX9_say 53 = .ok (.putfield 168, 3) := dk_181 0 168 (dk_at dksX9_say_2 5 rfl rfl)
theorem dX9_say_56 : decode cX9_say 56 = .ok (.iconst (-1), 1) := dk_2 (dk_at dksX9_say_2 8 rfl rfl)
theorem dX9_say_57 : decode cX9_say 57 = .ok (.ireturn, 1) := dk_172 (dk_at dksX9_say_2 9 rfl rfl)
theorem dX9_say_58 : decode cX9_say 58 = .ok (.aload_n 0, 1) := dk_42 (dk_at dksX9_say_2 10 rfl rfl)
theorem dX9_say_59 : decode cX9_say 59 = .ok (.aload_n 0, 1) := dk_42 (dk_at dksX9_say_2 11 rfl rfl)
theorem dX9_say_60 : decode cX9_say 60 = .ok (.getfield 322, 3) := dk_180 1 66 (dk_at dksX9_say_2 12 rfl rfl)
theorem dX9_say_63 : decode cX9_say 63 = .ok (.iload_n 1, 1) := dk_27 (dk_at dksX9_say_2 15 rfl rfl)
theorem dX9_say_64 : decode cX9_say 64 = .ok (.iload_n 2, 1) := dk_28 (dk_at dksX9_say_2 16 rfl rfl)
theorem dX9_say_65 : decode cX9_say 65 = .ok (.invokevirtual 343, 3) := dk_182 1 87 (dk_at dksX9_say_2 17 rfl rfl)
theorem dX9_say_68 : decode cX9_say 68 = .ok (.istore_n 3, 1) := dk_62 (dk_at dksX9_say_2 20 rfl rfl)
theorem dX9_say_69 : decode cX9_say 69 = .ok (.aload_n 0, 1) := dk_42 (dk_at dksX9_say_2 21 rfl rfl)
theorem dX9_say_70 : decode cX9_say 70 = .ok (.dup, 1) := dk_89 (dk_at dksX9_say_2 22 rfl rfl)
theorem dX9_say_71 : decode cX9_say 71 = .ok (.getfield 322, 3) := dk_180 1 66 (dk_at dksX9_say_3 0 rfl rfl)
theorem dX9_say_74 : decode cX9_say 74 = .ok (.iload_n 3, 1) := dk_29 (dk_at dksX9_say_3 3 rfl rfl)
theorem dX9_say_75 : decode cX9_say 75 = .ok (.ifCond .ne 7, 3) := dk_154 0 7 (dk_at dksX9_say_3 4 rfl rfl)
theorem dX9_say_78 : decode cX9_say 78 = .ok (.iconst 1, 1) := dk_4 (dk_at dksX9_say_3 7 rfl rfl)
theorem dX9_say_79 : decode cX9_say 79 = .ok (.goto 4, 3) := dk_167 0 4 (dk_at dksX9_say_3 8 rfl rfl)
theorem dX9_say_82 : decode cX9_say 82 = .ok (.iconst 0, 1) := dk_3 (dk_at dksX9_say_3 11 rfl rfl)
theorem dX9_say_83 : decode cX9_say 83 = .ok (.iadd, 1) := dk_96 (dk_at dksX9_say_3 12 rfl rfl)
theorem dX9_say_84 : decode cX9_say 84 = .ok (.putfield 322, 3) := dk_181 1 66 (dk_at dksX9_say_3 13 rfl rfl)
theorem dX9_say_87 : decode cX9_say 87 = .ok (.iload_n 3, 1) := dk_29 (dk_at dksX9_say_3 16 rfl rfl)
theorem dX9_say_88 : decode cX9_say 88 = .ok (.ireturn, 1) := dk_172 (dk_at dksX9_say_3 17 rfl rfl)
abbrev cX9_isPerson : ByteArray := prog_28_method_36_code
def yX9_isPerson : MethodName := ⟨RX9, "isPerson", "(I)Z"⟩
def dkwX9_isPerson_0 : List UInt8 := [27, 155, 0, 17, 27, 42, 180, 0, 13, 5, 46, 162, 0, 7, 4, 167, 0, 4, 3, 172]
abbrev dktX9_isPerson_0 : List UInt8 := dkwX9_isPerson_0 ++ []
theorem dksX9_isPerson_0 : cX9_isPerson.data.toList.drop 0 = dktX9_isPerson_0 := by decide +kernel
theorem dX9_isPerson_0 : decode cX9_isPerson 0 = .ok (.iload_n 1, 1) := dk_27 (dk_at dksX9_isPerson_0 0 rfl rfl)
theorem dX9_isPerson_1 : decode cX9_isPerson 1 = .ok (.ifCond .lt 17, 3) := dk_155 0 17 (dk_at dksX9_isPerson_0 1 rfl rfl)
theorem dX9_isPerson_4 : decode cX9_isPerson 4 = .ok (.iload_n 1, 1) := dk_27 (dk_at dksX9_isPerson_0 4 rfl rfl)
theorem dX9_isPerson_5 : decode cX9_isPerson 5 = .ok (.aload_n 0, 1) := dk_42 (dk_at dksX9_isPerson_0 5 rfl rfl)
theorem dX9_isPerson_6 : decode cX9_isPerson 6 = .ok (.getfield 13, 3) := dk_180 0 13 (dk_at dksX9_isPerson_0 6 rfl rfl)
theorem dX9_isPerson_9 : decode cX9_isPerson 9 = .ok (.iconst 2, 1) := dk_5 (dk_at dksX9_isPerson_0 9 rfl rfl)
theorem dX9_isPerson_10 : decode cX9_isPerson 10 = .ok (.iaload, 1) := dk_46 (dk_at dksX9_isPerson_0 10 rfl rfl)
theorem dX9_isPerson_11 : decode cX9_isPerson 11 = .ok (.if_icmp .ge 7, 3) := dk_162 0 7 (dk_at dksX9_isPerson_0 11 rfl rfl)
theorem dX9_isPerson_14 : decode cX9_isPerson 14 = .ok (.iconst 1, 1) := dk_4 (dk_at dksX9_isPerson_0 14 rfl rfl)
theorem dX9_isPerson_15 : decode cX9_isPerson 15 = .ok (.goto 4, 3) := dk_167 0 4 (dk_at dksX9_isPerson_0 15 rfl rfl)
theorem dX9_isPerson_18 : decode cX9_isPerson 18 = .ok (.iconst 0, 1) := dk_3 (dk_at dksX9_isPerson_0 18 rfl rfl)
theorem dX9_isPerson_19 : decode cX9_isPerson 19 = .ok (.ireturn, 1) := dk_172 (dk_at dksX9_isPerson_0 19 rfl rfl)
abbrev cX9_isMinute : ByteArray := prog_28_method_40_code
def yX9_isMinute : MethodName := ⟨RX9, "isMinute", "(I)Z"⟩
def dkwX9_isMinute_0 : List UInt8 := [26, 155, 0, 14, 26, 17, 5, 160, 162, 0, 7, 4, 167, 0, 4, 3, 172]
abbrev dktX9_isMinute_0 : List UInt8 := dkwX9_isMinute_0 ++ []
theorem dksX9_isMinute_0 : cX9_isMinute.data.toList.drop 0 = dktX9_isMinute_0 := by decide +kernel
theorem dX9_isMinute_0 : decode cX9_isMinute 0 = .ok (.iload_n 0, 1) := dk_26 (dk_at dksX9_isMinute_0 0 rfl rfl)
theorem dX9_isMinute_1 : decode cX9_isMinute 1 = .ok (.ifCond .lt 14, 3) := dk_155 0 14 (dk_at dksX9_isMinute_0 1 rfl rfl)
theorem dX9_isMinute_4 : decode cX9_isMinute 4 = .ok (.iload_n 0, 1) := dk_26 (dk_at dksX9_isMinute_0 4 rfl rfl)
theorem dX9_isMinute_5 : decode cX9_isMinute 5 = .ok (.sipush 1440, 3) := dk_17 5 160 (dk_at dksX9_isMinute_0 5 rfl rfl)
theorem dX9_isMinute_8 : decode cX9_isMinute 8 = .ok (.if_icmp .ge 7, 3) := dk_162 0 7 (dk_at dksX9_isMinute_0 8 rfl rfl)
theorem dX9_isMinute_11 : decode cX9_isMinute 11 = .ok (.iconst 1, 1) := dk_4 (dk_at dksX9_isMinute_0 11 rfl rfl)
theorem dX9_isMinute_12 : decode cX9_isMinute 12 = .ok (.goto 4, 3) := dk_167 0 4 (dk_at dksX9_isMinute_0 12 rfl rfl)
theorem dX9_isMinute_15 : decode cX9_isMinute 15 = .ok (.iconst 0, 1) := dk_3 (dk_at dksX9_isMinute_0 15 rfl rfl)
theorem dX9_isMinute_16 : decode cX9_isMinute 16 = .ok (.ireturn, 1) := dk_172 (dk_at dksX9_isMinute_0 16 rfl rfl)
abbrev cX9_lays : ByteArray := prog_28_method_41_code
def yX9_lays : MethodName := ⟨RX9, "lays", "(III)I"⟩
def dkwX9_lays_6 : List UInt8 := [180, 0, 13, 3, 46, 182, 1, 32, 80, 3, 172]
abbrev dktX9_lays_6 : List UInt8 := dkwX9_lays_6 ++ []
def dkwX9_lays_5 : List UInt8 := [180, 0, 105, 27, 21, 4, 84, 42, 180, 0, 102, 27, 21, 4, 153, 0, 7, 9, 167, 0, 13, 42, 42]
abbrev dktX9_lays_5 : List UInt8 := dkwX9_lays_5 ++ dktX9_lays_6
def dkwX9_lays_4 : List UInt8 := [154, 0, 8, 42, 180, 0, 198, 172, 42, 180, 0, 96, 27, 28, 79, 42, 180, 0, 99, 27, 29, 79, 42]
abbrev dktX9_lays_4 : List UInt8 := dkwX9_lays_4 ++ dktX9_lays_5
def dkwX9_lays_3 : List UInt8 := [180, 0, 187, 154, 0, 7, 4, 167, 0, 4, 3, 54, 4, 21, 4, 154, 0, 16, 42, 4, 182, 1, 28]
abbrev dktX9_lays_3 : List UInt8 := dkwX9_lays_3 ++ dktX9_lays_4
def dkwX9_lays_2 : List UInt8 := [21, 4, 96, 42, 180, 0, 16, 21, 4, 47, 80, 132, 4, 1, 167, 255, 229, 42, 182, 1, 53, 42]
abbrev dktX9_lays_2 : List UInt8 := dkwX9_lays_2 ++ dktX9_lays_3
def dkwX9_lays_1 : List UInt8 := [79, 132, 4, 1, 167, 255, 231, 3, 54, 4, 21, 4, 16, 18, 162, 0, 26, 42, 180, 0, 16, 16, 18]
abbrev dktX9_lays_1 : List UInt8 := dkwX9_lays_1 ++ dktX9_lays_2
def dkwX9_lays_0 : List UInt8 := [3, 54, 4, 21, 4, 6, 162, 0, 25, 42, 180, 0, 13, 6, 21, 4, 96, 42, 180, 0, 13, 21, 4, 46]
abbrev dktX9_lays_0 : List UInt8 := dkwX9_lays_0 ++ dktX9_lays_1
theorem dksX9_lays_0 : cX9_lays.data.toList.drop 0 = dktX9_lays_0 := by decide +kernel
theorem dksX9_lays_1 : cX9_lays.data.toList.drop 24 = dktX9_lays_1 := dk_seg dksX9_lays_0 24 rfl rfl
theorem dksX9_lays_2 : cX9_lays.data.toList.drop 47 = dktX9_lays_2 := dk_seg dksX9_lays_1 23 rfl rfl
theorem dksX9_lays_3 : cX9_lays.data.toList.drop 69 = dktX9_lays_3 := dk_seg dksX9_lays_2 22 rfl rfl
theorem dksX9_lays_4 : cX9_lays.data.toList.drop 92 = dktX9_lays_4 := dk_seg dksX9_lays_3 23 rfl rfl
theorem dksX9_lays_5 : cX9_lays.data.toList.drop 115 = dktX9_lays_5 := dk_seg dksX9_lays_4 23 rfl rfl
theorem dksX9_lays_6 : cX9_lays.data.toList.drop 138 = dktX9_lays_6 := dk_seg dksX9_lays_5 23 rfl rfl
theorem dX9_lays_0 : decode cX9_lays 0 = .ok (.iconst 0, 1) := dk_3 (dk_at dksX9_lays_0 0 rfl rfl)
theorem dX9_lays_1 : decode cX9_lays 1 = .ok (.istore 4, 2) := dk_54 4 (dk_at dksX9_lays_0 1 rfl rfl)
theorem dX9_lays_3 : decode cX9_lays 3 = .ok (.iload 4, 2) := dk_21 4 (dk_at dksX9_lays_0 3 rfl rfl)
theorem dX9_lays_5 : decode cX9_lays 5 = .ok (.iconst 3, 1) := dk_6 (dk_at dksX9_lays_0 5 rfl rfl)
theorem dX9_lays_6 : decode cX9_lays 6 = .ok (.if_icmp .ge 25, 3) := dk_162 0 25 (dk_at dksX9_lays_0 6 rfl rfl)
theorem dX9_lays_9 : decode cX9_lays 9 = .ok (.aload_n 0, 1) := dk_42 (dk_at dksX9_lays_0 9 rfl rfl)
theorem dX9_lays_10 : decode cX9_lays 10 = .ok (.getfield 13, 3) := dk_180 0 13 (dk_at dksX9_lays_0 10 rfl rfl)
theorem dX9_lays_13 : decode cX9_lays 13 = .ok (.iconst 3, 1) := dk_6 (dk_at dksX9_lays_0 13 rfl rfl)
theorem dX9_lays_14 : decode cX9_lays 14 = .ok (.iload 4, 2) := dk_21 4 (dk_at dksX9_lays_0 14 rfl rfl)
theorem dX9_lays_16 : decode cX9_lays 16 = .ok (.iadd, 1) := dk_96 (dk_at dksX9_lays_0 16 rfl rfl)
theorem dX9_lays_17 : decode cX9_lays 17 = .ok (.aload_n 0, 1) := dk_42 (dk_at dksX9_lays_0 17 rfl rfl)
theorem dX9_lays_18 : decode cX9_lays 18 = .ok (.getfield 13, 3) := dk_180 0 13 (dk_at dksX9_lays_0 18 rfl rfl)
theorem dX9_lays_21 : decode cX9_lays 21 = .ok (.iload 4, 2) := dk_21 4 (dk_at dksX9_lays_0 21 rfl rfl)
theorem dX9_lays_23 : decode cX9_lays 23 = .ok (.iaload, 1) := dk_46 (dk_at dksX9_lays_0 23 rfl rfl)
theorem dX9_lays_24 : decode cX9_lays 24 = .ok (.iastore, 1) := dk_79 (dk_at dksX9_lays_1 0 rfl rfl)
theorem dX9_lays_25 : decode cX9_lays 25 = .ok (.iinc 4 1, 3) := dk_132 4 1 (dk_at dksX9_lays_1 1 rfl rfl)
theorem dX9_lays_28 : decode cX9_lays 28 = .ok (.goto (-25), 3) := dk_167 255 231 (dk_at dksX9_lays_1 4 rfl rfl)
theorem dX9_lays_31 : decode cX9_lays 31 = .ok (.iconst 0, 1) := dk_3 (dk_at dksX9_lays_1 7 rfl rfl)
theorem dX9_lays_32 : decode cX9_lays 32 = .ok (.istore 4, 2) := dk_54 4 (dk_at dksX9_lays_1 8 rfl rfl)
theorem dX9_lays_34 : decode cX9_lays 34 = .ok (.iload 4, 2) := dk_21 4 (dk_at dksX9_lays_1 10 rfl rfl)
theorem dX9_lays_36 : decode cX9_lays 36 = .ok (.bipush 18, 2) := dk_16 18 (dk_at dksX9_lays_1 12 rfl rfl)
theorem dX9_lays_38 : decode cX9_lays 38 = .ok (.if_icmp .ge 26, 3) := dk_162 0 26 (dk_at dksX9_lays_1 14 rfl rfl)
theorem dX9_lays_41 : decode cX9_lays 41 = .ok (.aload_n 0, 1) := dk_42 (dk_at dksX9_lays_1 17 rfl rfl)
theorem dX9_lays_42 : decode cX9_lays 42 = .ok (.getfield 16, 3) := dk_180 0 16 (dk_at dksX9_lays_1 18 rfl rfl)
theorem dX9_lays_45 : decode cX9_lays 45 = .ok (.bipush 18, 2) := dk_16 18 (dk_at dksX9_lays_1 21 rfl rfl)
theorem dX9_lays_47 : decode cX9_lays 47 = .ok (.iload 4, 2) := dk_21 4 (dk_at dksX9_lays_2 0 rfl rfl)
theorem dX9_lays_49 : decode cX9_lays 49 = .ok (.iadd, 1) := dk_96 (dk_at dksX9_lays_2 2 rfl rfl)
theorem dX9_lays_50 : decode cX9_lays 50 = .ok (.aload_n 0, 1) := dk_42 (dk_at dksX9_lays_2 3 rfl rfl)
theorem dX9_lays_51 : decode cX9_lays 51 = .ok (.getfield 16, 3) := dk_180 0 16 (dk_at dksX9_lays_2 4 rfl rfl)
theorem dX9_lays_54 : decode cX9_lays 54 = .ok (.iload 4, 2) := dk_21 4 (dk_at dksX9_lays_2 7 rfl rfl)
theorem dX9_lays_56 : decode cX9_lays 56 = .ok (.laload, 1) := dk_47 (dk_at dksX9_lays_2 9 rfl rfl)
theorem dX9_lays_57 : decode cX9_lays 57 = .ok (.lastore, 1) := dk_80 (dk_at dksX9_lays_2 10 rfl rfl)
theorem dX9_lays_58 : decode cX9_lays 58 = .ok (.iinc 4 1, 3) := dk_132 4 1 (dk_at dksX9_lays_2 11 rfl rfl)
theorem dX9_lays_61 : decode cX9_lays 61 = .ok (.goto (-27), 3) := dk_167 255 229 (dk_at dksX9_lays_2 14 rfl rfl)
theorem dX9_lays_64 : decode cX9_lays 64 = .ok (.aload_n 0, 1) := dk_42 (dk_at dksX9_lays_2 17 rfl rfl)
theorem dX9_lays_65 : decode cX9_lays 65 = .ok (.invokevirtual 309, 3) := dk_182 1 53 (dk_at dksX9_lays_2 18 rfl rfl)
theorem dX9_lays_68 : decode cX9_lays 68 = .ok (.aload_n 0, 1) := dk_42 (dk_at dksX9_lays_2 21 rfl rfl)
theorem dX9_lays_69 : decode cX9_lays 69 = .ok (.getfield 187, 3) := dk_180 0 187 (dk_at dksX9_lays_3 0 rfl rfl)
theorem dX9_lays_72 : decode cX9_lays 72 = .ok (.ifCond .ne 7, 3) := dk_154 0 7 (dk_at dksX9_lays_3 3 rfl rfl)
theorem dX9_lays_75 : decode cX9_lays 75 = .ok (.iconst 1, 1) := dk_4 (dk_at dksX9_lays_3 6 rfl rfl)
theorem dX9_lays_76 : decode cX9_lays 76 = .ok (.goto 4, 3) := dk_167 0 4 (dk_at dksX9_lays_3 7 rfl rfl)
theorem dX9_lays_79 : decode cX9_lays 79 = .ok (.iconst 0, 1) := dk_3 (dk_at dksX9_lays_3 10 rfl rfl)
theorem dX9_lays_80 : decode cX9_lays 80 = .ok (.istore 4, 2) := dk_54 4 (dk_at dksX9_lays_3 11 rfl rfl)
theorem dX9_lays_82 : decode cX9_lays 82 = .ok (.iload 4, 2) := dk_21 4 (dk_at dksX9_lays_3 13 rfl rfl)
theorem dX9_lays_84 : decode cX9_lays 84 = .ok (.ifCond .ne 16, 3) := dk_154 0 16 (dk_at dksX9_lays_3 15 rfl rfl)
theorem dX9_lays_87 : decode cX9_lays 87 = .ok (.aload_n 0, 1) := dk_42 (dk_at dksX9_lays_3 18 rfl rfl)
theorem dX9_lays_88 : decode cX9_lays 88 = .ok (.iconst 1, 1) := dk_4 (dk_at dksX9_lays_3 19 rfl rfl)
theorem dX9_lays_89 : decode cX9_lays 89 = .ok (.invokevirtual 284, 3) := dk_182 1 28 (dk_at dksX9_lays_3 20 rfl rfl)
theorem dX9_lays_92 : decode cX9_lays 92 = .ok (.ifCond .ne 8, 3) := dk_154 0 8 (dk_at dksX9_lays_4 0 rfl rfl)
theorem dX9_lays_95 : decode cX9_lays 95 = .ok (.aload_n 0, 1) := dk_42 (dk_at dksX9_lays_4 3 rfl rfl)
theorem dX9_lays_96 : decode cX9_lays 96 = .ok (.getfield 198, 3) := dk_180 0 198 (dk_at dksX9_lays_4 4 rfl rfl)
theorem dX9_lays_99 : decode cX9_lays 99 = .ok (.ireturn, 1) := dk_172 (dk_at dksX9_lays_4 7 rfl rfl)
theorem dX9_lays_100 : decode cX9_lays 100 = .ok (.aload_n 0, 1) := dk_42 (dk_at dksX9_lays_4 8 rfl rfl)
theorem dX9_lays_101 : decode cX9_lays 101 = .ok (.getfield 96, 3) := dk_180 0 96 (dk_at dksX9_lays_4 9 rfl rfl)
theorem dX9_lays_104 : decode cX9_lays 104 = .ok (.iload_n 1, 1) := dk_27 (dk_at dksX9_lays_4 12 rfl rfl)
theorem dX9_lays_105 : decode cX9_lays 105 = .ok (.iload_n 2, 1) := dk_28 (dk_at dksX9_lays_4 13 rfl rfl)
theorem dX9_lays_106 : decode cX9_lays 106 = .ok (.iastore, 1) := dk_79 (dk_at dksX9_lays_4 14 rfl rfl)
theorem dX9_lays_107 : decode cX9_lays 107 = .ok (.aload_n 0, 1) := dk_42 (dk_at dksX9_lays_4 15 rfl rfl)
theorem dX9_lays_108 : decode cX9_lays 108 = .ok (.getfield 99, 3) := dk_180 0 99 (dk_at dksX9_lays_4 16 rfl rfl)
theorem dX9_lays_111 : decode cX9_lays 111 = .ok (.iload_n 1, 1) := dk_27 (dk_at dksX9_lays_4 19 rfl rfl)
theorem dX9_lays_112 : decode cX9_lays 112 = .ok (.iload_n 3, 1) := dk_29 (dk_at dksX9_lays_4 20 rfl rfl)
theorem dX9_lays_113 : decode cX9_lays 113 = .ok (.iastore, 1) := dk_79 (dk_at dksX9_lays_4 21 rfl rfl)
theorem dX9_lays_114 : decode cX9_lays 114 = .ok (.aload_n 0, 1) := dk_42 (dk_at dksX9_lays_4 22 rfl rfl)
theorem dX9_lays_115 : decode cX9_lays 115 = .ok (.getfield 105, 3) := dk_180 0 105 (dk_at dksX9_lays_5 0 rfl rfl)
theorem dX9_lays_118 : decode cX9_lays 118 = .ok (.iload_n 1, 1) := dk_27 (dk_at dksX9_lays_5 3 rfl rfl)
theorem dX9_lays_119 : decode cX9_lays 119 = .ok (.iload 4, 2) := dk_21 4 (dk_at dksX9_lays_5 4 rfl rfl)
theorem dX9_lays_121 : decode cX9_lays 121 = .ok (.bastore, 1) := dk_84 (dk_at dksX9_lays_5 6 rfl rfl)
theorem dX9_lays_122 : decode cX9_lays 122 = .ok (.aload_n 0, 1) := dk_42 (dk_at dksX9_lays_5 7 rfl rfl)
theorem dX9_lays_123 : decode cX9_lays 123 = .ok (.getfield 102, 3) := dk_180 0 102 (dk_at dksX9_lays_5 8 rfl rfl)
theorem dX9_lays_126 : decode cX9_lays 126 = .ok (.iload_n 1, 1) := dk_27 (dk_at dksX9_lays_5 11 rfl rfl)
theorem dX9_lays_127 : decode cX9_lays 127 = .ok (.iload 4, 2) := dk_21 4 (dk_at dksX9_lays_5 12 rfl rfl)
theorem dX9_lays_129 : decode cX9_lays 129 = .ok (.ifCond .eq 7, 3) := dk_153 0 7 (dk_at dksX9_lays_5 14 rfl rfl)
theorem dX9_lays_132 : decode cX9_lays 132 = .ok (.lconst 0, 1) := dk_9 (dk_at dksX9_lays_5 17 rfl rfl)
theorem dX9_lays_133 : decode cX9_lays 133 = .ok (.goto 13, 3) := dk_167 0 13 (dk_at dksX9_lays_5 18 rfl rfl)
theorem dX9_lays_136 : decode cX9_lays 136 = .ok (.aload_n 0, 1) := dk_42 (dk_at dksX9_lays_5 21 rfl rfl)
theorem dX9_lays_137 : decode cX9_lays 137 = .ok (.aload_n 0, 1) := dk_42 (dk_at dksX9_lays_5 22 rfl rfl)
theorem dX9_lays_138 : decode cX9_lays 138 = .ok (.getfield 13, 3) := dk_180 0 13 (dk_at dksX9_lays_6 0 rfl rfl)
theorem dX9_lays_141 : decode cX9_lays 141 = .ok (.iconst 0, 1) := dk_3 (dk_at dksX9_lays_6 3 rfl rfl)
theorem dX9_lays_142 : decode cX9_lays 142 = .ok (.iaload, 1) := dk_46 (dk_at dksX9_lays_6 4 rfl rfl)
theorem dX9_lays_143 : decode cX9_lays 143 = .ok (.invokevirtual 288, 3) := dk_182 1 32 (dk_at dksX9_lays_6 5 rfl rfl)
theorem dX9_lays_146 : decode cX9_lays 146 = .ok (.lastore, 1) := dk_80 (dk_at dksX9_lays_6 8 rfl rfl)
theorem dX9_lays_147 : decode cX9_lays 147 = .ok (.iconst 0, 1) := dk_3 (dk_at dksX9_lays_6 9 rfl rfl)
theorem dX9_lays_148 : decode cX9_lays 148 = .ok (.ireturn, 1) := dk_172 (dk_at dksX9_lays_6 10 rfl rfl)
abbrev cX9_offer : ByteArray := prog_28_method_43_code
def yX9_offer : MethodName := ⟨RX9, "offer", "(II)I"⟩
def dkwX9_offer_2 : List UInt8 := [182, 1, 87, 62, 42, 89, 180, 1, 69, 29, 154, 0, 7, 4, 167, 0, 4, 3, 96, 181, 1, 69, 29, 172]
abbrev dktX9_offer_2 : List UInt8 := dkwX9_offer_2 ++ []
def dkwX9_offer_1 : List UInt8 := [16, 6, 160, 0, 10, 42, 3, 181, 0, 168, 2, 172, 42, 16, 24, 42, 180, 1, 69, 96, 27, 28]
abbrev dktX9_offer_1 : List UInt8 := dkwX9_offer_1 ++ dktX9_offer_2
def dkwX9_offer_0 : List UInt8 := [42, 3, 181, 0, 162, 42, 27, 182, 1, 81, 153, 0, 19, 28, 184, 1, 84, 153, 0, 12, 42, 180, 1, 69]
abbrev dktX9_offer_0 : List UInt8 := dkwX9_offer_0 ++ dktX9_offer_1
theorem dksX9_offer_0 : cX9_offer.data.toList.drop 0 = dktX9_offer_0 := by decide +kernel
theorem dksX9_offer_1 : cX9_offer.data.toList.drop 24 = dktX9_offer_1 := dk_seg dksX9_offer_0 24 rfl rfl
theorem dksX9_offer_2 : cX9_offer.data.toList.drop 46 = dktX9_offer_2 := dk_seg dksX9_offer_1 22 rfl rfl
theorem dX9_offer_0 : decode cX9_offer 0 = .ok (.aload_n 0, 1) := dk_42 (dk_at dksX9_offer_0 0 rfl rfl)
theorem dX9_offer_1 : decode cX9_offer 1 = .ok (.iconst 0, 1) := dk_3 (dk_at dksX9_offer_0 1 rfl rfl)
theorem dX9_offer_2 : decode cX9_offer 2 = .ok (.putfield 162, 3) := dk_181 0 162 (dk_at dksX9_offer_0 2 rfl rfl)
theorem dX9_offer_5 : decode cX9_offer 5 = .ok (.aload_n 0, 1) := dk_42 (dk_at dksX9_offer_0 5 rfl rfl)
theorem dX9_offer_6 : decode cX9_offer 6 = .ok (.iload_n 1, 1) := dk_27 (dk_at dksX9_offer_0 6 rfl rfl)
theorem dX9_offer_7 : decode cX9_offer 7 = .ok (.invokevirtual 337, 3) := dk_182 1 81 (dk_at dksX9_offer_0 7 rfl rfl)
theorem dX9_offer_10 : decode cX9_offer 10 = .ok (.ifCond .eq 19, 3) := dk_153 0 19 (dk_at dksX9_offer_0 10 rfl rfl)
theorem dX9_offer_13 : decode cX9_offer 13 = .ok (.iload_n 2, 1) := dk_28 (dk_at dksX9_offer_0 13 rfl rfl)
theorem dX9_offer_14 : decode cX9_offer 14 = .ok (.invokestatic 340, 3) := dk_184 1 84 (dk_at dksX9_offer_0 14 rfl rfl)
theorem dX9_offer_17 : decode cX9_offer 17 = .ok (.ifCond .eq 12, 3) := dk_153 0 12 (dk_at dksX9_offer_0 17 rfl rfl)
theorem dX9_offer_20 : decode cX9_offer 20 = .ok (.aload_n 0, 1) := dk_42 (dk_at dksX9_offer_0 20 rfl rfl)
theorem dX9_offer_21 : decode cX9_offer 21 = .ok (.getfield 325, 3) := dk_180 1 69 (dk_at dksX9_offer_0 21 rfl rfl)
theorem dX9_offer_24 : decode cX9_offer 24 = .ok (.bipush 6, 2) := dk_16 6 (dk_at dksX9_offer_1 0 rfl rfl)
theorem dX9_offer_26 : decode cX9_offer 26 = .ok (.if_icmp .ne 10, 3) := dk_160 0 10 (dk_at dksX9_offer_1 2 rfl rfl)
theorem dX9_offer_29 : decode cX9_offer 29 = .ok (.aload_n 0, 1) := dk_42 (dk_at dksX9_offer_1 5 rfl rfl)
theorem dX9_offer_30 : decode cX9_offer 30 = .ok (.iconst 0, 1) := dk_3 (dk_at dksX9_offer_1 6 rfl rfl)
theorem dX9_offer_31 : decode cX9_offer 31 = .ok (.putfield 168, 3) := dk_181 0 168 (dk_at dksX9_offer_1 7 rfl rfl)
theorem dX9_offer_34 : decode cX9_offer 34 = .ok (.iconst (-1), 1) := dk_2 (dk_at dksX9_offer_1 10 rfl rfl)
theorem dX9_offer_35 : decode cX9_offer 35 = .ok (.ireturn, 1) := dk_172 (dk_at dksX9_offer_1 11 rfl rfl)
theorem dX9_offer_36 : decode cX9_offer 36 = .ok (.aload_n 0, 1) := dk_42 (dk_at dksX9_offer_1 12 rfl rfl)
theorem dX9_offer_37 : decode cX9_offer 37 = .ok (.bipush 24, 2) := dk_16 24 (dk_at dksX9_offer_1 13 rfl rfl)
theorem dX9_offer_39 : decode cX9_offer 39 = .ok (.aload_n 0, 1) := dk_42 (dk_at dksX9_offer_1 15 rfl rfl)
theorem dX9_offer_40 : decode cX9_offer 40 = .ok (.getfield 325, 3) := dk_180 1 69 (dk_at dksX9_offer_1 16 rfl rfl)
theorem dX9_offer_43 : decode cX9_offer 43 = .ok (.iadd, 1) := dk_96 (dk_at dksX9_offer_1 19 rfl rfl)
theorem dX9_offer_44 : decode cX9_offer 44 = .ok (.iload_n 1, 1) := dk_27 (dk_at dksX9_offer_1 20 rfl rfl)
theorem dX9_offer_45 : decode cX9_offer 45 = .ok (.iload_n 2, 1) := dk_28 (dk_at dksX9_offer_1 21 rfl rfl)
theorem dX9_offer_46 : decode cX9_offer 46 = .ok (.invokevirtual 343, 3) := dk_182 1 87 (dk_at dksX9_offer_2 0 rfl rfl)
theorem dX9_offer_49 : decode cX9_offer 49 = .ok (.istore_n 3, 1) := dk_62 (dk_at dksX9_offer_2 3 rfl rfl)
theorem dX9_offer_50 : decode cX9_offer 50 = .ok (.aload_n 0, 1) := dk_42 (dk_at dksX9_offer_2 4 rfl rfl)
theorem dX9_offer_51 : decode cX9_offer 51 = .ok (.dup, 1) := dk_89 (dk_at dksX9_offer_2 5 rfl rfl)
theorem dX9_offer_52 : decode cX9_offer 52 = .ok (.getfield 325, 3) := dk_180 1 69 (dk_at dksX9_offer_2 6 rfl rfl)
theorem dX9_offer_55 : decode cX9_offer 55 = .ok (.iload_n 3, 1) := dk_29 (dk_at dksX9_offer_2 9 rfl rfl)
theorem dX9_offer_56 : decode cX9_offer 56 = .ok (.ifCond .ne 7, 3) := dk_154 0 7 (dk_at dksX9_offer_2 10 rfl rfl)
theorem dX9_offer_59 : decode cX9_offer 59 = .ok (.iconst 1, 1) := dk_4 (dk_at dksX9_offer_2 13 rfl rfl)
theorem dX9_offer_60 : decode cX9_offer 60 = .ok (.goto 4, 3) := dk_167 0 4 (dk_at dksX9_offer_2 14 rfl rfl)
theorem dX9_offer_63 : decode cX9_offer 63 = .ok (.iconst 0, 1) := dk_3 (dk_at dksX9_offer_2 17 rfl rfl)
theorem dX9_offer_64 : decode cX9_offer 64 = .ok (.iadd, 1) := dk_96 (dk_at dksX9_offer_2 18 rfl rfl)
theorem dX9_offer_65 : decode cX9_offer 65 = .ok (.putfield 325, 3) := dk_181 1 69 (dk_at dksX9_offer_2 19 rfl rfl)
theorem dX9_offer_68 : decode cX9_offer 68 = .ok (.iload_n 3, 1) := dk_29 (dk_at dksX9_offer_2 22 rfl rfl)
theorem dX9_offer_69 : decode cX9_offer 69 = .ok (.ireturn, 1) := dk_172 (dk_at dksX9_offer_2 23 rfl rfl)
abbrev cX9_truth : ByteArray := prog_28_method_44_code
def yX9_truth : MethodName := ⟨RX9, "truth", "(I)Z"⟩
def dkwX9_truth_0 : List UInt8 := [42, 3, 181, 0, 162, 42, 27, 182, 1, 91, 154, 0, 5, 3, 172, 42, 27, 181, 1, 78, 4, 172]
abbrev dktX9_truth_0 : List UInt8 := dkwX9_truth_0 ++ []
theorem dksX9_truth_0 : cX9_truth.data.toList.drop 0 = dktX9_truth_0 := by decide +kernel
theorem dX9_truth_0 : decode cX9_truth 0 = .ok (.aload_n 0, 1) := dk_42 (dk_at dksX9_truth_0 0 rfl rfl)
theorem dX9_truth_1 : decode cX9_truth 1 = .ok (.iconst 0, 1) := dk_3 (dk_at dksX9_truth_0 1 rfl rfl)
theorem dX9_truth_2 : decode cX9_truth 2 = .ok (.putfield 162, 3) := dk_181 0 162 (dk_at dksX9_truth_0 2 rfl rfl)
theorem dX9_truth_5 : decode cX9_truth 5 = .ok (.aload_n 0, 1) := dk_42 (dk_at dksX9_truth_0 5 rfl rfl)
theorem dX9_truth_6 : decode cX9_truth 6 = .ok (.iload_n 1, 1) := dk_27 (dk_at dksX9_truth_0 6 rfl rfl)
theorem dX9_truth_7 : decode cX9_truth 7 = .ok (.invokevirtual 347, 3) := dk_182 1 91 (dk_at dksX9_truth_0 7 rfl rfl)
theorem dX9_truth_10 : decode cX9_truth 10 = .ok (.ifCond .ne 5, 3) := dk_154 0 5 (dk_at dksX9_truth_0 10 rfl rfl)
theorem dX9_truth_13 : decode cX9_truth 13 = .ok (.iconst 0, 1) := dk_3 (dk_at dksX9_truth_0 13 rfl rfl)
theorem dX9_truth_14 : decode cX9_truth 14 = .ok (.ireturn, 1) := dk_172 (dk_at dksX9_truth_0 14 rfl rfl)
theorem dX9_truth_15 : decode cX9_truth 15 = .ok (.aload_n 0, 1) := dk_42 (dk_at dksX9_truth_0 15 rfl rfl)
theorem dX9_truth_16 : decode cX9_truth 16 = .ok (.iload_n 1, 1) := dk_27 (dk_at dksX9_truth_0 16 rfl rfl)
theorem dX9_truth_17 : decode cX9_truth 17 = .ok (.putfield 334, 3) := dk_181 1 78 (dk_at dksX9_truth_0 17 rfl rfl)
theorem dX9_truth_20 : decode cX9_truth 20 = .ok (.iconst 1, 1) := dk_4 (dk_at dksX9_truth_0 20 rfl rfl)
theorem dX9_truth_21 : decode cX9_truth 21 = .ok (.ireturn, 1) := dk_172 (dk_at dksX9_truth_0 21 rfl rfl)
abbrev cX9_isWorld : ByteArray := prog_28_method_38_code
def yX9_isWorld : MethodName := ⟨RX9, "isWorld", "(I)Z"⟩
def dkwX9_isWorld_0 : List UInt8 := [27, 155, 0, 19, 27, 4, 42, 180, 0, 13, 3, 46, 120, 162, 0, 7, 4, 167, 0, 4, 3, 172]
abbrev dktX9_isWorld_0 : List UInt8 := dkwX9_isWorld_0 ++ []
theorem dksX9_isWorld_0 : cX9_isWorld.data.toList.drop 0 = dktX9_isWorld_0 := by decide +kernel
theorem dX9_isWorld_0 : decode cX9_isWorld 0 = .ok (.iload_n 1, 1) := dk_27 (dk_at dksX9_isWorld_0 0 rfl rfl)
theorem dX9_isWorld_1 : decode cX9_isWorld 1 = .ok (.ifCond .lt 19, 3) := dk_155 0 19 (dk_at dksX9_isWorld_0 1 rfl rfl)
theorem dX9_isWorld_4 : decode cX9_isWorld 4 = .ok (.iload_n 1, 1) := dk_27 (dk_at dksX9_isWorld_0 4 rfl rfl)
theorem dX9_isWorld_5 : decode cX9_isWorld 5 = .ok (.iconst 1, 1) := dk_4 (dk_at dksX9_isWorld_0 5 rfl rfl)
theorem dX9_isWorld_6 : decode cX9_isWorld 6 = .ok (.aload_n 0, 1) := dk_42 (dk_at dksX9_isWorld_0 6 rfl rfl)
theorem dX9_isWorld_7 : decode cX9_isWorld 7 = .ok (.getfield 13, 3) := dk_180 0 13 (dk_at dksX9_isWorld_0 7 rfl rfl)
theorem dX9_isWorld_10 : decode cX9_isWorld 10 = .ok (.iconst 0, 1) := dk_3 (dk_at dksX9_isWorld_0 10 rfl rfl)
theorem dX9_isWorld_11 : decode cX9_isWorld 11 = .ok (.iaload, 1) := dk_46 (dk_at dksX9_isWorld_0 11 rfl rfl)
theorem dX9_isWorld_12 : decode cX9_isWorld 12 = .ok (.ishl, 1) := dk_120 (dk_at dksX9_isWorld_0 12 rfl rfl)
theorem dX9_isWorld_13 : decode cX9_isWorld 13 = .ok (.if_icmp .ge 7, 3) := dk_162 0 7 (dk_at dksX9_isWorld_0 13 rfl rfl)
theorem dX9_isWorld_16 : decode cX9_isWorld 16 = .ok (.iconst 1, 1) := dk_4 (dk_at dksX9_isWorld_0 16 rfl rfl)
theorem dX9_isWorld_17 : decode cX9_isWorld 17 = .ok (.goto 4, 3) := dk_167 0 4 (dk_at dksX9_isWorld_0 17 rfl rfl)
theorem dX9_isWorld_20 : decode cX9_isWorld 20 = .ok (.iconst 0, 1) := dk_3 (dk_at dksX9_isWorld_0 20 rfl rfl)
theorem dX9_isWorld_21 : decode cX9_isWorld 21 = .ok (.ireturn, 1) := dk_172 (dk_at dksX9_isWorld_0 21 rfl rfl)
abbrev cX9_lie : ByteArray := prog_28_method_47_code
def yX9_lie : MethodName := ⟨RX9, "lie", "(II)I"⟩
def dkwX9_lie_3 : List UInt8 := [153, 0, 7, 7, 167, 0, 4, 3, 96, 172]
abbrev dktX9_lie_3 : List UInt8 := dkwX9_lie_3 ++ []
def dkwX9_lie_2 : List UInt8 := [27, 3, 28, 182, 1, 102, 153, 0, 7, 5, 167, 0, 4, 3, 96, 42, 27, 4, 28, 182, 1, 102]
abbrev dktX9_lie_2 : List UInt8 := dkwX9_lie_2 ++ dktX9_lie_3
def dkwX9_lie_1 : List UInt8 := [154, 0, 5, 2, 172, 42, 180, 0, 102, 27, 47, 28, 184, 1, 94, 153, 0, 7, 4, 167, 0, 4, 3, 42]
abbrev dktX9_lie_1 : List UInt8 := dkwX9_lie_1 ++ dktX9_lie_2
def dkwX9_lie_0 : List UInt8 := [42, 3, 181, 0, 162, 27, 155, 0, 19, 27, 42, 180, 1, 66, 162, 0, 11, 42, 28, 182, 1, 91]
abbrev dktX9_lie_0 : List UInt8 := dkwX9_lie_0 ++ dktX9_lie_1
theorem dksX9_lie_0 : cX9_lie.data.toList.drop 0 = dktX9_lie_0 := by decide +kernel
theorem dksX9_lie_1 : cX9_lie.data.toList.drop 22 = dktX9_lie_1 := dk_seg dksX9_lie_0 22 rfl rfl
theorem dksX9_lie_2 : cX9_lie.data.toList.drop 46 = dktX9_lie_2 := dk_seg dksX9_lie_1 24 rfl rfl
theorem dksX9_lie_3 : cX9_lie.data.toList.drop 68 = dktX9_lie_3 := dk_seg dksX9_lie_2 22 rfl rfl
theorem dX9_lie_0 : decode cX9_lie 0 = .ok (.aload_n 0, 1) := dk_42 (dk_at dksX9_lie_0 0 rfl rfl)
theorem dX9_lie_1 : decode cX9_lie 1 = .ok (.iconst 0, 1) := dk_3 (dk_at dksX9_lie_0 1 rfl rfl)
theorem dX9_lie_2 : decode cX9_lie 2 = .ok (.putfield 162, 3) := dk_181 0 162 (dk_at dksX9_lie_0 2 rfl rfl)
theorem dX9_lie_5 : decode cX9_lie 5 = .ok (.iload_n 1, 1) := dk_27 (dk_at dksX9_lie_0 5 rfl rfl)
theorem dX9_lie_6 : decode cX9_lie 6 = .ok (.ifCond .lt 19, 3) := dk_155 0 19 (dk_at dksX9_lie_0 6 rfl rfl)
theorem dX9_lie_9 : decode cX9_lie 9 = .ok (.iload_n 1, 1) := dk_27 (dk_at dksX9_lie_0 9 rfl rfl)
theorem dX9_lie_10 : decode cX9_lie 10 = .ok (.aload_n 0, 1) := dk_42 (dk_at dksX9_lie_0 10 rfl rfl)
theorem dX9_lie_11 : decode cX9_lie 11 = .ok (.getfield 322, 3) := dk_180 1 66 (dk_at dksX9_lie_0 11 rfl rfl)
theorem dX9_lie_14 : decode cX9_lie 14 = .ok (.if_icmp .ge 11, 3) := dk_162 0 11 (dk_at dksX9_lie_0 14 rfl rfl)
theorem dX9_lie_17 : decode cX9_lie 17 = .ok (.aload_n 0, 1) := dk_42 (dk_at dksX9_lie_0 17 rfl rfl)
theorem dX9_lie_18 : decode cX9_lie 18 = .ok (.iload_n 2, 1) := dk_28 (dk_at dksX9_lie_0 18 rfl rfl)
theorem dX9_lie_19 : decode cX9_lie 19 = .ok (.invokevirtual 347, 3) := dk_182 1 91 (dk_at dksX9_lie_0 19 rfl rfl)
theorem dX9_lie_22 : decode cX9_lie 22 = .ok (.ifCond .ne 5, 3) := dk_154 0 5 (dk_at dksX9_lie_1 0 rfl rfl)
theorem dX9_lie_25 : decode cX9_lie 25 = .ok (.iconst (-1), 1) := dk_2 (dk_at dksX9_lie_1 3 rfl rfl)
theorem dX9_lie_26 : decode cX9_lie 26 = .ok (.ireturn, 1) := dk_172 (dk_at dksX9_lie_1 4 rfl rfl)
theorem dX9_lie_27 : decode cX9_lie 27 = .ok (.aload_n 0, 1) := dk_42 (dk_at dksX9_lie_1 5 rfl rfl)
theorem dX9_lie_28 : decode cX9_lie 28 = .ok (.getfield 102, 3) := dk_180 0 102 (dk_at dksX9_lie_1 6 rfl rfl)
theorem dX9_lie_31 : decode cX9_lie 31 = .ok (.iload_n 1, 1) := dk_27 (dk_at dksX9_lie_1 9 rfl rfl)
theorem dX9_lie_32 : decode cX9_lie 32 = .ok (.laload, 1) := dk_47 (dk_at dksX9_lie_1 10 rfl rfl)
theorem dX9_lie_33 : decode cX9_lie 33 = .ok (.iload_n 2, 1) := dk_28 (dk_at dksX9_lie_1 11 rfl rfl)
theorem dX9_lie_34 : decode cX9_lie 34 = .ok (.invokestatic 350, 3) := dk_184 1 94 (dk_at dksX9_lie_1 12 rfl rfl)
theorem dX9_lie_37 : decode cX9_lie 37 = .ok (.ifCond .eq 7, 3) := dk_153 0 7 (dk_at dksX9_lie_1 15 rfl rfl)
theorem dX9_lie_40 : decode cX9_lie 40 = .ok (.iconst 1, 1) := dk_4 (dk_at dksX9_lie_1 18 rfl rfl)
theorem dX9_lie_41 : decode cX9_lie 41 = .ok (.goto 4, 3) := dk_167 0 4 (dk_at dksX9_lie_1 19 rfl rfl)
theorem dX9_lie_44 : decode cX9_lie 44 = .ok (.iconst 0, 1) := dk_3 (dk_at dksX9_lie_1 22 rfl rfl)
theorem dX9_lie_45 : decode cX9_lie 45 = .ok (.aload_n 0, 1) := dk_42 (dk_at dksX9_lie_1 23 rfl rfl)
theorem dX9_lie_46 : decode cX9_lie 46 = .ok (.iload_n 1, 1) := dk_27 (dk_at dksX9_lie_2 0 rfl rfl)
theorem dX9_lie_47 : decode cX9_lie 47 = .ok (.iconst 0, 1) := dk_3 (dk_at dksX9_lie_2 1 rfl rfl)
theorem dX9_lie_48 : decode cX9_lie 48 = .ok (.iload_n 2, 1) := dk_28 (dk_at dksX9_lie_2 2 rfl rfl)
theorem dX9_lie_49 : decode cX9_lie 49 = .ok (.invokevirtual 358, 3) := dk_182 1 102 (dk_at dksX9_lie_2 3 rfl rfl)
theorem dX9_lie_52 : decode cX9_lie 52 = .ok (.ifCond .eq 7, 3) := dk_153 0 7 (dk_at dksX9_lie_2 6 rfl rfl)
theorem dX9_lie_55 : decode cX9_lie 55 = .ok (.iconst 2, 1) := dk_5 (dk_at dksX9_lie_2 9 rfl rfl)
theorem dX9_lie_56 : decode cX9_lie 56 = .ok (.goto 4, 3) := dk_167 0 4 (dk_at dksX9_lie_2 10 rfl rfl)
theorem dX9_lie_59 : decode cX9_lie 59 = .ok (.iconst 0, 1) := dk_3 (dk_at dksX9_lie_2 13 rfl rfl)
theorem dX9_lie_60 : decode cX9_lie 60 = .ok (.iadd, 1) := dk_96 (dk_at dksX9_lie_2 14 rfl rfl)
theorem dX9_lie_61 : decode cX9_lie 61 = .ok (.aload_n 0, 1) := dk_42 (dk_at dksX9_lie_2 15 rfl rfl)
theorem dX9_lie_62 : decode cX9_lie 62 = .ok (.iload_n 1, 1) := dk_27 (dk_at dksX9_lie_2 16 rfl rfl)
theorem dX9_lie_63 : decode cX9_lie 63 = .ok (.iconst 1, 1) := dk_4 (dk_at dksX9_lie_2 17 rfl rfl)
theorem dX9_lie_64 : decode cX9_lie 64 = .ok (.iload_n 2, 1) := dk_28 (dk_at dksX9_lie_2 18 rfl rfl)
theorem dX9_lie_65 : decode cX9_lie 65 = .ok (.invokevirtual 358, 3) := dk_182 1 102 (dk_at dksX9_lie_2 19 rfl rfl)
theorem dX9_lie_68 : decode cX9_lie 68 = .ok (.ifCond .eq 7, 3) := dk_153 0 7 (dk_at dksX9_lie_3 0 rfl rfl)
theorem dX9_lie_71 : decode cX9_lie 71 = .ok (.iconst 4, 1) := dk_7 (dk_at dksX9_lie_3 3 rfl rfl)
theorem dX9_lie_72 : decode cX9_lie 72 = .ok (.goto 4, 3) := dk_167 0 4 (dk_at dksX9_lie_3 4 rfl rfl)
theorem dX9_lie_75 : decode cX9_lie 75 = .ok (.iconst 0, 1) := dk_3 (dk_at dksX9_lie_3 7 rfl rfl)
theorem dX9_lie_76 : decode cX9_lie 76 = .ok (.iadd, 1) := dk_96 (dk_at dksX9_lie_3 8 rfl rfl)
theorem dX9_lie_77 : decode cX9_lie 77 = .ok (.ireturn, 1) := dk_172 (dk_at dksX9_lie_3 9 rfl rfl)
abbrev cX9_isIn : ByteArray := prog_28_method_5_code
def yX9_isIn : MethodName := ⟨RX9, "isIn", "(JI)Z"⟩
def dkwX9_isIn_0 : List UInt8 := [30, 28, 123, 10, 127, 10, 148, 154, 0, 7, 4, 167, 0, 4, 3, 172]
abbrev dktX9_isIn_0 : List UInt8 := dkwX9_isIn_0 ++ []
theorem dksX9_isIn_0 : cX9_isIn.data.toList.drop 0 = dktX9_isIn_0 := by decide +kernel
theorem dX9_isIn_0 : decode cX9_isIn 0 = .ok (.lload_n 0, 1) := dk_30 (dk_at dksX9_isIn_0 0 rfl rfl)
theorem dX9_isIn_1 : decode cX9_isIn 1 = .ok (.iload_n 2, 1) := dk_28 (dk_at dksX9_isIn_0 1 rfl rfl)
theorem dX9_isIn_2 : decode cX9_isIn 2 = .ok (.lshr, 1) := dk_123 (dk_at dksX9_isIn_0 2 rfl rfl)
theorem dX9_isIn_3 : decode cX9_isIn 3 = .ok (.lconst 1, 1) := dk_10 (dk_at dksX9_isIn_0 3 rfl rfl)
theorem dX9_isIn_4 : decode cX9_isIn 4 = .ok (.land, 1) := dk_127 (dk_at dksX9_isIn_0 4 rfl rfl)
theorem dX9_isIn_5 : decode cX9_isIn 5 = .ok (.lconst 1, 1) := dk_10 (dk_at dksX9_isIn_0 5 rfl rfl)
theorem dX9_isIn_6 : decode cX9_isIn 6 = .ok (.lcmp, 1) := dk_148 (dk_at dksX9_isIn_0 6 rfl rfl)
theorem dX9_isIn_7 : decode cX9_isIn 7 = .ok (.ifCond .ne 7, 3) := dk_154 0 7 (dk_at dksX9_isIn_0 7 rfl rfl)
theorem dX9_isIn_10 : decode cX9_isIn 10 = .ok (.iconst 1, 1) := dk_4 (dk_at dksX9_isIn_0 10 rfl rfl)
theorem dX9_isIn_11 : decode cX9_isIn 11 = .ok (.goto 4, 3) := dk_167 0 4 (dk_at dksX9_isIn_0 11 rfl rfl)
theorem dX9_isIn_14 : decode cX9_isIn 14 = .ok (.iconst 0, 1) := dk_3 (dk_at dksX9_isIn_0 14 rfl rfl)
theorem dX9_isIn_15 : decode cX9_isIn 15 = .ok (.ireturn, 1) := dk_172 (dk_at dksX9_isIn_0 15 rfl rfl)
abbrev cX9_isLie : ByteArray := prog_28_method_46_code
def yX9_isLie : MethodName := ⟨RX9, "isLie", "(III)Z"⟩
def dkwX9_isLie_2 : List UInt8 := [180, 0, 96, 27, 46, 46, 29, 182, 1, 98, 127, 9, 148, 154, 0, 7, 4, 167, 0, 4, 3, 172]
abbrev dktX9_isLie_2 : List UInt8 := dkwX9_isLie_2 ++ []
def dkwX9_isLie_1 : List UInt8 := [184, 1, 94, 154, 0, 7, 4, 167, 0, 4, 3, 172, 42, 180, 0, 102, 27, 47, 42, 42, 180, 0, 29, 42]
abbrev dktX9_isLie_1 : List UInt8 := dkwX9_isLie_1 ++ dktX9_isLie_2
def dkwX9_isLie_0 : List UInt8 := [42, 180, 0, 105, 27, 51, 153, 0, 5, 3, 172, 28, 154, 0, 22, 42, 180, 0, 102, 27, 47, 29]
abbrev dktX9_isLie_0 : List UInt8 := dkwX9_isLie_0 ++ dktX9_isLie_1
theorem dksX9_isLie_0 : cX9_isLie.data.toList.drop 0 = dktX9_isLie_0 := by decide +kernel
theorem dksX9_isLie_1 : cX9_isLie.data.toList.drop 22 = dktX9_isLie_1 := dk_seg dksX9_isLie_0 22 rfl rfl
theorem dksX9_isLie_2 : cX9_isLie.data.toList.drop 46 = dktX9_isLie_2 := dk_seg dksX9_isLie_1 24 rfl rfl
theorem dX9_isLie_0 : decode cX9_isLie 0 = .ok (.aload_n 0, 1) := dk_42 (dk_at dksX9_isLie_0 0 rfl rfl)
theorem dX9_isLie_1 : decode cX9_isLie 1 = .ok (.getfield 105, 3) := dk_180 0 105 (dk_at dksX9_isLie_0 1 rfl rfl)
theorem dX9_isLie_4 : decode cX9_isLie 4 = .ok (.iload_n 1, 1) := dk_27 (dk_at dksX9_isLie_0 4 rfl rfl)
theorem dX9_isLie_5 : decode cX9_isLie 5 = .ok (.baload, 1) := dk_51 (dk_at dksX9_isLie_0 5 rfl rfl)
theorem dX9_isLie_6 : decode cX9_isLie 6 = .ok (.ifCond .eq 5, 3) := dk_153 0 5 (dk_at dksX9_isLie_0 6 rfl rfl)
theorem dX9_isLie_9 : decode cX9_isLie 9 = .ok (.iconst 0, 1) := dk_3 (dk_at dksX9_isLie_0 9 rfl rfl)
theorem dX9_isLie_10 : decode cX9_isLie 10 = .ok (.ireturn, 1) := dk_172 (dk_at dksX9_isLie_0 10 rfl rfl)
theorem dX9_isLie_11 : decode cX9_isLie 11 = .ok (.iload_n 2, 1) := dk_28 (dk_at dksX9_isLie_0 11 rfl rfl)
theorem dX9_isLie_12 : decode cX9_isLie 12 = .ok (.ifCond .ne 22, 3) := dk_154 0 22 (dk_at dksX9_isLie_0 12 rfl rfl)
theorem dX9_isLie_15 : decode cX9_isLie 15 = .ok (.aload_n 0, 1) := dk_42 (dk_at dksX9_isLie_0 15 rfl rfl)
theorem dX9_isLie_16 : decode cX9_isLie 16 = .ok (.getfield 102, 3) := dk_180 0 102 (dk_at dksX9_isLie_0 16 rfl rfl)
theorem dX9_isLie_19 : decode cX9_isLie 19 = .ok (.iload_n 1, 1) := dk_27 (dk_at dksX9_isLie_0 19 rfl rfl)
theorem dX9_isLie_20 : decode cX9_isLie 20 = .ok (.laload, 1) := dk_47 (dk_at dksX9_isLie_0 20 rfl rfl)
theorem dX9_isLie_21 : decode cX9_isLie 21 = .ok (.iload_n 3, 1) := dk_29 (dk_at dksX9_isLie_0 21 rfl rfl)
theorem dX9_isLie_22 : decode cX9_isLie 22 = .ok (.invokestatic 350, 3) := dk_184 1 94 (dk_at dksX9_isLie_1 0 rfl rfl)
theorem dX9_isLie_25 : decode cX9_isLie 25 = .ok (.ifCond .ne 7, 3) := dk_154 0 7 (dk_at dksX9_isLie_1 3 rfl rfl)
theorem dX9_isLie_28 : decode cX9_isLie 28 = .ok (.iconst 1, 1) := dk_4 (dk_at dksX9_isLie_1 6 rfl rfl)
theorem dX9_isLie_29 : decode cX9_isLie 29 = .ok (.goto 4, 3) := dk_167 0 4 (dk_at dksX9_isLie_1 7 rfl rfl)
theorem dX9_isLie_32 : decode cX9_isLie 32 = .ok (.iconst 0, 1) := dk_3 (dk_at dksX9_isLie_1 10 rfl rfl)
theorem dX9_isLie_33 : decode cX9_isLie 33 = .ok (.ireturn, 1) := dk_172 (dk_at dksX9_isLie_1 11 rfl rfl)
theorem dX9_isLie_34 : decode cX9_isLie 34 = .ok (.aload_n 0, 1) := dk_42 (dk_at dksX9_isLie_1 12 rfl rfl)
theorem dX9_isLie_35 : decode cX9_isLie 35 = .ok (.getfield 102, 3) := dk_180 0 102 (dk_at dksX9_isLie_1 13 rfl rfl)
theorem dX9_isLie_38 : decode cX9_isLie 38 = .ok (.iload_n 1, 1) := dk_27 (dk_at dksX9_isLie_1 16 rfl rfl)
theorem dX9_isLie_39 : decode cX9_isLie 39 = .ok (.laload, 1) := dk_47 (dk_at dksX9_isLie_1 17 rfl rfl)
theorem dX9_isLie_40 : decode cX9_isLie 40 = .ok (.aload_n 0, 1) := dk_42 (dk_at dksX9_isLie_1 18 rfl rfl)
theorem dX9_isLie_41 : decode cX9_isLie 41 = .ok (.aload_n 0, 1) := dk_42 (dk_at dksX9_isLie_1 19 rfl rfl)
theorem dX9_isLie_42 : decode cX9_isLie 42 = .ok (.getfield 29, 3) := dk_180 0 29 (dk_at dksX9_isLie_1 20 rfl rfl)
theorem dX9_isLie_45 : decode cX9_isLie 45 = .ok (.aload_n 0, 1) := dk_42 (dk_at dksX9_isLie_1 23 rfl rfl)
theorem dX9_isLie_46 : decode cX9_isLie 46 = .ok (.getfield 96, 3) := dk_180 0 96 (dk_at dksX9_isLie_2 0 rfl rfl)
theorem dX9_isLie_49 : decode cX9_isLie 49 = .ok (.iload_n 1, 1) := dk_27 (dk_at dksX9_isLie_2 3 rfl rfl)
theorem dX9_isLie_50 : decode cX9_isLie 50 = .ok (.iaload, 1) := dk_46 (dk_at dksX9_isLie_2 4 rfl rfl)
theorem dX9_isLie_51 : decode cX9_isLie 51 = .ok (.iaload, 1) := dk_46 (dk_at dksX9_isLie_2 5 rfl rfl)
theorem dX9_isLie_52 : decode cX9_isLie 52 = .ok (.iload_n 3, 1) := dk_29 (dk_at dksX9_isLie_2 6 rfl rfl)
theorem dX9_isLie_53 : decode cX9_isLie 53 = .ok (.invokevirtual 354, 3) := dk_182 1 98 (dk_at dksX9_isLie_2 7 rfl rfl)
theorem dX9_isLie_56 : decode cX9_isLie 56 = .ok (.land, 1) := dk_127 (dk_at dksX9_isLie_2 10 rfl rfl)
theorem dX9_isLie_57 : decode cX9_isLie 57 = .ok (.lconst 0, 1) := dk_9 (dk_at dksX9_isLie_2 11 rfl rfl)
theorem dX9_isLie_58 : decode cX9_isLie 58 = .ok (.lcmp, 1) := dk_148 (dk_at dksX9_isLie_2 12 rfl rfl)
theorem dX9_isLie_59 : decode cX9_isLie 59 = .ok (.ifCond .ne 7, 3) := dk_154 0 7 (dk_at dksX9_isLie_2 13 rfl rfl)
theorem dX9_isLie_62 : decode cX9_isLie 62 = .ok (.iconst 1, 1) := dk_4 (dk_at dksX9_isLie_2 16 rfl rfl)
theorem dX9_isLie_63 : decode cX9_isLie 63 = .ok (.goto 4, 3) := dk_167 0 4 (dk_at dksX9_isLie_2 17 rfl rfl)
theorem dX9_isLie_66 : decode cX9_isLie 66 = .ok (.iconst 0, 1) := dk_3 (dk_at dksX9_isLie_2 20 rfl rfl)
theorem dX9_isLie_67 : decode cX9_isLie 67 = .ok (.ireturn, 1) := dk_172 (dk_at dksX9_isLie_2 21 rfl rfl)
abbrev cX9_likeFor : ByteArray := prog_28_method_45_code
def yX9_likeFor : MethodName := ⟨RX9, "likeFor", "(II)J"⟩
def dkwX9_likeFor_2 : List UInt8 := [132, 5, 1, 167, 255, 210, 33, 173]
abbrev dktX9_likeFor_2 : List UInt8 := dkwX9_likeFor_2 ++ []
def dkwX9_likeFor_1 : List UInt8 := [21, 5, 184, 1, 94, 153, 0, 19, 21, 5, 28, 130, 27, 126, 154, 0, 10, 33, 10, 21, 5, 121, 129, 66]
abbrev dktX9_likeFor_1 : List UInt8 := dkwX9_likeFor_1 ++ dktX9_likeFor_2
def dkwX9_likeFor_0 : List UInt8 := [9, 66, 3, 54, 5, 21, 5, 4, 42, 180, 0, 13, 3, 46, 120, 162, 0, 39, 42, 180, 0, 42, 3, 47]
abbrev dktX9_likeFor_0 : List UInt8 := dkwX9_likeFor_0 ++ dktX9_likeFor_1
theorem dksX9_likeFor_0 : cX9_likeFor.data.toList.drop 0 = dktX9_likeFor_0 := by decide +kernel
theorem dksX9_likeFor_1 : cX9_likeFor.data.toList.drop 24 = dktX9_likeFor_1 := dk_seg dksX9_likeFor_0 24 rfl rfl
theorem dksX9_likeFor_2 : cX9_likeFor.data.toList.drop 48 = dktX9_likeFor_2 := dk_seg dksX9_likeFor_1 24 rfl rfl
theorem dX9_likeFor_0 : decode cX9_likeFor 0 = .ok (.lconst 0, 1) := dk_9 (dk_at dksX9_likeFor_0 0 rfl rfl)
theorem dX9_likeFor_1 : decode cX9_likeFor 1 = .ok (.lstore_n 3, 1) := dk_66 (dk_at dksX9_likeFor_0 1 rfl rfl)
theorem dX9_likeFor_2 : decode cX9_likeFor 2 = .ok (.iconst 0, 1) := dk_3 (dk_at dksX9_likeFor_0 2 rfl rfl)
theorem dX9_likeFor_3 : decode cX9_likeFor 3 = .ok (.istore 5, 2) := dk_54 5 (dk_at dksX9_likeFor_0 3 rfl rfl)
theorem dX9_likeFor_5 : decode cX9_likeFor 5 = .ok (.iload 5, 2) := dk_21 5 (dk_at dksX9_likeFor_0 5 rfl rfl)
theorem dX9_likeFor_7 : decode cX9_likeFor 7 = .ok (.iconst 1, 1) := dk_4 (dk_at dksX9_likeFor_0 7 rfl rfl)
theorem dX9_likeFor_8 : decode cX9_likeFor 8 = .ok (.aload_n 0, 1) := dk_42 (dk_at dksX9_likeFor_0 8 rfl rfl)
theorem dX9_likeFor_9 : decode cX9_likeFor 9 = .ok (.getfield 13, 3) := dk_180 0 13 (dk_at dksX9_likeFor_0 9 rfl rfl)
theorem dX9_likeFor_12 : decode cX9_likeFor 12 = .ok (.iconst 0, 1) := dk_3 (dk_at dksX9_likeFor_0 12 rfl rfl)
theorem dX9_likeFor_13 : decode cX9_likeFor 13 = .ok (.iaload, 1) := dk_46 (dk_at dksX9_likeFor_0 13 rfl rfl)
theorem dX9_likeFor_14 : decode cX9_likeFor 14 = .ok (.ishl, 1) := dk_120 (dk_at dksX9_likeFor_0 14 rfl rfl)
theorem dX9_likeFor_15 : decode cX9_likeFor 15 = .ok (.if_icmp .ge 39, 3) := dk_162 0 39 (dk_at dksX9_likeFor_0 15 rfl rfl)
theorem dX9_likeFor_18 : decode cX9_likeFor 18 = .ok (.aload_n 0, 1) := dk_42 (dk_at dksX9_likeFor_0 18 rfl rfl)
theorem dX9_likeFor_19 : decode cX9_likeFor 19 = .ok (.getfield 42, 3) := dk_180 0 42 (dk_at dksX9_likeFor_0 19 rfl rfl)
theorem dX9_likeFor_22 : decode cX9_likeFor 22 = .ok (.iconst 0, 1) := dk_3 (dk_at dksX9_likeFor_0 22 rfl rfl)
theorem dX9_likeFor_23 : decode cX9_likeFor 23 = .ok (.laload, 1) := dk_47 (dk_at dksX9_likeFor_0 23 rfl rfl)
theorem dX9_likeFor_24 : decode cX9_likeFor 24 = .ok (.iload 5, 2) := dk_21 5 (dk_at dksX9_likeFor_1 0 rfl rfl)
theorem dX9_likeFor_26 : decode cX9_likeFor 26 = .ok (.invokestatic 350, 3) := dk_184 1 94 (dk_at dksX9_likeFor_1 2 rfl rfl)
theorem dX9_likeFor_29 : decode cX9_likeFor 29 = .ok (.ifCond .eq 19, 3) := dk_153 0 19 (dk_at dksX9_likeFor_1 5 rfl rfl)
theorem dX9_likeFor_32 : decode cX9_likeFor 32 = .ok (.iload 5, 2) := dk_21 5 (dk_at dksX9_likeFor_1 8 rfl rfl)
theorem dX9_likeFor_34 : decode cX9_likeFor 34 = .ok (.iload_n 2, 1) := dk_28 (dk_at dksX9_likeFor_1 10 rfl rfl)
theorem dX9_likeFor_35 : decode cX9_likeFor 35 = .ok (.ixor, 1) := dk_130 (dk_at dksX9_likeFor_1 11 rfl rfl)
theorem dX9_likeFor_36 : decode cX9_likeFor 36 = .ok (.iload_n 1, 1) := dk_27 (dk_at dksX9_likeFor_1 12 rfl rfl)
theorem dX9_likeFor_37 : decode cX9_likeFor 37 = .ok (.iand, 1) := dk_126 (dk_at dksX9_likeFor_1 13 rfl rfl)
theorem dX9_likeFor_38 : decode cX9_likeFor 38 = .ok (.ifCond .ne 10, 3) := dk_154 0 10 (dk_at dksX9_likeFor_1 14 rfl rfl)
theorem dX9_likeFor_41 : decode cX9_likeFor 41 = .ok (.lload_n 3, 1) := dk_33 (dk_at dksX9_likeFor_1 17 rfl rfl)
theorem dX9_likeFor_42 : decode cX9_likeFor 42 = .ok (.lconst 1, 1) := dk_10 (dk_at dksX9_likeFor_1 18 rfl rfl)
theorem dX9_likeFor_43 : decode cX9_likeFor 43 = .ok (.iload 5, 2) := dk_21 5 (dk_at dksX9_likeFor_1 19 rfl rfl)
theorem dX9_likeFor_45 : decode cX9_likeFor 45 = .ok (.lshl, 1) := dk_121 (dk_at dksX9_likeFor_1 21 rfl rfl)
theorem dX9_likeFor_46 : decode cX9_likeFor 46 = .ok (.lor, 1) := dk_129 (dk_at dksX9_likeFor_1 22 rfl rfl)
theorem dX9_likeFor_47 : decode cX9_likeFor 47 = .ok (.lstore_n 3, 1) := dk_66 (dk_at dksX9_likeFor_1 23 rfl rfl)
theorem dX9_likeFor_48 : decode cX9_likeFor 48 = .ok (.iinc 5 1, 3) := dk_132 5 1 (dk_at dksX9_likeFor_2 0 rfl rfl)
theorem dX9_likeFor_51 : decode cX9_likeFor 51 = .ok (.goto (-46), 3) := dk_167 255 210 (dk_at dksX9_likeFor_2 3 rfl rfl)
theorem dX9_likeFor_54 : decode cX9_likeFor 54 = .ok (.lload_n 3, 1) := dk_33 (dk_at dksX9_likeFor_2 6 rfl rfl)
theorem dX9_likeFor_55 : decode cX9_likeFor 55 = .ok (.lreturn, 1) := dk_173 (dk_at dksX9_likeFor_2 7 rfl rfl)
abbrev cX9_points : ByteArray := prog_28_method_52_code
def yX9_points : MethodName := ⟨RX9, "points", "(III)I"⟩
def dkwX9_points_1 : List UInt8 := [182, 1, 91, 154, 0, 5, 2, 172, 42, 3, 182, 1, 118, 42, 27, 28, 29, 182, 1, 112, 172]
abbrev dktX9_points_1 : List UInt8 := dkwX9_points_1 ++ []
def dkwX9_points_0 : List UInt8 := [42, 3, 181, 0, 162, 42, 27, 182, 1, 115, 153, 0, 18, 28, 184, 1, 84, 153, 0, 11, 42, 29]
abbrev dktX9_points_0 : List UInt8 := dkwX9_points_0 ++ dktX9_points_1
theorem dksX9_points_0 : cX9_points.data.toList.drop 0 = dktX9_points_0 := by decide +kernel
theorem dksX9_points_1 : cX9_points.data.toList.drop 22 = dktX9_points_1 := dk_seg dksX9_points_0 22 rfl rfl
theorem dX9_points_0 : decode cX9_points 0 = .ok (.aload_n 0, 1) := dk_42 (dk_at dksX9_points_0 0 rfl rfl)
theorem dX9_points_1 : decode cX9_points 1 = .ok (.iconst 0, 1) := dk_3 (dk_at dksX9_points_0 1 rfl rfl)
theorem dX9_points_2 : decode cX9_points 2 = .ok (.putfield 162, 3) := dk_181 0 162 (dk_at dksX9_points_0 2 rfl rfl)
theorem dX9_points_5 : decode cX9_points 5 = .ok (.aload_n 0, 1) := dk_42 (dk_at dksX9_points_0 5 rfl rfl)
theorem dX9_points_6 : decode cX9_points 6 = .ok (.iload_n 1, 1) := dk_27 (dk_at dksX9_points_0 6 rfl rfl)
theorem dX9_points_7 : decode cX9_points 7 = .ok (.invokevirtual 371, 3) := dk_182 1 115 (dk_at dksX9_points_0 7 rfl rfl)
theorem dX9_points_10 : decode cX9_points 10 = .ok (.ifCond .eq 18, 3) := dk_153 0 18 (dk_at dksX9_points_0 10 rfl rfl)
theorem dX9_points_13 : decode cX9_points 13 = .ok (.iload_n 2, 1) := dk_28 (dk_at dksX9_points_0 13 rfl rfl)
theorem dX9_points_14 : decode cX9_points 14 = .ok (.invokestatic 340, 3) := dk_184 1 84 (dk_at dksX9_points_0 14 rfl rfl)
theorem dX9_points_17 : decode cX9_points 17 = .ok (.ifCond .eq 11, 3) := dk_153 0 11 (dk_at dksX9_points_0 17 rfl rfl)
theorem dX9_points_20 : decode cX9_points 20 = .ok (.aload_n 0, 1) := dk_42 (dk_at dksX9_points_0 20 rfl rfl)
theorem dX9_points_21 : decode cX9_points 21 = .ok (.iload_n 3, 1) := dk_29 (dk_at dksX9_points_0 21 rfl rfl)
theorem dX9_points_22 : decode cX9_points 22 = .ok (.invokevirtual 347, 3) := dk_182 1 91 (dk_at dksX9_points_1 0 rfl rfl)
theorem dX9_points_25 : decode cX9_points 25 = .ok (.ifCond .ne 5, 3) := dk_154 0 5 (dk_at dksX9_points_1 3 rfl rfl)
theorem dX9_points_28 : decode cX9_points 28 = .ok (.iconst (-1), 1) := dk_2 (dk_at dksX9_points_1 6 rfl rfl)
theorem dX9_points_29 : decode cX9_points 29 = .ok (.ireturn, 1) := dk_172 (dk_at dksX9_points_1 7 rfl rfl)
theorem dX9_points_30 : decode cX9_points 30 = .ok (.aload_n 0, 1) := dk_42 (dk_at dksX9_points_1 8 rfl rfl)
theorem dX9_points_31 : decode cX9_points 31 = .ok (.iconst 0, 1) := dk_3 (dk_at dksX9_points_1 9 rfl rfl)
theorem dX9_points_32 : decode cX9_points 32 = .ok (.invokevirtual 374, 3) := dk_182 1 118 (dk_at dksX9_points_1 10 rfl rfl)
theorem dX9_points_35 : decode cX9_points 35 = .ok (.aload_n 0, 1) := dk_42 (dk_at dksX9_points_1 13 rfl rfl)
theorem dX9_points_36 : decode cX9_points 36 = .ok (.iload_n 1, 1) := dk_27 (dk_at dksX9_points_1 14 rfl rfl)
theorem dX9_points_37 : decode cX9_points 37 = .ok (.iload_n 2, 1) := dk_28 (dk_at dksX9_points_1 15 rfl rfl)
theorem dX9_points_38 : decode cX9_points 38 = .ok (.iload_n 3, 1) := dk_29 (dk_at dksX9_points_1 16 rfl rfl)
theorem dX9_points_39 : decode cX9_points 39 = .ok (.invokevirtual 368, 3) := dk_182 1 112 (dk_at dksX9_points_1 17 rfl rfl)
theorem dX9_points_42 : decode cX9_points 42 = .ok (.ireturn, 1) := dk_172 (dk_at dksX9_points_1 20 rfl rfl)
abbrev cX9_isThere : ByteArray := prog_28_method_39_code
def yX9_isThere : MethodName := ⟨RX9, "isThere", "(I)Z"⟩
def dkwX9_isThere_0 : List UInt8 := [27, 155, 0, 21, 27, 5, 162, 0, 16, 42, 180, 0, 38, 27, 51, 153, 0, 7, 4, 167, 0, 4, 3, 172]
abbrev dktX9_isThere_0 : List UInt8 := dkwX9_isThere_0 ++ []
theorem dksX9_isThere_0 : cX9_isThere.data.toList.drop 0 = dktX9_isThere_0 := by decide +kernel
theorem dX9_isThere_0 : decode cX9_isThere 0 = .ok (.iload_n 1, 1) := dk_27 (dk_at dksX9_isThere_0 0 rfl rfl)
theorem dX9_isThere_1 : decode cX9_isThere 1 = .ok (.ifCond .lt 21, 3) := dk_155 0 21 (dk_at dksX9_isThere_0 1 rfl rfl)
theorem dX9_isThere_4 : decode cX9_isThere 4 = .ok (.iload_n 1, 1) := dk_27 (dk_at dksX9_isThere_0 4 rfl rfl)
theorem dX9_isThere_5 : decode cX9_isThere 5 = .ok (.iconst 2, 1) := dk_5 (dk_at dksX9_isThere_0 5 rfl rfl)
theorem dX9_isThere_6 : decode cX9_isThere 6 = .ok (.if_icmp .ge 16, 3) := dk_162 0 16 (dk_at dksX9_isThere_0 6 rfl rfl)
theorem dX9_isThere_9 : decode cX9_isThere 9 = .ok (.aload_n 0, 1) := dk_42 (dk_at dksX9_isThere_0 9 rfl rfl)
theorem dX9_isThere_10 : decode cX9_isThere 10 = .ok (.getfield 38, 3) := dk_180 0 38 (dk_at dksX9_isThere_0 10 rfl rfl)
theorem dX9_isThere_13 : decode cX9_isThere 13 = .ok (.iload_n 1, 1) := dk_27 (dk_at dksX9_isThere_0 13 rfl rfl)
theorem dX9_isThere_14 : decode cX9_isThere 14 = .ok (.baload, 1) := dk_51 (dk_at dksX9_isThere_0 14 rfl rfl)
theorem dX9_isThere_15 : decode cX9_isThere 15 = .ok (.ifCond .eq 7, 3) := dk_153 0 7 (dk_at dksX9_isThere_0 15 rfl rfl)
theorem dX9_isThere_18 : decode cX9_isThere 18 = .ok (.iconst 1, 1) := dk_4 (dk_at dksX9_isThere_0 18 rfl rfl)
theorem dX9_isThere_19 : decode cX9_isThere 19 = .ok (.goto 4, 3) := dk_167 0 4 (dk_at dksX9_isThere_0 19 rfl rfl)
theorem dX9_isThere_22 : decode cX9_isThere 22 = .ok (.iconst 0, 1) := dk_3 (dk_at dksX9_isThere_0 22 rfl rfl)
theorem dX9_isThere_23 : decode cX9_isThere 23 = .ok (.ireturn, 1) := dk_172 (dk_at dksX9_isThere_0 23 rfl rfl)
abbrev cX9_rows : ByteArray := prog_28_method_49_code
def yX9_rows : MethodName := ⟨RX9, "rows", "(I)V"⟩
def dkwX9_rows_7 : List UInt8 := [177]
abbrev dktX9_rows_7 : List UInt8 := dkwX9_rows_7 ++ []
def dkwX9_rows_6 : List UInt8 := [28, 42, 180, 1, 106, 162, 0, 19, 42, 42, 180, 0, 108, 28, 46, 182, 1, 109, 132, 2, 1, 167, 255, 235]
abbrev dktX9_rows_6 : List UInt8 := dkwX9_rows_6 ++ dktX9_rows_7
def dkwX9_rows_5 : List UInt8 := [29, 16, 24, 28, 96, 79, 42, 89, 180, 1, 106, 4, 96, 181, 1, 106, 132, 2, 1, 167, 255, 160, 3, 61]
abbrev dktX9_rows_5 : List UInt8 := dkwX9_rows_5 ++ dktX9_rows_6
def dkwX9_rows_4 : List UInt8 := [42, 180, 0, 108, 29, 42, 180, 0, 108, 29, 4, 100, 46, 79, 132, 3, 255, 167, 255, 210, 42, 180, 0, 108]
abbrev dktX9_rows_4 : List UInt8 := dkwX9_rows_4 ++ dktX9_rows_5
def dkwX9_rows_3 : List UInt8 := [180, 0, 99, 42, 180, 0, 108, 29, 4, 100, 46, 46, 42, 180, 0, 99, 16, 24, 28, 96, 46, 164, 0, 23]
abbrev dktX9_rows_3 : List UInt8 := dkwX9_rows_3 ++ dktX9_rows_4
def dkwX9_rows_2 : List UInt8 := [162, 0, 94, 27, 28, 122, 4, 126, 154, 0, 6, 167, 0, 77, 42, 180, 1, 106, 62, 29, 158, 0, 48, 42]
abbrev dktX9_rows_2 : List UInt8 := dkwX9_rows_2 ++ dktX9_rows_3
def dkwX9_rows_1 : List UInt8 := [79, 42, 89, 180, 1, 106, 4, 96, 181, 1, 106, 132, 2, 1, 167, 255, 225, 3, 61, 28, 42, 180, 1, 69]
abbrev dktX9_rows_1 : List UInt8 := dkwX9_rows_1 ++ dktX9_rows_2
def dkwX9_rows_0 : List UInt8 := [42, 3, 181, 1, 106, 3, 61, 28, 42, 180, 1, 66, 162, 0, 29, 42, 180, 0, 108, 42, 180, 1, 106, 28]
abbrev dktX9_rows_0 : List UInt8 := dkwX9_rows_0 ++ dktX9_rows_1
theorem dksX9_rows_0 : cX9_rows.data.toList.drop 0 = dktX9_rows_0 := by decide +kernel
theorem dksX9_rows_1 : cX9_rows.data.toList.drop 24 = dktX9_rows_1 := dk_seg dksX9_rows_0 24 rfl rfl
theorem dksX9_rows_2 : cX9_rows.data.toList.drop 48 = dktX9_rows_2 := dk_seg dksX9_rows_1 24 rfl rfl
theorem dksX9_rows_3 : cX9_rows.data.toList.drop 72 = dktX9_rows_3 := dk_seg dksX9_rows_2 24 rfl rfl
theorem dksX9_rows_4 : cX9_rows.data.toList.drop 96 = dktX9_rows_4 := dk_seg dksX9_rows_3 24 rfl rfl
theorem dksX9_rows_5 : cX9_rows.data.toList.drop 120 = dktX9_rows_5 := dk_seg dksX9_rows_4 24 rfl rfl
theorem dksX9_rows_6 : cX9_rows.data.toList.drop 144 = dktX9_rows_6 := dk_seg dksX9_rows_5 24 rfl rfl
theorem dksX9_rows_7 : cX9_rows.data.toList.drop 168 = dktX9_rows_7 := dk_seg dksX9_rows_6 24 rfl rfl
theorem dX9_rows_0 : decode cX9_rows 0 = .ok (.aload_n 0, 1) := dk_42 (dk_at dksX9_rows_0 0 rfl rfl)
theorem dX9_rows_1 : decode cX9_rows 1 = .ok (.iconst 0, 1) := dk_3 (dk_at dksX9_rows_0 1 rfl rfl)
theorem dX9_rows_2 : decode cX9_rows 2 = .ok (.putfield 362, 3) := dk_181 1 106 (dk_at dksX9_rows_0 2 rfl rfl)
theorem dX9_rows_5 : decode cX9_rows 5 = .ok (.iconst 0, 1) := dk_3 (dk_at dksX9_rows_0 5 rfl rfl)
theorem dX9_rows_6 : decode cX9_rows 6 = .ok (.istore_n 2, 1) := dk_61 (dk_at dksX9_rows_0 6 rfl rfl)
theorem dX9_rows_7 : decode cX9_rows 7 = .ok (.iload_n 2, 1) := dk_28 (dk_at dksX9_rows_0 7 rfl rfl)
theorem dX9_rows_8 : decode cX9_rows 8 = .ok (.aload_n 0, 1) := dk_42 (dk_at dksX9_rows_0 8 rfl rfl)
theorem dX9_rows_9 : decode cX9_rows 9 = .ok (.getfield 322, 3) := dk_180 1 66 (dk_at dksX9_rows_0 9 rfl rfl)
theorem dX9_rows_12 : decode cX9_rows 12 = .ok (.if_icmp .ge 29, 3) := dk_162 0 29 (dk_at dksX9_rows_0 12 rfl rfl)
theorem dX9_rows_15 : decode cX9_rows 15 = .ok (.aload_n 0, 1) := dk_42 (dk_at dksX9_rows_0 15 rfl rfl)
theorem dX9_rows_16 : decode cX9_rows 16 = .ok (.getfield 108, 3) := dk_180 0 108 (dk_at dksX9_rows_0 16 rfl rfl)
theorem dX9_rows_19 : decode cX9_rows 19 = .ok (.aload_n 0, 1) := dk_42 (dk_at dksX9_rows_0 19 rfl rfl)
theorem dX9_rows_20 : decode cX9_rows 20 = .ok (.getfield 362, 3) := dk_180 1 106 (dk_at dksX9_rows_0 20 rfl rfl)
theorem dX9_rows_23 : decode cX9_rows 23 = .ok (.iload_n 2, 1) := dk_28 (dk_at dksX9_rows_0 23 rfl rfl)
theorem dX9_rows_24 : decode cX9_rows 24 = .ok (.iastore, 1) := dk_79 (dk_at dksX9_rows_1 0 rfl rfl)
theorem dX9_rows_25 : decode cX9_rows 25 = .ok (.aload_n 0, 1) := dk_42 (dk_at dksX9_rows_1 1 rfl rfl)
theorem dX9_rows_26 : decode cX9_rows 26 = .ok (.dup, 1) := dk_89 (dk_at dksX9_rows_1 2 rfl rfl)
theorem dX9_rows_27 : decode cX9_rows 27 = .ok (.getfield 362, 3) := dk_180 1 106 (dk_at dksX9_rows_1 3 rfl rfl)
theorem dX9_rows_30 : decode cX9_rows 30 = .ok (.iconst 1, 1) := dk_4 (dk_at dksX9_rows_1 6 rfl rfl)
theorem dX9_rows_31 : decode cX9_rows 31 = .ok (.iadd, 1) := dk_96 (dk_at dksX9_rows_1 7 rfl rfl)
theorem dX9_rows_32 : decode cX9_rows 32 = .ok (.putfield 362, 3) := dk_181 1 106 (dk_at dksX9_rows_1 8 rfl rfl)
theorem dX9_rows_35 : decode cX9_rows 35 = .ok (.iinc 2 1, 3) := dk_132 2 1 (dk_at dksX9_rows_1 11 rfl rfl)
theorem dX9_rows_38 : decode cX9_rows 38 = .ok (.goto (-31), 3) := dk_167 255 225 (dk_at dksX9_rows_1 14 rfl rfl)
theorem dX9_rows_41 : decode cX9_rows 41 = .ok (.iconst 0, 1) := dk_3 (dk_at dksX9_rows_1 17 rfl rfl)
theorem dX9_rows_42 : decode cX9_rows 42 = .ok (.istore_n 2, 1) := dk_61 (dk_at dksX9_rows_1 18 rfl rfl)
theorem dX9_rows_43 : decode cX9_rows 43 = .ok (.iload_n 2, 1) := dk_28 (dk_at dksX9_rows_1 19 rfl rfl)
theorem dX9_rows_44 : decode cX9_rows 44 = .ok (.aload_n 0, 1) := dk_42 (dk_at dksX9_rows_1 20 rfl rfl)
theorem dX9_rows_45 : decode cX9_rows 45 = .ok (.getfield 325, 3) := dk_180 1 69 (dk_at dksX9_rows_1 21 rfl rfl)
theorem dX9_rows_48 : decode cX9_rows 48 = .ok (.if_icmp .ge 94, 3) := dk_162 0 94 (dk_at dksX9_rows_2 0 rfl rfl)
theorem dX9_rows_51 : decode cX9_rows 51 = .ok (.iload_n 1, 1) := dk_27 (dk_at dksX9_rows_2 3 rfl rfl)
theorem dX9_rows_52 : decode cX9_rows 52 = .ok (.iload_n 2, 1) := dk_28 (dk_at dksX9_rows_2 4 rfl rfl)
theorem dX9_rows_53 : decode cX9_rows 53 = .ok (.ishr, 1) := dk_122 (dk_at dksX9_rows_2 5 rfl rfl)
theorem dX9_rows_54 : decode cX9_rows 54 = .ok (.iconst 1, 1) := dk_4 (dk_at dksX9_rows_2 6 rfl rfl)
theorem dX9_rows_55 : decode cX9_rows 55 = .ok (.iand, 1) := dk_126 (dk_at dksX9_rows_2 7 rfl rfl)
theorem dX9_rows_56 : decode cX9_rows 56 = .ok (.ifCond .ne 6, 3) := dk_154 0 6 (dk_at dksX9_rows_2 8 rfl rfl)
theorem dX9_rows_59 : decode cX9_rows 59 = .ok (.goto 77, 3) := dk_167 0 77 (dk_at dksX9_rows_2 11 rfl rfl)
theorem dX9_rows_62 : decode cX9_rows 62 = .ok (.aload_n 0, 1) := dk_42 (dk_at dksX9_rows_2 14 rfl rfl)
theorem dX9_rows_63 : decode cX9_rows 63 = .ok (.getfield 362, 3) := dk_180 1 106 (dk_at dksX9_rows_2 15 rfl rfl)
theorem dX9_rows_66 : decode cX9_rows 66 = .ok (.istore_n 3, 1) := dk_62 (dk_at dksX9_rows_2 18 rfl rfl)
theorem dX9_rows_67 : decode cX9_rows 67 = .ok (.iload_n 3, 1) := dk_29 (dk_at dksX9_rows_2 19 rfl rfl)
theorem dX9_rows_68 : decode cX9_rows 68 = .ok (.ifCond .le 48, 3) := dk_158 0 48 (dk_at dksX9_rows_2 20 rfl rfl)
theorem dX9_rows_71 : decode cX9_rows 71 = .ok (.aload_n 0, 1) := dk_42 (dk_at dksX9_rows_2 23 rfl rfl)
theorem dX9_rows_72 : decode cX9_rows 72 = .ok (.getfield 99, 3) := dk_180 0 99 (dk_at dksX9_rows_3 0 rfl rfl)
theorem dX9_rows_75 : decode cX9_rows 75 = .ok (.aload_n 0, 1) := dk_42 (dk_at dksX9_rows_3 3 rfl rfl)
theorem dX9_rows_76 : decode cX9_rows 76 = .ok (.getfield 108, 3) := dk_180 0 108 (dk_at dksX9_rows_3 4 rfl rfl)
theorem dX9_rows_79 : decode cX9_rows 79 = .ok (.iload_n 3, 1) := dk_29 (dk_at dksX9_rows_3 7 rfl rfl)
theorem dX9_rows_80 : decode cX9_rows 80 = .ok (.iconst 1, 1) := dk_4 (dk_at dksX9_rows_3 8 rfl rfl)
theorem dX9_rows_81 : decode cX9_rows 81 = .ok (.isub, 1) := dk_100 (dk_at dksX9_rows_3 9 rfl rfl)
theorem dX9_rows_82 : decode cX9_rows 82 = .ok (.iaload, 1) := dk_46 (dk_at dksX9_rows_3 10 rfl rfl)
theorem dX9_rows_83 : decode cX9_rows 83 = .ok (.iaload, 1) := dk_46 (dk_at dksX9_rows_3 11 rfl rfl)
theorem dX9_rows_84 : decode cX9_rows 84 = .ok (.aload_n 0, 1) := dk_42 (dk_at dksX9_rows_3 12 rfl rfl)
theorem dX9_rows_85 : decode cX9_rows 85 = .ok (.getfield 99, 3) := dk_180 0 99 (dk_at dksX9_rows_3 13 rfl rfl)
theorem dX9_rows_88 : decode cX9_rows 88 = .ok (.bipush 24, 2) := dk_16 24 (dk_at dksX9_rows_3 16 rfl rfl)
theorem dX9_rows_90 : decode cX9_rows 90 = .ok (.iload_n 2, 1) := dk_28 (dk_at dksX9_rows_3 18 rfl rfl)
theorem dX9_rows_91 : decode cX9_rows 91 = .ok (.iadd, 1) := dk_96 (dk_at dksX9_rows_3 19 rfl rfl)
theorem dX9_rows_92 : decode cX9_rows 92 = .ok (.iaload, 1) := dk_46 (dk_at dksX9_rows_3 20 rfl rfl)
theorem dX9_rows_93 : decode cX9_rows 93 = .ok (.if_icmp .le 23, 3) := dk_164 0 23 (dk_at dksX9_rows_3 21 rfl rfl)
theorem dX9_rows_96 : decode cX9_rows 96 = .ok (.aload_n 0, 1) := dk_42 (dk_at dksX9_rows_4 0 rfl rfl)
theorem dX9_rows_97 : decode cX9_rows 97 = .ok (.getfield 108, 3) := dk_180 0 108 (dk_at dksX9_rows_4 1 rfl rfl)
theorem dX9_rows_100 : decode cX9_rows 100 = .ok (.iload_n 3, 1) := dk_29 (dk_at dksX9_rows_4 4 rfl rfl)
theorem dX9_rows_101 : decode cX9_rows 101 = .ok (.aload_n 0, 1) := dk_42 (dk_at dksX9_rows_4 5 rfl rfl)
theorem dX9_rows_102 : decode cX9_rows 102 = .ok (.getfield 108, 3) := dk_180 0 108 (dk_at dksX9_rows_4 6 rfl rfl)
theorem dX9_rows_105 : decode cX9_rows 105 = .ok (.iload_n 3, 1) := dk_29 (dk_at dksX9_rows_4 9 rfl rfl)
theorem dX9_rows_106 : decode cX9_rows 106 = .ok (.iconst 1, 1) := dk_4 (dk_at dksX9_rows_4 10 rfl rfl)
theorem dX9_rows_107 : decode cX9_rows 107 = .ok (.isub, 1) := dk_100 (dk_at dksX9_rows_4 11 rfl rfl)
theorem dX9_rows_108 : decode cX9_rows 108 = .ok (.iaload, 1) := dk_46 (dk_at dksX9_rows_4 12 rfl rfl)
theorem dX9_rows_109 : decode cX9_rows 109 = .ok (.iastore, 1) := dk_79 (dk_at dksX9_rows_4 13 rfl rfl)
theorem dX9_rows_110 : decode cX9_rows 110 = .ok (.iinc 3 (-1), 3) := dk_132 3 255 (dk_at dksX9_rows_4 14 rfl rfl)
theorem dX9_rows_113 : decode cX9_rows 113 = .ok (.goto (-46), 3) := dk_167 255 210 (dk_at dksX9_rows_4 17 rfl rfl)
theorem dX9_rows_116 : decode cX9_rows 116 = .ok (.aload_n 0, 1) := dk_42 (dk_at dksX9_rows_4 20 rfl rfl)
theorem dX9_rows_117 : decode cX9_rows 117 = .ok (.getfield 108, 3) := dk_180 0 108 (dk_at dksX9_rows_4 21 rfl rfl)
theorem dX9_rows_120 : decode cX9_rows 120 = .ok (.iload_n 3, 1) := dk_29 (dk_at dksX9_rows_5 0 rfl rfl)
theorem dX9_rows_121 : decode cX9_rows 121 = .ok (.bipush 24, 2) := dk_16 24 (dk_at dksX9_rows_5 1 rfl rfl)
theorem dX9_rows_123 : decode cX9_rows 123 = .ok (.iload_n 2, 1) := dk_28 (dk_at dksX9_rows_5 3 rfl rfl)
theorem dX9_rows_124 : decode cX9_rows 124 = .ok (.iadd, 1) := dk_96 (dk_at dksX9_rows_5 4 rfl rfl)
theorem dX9_rows_125 : decode cX9_rows 125 = .ok (.iastore, 1) := dk_79 (dk_at dksX9_rows_5 5 rfl rfl)
theorem dX9_rows_126 : decode cX9_rows 126 = .ok (.aload_n 0, 1) := dk_42 (dk_at dksX9_rows_5 6 rfl rfl)
theorem dX9_rows_127 : decode cX9_rows 127 = .ok (.dup, 1) := dk_89 (dk_at dksX9_rows_5 7 rfl rfl)
theorem dX9_rows_128 : decode cX9_rows 128 = .ok (.getfield 362, 3) := dk_180 1 106 (dk_at dksX9_rows_5 8 rfl rfl)
theorem dX9_rows_131 : decode cX9_rows 131 = .ok (.iconst 1, 1) := dk_4 (dk_at dksX9_rows_5 11 rfl rfl)
theorem dX9_rows_132 : decode cX9_rows 132 = .ok (.iadd, 1) := dk_96 (dk_at dksX9_rows_5 12 rfl rfl)
theorem dX9_rows_133 : decode cX9_rows 133 = .ok (.putfield 362, 3) := dk_181 1 106 (dk_at dksX9_rows_5 13 rfl rfl)
theorem dX9_rows_136 : decode cX9_rows 136 = .ok (.iinc 2 1, 3) := dk_132 2 1 (dk_at dksX9_rows_5 16 rfl rfl)
theorem dX9_rows_139 : decode cX9_rows 139 = .ok (.goto (-96), 3) := dk_167 255 160 (dk_at dksX9_rows_5 19 rfl rfl)
theorem dX9_rows_142 : decode cX9_rows 142 = .ok (.iconst 0, 1) := dk_3 (dk_at dksX9_rows_5 22 rfl rfl)
theorem dX9_rows_143 : decode cX9_rows 143 = .ok (.istore_n 2, 1) := dk_61 (dk_at dksX9_rows_5 23 rfl rfl)
theorem dX9_rows_144 : decode cX9_rows 144 = .ok (.iload_n 2, 1) := dk_28 (dk_at dksX9_rows_6 0 rfl rfl)
theorem dX9_rows_145 : decode cX9_rows 145 = .ok (.aload_n 0, 1) := dk_42 (dk_at dksX9_rows_6 1 rfl rfl)
theorem dX9_rows_146 : decode cX9_rows 146 = .ok (.getfield 362, 3) := dk_180 1 106 (dk_at dksX9_rows_6 2 rfl rfl)
theorem dX9_rows_149 : decode cX9_rows 149 = .ok (.if_icmp .ge 19, 3) := dk_162 0 19 (dk_at dksX9_rows_6 5 rfl rfl)
theorem dX9_rows_152 : decode cX9_rows 152 = .ok (.aload_n 0, 1) := dk_42 (dk_at dksX9_rows_6 8 rfl rfl)
theorem dX9_rows_153 : decode cX9_rows 153 = .ok (.aload_n 0, 1) := dk_42 (dk_at dksX9_rows_6 9 rfl rfl)
theorem dX9_rows_154 : decode cX9_rows 154 = .ok (.getfield 108, 3) := dk_180 0 108 (dk_at dksX9_rows_6 10 rfl rfl)
theorem dX9_rows_157 : decode cX9_rows 157 = .ok (.iload_n 2, 1) := dk_28 (dk_at dksX9_rows_6 13 rfl rfl)
theorem dX9_rows_158 : decode cX9_rows 158 = .ok (.iaload, 1) := dk_46 (dk_at dksX9_rows_6 14 rfl rfl)
theorem dX9_rows_159 : decode cX9_rows 159 = .ok (.invokevirtual 365, 3) := dk_182 1 109 (dk_at dksX9_rows_6 15 rfl rfl)
theorem dX9_rows_162 : decode cX9_rows 162 = .ok (.iinc 2 1, 3) := dk_132 2 1 (dk_at dksX9_rows_6 18 rfl rfl)
theorem dX9_rows_165 : decode cX9_rows 165 = .ok (.goto (-21), 3) := dk_167 255 235 (dk_at dksX9_rows_6 21 rfl rfl)
theorem dX9_rows_168 : decode cX9_rows 168 = .ok (.return_, 1) := dk_177 (dk_at dksX9_rows_7 0 rfl rfl)
abbrev cX9_liesOf : ByteArray := prog_28_method_48_code
def yX9_liesOf : MethodName := ⟨RX9, "liesOf", "(I)V"⟩
def dkwX9_liesOf_3 : List UInt8 := [167, 255, 189, 177]
abbrev dktX9_liesOf_3 : List UInt8 := dkwX9_liesOf_3 ++ []
def dkwX9_liesOf_2 : List UInt8 := [16, 31, 28, 104, 27, 96, 92, 47, 10, 29, 121, 129, 80, 132, 3, 1, 167, 255, 214, 132, 2, 1]
abbrev dktX9_liesOf_2 : List UInt8 := dkwX9_liesOf_2 ++ dktX9_liesOf_3
def dkwX9_liesOf_1 : List UInt8 := [180, 0, 13, 3, 46, 120, 162, 0, 36, 42, 27, 28, 29, 182, 1, 102, 153, 0, 20, 42, 180, 0, 111]
abbrev dktX9_liesOf_1 : List UInt8 := dkwX9_liesOf_1 ++ dktX9_liesOf_2
def dkwX9_liesOf_0 : List UInt8 := [3, 61, 28, 5, 162, 0, 68, 42, 180, 0, 111, 16, 31, 28, 104, 27, 96, 9, 80, 3, 62, 29, 4, 42]
abbrev dktX9_liesOf_0 : List UInt8 := dkwX9_liesOf_0 ++ dktX9_liesOf_1
theorem dksX9_liesOf_0 : cX9_liesOf.data.toList.drop 0 = dktX9_liesOf_0 := by decide +kernel
theorem dksX9_liesOf_1 : cX9_liesOf.data.toList.drop 24 = dktX9_liesOf_1 := dk_seg dksX9_liesOf_0 24 rfl rfl
theorem dksX9_liesOf_2 : cX9_liesOf.data.toList.drop 47 = dktX9_liesOf_2 := dk_seg dksX9_liesOf_1 23 rfl rfl
theorem dksX9_liesOf_3 : cX9_liesOf.data.toList.drop 69 = dktX9_liesOf_3 := dk_seg dksX9_liesOf_2 22 rfl rfl
theorem dX9_liesOf_0 : decode cX9_liesOf 0 = .ok (.iconst 0, 1) := dk_3 (dk_at dksX9_liesOf_0 0 rfl rfl)
theorem dX9_liesOf_1 : decode cX9_liesOf 1 = .ok (.istore_n 2, 1) := dk_61 (dk_at dksX9_liesOf_0 1 rfl rfl)
theorem dX9_liesOf_2 : decode cX9_liesOf 2 = .ok (.iload_n 2, 1) := dk_28 (dk_at dksX9_liesOf_0 2 rfl rfl)
theorem dX9_liesOf_3 : decode cX9_liesOf 3 = .ok (.iconst 2, 1) := dk_5 (dk_at dksX9_liesOf_0 3 rfl rfl)
theorem dX9_liesOf_4 : decode cX9_liesOf 4 = .ok (.if_icmp .ge 68, 3) := dk_162 0 68 (dk_at dksX9_liesOf_0 4 rfl rfl)
theorem dX9_liesOf_7 : decode cX9_liesOf 7 = .ok (.aload_n 0, 1) := dk_42 (dk_at dksX9_liesOf_0 7 rfl rfl)
theorem dX9_liesOf_8 : decode cX9_liesOf 8 = .ok (.getfield 111, 3) := dk_180 0 111 (dk_at dksX9_liesOf_0 8 rfl rfl)
theorem dX9_liesOf_11 : decode cX9_liesOf 11 = .ok (.bipush 31, 2) := dk_16 31 (dk_at dksX9_liesOf_0 11 rfl rfl)
theorem dX9_liesOf_13 : decode cX9_liesOf 13 = .ok (.iload_n 2, 1) := dk_28 (dk_at dksX9_liesOf_0 13 rfl rfl)
theorem dX9_liesOf_14 : decode cX9_liesOf 14 = .ok (.imul, 1) := dk_104 (dk_at dksX9_liesOf_0 14 rfl rfl)
theorem dX9_liesOf_15 : decode cX9_liesOf 15 = .ok (.iload_n 1, 1) := dk_27 (dk_at dksX9_liesOf_0 15 rfl rfl)
theorem dX9_liesOf_16 : decode cX9_liesOf 16 = .ok (.iadd, 1) := dk_96 (dk_at dksX9_liesOf_0 16 rfl rfl)
theorem dX9_liesOf_17 : decode cX9_liesOf 17 = .ok (.lconst 0, 1) := dk_9 (dk_at dksX9_liesOf_0 17 rfl rfl)
theorem dX9_liesOf_18 : decode cX9_liesOf 18 = .ok (.lastore, 1) := dk_80 (dk_at dksX9_liesOf_0 18 rfl rfl)
theorem dX9_liesOf_19 : decode cX9_liesOf 19 = .ok (.iconst 0, 1) := dk_3 (dk_at dksX9_liesOf_0 19 rfl rfl)
theorem dX9_liesOf_20 : decode cX9_liesOf 20 = .ok (.istore_n 3, 1) := dk_62 (dk_at dksX9_liesOf_0 20 rfl rfl)
theorem dX9_liesOf_21 : decode cX9_liesOf 21 = .ok (.iload_n 3, 1) := dk_29 (dk_at dksX9_liesOf_0 21 rfl rfl)
theorem dX9_liesOf_22 : decode cX9_liesOf 22 = .ok (.iconst 1, 1) := dk_4 (dk_at dksX9_liesOf_0 22 rfl rfl)
theorem dX9_liesOf_23 : decode cX9_liesOf 23 = .ok (.aload_n 0, 1) := dk_42 (dk_at dksX9_liesOf_0 23 rfl rfl)
theorem dX9_liesOf_24 : decode cX9_liesOf 24 = .ok (.getfield 13, 3) := dk_180 0 13 (dk_at dksX9_liesOf_1 0 rfl rfl)
theorem dX9_liesOf_27 : decode cX9_liesOf 27 = .ok (.iconst 0, 1) := dk_3 (dk_at dksX9_liesOf_1 3 rfl rfl)
theorem dX9_liesOf_28 : decode cX9_liesOf 28 = .ok (.iaload, 1) := dk_46 (dk_at dksX9_liesOf_1 4 rfl rfl)
theorem dX9_liesOf_29 : decode cX9_liesOf 29 = .ok (.ishl, 1) := dk_120 (dk_at dksX9_liesOf_1 5 rfl rfl)
theorem dX9_liesOf_30 : decode cX9_liesOf 30 = .ok (.if_icmp .ge 36, 3) := dk_162 0 36 (dk_at dksX9_liesOf_1 6 rfl rfl)
theorem dX9_liesOf_33 : decode cX9_liesOf 33 = .ok (.aload_n 0, 1) := dk_42 (dk_at dksX9_liesOf_1 9 rfl rfl)
theorem dX9_liesOf_34 : decode cX9_liesOf 34 = .ok (.iload_n 1, 1) := dk_27 (dk_at dksX9_liesOf_1 10 rfl rfl)
theorem dX9_liesOf_35 : decode cX9_liesOf 35 = .ok (.iload_n 2, 1) := dk_28 (dk_at dksX9_liesOf_1 11 rfl rfl)
theorem dX9_liesOf_36 : decode cX9_liesOf 36 = .ok (.iload_n 3, 1) := dk_29 (dk_at dksX9_liesOf_1 12 rfl rfl)
theorem dX9_liesOf_37 : decode cX9_liesOf 37 = .ok (.invokevirtual 358, 3) := dk_182 1 102 (dk_at dksX9_liesOf_1 13 rfl rfl)
theorem dX9_liesOf_40 : decode cX9_liesOf 40 = .ok (.ifCond .eq 20, 3) := dk_153 0 20 (dk_at dksX9_liesOf_1 16 rfl rfl)
theorem dX9_liesOf_43 : decode cX9_liesOf 43 = .ok (.aload_n 0, 1) := dk_42 (dk_at dksX9_liesOf_1 19 rfl rfl)
theorem dX9_liesOf_44 : decode cX9_liesOf 44 = .ok (.getfield 111, 3) := dk_180 0 111 (dk_at dksX9_liesOf_1 20 rfl rfl)
theorem dX9_liesOf_47 : decode cX9_liesOf 47 = .ok (.bipush 31, 2) := dk_16 31 (dk_at dksX9_liesOf_2 0 rfl rfl)
theorem dX9_liesOf_49 : decode cX9_liesOf 49 = .ok (.iload_n 2, 1) := dk_28 (dk_at dksX9_liesOf_2 2 rfl rfl)
theorem dX9_liesOf_50 : decode cX9_liesOf 50 = .ok (.imul, 1) := dk_104 (dk_at dksX9_liesOf_2 3 rfl rfl)
theorem dX9_liesOf_51 : decode cX9_liesOf 51 = .ok (.iload_n 1, 1) := dk_27 (dk_at dksX9_liesOf_2 4 rfl rfl)
theorem dX9_liesOf_52 : decode cX9_liesOf 52 = .ok (.iadd, 1) := dk_96 (dk_at dksX9_liesOf_2 5 rfl rfl)
theorem dX9_liesOf_53 : decode cX9_liesOf 53 = .ok (.dup2, 1) := dk_92 (dk_at dksX9_liesOf_2 6 rfl rfl)
theorem dX9_liesOf_54 : decode cX9_liesOf 54 = .ok (.laload, 1) := dk_47 (dk_at dksX9_liesOf_2 7 rfl rfl)
theorem dX9_liesOf_55 : decode cX9_liesOf 55 = .ok (.lconst 1, 1) := dk_10 (dk_at dksX9_liesOf_2 8 rfl rfl)
theorem dX9_liesOf_56 : decode cX9_liesOf 56 = .ok (.iload_n 3, 1) := dk_29 (dk_at dksX9_liesOf_2 9 rfl rfl)
theorem dX9_liesOf_57 : decode cX9_liesOf 57 = .ok (.lshl, 1) := dk_121 (dk_at dksX9_liesOf_2 10 rfl rfl)
theorem dX9_liesOf_58 : decode cX9_liesOf 58 = .ok (.lor, 1) := dk_129 (dk_at dksX9_liesOf_2 11 rfl rfl)
theorem dX9_liesOf_59 : decode cX9_liesOf 59 = .ok (.lastore, 1) := dk_80 (dk_at dksX9_liesOf_2 12 rfl rfl)
theorem dX9_liesOf_60 : decode cX9_liesOf 60 = .ok (.iinc 3 1, 3) := dk_132 3 1 (dk_at dksX9_liesOf_2 13 rfl rfl)
theorem dX9_liesOf_63 : decode cX9_liesOf 63 = .ok (.goto (-42), 3) := dk_167 255 214 (dk_at dksX9_liesOf_2 16 rfl rfl)
theorem dX9_liesOf_66 : decode cX9_liesOf 66 = .ok (.iinc 2 1, 3) := dk_132 2 1 (dk_at dksX9_liesOf_2 19 rfl rfl)
theorem dX9_liesOf_69 : decode cX9_liesOf 69 = .ok (.goto (-67), 3) := dk_167 255 189 (dk_at dksX9_liesOf_3 0 rfl rfl)
theorem dX9_liesOf_72 : decode cX9_liesOf 72 = .ok (.return_, 1) := dk_177 (dk_at dksX9_liesOf_3 3 rfl rfl)
abbrev cX9_pointsTo : ByteArray := prog_28_method_50_code
def yX9_pointsTo : MethodName := ⟨RX9, "pointsTo", "(III)I"⟩
def dkwX9_pointsTo_3 : List UInt8 := [180, 0, 108, 21, 4, 46, 46, 172, 132, 4, 255, 167, 255, 183, 2, 172]
abbrev dktX9_pointsTo_3 : List UInt8 := dkwX9_pointsTo_3 ++ []
def dkwX9_pointsTo_2 : List UInt8 := [104, 42, 180, 0, 108, 21, 4, 46, 96, 47, 29, 184, 1, 94, 153, 0, 16, 42, 180, 0, 96, 42]
abbrev dktX9_pointsTo_2 : List UInt8 := dkwX9_pointsTo_2 ++ dktX9_pointsTo_3
def dkwX9_pointsTo_1 : List UInt8 := [46, 42, 180, 0, 35, 27, 46, 96, 28, 163, 0, 45, 42, 180, 0, 111, 16, 31, 42, 180, 0, 32, 27, 46]
abbrev dktX9_pointsTo_1 : List UInt8 := dkwX9_pointsTo_1 ++ dktX9_pointsTo_2
def dkwX9_pointsTo_0 : List UInt8 := [42, 180, 1, 106, 4, 100, 54, 4, 21, 4, 155, 0, 74, 42, 180, 0, 99, 42, 180, 0, 108, 21, 4, 46]
abbrev dktX9_pointsTo_0 : List UInt8 := dkwX9_pointsTo_0 ++ dktX9_pointsTo_1
theorem dksX9_pointsTo_0 : cX9_pointsTo.data.toList.drop 0 = dktX9_pointsTo_0 := by decide +kernel
theorem dksX9_pointsTo_1 : cX9_pointsTo.data.toList.drop 24 = dktX9_pointsTo_1 := dk_seg dksX9_pointsTo_0 24 rfl rfl
theorem dksX9_pointsTo_2 : cX9_pointsTo.data.toList.drop 48 = dktX9_pointsTo_2 := dk_seg dksX9_pointsTo_1 24 rfl rfl
theorem dksX9_pointsTo_3 : cX9_pointsTo.data.toList.drop 70 = dktX9_pointsTo_3 := dk_seg dksX9_pointsTo_2 22 rfl rfl
theorem dX9_pointsTo_0 : decode cX9_pointsTo 0 = .ok (.aload_n 0, 1) := dk_42 (dk_at dksX9_pointsTo_0 0 rfl rfl)
theorem dX9_pointsTo_1 : decode cX9_pointsTo 1 = .ok (.getfield 362, 3) := dk_180 1 106 (dk_at dksX9_pointsTo_0 1 rfl rfl)
theorem dX9_pointsTo_4 : decode cX9_pointsTo 4 = .ok (.iconst 1, 1) := dk_4 (dk_at dksX9_pointsTo_0 4 rfl rfl)
theorem dX9_pointsTo_5 : decode cX9_pointsTo 5 = .ok (.isub, 1) := dk_100 (dk_at dksX9_pointsTo_0 5 rfl rfl)
theorem dX9_pointsTo_6 : decode cX9_pointsTo 6 = .ok (.istore 4, 2) := dk_54 4 (dk_at dksX9_pointsTo_0 6 rfl rfl)
theorem dX9_pointsTo_8 : decode cX9_pointsTo 8 = .ok (.iload 4, 2) := dk_21 4 (dk_at dksX9_pointsTo_0 8 rfl rfl)
theorem dX9_pointsTo_10 : decode cX9_pointsTo 10 = .ok (.ifCond .lt 74, 3) := dk_155 0 74 (dk_at dksX9_pointsTo_0 10 rfl rfl)
theorem dX9_pointsTo_13 : decode cX9_pointsTo 13 = .ok (.aload_n 0, 1) := dk_42 (dk_at dksX9_pointsTo_0 13 rfl rfl)
theorem dX9_pointsTo_14 : decode cX9_pointsTo 14 = .ok (.getfield 99, 3) := dk_180 0 99 (dk_at dksX9_pointsTo_0 14 rfl rfl)
theorem dX9_pointsTo_17 : decode cX9_pointsTo 17 = .ok (.aload_n 0, 1) := dk_42 (dk_at dksX9_pointsTo_0 17 rfl rfl)
theorem dX9_pointsTo_18 : decode cX9_pointsTo 18 = .ok (.getfield 108, 3) := dk_180 0 108 (dk_at dksX9_pointsTo_0 18 rfl rfl)
theorem dX9_pointsTo_21 : decode cX9_pointsTo 21 = .ok (.iload 4, 2) := dk_21 4 (dk_at dksX9_pointsTo_0 21 rfl rfl)
theorem dX9_pointsTo_23 : decode cX9_pointsTo 23 = .ok (.iaload, 1) := dk_46 (dk_at dksX9_pointsTo_0 23 rfl rfl)
theorem dX9_pointsTo_24 : decode cX9_pointsTo 24 = .ok (.iaload, 1) := dk_46 (dk_at dksX9_pointsTo_1 0 rfl rfl)
theorem dX9_pointsTo_25 : decode cX9_pointsTo 25 = .ok (.aload_n 0, 1) := dk_42 (dk_at dksX9_pointsTo_1 1 rfl rfl)
theorem dX9_pointsTo_26 : decode cX9_pointsTo 26 = .ok (.getfield 35, 3) := dk_180 0 35 (dk_at dksX9_pointsTo_1 2 rfl rfl)
theorem dX9_pointsTo_29 : decode cX9_pointsTo 29 = .ok (.iload_n 1, 1) := dk_27 (dk_at dksX9_pointsTo_1 5 rfl rfl)
theorem dX9_pointsTo_30 : decode cX9_pointsTo 30 = .ok (.iaload, 1) := dk_46 (dk_at dksX9_pointsTo_1 6 rfl rfl)
theorem dX9_pointsTo_31 : decode cX9_pointsTo 31 = .ok (.iadd, 1) := dk_96 (dk_at dksX9_pointsTo_1 7 rfl rfl)
theorem dX9_pointsTo_32 : decode cX9_pointsTo 32 = .ok (.iload_n 2, 1) := dk_28 (dk_at dksX9_pointsTo_1 8 rfl rfl)
theorem dX9_pointsTo_33 : decode cX9_pointsTo 33 = .ok (.if_icmp .gt 45, 3) := dk_163 0 45 (dk_at dksX9_pointsTo_1 9 rfl rfl)
theorem dX9_pointsTo_36 : decode cX9_pointsTo 36 = .ok (.aload_n 0, 1) := dk_42 (dk_at dksX9_pointsTo_1 12 rfl rfl)
theorem dX9_pointsTo_37 : decode cX9_pointsTo 37 = .ok (.getfield 111, 3) := dk_180 0 111 (dk_at dksX9_pointsTo_1 13 rfl rfl)
theorem dX9_pointsTo_40 : decode cX9_pointsTo 40 = .ok (.bipush 31, 2) := dk_16 31 (dk_at dksX9_pointsTo_1 16 rfl rfl)
theorem dX9_pointsTo_42 : decode cX9_pointsTo 42 = .ok (.aload_n 0, 1) := dk_42 (dk_at dksX9_pointsTo_1 18 rfl rfl)
theorem dX9_pointsTo_43 : decode cX9_pointsTo 43 = .ok (.getfield 32, 3) := dk_180 0 32 (dk_at dksX9_pointsTo_1 19 rfl rfl)
theorem dX9_pointsTo_46 : decode cX9_pointsTo 46 = .ok (.iload_n 1, 1) := dk_27 (dk_at dksX9_pointsTo_1 22 rfl rfl)
theorem dX9_pointsTo_47 : decode cX9_pointsTo 47 = .ok (.iaload, 1) := dk_46 (dk_at dksX9_pointsTo_1 23 rfl rfl)
theorem dX9_pointsTo_48 : decode cX9_pointsTo 48 = .ok (.imul, 1) := dk_104 (dk_at dksX9_pointsTo_2 0 rfl rfl)
theorem dX9_pointsTo_49 : decode cX9_pointsTo 49 = .ok (.aload_n 0, 1) := dk_42 (dk_at dksX9_pointsTo_2 1 rfl rfl)
theorem dX9_pointsTo_50 : decode cX9_pointsTo 50 = .ok (.getfield 108, 3) := dk_180 0 108 (dk_at dksX9_pointsTo_2 2 rfl rfl)
theorem dX9_pointsTo_53 : decode cX9_pointsTo 53 = .ok (.iload 4, 2) := dk_21 4 (dk_at dksX9_pointsTo_2 5 rfl rfl)
theorem dX9_pointsTo_55 : decode cX9_pointsTo 55 = .ok (.iaload, 1) := dk_46 (dk_at dksX9_pointsTo_2 7 rfl rfl)
theorem dX9_pointsTo_56 : decode cX9_pointsTo 56 = .ok (.iadd, 1) := dk_96 (dk_at dksX9_pointsTo_2 8 rfl rfl)
theorem dX9_pointsTo_57 : decode cX9_pointsTo 57 = .ok (.laload, 1) := dk_47 (dk_at dksX9_pointsTo_2 9 rfl rfl)
theorem dX9_pointsTo_58 : decode cX9_pointsTo 58 = .ok (.iload_n 3, 1) := dk_29 (dk_at dksX9_pointsTo_2 10 rfl rfl)
theorem dX9_pointsTo_59 : decode cX9_pointsTo 59 = .ok (.invokestatic 350, 3) := dk_184 1 94 (dk_at dksX9_pointsTo_2 11 rfl rfl)
theorem dX9_pointsTo_62 : decode cX9_pointsTo 62 = .ok (.ifCond .eq 16, 3) := dk_153 0 16 (dk_at dksX9_pointsTo_2 14 rfl rfl)
theorem dX9_pointsTo_65 : decode cX9_pointsTo 65 = .ok (.aload_n 0, 1) := dk_42 (dk_at dksX9_pointsTo_2 17 rfl rfl)
theorem dX9_pointsTo_66 : decode cX9_pointsTo 66 = .ok (.getfield 96, 3) := dk_180 0 96 (dk_at dksX9_pointsTo_2 18 rfl rfl)
theorem dX9_pointsTo_69 : decode cX9_pointsTo 69 = .ok (.aload_n 0, 1) := dk_42 (dk_at dksX9_pointsTo_2 21 rfl rfl)
theorem dX9_pointsTo_70 : decode cX9_pointsTo 70 = .ok (.getfield 108, 3) := dk_180 0 108 (dk_at dksX9_pointsTo_3 0 rfl rfl)
theorem dX9_pointsTo_73 : decode cX9_pointsTo 73 = .ok (.iload 4, 2) := dk_21 4 (dk_at dksX9_pointsTo_3 3 rfl rfl)
theorem dX9_pointsTo_75 : decode cX9_pointsTo 75 = .ok (.iaload, 1) := dk_46 (dk_at dksX9_pointsTo_3 5 rfl rfl)
theorem dX9_pointsTo_76 : decode cX9_pointsTo 76 = .ok (.iaload, 1) := dk_46 (dk_at dksX9_pointsTo_3 6 rfl rfl)
theorem dX9_pointsTo_77 : decode cX9_pointsTo 77 = .ok (.ireturn, 1) := dk_172 (dk_at dksX9_pointsTo_3 7 rfl rfl)
theorem dX9_pointsTo_78 : decode cX9_pointsTo 78 = .ok (.iinc 4 (-1), 3) := dk_132 4 255 (dk_at dksX9_pointsTo_3 8 rfl rfl)
theorem dX9_pointsTo_81 : decode cX9_pointsTo 81 = .ok (.goto (-73), 3) := dk_167 255 183 (dk_at dksX9_pointsTo_3 11 rfl rfl)
theorem dX9_pointsTo_84 : decode cX9_pointsTo 84 = .ok (.iconst (-1), 1) := dk_2 (dk_at dksX9_pointsTo_3 14 rfl rfl)
theorem dX9_pointsTo_85 : decode cX9_pointsTo 85 = .ok (.ireturn, 1) := dk_172 (dk_at dksX9_pointsTo_3 15 rfl rfl)
abbrev cX9_look : ByteArray := prog_28_method_55_code
def yX9_look : MethodName := ⟨RX9, "look", "(IIII)I"⟩
def dkwX9_look_4 : List UInt8 := [181, 1, 72, 42, 180, 1, 72, 4, 100, 172]
abbrev dktX9_look_4 : List UInt8 := dkwX9_look_4 ++ []
def dkwX9_look_3 : List UInt8 := [180, 1, 72, 29, 79, 42, 180, 0, 123, 42, 180, 1, 72, 21, 4, 79, 42, 89, 180, 1, 72, 4, 96]
abbrev dktX9_look_3 : List UInt8 := dkwX9_look_3 ++ dktX9_look_4
def dkwX9_look_2 : List UInt8 := [180, 0, 114, 42, 180, 1, 72, 27, 79, 42, 180, 0, 117, 42, 180, 1, 72, 28, 79, 42, 180, 0, 120, 42]
abbrev dktX9_look_2 : List UInt8 := dkwX9_look_2 ++ dktX9_look_3
def dkwX9_look_1 : List UInt8 := [153, 0, 20, 21, 4, 184, 1, 121, 153, 0, 12, 42, 180, 1, 72, 16, 12, 160, 0, 5, 2, 172, 42]
abbrev dktX9_look_1 : List UInt8 := dkwX9_look_1 ++ dktX9_look_2
def dkwX9_look_0 : List UInt8 := [42, 3, 181, 0, 162, 42, 27, 182, 1, 115, 153, 0, 34, 28, 184, 1, 84, 153, 0, 27, 29, 184, 1, 121]
abbrev dktX9_look_0 : List UInt8 := dkwX9_look_0 ++ dktX9_look_1
theorem dksX9_look_0 : cX9_look.data.toList.drop 0 = dktX9_look_0 := by decide +kernel
theorem dksX9_look_1 : cX9_look.data.toList.drop 24 = dktX9_look_1 := dk_seg dksX9_look_0 24 rfl rfl
theorem dksX9_look_2 : cX9_look.data.toList.drop 47 = dktX9_look_2 := dk_seg dksX9_look_1 23 rfl rfl
theorem dksX9_look_3 : cX9_look.data.toList.drop 71 = dktX9_look_3 := dk_seg dksX9_look_2 24 rfl rfl
theorem dksX9_look_4 : cX9_look.data.toList.drop 94 = dktX9_look_4 := dk_seg dksX9_look_3 23 rfl rfl
theorem dX9_look_0 : decode cX9_look 0 = .ok (.aload_n 0, 1) := dk_42 (dk_at dksX9_look_0 0 rfl rfl)
theorem dX9_look_1 : decode cX9_look 1 = .ok (.iconst 0, 1) := dk_3 (dk_at dksX9_look_0 1 rfl rfl)
theorem dX9_look_2 : decode cX9_look 2 = .ok (.putfield 162, 3) := dk_181 0 162 (dk_at dksX9_look_0 2 rfl rfl)
theorem dX9_look_5 : decode cX9_look 5 = .ok (.aload_n 0, 1) := dk_42 (dk_at dksX9_look_0 5 rfl rfl)
theorem dX9_look_6 : decode cX9_look 6 = .ok (.iload_n 1, 1) := dk_27 (dk_at dksX9_look_0 6 rfl rfl)
theorem dX9_look_7 : decode cX9_look 7 = .ok (.invokevirtual 371, 3) := dk_182 1 115 (dk_at dksX9_look_0 7 rfl rfl)
theorem dX9_look_10 : decode cX9_look 10 = .ok (.ifCond .eq 34, 3) := dk_153 0 34 (dk_at dksX9_look_0 10 rfl rfl)
theorem dX9_look_13 : decode cX9_look 13 = .ok (.iload_n 2, 1) := dk_28 (dk_at dksX9_look_0 13 rfl rfl)
theorem dX9_look_14 : decode cX9_look 14 = .ok (.invokestatic 340, 3) := dk_184 1 84 (dk_at dksX9_look_0 14 rfl rfl)
theorem dX9_look_17 : decode cX9_look 17 = .ok (.ifCond .eq 27, 3) := dk_153 0 27 (dk_at dksX9_look_0 17 rfl rfl)
theorem dX9_look_20 : decode cX9_look 20 = .ok (.iload_n 3, 1) := dk_29 (dk_at dksX9_look_0 20 rfl rfl)
theorem dX9_look_21 : decode cX9_look 21 = .ok (.invokestatic 377, 3) := dk_184 1 121 (dk_at dksX9_look_0 21 rfl rfl)
theorem dX9_look_24 : decode cX9_look 24 = .ok (.ifCond .eq 20, 3) := dk_153 0 20 (dk_at dksX9_look_1 0 rfl rfl)
theorem dX9_look_27 : decode cX9_look 27 = .ok (.iload 4, 2) := dk_21 4 (dk_at dksX9_look_1 3 rfl rfl)
theorem dX9_look_29 : decode cX9_look 29 = .ok (.invokestatic 377, 3) := dk_184 1 121 (dk_at dksX9_look_1 5 rfl rfl)
theorem dX9_look_32 : decode cX9_look 32 = .ok (.ifCond .eq 12, 3) := dk_153 0 12 (dk_at dksX9_look_1 8 rfl rfl)
theorem dX9_look_35 : decode cX9_look 35 = .ok (.aload_n 0, 1) := dk_42 (dk_at dksX9_look_1 11 rfl rfl)
theorem dX9_look_36 : decode cX9_look 36 = .ok (.getfield 328, 3) := dk_180 1 72 (dk_at dksX9_look_1 12 rfl rfl)
theorem dX9_look_39 : decode cX9_look 39 = .ok (.bipush 12, 2) := dk_16 12 (dk_at dksX9_look_1 15 rfl rfl)
theorem dX9_look_41 : decode cX9_look 41 = .ok (.if_icmp .ne 5, 3) := dk_160 0 5 (dk_at dksX9_look_1 17 rfl rfl)
theorem dX9_look_44 : decode cX9_look 44 = .ok (.iconst (-1), 1) := dk_2 (dk_at dksX9_look_1 20 rfl rfl)
theorem dX9_look_45 : decode cX9_look 45 = .ok (.ireturn, 1) := dk_172 (dk_at dksX9_look_1 21 rfl rfl)
theorem dX9_look_46 : decode cX9_look 46 = .ok (.aload_n 0, 1) := dk_42 (dk_at dksX9_look_1 22 rfl rfl)
theorem dX9_look_47 : decode cX9_look 47 = .ok (.getfield 114, 3) := dk_180 0 114 (dk_at dksX9_look_2 0 rfl rfl)
theorem dX9_look_50 : decode cX9_look 50 = .ok (.aload_n 0, 1) := dk_42 (dk_at dksX9_look_2 3 rfl rfl)
theorem dX9_look_51 : decode cX9_look 51 = .ok (.getfield 328, 3) := dk_180 1 72 (dk_at dksX9_look_2 4 rfl rfl)
theorem dX9_look_54 : decode cX9_look 54 = .ok (.iload_n 1, 1) := dk_27 (dk_at dksX9_look_2 7 rfl rfl)
theorem dX9_look_55 : decode cX9_look 55 = .ok (.iastore, 1) := dk_79 (dk_at dksX9_look_2 8 rfl rfl)
theorem dX9_look_56 : decode cX9_look 56 = .ok (.aload_n 0, 1) := dk_42 (dk_at dksX9_look_2 9 rfl rfl)
theorem dX9_look_57 : decode cX9_look 57 = .ok (.getfield 117, 3) := dk_180 0 117 (dk_at dksX9_look_2 10 rfl rfl)
theorem dX9_look_60 : decode cX9_look 60 = .ok (.aload_n 0, 1) := dk_42 (dk_at dksX9_look_2 13 rfl rfl)
theorem dX9_look_61 : decode cX9_look 61 = .ok (.getfield 328, 3) := dk_180 1 72 (dk_at dksX9_look_2 14 rfl rfl)
theorem dX9_look_64 : decode cX9_look 64 = .ok (.iload_n 2, 1) := dk_28 (dk_at dksX9_look_2 17 rfl rfl)
theorem dX9_look_65 : decode cX9_look 65 = .ok (.iastore, 1) := dk_79 (dk_at dksX9_look_2 18 rfl rfl)
theorem dX9_look_66 : decode cX9_look 66 = .ok (.aload_n 0, 1) := dk_42 (dk_at dksX9_look_2 19 rfl rfl)
theorem dX9_look_67 : decode cX9_look 67 = .ok (.getfield 120, 3) := dk_180 0 120 (dk_at dksX9_look_2 20 rfl rfl)
theorem dX9_look_70 : decode cX9_look 70 = .ok (.aload_n 0, 1) := dk_42 (dk_at dksX9_look_2 23 rfl rfl)
theorem dX9_look_71 : decode cX9_look 71 = .ok (.getfield 328, 3) := dk_180 1 72 (dk_at dksX9_look_3 0 rfl rfl)
theorem dX9_look_74 : decode cX9_look 74 = .ok (.iload_n 3, 1) := dk_29 (dk_at dksX9_look_3 3 rfl rfl)
theorem dX9_look_75 : decode cX9_look 75 = .ok (.iastore, 1) := dk_79 (dk_at dksX9_look_3 4 rfl rfl)
theorem dX9_look_76 : decode cX9_look 76 = .ok (.aload_n 0, 1) := dk_42 (dk_at dksX9_look_3 5 rfl rfl)
theorem dX9_look_77 : decode cX9_look 77 = .ok (.getfield 123, 3) := dk_180 0 123 (dk_at dksX9_look_3 6 rfl rfl)
theorem dX9_look_80 : decode cX9_look 80 = .ok (.aload_n 0, 1) := dk_42 (dk_at dksX9_look_3 9 rfl rfl)
theorem dX9_look_81 : decode cX9_look 81 = .ok (.getfield 328, 3) := dk_180 1 72 (dk_at dksX9_look_3 10 rfl rfl)
theorem dX9_look_84 : decode cX9_look 84 = .ok (.iload 4, 2) := dk_21 4 (dk_at dksX9_look_3 13 rfl rfl)
theorem dX9_look_86 : decode cX9_look 86 = .ok (.iastore, 1) := dk_79 (dk_at dksX9_look_3 15 rfl rfl)
theorem dX9_look_87 : decode cX9_look 87 = .ok (.aload_n 0, 1) := dk_42 (dk_at dksX9_look_3 16 rfl rfl)
theorem dX9_look_88 : decode cX9_look 88 = .ok (.dup, 1) := dk_89 (dk_at dksX9_look_3 17 rfl rfl)
theorem dX9_look_89 : decode cX9_look 89 = .ok (.getfield 328, 3) := dk_180 1 72 (dk_at dksX9_look_3 18 rfl rfl)
theorem dX9_look_92 : decode cX9_look 92 = .ok (.iconst 1, 1) := dk_4 (dk_at dksX9_look_3 21 rfl rfl)
theorem dX9_look_93 : decode cX9_look 93 = .ok (.iadd, 1) := dk_96 (dk_at dksX9_look_3 22 rfl rfl)
theorem dX9_look_94 : decode cX9_look 94 = .ok (.putfield 328, 3) := dk_181 1 72 (dk_at dksX9_look_4 0 rfl rfl)
theorem dX9_look_97 : decode cX9_look 97 = .ok (.aload_n 0, 1) := dk_42 (dk_at dksX9_look_4 3 rfl rfl)
theorem dX9_look_98 : decode cX9_look 98 = .ok (.getfield 328, 3) := dk_180 1 72 (dk_at dksX9_look_4 4 rfl rfl)
theorem dX9_look_101 : decode cX9_look 101 = .ok (.iconst 1, 1) := dk_4 (dk_at dksX9_look_4 7 rfl rfl)
theorem dX9_look_102 : decode cX9_look 102 = .ok (.isub, 1) := dk_100 (dk_at dksX9_look_4 8 rfl rfl)
theorem dX9_look_103 : decode cX9_look 103 = .ok (.ireturn, 1) := dk_172 (dk_at dksX9_look_4 9 rfl rfl)
abbrev cX9_isBearing : ByteArray := prog_28_method_53_code
def yX9_isBearing : MethodName := ⟨RX9, "isBearing", "(I)Z"⟩
def dkwX9_isBearing_0 : List UInt8 := [26, 155, 0, 14, 26, 17, 1, 104, 162, 0, 7, 4, 167, 0, 4, 3, 172]
abbrev dktX9_isBearing_0 : List UInt8 := dkwX9_isBearing_0 ++ []
theorem dksX9_isBearing_0 : cX9_isBearing.data.toList.drop 0 = dktX9_isBearing_0 := by decide +kernel
theorem dX9_isBearing_0 : decode cX9_isBearing 0 = .ok (.iload_n 0, 1) := dk_26 (dk_at dksX9_isBearing_0 0 rfl rfl)
theorem dX9_isBearing_1 : decode cX9_isBearing 1 = .ok (.ifCond .lt 14, 3) := dk_155 0 14 (dk_at dksX9_isBearing_0 1 rfl rfl)
theorem dX9_isBearing_4 : decode cX9_isBearing 4 = .ok (.iload_n 0, 1) := dk_26 (dk_at dksX9_isBearing_0 4 rfl rfl)
theorem dX9_isBearing_5 : decode cX9_isBearing 5 = .ok (.sipush 360, 3) := dk_17 1 104 (dk_at dksX9_isBearing_0 5 rfl rfl)
theorem dX9_isBearing_8 : decode cX9_isBearing 8 = .ok (.if_icmp .ge 7, 3) := dk_162 0 7 (dk_at dksX9_isBearing_0 8 rfl rfl)
theorem dX9_isBearing_11 : decode cX9_isBearing 11 = .ok (.iconst 1, 1) := dk_4 (dk_at dksX9_isBearing_0 11 rfl rfl)
theorem dX9_isBearing_12 : decode cX9_isBearing 12 = .ok (.goto 4, 3) := dk_167 0 4 (dk_at dksX9_isBearing_0 12 rfl rfl)
theorem dX9_isBearing_15 : decode cX9_isBearing 15 = .ok (.iconst 0, 1) := dk_3 (dk_at dksX9_isBearing_0 15 rfl rfl)
theorem dX9_isBearing_16 : decode cX9_isBearing 16 = .ok (.ireturn, 1) := dk_172 (dk_at dksX9_isBearing_0 16 rfl rfl)
abbrev cX9_world : ByteArray := prog_28_method_58_code
def yX9_world : MethodName := ⟨RX9, "world", "(I)I"⟩
def dkwX9_world_2 : List UInt8 := [167, 0, 4, 3, 172]
abbrev dktX9_world_2 : List UInt8 := dkwX9_world_2 ++ []
def dkwX9_world_1 : List UInt8 := [184, 1, 94, 153, 0, 7, 5, 167, 0, 21, 42, 180, 0, 42, 3, 47, 27, 184, 1, 94, 153, 0, 7, 4]
abbrev dktX9_world_1 : List UInt8 := dkwX9_world_1 ++ dktX9_world_2
def dkwX9_world_0 : List UInt8 := [42, 3, 181, 0, 162, 42, 27, 182, 1, 91, 154, 0, 7, 2, 167, 0, 36, 42, 182, 1, 134, 27]
abbrev dktX9_world_0 : List UInt8 := dkwX9_world_0 ++ dktX9_world_1
theorem dksX9_world_0 : cX9_world.data.toList.drop 0 = dktX9_world_0 := by decide +kernel
theorem dksX9_world_1 : cX9_world.data.toList.drop 22 = dktX9_world_1 := dk_seg dksX9_world_0 22 rfl rfl
theorem dksX9_world_2 : cX9_world.data.toList.drop 46 = dktX9_world_2 := dk_seg dksX9_world_1 24 rfl rfl
theorem dX9_world_0 : decode cX9_world 0 = .ok (.aload_n 0, 1) := dk_42 (dk_at dksX9_world_0 0 rfl rfl)
theorem dX9_world_1 : decode cX9_world 1 = .ok (.iconst 0, 1) := dk_3 (dk_at dksX9_world_0 1 rfl rfl)
theorem dX9_world_2 : decode cX9_world 2 = .ok (.putfield 162, 3) := dk_181 0 162 (dk_at dksX9_world_0 2 rfl rfl)
theorem dX9_world_5 : decode cX9_world 5 = .ok (.aload_n 0, 1) := dk_42 (dk_at dksX9_world_0 5 rfl rfl)
theorem dX9_world_6 : decode cX9_world 6 = .ok (.iload_n 1, 1) := dk_27 (dk_at dksX9_world_0 6 rfl rfl)
theorem dX9_world_7 : decode cX9_world 7 = .ok (.invokevirtual 347, 3) := dk_182 1 91 (dk_at dksX9_world_0 7 rfl rfl)
theorem dX9_world_10 : decode cX9_world 10 = .ok (.ifCond .ne 7, 3) := dk_154 0 7 (dk_at dksX9_world_0 10 rfl rfl)
theorem dX9_world_13 : decode cX9_world 13 = .ok (.iconst (-1), 1) := dk_2 (dk_at dksX9_world_0 13 rfl rfl)
theorem dX9_world_14 : decode cX9_world 14 = .ok (.goto 36, 3) := dk_167 0 36 (dk_at dksX9_world_0 14 rfl rfl)
theorem dX9_world_17 : decode cX9_world 17 = .ok (.aload_n 0, 1) := dk_42 (dk_at dksX9_world_0 17 rfl rfl)
theorem dX9_world_18 : decode cX9_world 18 = .ok (.invokevirtual 390, 3) := dk_182 1 134 (dk_at dksX9_world_0 18 rfl rfl)
theorem dX9_world_21 : decode cX9_world 21 = .ok (.iload_n 1, 1) := dk_27 (dk_at dksX9_world_0 21 rfl rfl)
theorem dX9_world_22 : decode cX9_world 22 = .ok (.invokestatic 350, 3) := dk_184 1 94 (dk_at dksX9_world_1 0 rfl rfl)
theorem dX9_world_25 : decode cX9_world 25 = .ok (.ifCond .eq 7, 3) := dk_153 0 7 (dk_at dksX9_world_1 3 rfl rfl)
theorem dX9_world_28 : decode cX9_world 28 = .ok (.iconst 2, 1) := dk_5 (dk_at dksX9_world_1 6 rfl rfl)
theorem dX9_world_29 : decode cX9_world 29 = .ok (.goto 21, 3) := dk_167 0 21 (dk_at dksX9_world_1 7 rfl rfl)
theorem dX9_world_32 : decode cX9_world 32 = .ok (.aload_n 0, 1) := dk_42 (dk_at dksX9_world_1 10 rfl rfl)
theorem dX9_world_33 : decode cX9_world 33 = .ok (.getfield 42, 3) := dk_180 0 42 (dk_at dksX9_world_1 11 rfl rfl)
theorem dX9_world_36 : decode cX9_world 36 = .ok (.iconst 0, 1) := dk_3 (dk_at dksX9_world_1 14 rfl rfl)
theorem dX9_world_37 : decode cX9_world 37 = .ok (.laload, 1) := dk_47 (dk_at dksX9_world_1 15 rfl rfl)
theorem dX9_world_38 : decode cX9_world 38 = .ok (.iload_n 1, 1) := dk_27 (dk_at dksX9_world_1 16 rfl rfl)
theorem dX9_world_39 : decode cX9_world 39 = .ok (.invokestatic 350, 3) := dk_184 1 94 (dk_at dksX9_world_1 17 rfl rfl)
theorem dX9_world_42 : decode cX9_world 42 = .ok (.ifCond .eq 7, 3) := dk_153 0 7 (dk_at dksX9_world_1 20 rfl rfl)
theorem dX9_world_45 : decode cX9_world 45 = .ok (.iconst 1, 1) := dk_4 (dk_at dksX9_world_1 23 rfl rfl)
theorem dX9_world_46 : decode cX9_world 46 = .ok (.goto 4, 3) := dk_167 0 4 (dk_at dksX9_world_2 0 rfl rfl)
theorem dX9_world_49 : decode cX9_world 49 = .ok (.iconst 0, 1) := dk_3 (dk_at dksX9_world_2 3 rfl rfl)
theorem dX9_world_50 : decode cX9_world 50 = .ok (.ireturn, 1) := dk_172 (dk_at dksX9_world_2 4 rfl rfl)
abbrev cX9_canBe : ByteArray := prog_28_method_57_code
def yX9_canBe : MethodName := ⟨RX9, "canBe", "()J"⟩
def dkwX9_canBe_3 : List UInt8 := [167, 255, 217, 31, 42, 180, 0, 126, 29, 47, 127, 64, 132, 3, 1, 167, 255, 184, 31, 173]
abbrev dktX9_canBe_3 : List UInt8 := dkwX9_canBe_3 ++ []
def dkwX9_canBe_2 : List UInt8 := [21, 4, 182, 1, 130, 153, 0, 16, 42, 180, 0, 126, 29, 92, 47, 10, 21, 4, 121, 129, 80, 132, 4, 1]
abbrev dktX9_canBe_2 : List UInt8 := dkwX9_canBe_2 ++ dktX9_canBe_3
def dkwX9_canBe_1 : List UInt8 := [180, 0, 126, 29, 9, 80, 3, 54, 4, 21, 4, 4, 42, 180, 0, 13, 3, 46, 120, 162, 0, 32, 42, 29]
abbrev dktX9_canBe_1 : List UInt8 := dkwX9_canBe_1 ++ dktX9_canBe_2
def dkwX9_canBe_0 : List UInt8 := [42, 3, 182, 1, 118, 42, 180, 0, 42, 3, 47, 64, 3, 62, 29, 42, 180, 1, 72, 162, 0, 70, 42]
abbrev dktX9_canBe_0 : List UInt8 := dkwX9_canBe_0 ++ dktX9_canBe_1
theorem dksX9_canBe_0 : cX9_canBe.data.toList.drop 0 = dktX9_canBe_0 := by decide +kernel
theorem dksX9_canBe_1 : cX9_canBe.data.toList.drop 23 = dktX9_canBe_1 := dk_seg dksX9_canBe_0 23 rfl rfl
theorem dksX9_canBe_2 : cX9_canBe.data.toList.drop 47 = dktX9_canBe_2 := dk_seg dksX9_canBe_1 24 rfl rfl
theorem dksX9_canBe_3 : cX9_canBe.data.toList.drop 71 = dktX9_canBe_3 := dk_seg dksX9_canBe_2 24 rfl rfl
theorem dX9_canBe_0 : decode cX9_canBe 0 = .ok (.aload_n 0, 1) := dk_42 (dk_at dksX9_canBe_0 0 rfl rfl)
theorem dX9_canBe_1 : decode cX9_canBe 1 = .ok (.iconst 0, 1) := dk_3 (dk_at dksX9_canBe_0 1 rfl rfl)
theorem dX9_canBe_2 : decode cX9_canBe 2 = .ok (.invokevirtual 374, 3) := dk_182 1 118 (dk_at dksX9_canBe_0 2 rfl rfl)
theorem dX9_canBe_5 : decode cX9_canBe 5 = .ok (.aload_n 0, 1) := dk_42 (dk_at dksX9_canBe_0 5 rfl rfl)
theorem dX9_canBe_6 : decode cX9_canBe 6 = .ok (.getfield 42, 3) := dk_180 0 42 (dk_at dksX9_canBe_0 6 rfl rfl)
theorem dX9_canBe_9 : decode cX9_canBe 9 = .ok (.iconst 0, 1) := dk_3 (dk_at dksX9_canBe_0 9 rfl rfl)
theorem dX9_canBe_10 : decode cX9_canBe 10 = .ok (.laload, 1) := dk_47 (dk_at dksX9_canBe_0 10 rfl rfl)
theorem dX9_canBe_11 : decode cX9_canBe 11 = .ok (.lstore_n 1, 1) := dk_64 (dk_at dksX9_canBe_0 11 rfl rfl)
theorem dX9_canBe_12 : decode cX9_canBe 12 = .ok (.iconst 0, 1) := dk_3 (dk_at dksX9_canBe_0 12 rfl rfl)
theorem dX9_canBe_13 : decode cX9_canBe 13 = .ok (.istore_n 3, 1) := dk_62 (dk_at dksX9_canBe_0 13 rfl rfl)
theorem dX9_canBe_14 : decode cX9_canBe 14 = .ok (.iload_n 3, 1) := dk_29 (dk_at dksX9_canBe_0 14 rfl rfl)
theorem dX9_canBe_15 : decode cX9_canBe 15 = .ok (.aload_n 0, 1) := dk_42 (dk_at dksX9_canBe_0 15 rfl rfl)
theorem dX9_canBe_16 : decode cX9_canBe 16 = .ok (.getfield 328, 3) := dk_180 1 72 (dk_at dksX9_canBe_0 16 rfl rfl)
theorem dX9_canBe_19 : decode cX9_canBe 19 = .ok (.if_icmp .ge 70, 3) := dk_162 0 70 (dk_at dksX9_canBe_0 19 rfl rfl)
theorem dX9_canBe_22 : decode cX9_canBe 22 = .ok (.aload_n 0, 1) := dk_42 (dk_at dksX9_canBe_0 22 rfl rfl)
theorem dX9_canBe_23 : decode cX9_canBe 23 = .ok (.getfield 126, 3) := dk_180 0 126 (dk_at dksX9_canBe_1 0 rfl rfl)
theorem dX9_canBe_26 : decode cX9_canBe 26 = .ok (.iload_n 3, 1) := dk_29 (dk_at dksX9_canBe_1 3 rfl rfl)
theorem dX9_canBe_27 : decode cX9_canBe 27 = .ok (.lconst 0, 1) := dk_9 (dk_at dksX9_canBe_1 4 rfl rfl)
theorem dX9_canBe_28 : decode cX9_canBe 28 = .ok (.lastore, 1) := dk_80 (dk_at dksX9_canBe_1 5 rfl rfl)
theorem dX9_canBe_29 : decode cX9_canBe 29 = .ok (.iconst 0, 1) := dk_3 (dk_at dksX9_canBe_1 6 rfl rfl)
theorem dX9_canBe_30 : decode cX9_canBe 30 = .ok (.istore 4, 2) := dk_54 4 (dk_at dksX9_canBe_1 7 rfl rfl)
theorem dX9_canBe_32 : decode cX9_canBe 32 = .ok (.iload 4, 2) := dk_21 4 (dk_at dksX9_canBe_1 9 rfl rfl)
theorem dX9_canBe_34 : decode cX9_canBe 34 = .ok (.iconst 1, 1) := dk_4 (dk_at dksX9_canBe_1 11 rfl rfl)
theorem dX9_canBe_35 : decode cX9_canBe 35 = .ok (.aload_n 0, 1) := dk_42 (dk_at dksX9_canBe_1 12 rfl rfl)
theorem dX9_canBe_36 : decode cX9_canBe 36 = .ok (.getfield 13, 3) := dk_180 0 13 (dk_at dksX9_canBe_1 13 rfl rfl)
theorem dX9_canBe_39 : decode cX9_canBe 39 = .ok (.iconst 0, 1) := dk_3 (dk_at dksX9_canBe_1 16 rfl rfl)
theorem dX9_canBe_40 : decode cX9_canBe 40 = .ok (.iaload, 1) := dk_46 (dk_at dksX9_canBe_1 17 rfl rfl)
theorem dX9_canBe_41 : decode cX9_canBe 41 = .ok (.ishl, 1) := dk_120 (dk_at dksX9_canBe_1 18 rfl rfl)
theorem dX9_canBe_42 : decode cX9_canBe 42 = .ok (.if_icmp .ge 32, 3) := dk_162 0 32 (dk_at dksX9_canBe_1 19 rfl rfl)
theorem dX9_canBe_45 : decode cX9_canBe 45 = .ok (.aload_n 0, 1) := dk_42 (dk_at dksX9_canBe_1 22 rfl rfl)
theorem dX9_canBe_46 : decode cX9_canBe 46 = .ok (.iload_n 3, 1) := dk_29 (dk_at dksX9_canBe_1 23 rfl rfl)
theorem dX9_canBe_47 : decode cX9_canBe 47 = .ok (.iload 4, 2) := dk_21 4 (dk_at dksX9_canBe_2 0 rfl rfl)
theorem dX9_canBe_49 : decode cX9_canBe 49 = .ok (.invokevirtual 386, 3) := dk_182 1 130 (dk_at dksX9_canBe_2 2 rfl rfl)
theorem dX9_canBe_52 : decode cX9_canBe 52 = .ok (.ifCond .eq 16, 3) := dk_153 0 16 (dk_at dksX9_canBe_2 5 rfl rfl)
theorem dX9_canBe_55 : decode cX9_canBe 55 = .ok (.aload_n 0, 1) := dk_42 (dk_at dksX9_canBe_2 8 rfl rfl)
theorem dX9_canBe_56 : decode cX9_canBe 56 = .ok (.getfield 126, 3) := dk_180 0 126 (dk_at dksX9_canBe_2 9 rfl rfl)
theorem dX9_canBe_59 : decode cX9_canBe 59 = .ok (.iload_n 3, 1) := dk_29 (dk_at dksX9_canBe_2 12 rfl rfl)
theorem dX9_canBe_60 : decode cX9_canBe 60 = .ok (.dup2, 1) := dk_92 (dk_at dksX9_canBe_2 13 rfl rfl)
theorem dX9_canBe_61 : decode cX9_canBe 61 = .ok (.laload, 1) := dk_47 (dk_at dksX9_canBe_2 14 rfl rfl)
theorem dX9_canBe_62 : decode cX9_canBe 62 = .ok (.lconst 1, 1) := dk_10 (dk_at dksX9_canBe_2 15 rfl rfl)
theorem dX9_canBe_63 : decode cX9_canBe 63 = .ok (.iload 4, 2) := dk_21 4 (dk_at dksX9_canBe_2 16 rfl rfl)
theorem dX9_canBe_65 : decode cX9_canBe 65 = .ok (.lshl, 1) := dk_121 (dk_at dksX9_canBe_2 18 rfl rfl)
theorem dX9_canBe_66 : decode cX9_canBe 66 = .ok (.lor, 1) := dk_129 (dk_at dksX9_canBe_2 19 rfl rfl)
theorem dX9_canBe_67 : decode cX9_canBe 67 = .ok (.lastore, 1) := dk_80 (dk_at dksX9_canBe_2 20 rfl rfl)
theorem dX9_canBe_68 : decode cX9_canBe 68 = .ok (.iinc 4 1, 3) := dk_132 4 1 (dk_at dksX9_canBe_2 21 rfl rfl)
theorem dX9_canBe_71 : decode cX9_canBe 71 = .ok (.goto (-39), 3) := dk_167 255 217 (dk_at dksX9_canBe_3 0 rfl rfl)
theorem dX9_canBe_74 : decode cX9_canBe 74 = .ok (.lload_n 1, 1) := dk_31 (dk_at dksX9_canBe_3 3 rfl rfl)
theorem dX9_canBe_75 : decode cX9_canBe 75 = .ok (.aload_n 0, 1) := dk_42 (dk_at dksX9_canBe_3 4 rfl rfl)
theorem dX9_canBe_76 : decode cX9_canBe 76 = .ok (.getfield 126, 3) := dk_180 0 126 (dk_at dksX9_canBe_3 5 rfl rfl)
theorem dX9_canBe_79 : decode cX9_canBe 79 = .ok (.iload_n 3, 1) := dk_29 (dk_at dksX9_canBe_3 8 rfl rfl)
theorem dX9_canBe_80 : decode cX9_canBe 80 = .ok (.laload, 1) := dk_47 (dk_at dksX9_canBe_3 9 rfl rfl)
theorem dX9_canBe_81 : decode cX9_canBe 81 = .ok (.land, 1) := dk_127 (dk_at dksX9_canBe_3 10 rfl rfl)
theorem dX9_canBe_82 : decode cX9_canBe 82 = .ok (.lstore_n 1, 1) := dk_64 (dk_at dksX9_canBe_3 11 rfl rfl)
theorem dX9_canBe_83 : decode cX9_canBe 83 = .ok (.iinc 3 1, 3) := dk_132 3 1 (dk_at dksX9_canBe_3 12 rfl rfl)
theorem dX9_canBe_86 : decode cX9_canBe 86 = .ok (.goto (-72), 3) := dk_167 255 184 (dk_at dksX9_canBe_3 15 rfl rfl)
theorem dX9_canBe_89 : decode cX9_canBe 89 = .ok (.lload_n 1, 1) := dk_31 (dk_at dksX9_canBe_3 18 rfl rfl)
theorem dX9_canBe_90 : decode cX9_canBe 90 = .ok (.lreturn, 1) := dk_173 (dk_at dksX9_canBe_3 19 rfl rfl)
abbrev cX9_fitsIn : ByteArray := prog_28_method_56_code
def yX9_fitsIn : MethodName := ⟨RX9, "fitsIn", "(II)Z"⟩
def dkwX9_fitsIn_1 : List UInt8 := [180, 0, 123, 27, 46, 184, 1, 127, 172]
abbrev dktX9_fitsIn_1 : List UInt8 := dkwX9_fitsIn_1 ++ []
def dkwX9_fitsIn_0 : List UInt8 := [42, 42, 180, 0, 114, 27, 46, 42, 180, 0, 117, 27, 46, 28, 182, 1, 124, 42, 180, 0, 120, 27, 46, 42]
abbrev dktX9_fitsIn_0 : List UInt8 := dkwX9_fitsIn_0 ++ dktX9_fitsIn_1
theorem dksX9_fitsIn_0 : cX9_fitsIn.data.toList.drop 0 = dktX9_fitsIn_0 := by decide +kernel
theorem dksX9_fitsIn_1 : cX9_fitsIn.data.toList.drop 24 = dktX9_fitsIn_1 := dk_seg dksX9_fitsIn_0 24 rfl rfl
theorem dX9_fitsIn_0 : decode cX9_fitsIn 0 = .ok (.aload_n 0, 1) := dk_42 (dk_at dksX9_fitsIn_0 0 rfl rfl)
theorem dX9_fitsIn_1 : decode cX9_fitsIn 1 = .ok (.aload_n 0, 1) := dk_42 (dk_at dksX9_fitsIn_0 1 rfl rfl)
theorem dX9_fitsIn_2 : decode cX9_fitsIn 2 = .ok (.getfield 114, 3) := dk_180 0 114 (dk_at dksX9_fitsIn_0 2 rfl rfl)
theorem dX9_fitsIn_5 : decode cX9_fitsIn 5 = .ok (.iload_n 1, 1) := dk_27 (dk_at dksX9_fitsIn_0 5 rfl rfl)
theorem dX9_fitsIn_6 : decode cX9_fitsIn 6 = .ok (.iaload, 1) := dk_46 (dk_at dksX9_fitsIn_0 6 rfl rfl)
theorem dX9_fitsIn_7 : decode cX9_fitsIn 7 = .ok (.aload_n 0, 1) := dk_42 (dk_at dksX9_fitsIn_0 7 rfl rfl)
theorem dX9_fitsIn_8 : decode cX9_fitsIn 8 = .ok (.getfield 117, 3) := dk_180 0 117 (dk_at dksX9_fitsIn_0 8 rfl rfl)
theorem dX9_fitsIn_11 : decode cX9_fitsIn 11 = .ok (.iload_n 1, 1) := dk_27 (dk_at dksX9_fitsIn_0 11 rfl rfl)
theorem dX9_fitsIn_12 : decode cX9_fitsIn 12 = .ok (.iaload, 1) := dk_46 (dk_at dksX9_fitsIn_0 12 rfl rfl)
theorem dX9_fitsIn_13 : decode cX9_fitsIn 13 = .ok (.iload_n 2, 1) := dk_28 (dk_at dksX9_fitsIn_0 13 rfl rfl)
theorem dX9_fitsIn_14 : decode cX9_fitsIn 14 = .ok (.invokevirtual 380, 3) := dk_182 1 124 (dk_at dksX9_fitsIn_0 14 rfl rfl)
theorem dX9_fitsIn_17 : decode cX9_fitsIn 17 = .ok (.aload_n 0, 1) := dk_42 (dk_at dksX9_fitsIn_0 17 rfl rfl)
theorem dX9_fitsIn_18 : decode cX9_fitsIn 18 = .ok (.getfield 120, 3) := dk_180 0 120 (dk_at dksX9_fitsIn_0 18 rfl rfl)
theorem dX9_fitsIn_21 : decode cX9_fitsIn 21 = .ok (.iload_n 1, 1) := dk_27 (dk_at dksX9_fitsIn_0 21 rfl rfl)
theorem dX9_fitsIn_22 : decode cX9_fitsIn 22 = .ok (.iaload, 1) := dk_46 (dk_at dksX9_fitsIn_0 22 rfl rfl)
theorem dX9_fitsIn_23 : decode cX9_fitsIn 23 = .ok (.aload_n 0, 1) := dk_42 (dk_at dksX9_fitsIn_0 23 rfl rfl)
theorem dX9_fitsIn_24 : decode cX9_fitsIn 24 = .ok (.getfield 123, 3) := dk_180 0 123 (dk_at dksX9_fitsIn_1 0 rfl rfl)
theorem dX9_fitsIn_27 : decode cX9_fitsIn 27 = .ok (.iload_n 1, 1) := dk_27 (dk_at dksX9_fitsIn_1 3 rfl rfl)
theorem dX9_fitsIn_28 : decode cX9_fitsIn 28 = .ok (.iaload, 1) := dk_46 (dk_at dksX9_fitsIn_1 4 rfl rfl)
theorem dX9_fitsIn_29 : decode cX9_fitsIn 29 = .ok (.invokestatic 383, 3) := dk_184 1 127 (dk_at dksX9_fitsIn_1 5 rfl rfl)
theorem dX9_fitsIn_32 : decode cX9_fitsIn 32 = .ok (.ireturn, 1) := dk_172 (dk_at dksX9_fitsIn_1 8 rfl rfl)
abbrev cX9_bearingAt : ByteArray := prog_28_method_51_code
def yX9_bearingAt : MethodName := ⟨RX9, "bearingAt", "(III)I"⟩
def dkwX9_bearingAt_1 : List UInt8 := [180, 0, 26, 21, 4, 46, 46, 172]
abbrev dktX9_bearingAt_1 : List UInt8 := dkwX9_bearingAt_1 ++ []
def dkwX9_bearingAt_0 : List UInt8 := [42, 27, 28, 29, 182, 1, 112, 54, 4, 21, 4, 156, 0, 7, 3, 167, 0, 15, 42, 180, 0, 23, 42]
abbrev dktX9_bearingAt_0 : List UInt8 := dkwX9_bearingAt_0 ++ dktX9_bearingAt_1
theorem dksX9_bearingAt_0 : cX9_bearingAt.data.toList.drop 0 = dktX9_bearingAt_0 := by decide +kernel
theorem dksX9_bearingAt_1 : cX9_bearingAt.data.toList.drop 23 = dktX9_bearingAt_1 := dk_seg dksX9_bearingAt_0 23 rfl rfl
theorem dX9_bearingAt_0 : decode cX9_bearingAt 0 = .ok (.aload_n 0, 1) := dk_42 (dk_at dksX9_bearingAt_0 0 rfl rfl)
theorem dX9_bearingAt_1 : decode cX9_bearingAt 1 = .ok (.iload_n 1, 1) := dk_27 (dk_at dksX9_bearingAt_0 1 rfl rfl)
theorem dX9_bearingAt_2 : decode cX9_bearingAt 2 = .ok (.iload_n 2, 1) := dk_28 (dk_at dksX9_bearingAt_0 2 rfl rfl)
theorem dX9_bearingAt_3 : decode cX9_bearingAt 3 = .ok (.iload_n 3, 1) := dk_29 (dk_at dksX9_bearingAt_0 3 rfl rfl)
theorem dX9_bearingAt_4 : decode cX9_bearingAt 4 = .ok (.invokevirtual 368, 3) := dk_182 1 112 (dk_at dksX9_bearingAt_0 4 rfl rfl)
theorem dX9_bearingAt_7 : decode cX9_bearingAt 7 = .ok (.istore 4, 2) := dk_54 4 (dk_at dksX9_bearingAt_0 7 rfl rfl)
theorem dX9_bearingAt_9 : decode cX9_bearingAt 9 = .ok (.iload 4, 2) := dk_21 4 (dk_at dksX9_bearingAt_0 9 rfl rfl)
theorem dX9_bearingAt_11 : decode cX9_bearingAt 11 = .ok (.ifCond .ge 7, 3) := dk_156 0 7 (dk_at dksX9_bearingAt_0 11 rfl rfl)
theorem dX9_bearingAt_14 : decode cX9_bearingAt 14 = .ok (.iconst 0, 1) := dk_3 (dk_at dksX9_bearingAt_0 14 rfl rfl)
theorem dX9_bearingAt_15 : decode cX9_bearingAt 15 = .ok (.goto 15, 3) := dk_167 0 15 (dk_at dksX9_bearingAt_0 15 rfl rfl)
theorem dX9_bearingAt_18 : decode cX9_bearingAt 18 = .ok (.aload_n 0, 1) := dk_42 (dk_at dksX9_bearingAt_0 18 rfl rfl)
theorem dX9_bearingAt_19 : decode cX9_bearingAt 19 = .ok (.getfield 23, 3) := dk_180 0 23 (dk_at dksX9_bearingAt_0 19 rfl rfl)
theorem dX9_bearingAt_22 : decode cX9_bearingAt 22 = .ok (.aload_n 0, 1) := dk_42 (dk_at dksX9_bearingAt_0 22 rfl rfl)
theorem dX9_bearingAt_23 : decode cX9_bearingAt 23 = .ok (.getfield 26, 3) := dk_180 0 26 (dk_at dksX9_bearingAt_1 0 rfl rfl)
theorem dX9_bearingAt_26 : decode cX9_bearingAt 26 = .ok (.iload 4, 2) := dk_21 4 (dk_at dksX9_bearingAt_1 3 rfl rfl)
theorem dX9_bearingAt_28 : decode cX9_bearingAt 28 = .ok (.iaload, 1) := dk_46 (dk_at dksX9_bearingAt_1 5 rfl rfl)
theorem dX9_bearingAt_29 : decode cX9_bearingAt 29 = .ok (.iaload, 1) := dk_46 (dk_at dksX9_bearingAt_1 6 rfl rfl)
theorem dX9_bearingAt_30 : decode cX9_bearingAt 30 = .ok (.ireturn, 1) := dk_172 (dk_at dksX9_bearingAt_1 7 rfl rfl)
abbrev cX9_isWithin : ByteArray := prog_28_method_54_code
def yX9_isWithin : MethodName := ⟨RX9, "isWithin", "(III)Z"⟩
def dkwX9_isWithin_1 : List UInt8 := [27, 162, 0, 8, 26, 28, 163, 0, 7, 4, 167, 0, 4, 3, 172]
abbrev dktX9_isWithin_1 : List UInt8 := dkwX9_isWithin_1 ++ []
def dkwX9_isWithin_0 : List UInt8 := [27, 28, 163, 0, 21, 26, 27, 161, 0, 12, 26, 28, 163, 0, 7, 4, 167, 0, 22, 3, 167, 0, 18, 26]
abbrev dktX9_isWithin_0 : List UInt8 := dkwX9_isWithin_0 ++ dktX9_isWithin_1
theorem dksX9_isWithin_0 : cX9_isWithin.data.toList.drop 0 = dktX9_isWithin_0 := by decide +kernel
theorem dksX9_isWithin_1 : cX9_isWithin.data.toList.drop 24 = dktX9_isWithin_1 := dk_seg dksX9_isWithin_0 24 rfl rfl
theorem dX9_isWithin_0 : decode cX9_isWithin 0 = .ok (.iload_n 1, 1) := dk_27 (dk_at dksX9_isWithin_0 0 rfl rfl)
theorem dX9_isWithin_1 : decode cX9_isWithin 1 = .ok (.iload_n 2, 1) := dk_28 (dk_at dksX9_isWithin_0 1 rfl rfl)
theorem dX9_isWithin_2 : decode cX9_isWithin 2 = .ok (.if_icmp .gt 21, 3) := dk_163 0 21 (dk_at dksX9_isWithin_0 2 rfl rfl)
theorem dX9_isWithin_5 : decode cX9_isWithin 5 = .ok (.iload_n 0, 1) := dk_26 (dk_at dksX9_isWithin_0 5 rfl rfl)
theorem dX9_isWithin_6 : decode cX9_isWithin 6 = .ok (.iload_n 1, 1) := dk_27 (dk_at dksX9_isWithin_0 6 rfl rfl)
theorem dX9_isWithin_7 : decode cX9_isWithin 7 = .ok (.if_icmp .lt 12, 3) := dk_161 0 12 (dk_at dksX9_isWithin_0 7 rfl rfl)
theorem dX9_isWithin_10 : decode cX9_isWithin 10 = .ok (.iload_n 0, 1) := dk_26 (dk_at dksX9_isWithin_0 10 rfl rfl)
theorem dX9_isWithin_11 : decode cX9_isWithin 11 = .ok (.iload_n 2, 1) := dk_28 (dk_at dksX9_isWithin_0 11 rfl rfl)
theorem dX9_isWithin_12 : decode cX9_isWithin 12 = .ok (.if_icmp .gt 7, 3) := dk_163 0 7 (dk_at dksX9_isWithin_0 12 rfl rfl)
theorem dX9_isWithin_15 : decode cX9_isWithin 15 = .ok (.iconst 1, 1) := dk_4 (dk_at dksX9_isWithin_0 15 rfl rfl)
theorem dX9_isWithin_16 : decode cX9_isWithin 16 = .ok (.goto 22, 3) := dk_167 0 22 (dk_at dksX9_isWithin_0 16 rfl rfl)
theorem dX9_isWithin_19 : decode cX9_isWithin 19 = .ok (.iconst 0, 1) := dk_3 (dk_at dksX9_isWithin_0 19 rfl rfl)
theorem dX9_isWithin_20 : decode cX9_isWithin 20 = .ok (.goto 18, 3) := dk_167 0 18 (dk_at dksX9_isWithin_0 20 rfl rfl)
theorem dX9_isWithin_23 : decode cX9_isWithin 23 = .ok (.iload_n 0, 1) := dk_26 (dk_at dksX9_isWithin_0 23 rfl rfl)
theorem dX9_isWithin_24 : decode cX9_isWithin 24 = .ok (.iload_n 1, 1) := dk_27 (dk_at dksX9_isWithin_1 0 rfl rfl)
theorem dX9_isWithin_25 : decode cX9_isWithin 25 = .ok (.if_icmp .ge 8, 3) := dk_162 0 8 (dk_at dksX9_isWithin_1 1 rfl rfl)
theorem dX9_isWithin_28 : decode cX9_isWithin 28 = .ok (.iload_n 0, 1) := dk_26 (dk_at dksX9_isWithin_1 4 rfl rfl)
theorem dX9_isWithin_29 : decode cX9_isWithin 29 = .ok (.iload_n 2, 1) := dk_28 (dk_at dksX9_isWithin_1 5 rfl rfl)
theorem dX9_isWithin_30 : decode cX9_isWithin 30 = .ok (.if_icmp .gt 7, 3) := dk_163 0 7 (dk_at dksX9_isWithin_1 6 rfl rfl)
theorem dX9_isWithin_33 : decode cX9_isWithin 33 = .ok (.iconst 1, 1) := dk_4 (dk_at dksX9_isWithin_1 9 rfl rfl)
theorem dX9_isWithin_34 : decode cX9_isWithin 34 = .ok (.goto 4, 3) := dk_167 0 4 (dk_at dksX9_isWithin_1 10 rfl rfl)
theorem dX9_isWithin_37 : decode cX9_isWithin 37 = .ok (.iconst 0, 1) := dk_3 (dk_at dksX9_isWithin_1 13 rfl rfl)
theorem dX9_isWithin_38 : decode cX9_isWithin 38 = .ok (.ireturn, 1) := dk_172 (dk_at dksX9_isWithin_1 14 rfl rfl)
abbrev cX9_worlds : ByteArray := prog_28_method_60_code
def yX9_worlds : MethodName := ⟨RX9, "worlds", "(I)I"⟩
def dkwX9_worlds_1 : List UInt8 := [65, 27, 156, 0, 7, 32, 167, 0, 10, 32, 42, 27, 182, 1, 140, 127, 184, 1, 143, 172]
abbrev dktX9_worlds_1 : List UInt8 := dkwX9_worlds_1 ++ []
def dkwX9_worlds_0 : List UInt8 := [42, 3, 181, 0, 162, 27, 2, 159, 0, 13, 42, 27, 182, 1, 137, 154, 0, 5, 2, 172, 42, 182, 1, 134]
abbrev dktX9_worlds_0 : List UInt8 := dkwX9_worlds_0 ++ dktX9_worlds_1
theorem dksX9_worlds_0 : cX9_worlds.data.toList.drop 0 = dktX9_worlds_0 := by decide +kernel
theorem dksX9_worlds_1 : cX9_worlds.data.toList.drop 24 = dktX9_worlds_1 := dk_seg dksX9_worlds_0 24 rfl rfl
theorem dX9_worlds_0 : decode cX9_worlds 0 = .ok (.aload_n 0, 1) := dk_42 (dk_at dksX9_worlds_0 0 rfl rfl)
theorem dX9_worlds_1 : decode cX9_worlds 1 = .ok (.iconst 0, 1) := dk_3 (dk_at dksX9_worlds_0 1 rfl rfl)
theorem dX9_worlds_2 : decode cX9_worlds 2 = .ok (.putfield 162, 3) := dk_181 0 162 (dk_at dksX9_worlds_0 2 rfl rfl)
theorem dX9_worlds_5 : decode cX9_worlds 5 = .ok (.iload_n 1, 1) := dk_27 (dk_at dksX9_worlds_0 5 rfl rfl)
theorem dX9_worlds_6 : decode cX9_worlds 6 = .ok (.iconst (-1), 1) := dk_2 (dk_at dksX9_worlds_0 6 rfl rfl)
theorem dX9_worlds_7 : decode cX9_worlds 7 = .ok (.if_icmp .eq 13, 3) := dk_159 0 13 (dk_at dksX9_worlds_0 7 rfl rfl)
theorem dX9_worlds_10 : decode cX9_worlds 10 = .ok (.aload_n 0, 1) := dk_42 (dk_at dksX9_worlds_0 10 rfl rfl)
theorem dX9_worlds_11 : decode cX9_worlds 11 = .ok (.iload_n 1, 1) := dk_27 (dk_at dksX9_worlds_0 11 rfl rfl)
theorem dX9_worlds_12 : decode cX9_worlds 12 = .ok (.invokevirtual 393, 3) := dk_182 1 137 (dk_at dksX9_worlds_0 12 rfl rfl)
theorem dX9_worlds_15 : decode cX9_worlds 15 = .ok (.ifCond .ne 5, 3) := dk_154 0 5 (dk_at dksX9_worlds_0 15 rfl rfl)
theorem dX9_worlds_18 : decode cX9_worlds 18 = .ok (.iconst (-1), 1) := dk_2 (dk_at dksX9_worlds_0 18 rfl rfl)
theorem dX9_worlds_19 : decode cX9_worlds 19 = .ok (.ireturn, 1) := dk_172 (dk_at dksX9_worlds_0 19 rfl rfl)
theorem dX9_worlds_20 : decode cX9_worlds 20 = .ok (.aload_n 0, 1) := dk_42 (dk_at dksX9_worlds_0 20 rfl rfl)
theorem dX9_worlds_21 : decode cX9_worlds 21 = .ok (.invokevirtual 390, 3) := dk_182 1 134 (dk_at dksX9_worlds_0 21 rfl rfl)
theorem dX9_worlds_24 : decode cX9_worlds 24 = .ok (.lstore_n 2, 1) := dk_65 (dk_at dksX9_worlds_1 0 rfl rfl)
theorem dX9_worlds_25 : decode cX9_worlds 25 = .ok (.iload_n 1, 1) := dk_27 (dk_at dksX9_worlds_1 1 rfl rfl)
theorem dX9_worlds_26 : decode cX9_worlds 26 = .ok (.ifCond .ge 7, 3) := dk_156 0 7 (dk_at dksX9_worlds_1 2 rfl rfl)
theorem dX9_worlds_29 : decode cX9_worlds 29 = .ok (.lload_n 2, 1) := dk_32 (dk_at dksX9_worlds_1 5 rfl rfl)
theorem dX9_worlds_30 : decode cX9_worlds 30 = .ok (.goto 10, 3) := dk_167 0 10 (dk_at dksX9_worlds_1 6 rfl rfl)
theorem dX9_worlds_33 : decode cX9_worlds 33 = .ok (.lload_n 2, 1) := dk_32 (dk_at dksX9_worlds_1 9 rfl rfl)
theorem dX9_worlds_34 : decode cX9_worlds 34 = .ok (.aload_n 0, 1) := dk_42 (dk_at dksX9_worlds_1 10 rfl rfl)
theorem dX9_worlds_35 : decode cX9_worlds 35 = .ok (.iload_n 1, 1) := dk_27 (dk_at dksX9_worlds_1 11 rfl rfl)
theorem dX9_worlds_36 : decode cX9_worlds 36 = .ok (.invokevirtual 396, 3) := dk_182 1 140 (dk_at dksX9_worlds_1 12 rfl rfl)
theorem dX9_worlds_39 : decode cX9_worlds 39 = .ok (.land, 1) := dk_127 (dk_at dksX9_worlds_1 15 rfl rfl)
theorem dX9_worlds_40 : decode cX9_worlds 40 = .ok (.invokestatic 399, 3) := dk_184 1 143 (dk_at dksX9_worlds_1 16 rfl rfl)
theorem dX9_worlds_43 : decode cX9_worlds 43 = .ok (.ireturn, 1) := dk_172 (dk_at dksX9_worlds_1 19 rfl rfl)
abbrev cX9_isFact : ByteArray := prog_28_method_37_code
def yX9_isFact : MethodName := ⟨RX9, "isFact", "(I)Z"⟩
def dkwX9_isFact_0 : List UInt8 := [27, 155, 0, 17, 27, 42, 180, 0, 13, 3, 46, 162, 0, 7, 4, 167, 0, 4, 3, 172]
abbrev dktX9_isFact_0 : List UInt8 := dkwX9_isFact_0 ++ []
theorem dksX9_isFact_0 : cX9_isFact.data.toList.drop 0 = dktX9_isFact_0 := by decide +kernel
theorem dX9_isFact_0 : decode cX9_isFact 0 = .ok (.iload_n 1, 1) := dk_27 (dk_at dksX9_isFact_0 0 rfl rfl)
theorem dX9_isFact_1 : decode cX9_isFact 1 = .ok (.ifCond .lt 17, 3) := dk_155 0 17 (dk_at dksX9_isFact_0 1 rfl rfl)
theorem dX9_isFact_4 : decode cX9_isFact 4 = .ok (.iload_n 1, 1) := dk_27 (dk_at dksX9_isFact_0 4 rfl rfl)
theorem dX9_isFact_5 : decode cX9_isFact 5 = .ok (.aload_n 0, 1) := dk_42 (dk_at dksX9_isFact_0 5 rfl rfl)
theorem dX9_isFact_6 : decode cX9_isFact 6 = .ok (.getfield 13, 3) := dk_180 0 13 (dk_at dksX9_isFact_0 6 rfl rfl)
theorem dX9_isFact_9 : decode cX9_isFact 9 = .ok (.iconst 0, 1) := dk_3 (dk_at dksX9_isFact_0 9 rfl rfl)
theorem dX9_isFact_10 : decode cX9_isFact 10 = .ok (.iaload, 1) := dk_46 (dk_at dksX9_isFact_0 10 rfl rfl)
theorem dX9_isFact_11 : decode cX9_isFact 11 = .ok (.if_icmp .ge 7, 3) := dk_162 0 7 (dk_at dksX9_isFact_0 11 rfl rfl)
theorem dX9_isFact_14 : decode cX9_isFact 14 = .ok (.iconst 1, 1) := dk_4 (dk_at dksX9_isFact_0 14 rfl rfl)
theorem dX9_isFact_15 : decode cX9_isFact 15 = .ok (.goto 4, 3) := dk_167 0 4 (dk_at dksX9_isFact_0 15 rfl rfl)
theorem dX9_isFact_18 : decode cX9_isFact 18 = .ok (.iconst 0, 1) := dk_3 (dk_at dksX9_isFact_0 18 rfl rfl)
theorem dX9_isFact_19 : decode cX9_isFact 19 = .ok (.ireturn, 1) := dk_172 (dk_at dksX9_isFact_0 19 rfl rfl)
abbrev cX9_factSet : ByteArray := prog_28_method_59_code
def yX9_factSet : MethodName := ⟨RX9, "factSet", "(I)J"⟩
def dkwX9_factSet_1 : List UInt8 := [126, 133, 21, 4, 121, 129, 65, 132, 4, 1, 167, 255, 227, 32, 173]
abbrev dktX9_factSet_1 : List UInt8 := dkwX9_factSet_1 ++ []
def dkwX9_factSet_0 : List UInt8 := [9, 65, 3, 54, 4, 21, 4, 4, 42, 180, 0, 13, 3, 46, 120, 162, 0, 22, 32, 21, 4, 27, 122, 4]
abbrev dktX9_factSet_0 : List UInt8 := dkwX9_factSet_0 ++ dktX9_factSet_1
theorem dksX9_factSet_0 : cX9_factSet.data.toList.drop 0 = dktX9_factSet_0 := by decide +kernel
theorem dksX9_factSet_1 : cX9_factSet.data.toList.drop 24 = dktX9_factSet_1 := dk_seg dksX9_factSet_0 24 rfl rfl
theorem dX9_factSet_0 : decode cX9_factSet 0 = .ok (.lconst 0, 1) := dk_9 (dk_at dksX9_factSet_0 0 rfl rfl)
theorem dX9_factSet_1 : decode cX9_factSet 1 = .ok (.lstore_n 2, 1) := dk_65 (dk_at dksX9_factSet_0 1 rfl rfl)
theorem dX9_factSet_2 : decode cX9_factSet 2 = .ok (.iconst 0, 1) := dk_3 (dk_at dksX9_factSet_0 2 rfl rfl)
theorem dX9_factSet_3 : decode cX9_factSet 3 = .ok (.istore 4, 2) := dk_54 4 (dk_at dksX9_factSet_0 3 rfl rfl)
theorem dX9_factSet_5 : decode cX9_factSet 5 = .ok (.iload 4, 2) := dk_21 4 (dk_at dksX9_factSet_0 5 rfl rfl)
theorem dX9_factSet_7 : decode cX9_factSet 7 = .ok (.iconst 1, 1) := dk_4 (dk_at dksX9_factSet_0 7 rfl rfl)
theorem dX9_factSet_8 : decode cX9_factSet 8 = .ok (.aload_n 0, 1) := dk_42 (dk_at dksX9_factSet_0 8 rfl rfl)
theorem dX9_factSet_9 : decode cX9_factSet 9 = .ok (.getfield 13, 3) := dk_180 0 13 (dk_at dksX9_factSet_0 9 rfl rfl)
theorem dX9_factSet_12 : decode cX9_factSet 12 = .ok (.iconst 0, 1) := dk_3 (dk_at dksX9_factSet_0 12 rfl rfl)
theorem dX9_factSet_13 : decode cX9_factSet 13 = .ok (.iaload, 1) := dk_46 (dk_at dksX9_factSet_0 13 rfl rfl)
theorem dX9_factSet_14 : decode cX9_factSet 14 = .ok (.ishl, 1) := dk_120 (dk_at dksX9_factSet_0 14 rfl rfl)
theorem dX9_factSet_15 : decode cX9_factSet 15 = .ok (.if_icmp .ge 22, 3) := dk_162 0 22 (dk_at dksX9_factSet_0 15 rfl rfl)
theorem dX9_factSet_18 : decode cX9_factSet 18 = .ok (.lload_n 2, 1) := dk_32 (dk_at dksX9_factSet_0 18 rfl rfl)
theorem dX9_factSet_19 : decode cX9_factSet 19 = .ok (.iload 4, 2) := dk_21 4 (dk_at dksX9_factSet_0 19 rfl rfl)
theorem dX9_factSet_21 : decode cX9_factSet 21 = .ok (.iload_n 1, 1) := dk_27 (dk_at dksX9_factSet_0 21 rfl rfl)
theorem dX9_factSet_22 : decode cX9_factSet 22 = .ok (.ishr, 1) := dk_122 (dk_at dksX9_factSet_0 22 rfl rfl)
theorem dX9_factSet_23 : decode cX9_factSet 23 = .ok (.iconst 1, 1) := dk_4 (dk_at dksX9_factSet_0 23 rfl rfl)
theorem dX9_factSet_24 : decode cX9_factSet 24 = .ok (.iand, 1) := dk_126 (dk_at dksX9_factSet_1 0 rfl rfl)
theorem dX9_factSet_25 : decode cX9_factSet 25 = .ok (.i2l, 1) := dk_133 (dk_at dksX9_factSet_1 1 rfl rfl)
theorem dX9_factSet_26 : decode cX9_factSet 26 = .ok (.iload 4, 2) := dk_21 4 (dk_at dksX9_factSet_1 2 rfl rfl)
theorem dX9_factSet_28 : decode cX9_factSet 28 = .ok (.lshl, 1) := dk_121 (dk_at dksX9_factSet_1 4 rfl rfl)
theorem dX9_factSet_29 : decode cX9_factSet 29 = .ok (.lor, 1) := dk_129 (dk_at dksX9_factSet_1 5 rfl rfl)
theorem dX9_factSet_30 : decode cX9_factSet 30 = .ok (.lstore_n 2, 1) := dk_65 (dk_at dksX9_factSet_1 6 rfl rfl)
theorem dX9_factSet_31 : decode cX9_factSet 31 = .ok (.iinc 4 1, 3) := dk_132 4 1 (dk_at dksX9_factSet_1 7 rfl rfl)
theorem dX9_factSet_34 : decode cX9_factSet 34 = .ok (.goto (-29), 3) := dk_167 255 227 (dk_at dksX9_factSet_1 10 rfl rfl)
theorem dX9_factSet_37 : decode cX9_factSet 37 = .ok (.lload_n 2, 1) := dk_32 (dk_at dksX9_factSet_1 13 rfl rfl)
theorem dX9_factSet_38 : decode cX9_factSet 38 = .ok (.lreturn, 1) := dk_173 (dk_at dksX9_factSet_1 14 rfl rfl)
abbrev cX9_bits : ByteArray := prog_28_method_4_code
def yX9_bits : MethodName := ⟨RX9, "bits", "(J)I"⟩
def dkwX9_bits_1 : List UInt8 := [167, 255, 238, 28, 172]
abbrev dktX9_bits_1 : List UInt8 := dkwX9_bits_1 ++ []
def dkwX9_bits_0 : List UInt8 := [3, 61, 3, 62, 29, 16, 64, 162, 0, 18, 28, 30, 29, 123, 10, 127, 136, 96, 61, 132, 3, 1]
abbrev dktX9_bits_0 : List UInt8 := dkwX9_bits_0 ++ dktX9_bits_1
theorem dksX9_bits_0 : cX9_bits.data.toList.drop 0 = dktX9_bits_0 := by decide +kernel
theorem dksX9_bits_1 : cX9_bits.data.toList.drop 22 = dktX9_bits_1 := dk_seg dksX9_bits_0 22 rfl rfl
theorem dX9_bits_0 : decode cX9_bits 0 = .ok (.iconst 0, 1) := dk_3 (dk_at dksX9_bits_0 0 rfl rfl)
theorem dX9_bits_1 : decode cX9_bits 1 = .ok (.istore_n 2, 1) := dk_61 (dk_at dksX9_bits_0 1 rfl rfl)
theorem dX9_bits_2 : decode cX9_bits 2 = .ok (.iconst 0, 1) := dk_3 (dk_at dksX9_bits_0 2 rfl rfl)
theorem dX9_bits_3 : decode cX9_bits 3 = .ok (.istore_n 3, 1) := dk_62 (dk_at dksX9_bits_0 3 rfl rfl)
theorem dX9_bits_4 : decode cX9_bits 4 = .ok (.iload_n 3, 1) := dk_29 (dk_at dksX9_bits_0 4 rfl rfl)
theorem dX9_bits_5 : decode cX9_bits 5 = .ok (.bipush 64, 2) := dk_16 64 (dk_at dksX9_bits_0 5 rfl rfl)
theorem dX9_bits_7 : decode cX9_bits 7 = .ok (.if_icmp .ge 18, 3) := dk_162 0 18 (dk_at dksX9_bits_0 7 rfl rfl)
theorem dX9_bits_10 : decode cX9_bits 10 = .ok (.iload_n 2, 1) := dk_28 (dk_at dksX9_bits_0 10 rfl rfl)
theorem dX9_bits_11 : decode cX9_bits 11 = .ok (.lload_n 0, 1) := dk_30 (dk_at dksX9_bits_0 11 rfl rfl)
theorem dX9_bits_12 : decode cX9_bits 12 = .ok (.iload_n 3, 1) := dk_29 (dk_at dksX9_bits_0 12 rfl rfl)
theorem dX9_bits_13 : decode cX9_bits 13 = .ok (.lshr, 1) := dk_123 (dk_at dksX9_bits_0 13 rfl rfl)
theorem dX9_bits_14 : decode cX9_bits 14 = .ok (.lconst 1, 1) := dk_10 (dk_at dksX9_bits_0 14 rfl rfl)
theorem dX9_bits_15 : decode cX9_bits 15 = .ok (.land, 1) := dk_127 (dk_at dksX9_bits_0 15 rfl rfl)
theorem dX9_bits_16 : decode cX9_bits 16 = .ok (.l2i, 1) := dk_136 (dk_at dksX9_bits_0 16 rfl rfl)
theorem dX9_bits_17 : decode cX9_bits 17 = .ok (.iadd, 1) := dk_96 (dk_at dksX9_bits_0 17 rfl rfl)
theorem dX9_bits_18 : decode cX9_bits 18 = .ok (.istore_n 2, 1) := dk_61 (dk_at dksX9_bits_0 18 rfl rfl)
theorem dX9_bits_19 : decode cX9_bits 19 = .ok (.iinc 3 1, 3) := dk_132 3 1 (dk_at dksX9_bits_0 19 rfl rfl)
theorem dX9_bits_22 : decode cX9_bits 22 = .ok (.goto (-18), 3) := dk_167 255 238 (dk_at dksX9_bits_1 0 rfl rfl)
theorem dX9_bits_25 : decode cX9_bits 25 = .ok (.iload_n 2, 1) := dk_28 (dk_at dksX9_bits_1 3 rfl rfl)
theorem dX9_bits_26 : decode cX9_bits 26 = .ok (.ireturn, 1) := dk_172 (dk_at dksX9_bits_1 4 rfl rfl)
abbrev cX9_sureFact : ByteArray := prog_28_method_62_code
def yX9_sureFact : MethodName := ⟨RX9, "sureFact", "(I)I"⟩
def dkwX9_sureFact_1 : List UInt8 := [184, 1, 147, 167, 0, 4, 2, 172]
abbrev dktX9_sureFact_1 : List UInt8 := dkwX9_sureFact_1 ++ []
def dkwX9_sureFact_0 : List UInt8 := [42, 3, 181, 0, 162, 42, 27, 182, 1, 137, 153, 0, 18, 42, 182, 1, 134, 42, 27, 182, 1, 140]
abbrev dktX9_sureFact_0 : List UInt8 := dkwX9_sureFact_0 ++ dktX9_sureFact_1
theorem dksX9_sureFact_0 : cX9_sureFact.data.toList.drop 0 = dktX9_sureFact_0 := by decide +kernel
theorem dksX9_sureFact_1 : cX9_sureFact.data.toList.drop 22 = dktX9_sureFact_1 := dk_seg dksX9_sureFact_0 22 rfl rfl
theorem dX9_sureFact_0 : decode cX9_sureFact 0 = .ok (.aload_n 0, 1) := dk_42 (dk_at dksX9_sureFact_0 0 rfl rfl)
theorem dX9_sureFact_1 : decode cX9_sureFact 1 = .ok (.iconst 0, 1) := dk_3 (dk_at dksX9_sureFact_0 1 rfl rfl)
theorem dX9_sureFact_2 : decode cX9_sureFact 2 = .ok (.putfield 162, 3) := dk_181 0 162 (dk_at dksX9_sureFact_0 2 rfl rfl)
theorem dX9_sureFact_5 : decode cX9_sureFact 5 = .ok (.aload_n 0, 1) := dk_42 (dk_at dksX9_sureFact_0 5 rfl rfl)
theorem dX9_sureFact_6 : decode cX9_sureFact 6 = .ok (.iload_n 1, 1) := dk_27 (dk_at dksX9_sureFact_0 6 rfl rfl)
theorem dX9_sureFact_7 : decode cX9_sureFact 7 = .ok (.invokevirtual 393, 3) := dk_182 1 137 (dk_at dksX9_sureFact_0 7 rfl rfl)
theorem dX9_sureFact_10 : decode cX9_sureFact 10 = .ok (.ifCond .eq 18, 3) := dk_153 0 18 (dk_at dksX9_sureFact_0 10 rfl rfl)
theorem dX9_sureFact_13 : decode cX9_sureFact 13 = .ok (.aload_n 0, 1) := dk_42 (dk_at dksX9_sureFact_0 13 rfl rfl)
theorem dX9_sureFact_14 : decode cX9_sureFact 14 = .ok (.invokevirtual 390, 3) := dk_182 1 134 (dk_at dksX9_sureFact_0 14 rfl rfl)
theorem dX9_sureFact_17 : decode cX9_sureFact 17 = .ok (.aload_n 0, 1) := dk_42 (dk_at dksX9_sureFact_0 17 rfl rfl)
theorem dX9_sureFact_18 : decode cX9_sureFact 18 = .ok (.iload_n 1, 1) := dk_27 (dk_at dksX9_sureFact_0 18 rfl rfl)
theorem dX9_sureFact_19 : decode cX9_sureFact 19 = .ok (.invokevirtual 396, 3) := dk_182 1 140 (dk_at dksX9_sureFact_0 19 rfl rfl)
theorem dX9_sureFact_22 : decode cX9_sureFact 22 = .ok (.invokestatic 403, 3) := dk_184 1 147 (dk_at dksX9_sureFact_1 0 rfl rfl)
theorem dX9_sureFact_25 : decode cX9_sureFact 25 = .ok (.goto 4, 3) := dk_167 0 4 (dk_at dksX9_sureFact_1 3 rfl rfl)
theorem dX9_sureFact_28 : decode cX9_sureFact 28 = .ok (.iconst (-1), 1) := dk_2 (dk_at dksX9_sureFact_1 6 rfl rfl)
theorem dX9_sureFact_29 : decode cX9_sureFact 29 = .ok (.ireturn, 1) := dk_172 (dk_at dksX9_sureFact_1 7 rfl rfl)
abbrev cX9_sureOf : ByteArray := prog_28_method_61_code
def yX9_sureOf : MethodName := ⟨RX9, "sureOf", "(JJ)I"⟩
def dkwX9_sureOf_1 : List UInt8 := [167, 0, 16, 30, 32, 127, 9, 148, 154, 0, 7, 3, 167, 0, 4, 5, 172]
abbrev dktX9_sureOf_1 : List UInt8 := dkwX9_sureOf_1 ++ []
def dkwX9_sureOf_0 : List UInt8 := [30, 9, 148, 154, 0, 7, 6, 167, 0, 32, 30, 32, 20, 1, 51, 131, 127, 9, 148, 154, 0, 7, 4]
abbrev dktX9_sureOf_0 : List UInt8 := dkwX9_sureOf_0 ++ dktX9_sureOf_1
theorem dksX9_sureOf_0 : cX9_sureOf.data.toList.drop 0 = dktX9_sureOf_0 := by decide +kernel
theorem dksX9_sureOf_1 : cX9_sureOf.data.toList.drop 23 = dktX9_sureOf_1 := dk_seg dksX9_sureOf_0 23 rfl rfl
theorem dX9_sureOf_0 : decode cX9_sureOf 0 = .ok (.lload_n 0, 1) := dk_30 (dk_at dksX9_sureOf_0 0 rfl rfl)
theorem dX9_sureOf_1 : decode cX9_sureOf 1 = .ok (.lconst 0, 1) := dk_9 (dk_at dksX9_sureOf_0 1 rfl rfl)
theorem dX9_sureOf_2 : decode cX9_sureOf 2 = .ok (.lcmp, 1) := dk_148 (dk_at dksX9_sureOf_0 2 rfl rfl)
theorem dX9_sureOf_3 : decode cX9_sureOf 3 = .ok (.ifCond .ne 7, 3) := dk_154 0 7 (dk_at dksX9_sureOf_0 3 rfl rfl)
theorem dX9_sureOf_6 : decode cX9_sureOf 6 = .ok (.iconst 3, 1) := dk_6 (dk_at dksX9_sureOf_0 6 rfl rfl)
theorem dX9_sureOf_7 : decode cX9_sureOf 7 = .ok (.goto 32, 3) := dk_167 0 32 (dk_at dksX9_sureOf_0 7 rfl rfl)
theorem dX9_sureOf_10 : decode cX9_sureOf 10 = .ok (.lload_n 0, 1) := dk_30 (dk_at dksX9_sureOf_0 10 rfl rfl)
theorem dX9_sureOf_11 : decode cX9_sureOf 11 = .ok (.lload_n 2, 1) := dk_32 (dk_at dksX9_sureOf_0 11 rfl rfl)
theorem dX9_sureOf_12 : decode cX9_sureOf 12 = .ok (.ldc2_w 307, 3) := dk_20 1 51 (dk_at dksX9_sureOf_0 12 rfl rfl)
theorem dX9_sureOf_15 : decode cX9_sureOf 15 = .ok (.lxor, 1) := dk_131 (dk_at dksX9_sureOf_0 15 rfl rfl)
theorem dX9_sureOf_16 : decode cX9_sureOf 16 = .ok (.land, 1) := dk_127 (dk_at dksX9_sureOf_0 16 rfl rfl)
theorem dX9_sureOf_17 : decode cX9_sureOf 17 = .ok (.lconst 0, 1) := dk_9 (dk_at dksX9_sureOf_0 17 rfl rfl)
theorem dX9_sureOf_18 : decode cX9_sureOf 18 = .ok (.lcmp, 1) := dk_148 (dk_at dksX9_sureOf_0 18 rfl rfl)
theorem dX9_sureOf_19 : decode cX9_sureOf 19 = .ok (.ifCond .ne 7, 3) := dk_154 0 7 (dk_at dksX9_sureOf_0 19 rfl rfl)
theorem dX9_sureOf_22 : decode cX9_sureOf 22 = .ok (.iconst 1, 1) := dk_4 (dk_at dksX9_sureOf_0 22 rfl rfl)
theorem dX9_sureOf_23 : decode cX9_sureOf 23 = .ok (.goto 16, 3) := dk_167 0 16 (dk_at dksX9_sureOf_1 0 rfl rfl)
theorem dX9_sureOf_26 : decode cX9_sureOf 26 = .ok (.lload_n 0, 1) := dk_30 (dk_at dksX9_sureOf_1 3 rfl rfl)
theorem dX9_sureOf_27 : decode cX9_sureOf 27 = .ok (.lload_n 2, 1) := dk_32 (dk_at dksX9_sureOf_1 4 rfl rfl)
theorem dX9_sureOf_28 : decode cX9_sureOf 28 = .ok (.land, 1) := dk_127 (dk_at dksX9_sureOf_1 5 rfl rfl)
theorem dX9_sureOf_29 : decode cX9_sureOf 29 = .ok (.lconst 0, 1) := dk_9 (dk_at dksX9_sureOf_1 6 rfl rfl)
theorem dX9_sureOf_30 : decode cX9_sureOf 30 = .ok (.lcmp, 1) := dk_148 (dk_at dksX9_sureOf_1 7 rfl rfl)
theorem dX9_sureOf_31 : decode cX9_sureOf 31 = .ok (.ifCond .ne 7, 3) := dk_154 0 7 (dk_at dksX9_sureOf_1 8 rfl rfl)
theorem dX9_sureOf_34 : decode cX9_sureOf 34 = .ok (.iconst 0, 1) := dk_3 (dk_at dksX9_sureOf_1 11 rfl rfl)
theorem dX9_sureOf_35 : decode cX9_sureOf 35 = .ok (.goto 4, 3) := dk_167 0 4 (dk_at dksX9_sureOf_1 12 rfl rfl)
theorem dX9_sureOf_38 : decode cX9_sureOf 38 = .ok (.iconst 2, 1) := dk_5 (dk_at dksX9_sureOf_1 15 rfl rfl)
theorem dX9_sureOf_39 : decode cX9_sureOf 39 = .ok (.ireturn, 1) := dk_172 (dk_at dksX9_sureOf_1 16 rfl rfl)
abbrev cX9_sure : ByteArray := prog_28_method_63_code
def yX9_sure : MethodName := ⟨RX9, "sure", "(I)I"⟩
def dkwX9_sure_1 : List UInt8 := [180, 0, 102, 27, 47, 184, 1, 147, 167, 0, 4, 2, 172]
abbrev dktX9_sure_1 : List UInt8 := dkwX9_sure_1 ++ []
def dkwX9_sure_0 : List UInt8 := [42, 3, 181, 0, 162, 27, 155, 0, 27, 27, 42, 180, 1, 66, 162, 0, 19, 42, 182, 1, 134, 42]
abbrev dktX9_sure_0 : List UInt8 := dkwX9_sure_0 ++ dktX9_sure_1
theorem dksX9_sure_0 : cX9_sure.data.toList.drop 0 = dktX9_sure_0 := by decide +kernel
theorem dksX9_sure_1 : cX9_sure.data.toList.drop 22 = dktX9_sure_1 := dk_seg dksX9_sure_0 22 rfl rfl
theorem dX9_sure_0 : decode cX9_sure 0 = .ok (.aload_n 0, 1) := dk_42 (dk_at dksX9_sure_0 0 rfl rfl)
theorem dX9_sure_1 : decode cX9_sure 1 = .ok (.iconst 0, 1) := dk_3 (dk_at dksX9_sure_0 1 rfl rfl)
theorem dX9_sure_2 : decode cX9_sure 2 = .ok (.putfield 162, 3) := dk_181 0 162 (dk_at dksX9_sure_0 2 rfl rfl)
theorem dX9_sure_5 : decode cX9_sure 5 = .ok (.iload_n 1, 1) := dk_27 (dk_at dksX9_sure_0 5 rfl rfl)
theorem dX9_sure_6 : decode cX9_sure 6 = .ok (.ifCond .lt 27, 3) := dk_155 0 27 (dk_at dksX9_sure_0 6 rfl rfl)
theorem dX9_sure_9 : decode cX9_sure 9 = .ok (.iload_n 1, 1) := dk_27 (dk_at dksX9_sure_0 9 rfl rfl)
theorem dX9_sure_10 : decode cX9_sure 10 = .ok (.aload_n 0, 1) := dk_42 (dk_at dksX9_sure_0 10 rfl rfl)
theorem dX9_sure_11 : decode cX9_sure 11 = .ok (.getfield 322, 3) := dk_180 1 66 (dk_at dksX9_sure_0 11 rfl rfl)
theorem dX9_sure_14 : decode cX9_sure 14 = .ok (.if_icmp .ge 19, 3) := dk_162 0 19 (dk_at dksX9_sure_0 14 rfl rfl)
theorem dX9_sure_17 : decode cX9_sure 17 = .ok (.aload_n 0, 1) := dk_42 (dk_at dksX9_sure_0 17 rfl rfl)
theorem dX9_sure_18 : decode cX9_sure 18 = .ok (.invokevirtual 390, 3) := dk_182 1 134 (dk_at dksX9_sure_0 18 rfl rfl)
theorem dX9_sure_21 : decode cX9_sure 21 = .ok (.aload_n 0, 1) := dk_42 (dk_at dksX9_sure_0 21 rfl rfl)
theorem dX9_sure_22 : decode cX9_sure 22 = .ok (.getfield 102, 3) := dk_180 0 102 (dk_at dksX9_sure_1 0 rfl rfl)
theorem dX9_sure_25 : decode cX9_sure 25 = .ok (.iload_n 1, 1) := dk_27 (dk_at dksX9_sure_1 3 rfl rfl)
theorem dX9_sure_26 : decode cX9_sure 26 = .ok (.laload, 1) := dk_47 (dk_at dksX9_sure_1 4 rfl rfl)
theorem dX9_sure_27 : decode cX9_sure 27 = .ok (.invokestatic 403, 3) := dk_184 1 147 (dk_at dksX9_sure_1 5 rfl rfl)
theorem dX9_sure_30 : decode cX9_sure 30 = .ok (.goto 4, 3) := dk_167 0 4 (dk_at dksX9_sure_1 8 rfl rfl)
theorem dX9_sure_33 : decode cX9_sure 33 = .ok (.iconst (-1), 1) := dk_2 (dk_at dksX9_sure_1 11 rfl rfl)
theorem dX9_sure_34 : decode cX9_sure 34 = .ok (.ireturn, 1) := dk_172 (dk_at dksX9_sure_1 12 rfl rfl)
abbrev cX9_odds : ByteArray := prog_28_method_65_code
def yX9_odds : MethodName := ⟨RX9, "odds", "(II)J"⟩
def dkwX9_odds_5 : List UInt8 := [22, 7, 28, 184, 1, 157, 173]
abbrev dktX9_odds_5 : List UInt8 := dkwX9_odds_5 ++ []
def dkwX9_odds_4 : List UInt8 := [97, 55, 5, 132, 9, 1, 167, 255, 198, 22, 7, 9, 148, 154, 0, 9, 20, 1, 51, 167, 0, 11, 22, 5]
abbrev dktX9_odds_4 : List UInt8 := dkwX9_odds_4 ++ dktX9_odds_5
def dkwX9_odds_3 : List UInt8 := [21, 9, 182, 1, 154, 97, 55, 7, 22, 5, 21, 9, 27, 122, 4, 126, 133, 42, 21, 9, 182, 1, 154, 105]
abbrev dktX9_odds_3 : List UInt8 := dkwX9_odds_3 ++ dktX9_odds_4
def dkwX9_odds_2 : List UInt8 := [180, 0, 13, 3, 46, 120, 162, 0, 51, 33, 21, 9, 184, 1, 94, 154, 0, 6, 167, 0, 33, 22, 7, 42]
abbrev dktX9_odds_2 : List UInt8 := dkwX9_odds_2 ++ dktX9_odds_3
def dkwX9_odds_1 : List UInt8 := [20, 1, 51, 173, 42, 182, 1, 134, 66, 9, 55, 5, 9, 55, 7, 3, 54, 9, 21, 9, 4, 42]
abbrev dktX9_odds_1 : List UInt8 := dkwX9_odds_1 ++ dktX9_odds_2
def dkwX9_odds_0 : List UInt8 := [42, 3, 181, 0, 162, 42, 27, 182, 1, 137, 153, 0, 12, 28, 3, 4, 184, 1, 151, 154, 0, 7]
abbrev dktX9_odds_0 : List UInt8 := dkwX9_odds_0 ++ dktX9_odds_1
theorem dksX9_odds_0 : cX9_odds.data.toList.drop 0 = dktX9_odds_0 := by decide +kernel
theorem dksX9_odds_1 : cX9_odds.data.toList.drop 22 = dktX9_odds_1 := dk_seg dksX9_odds_0 22 rfl rfl
theorem dksX9_odds_2 : cX9_odds.data.toList.drop 44 = dktX9_odds_2 := dk_seg dksX9_odds_1 22 rfl rfl
theorem dksX9_odds_3 : cX9_odds.data.toList.drop 68 = dktX9_odds_3 := dk_seg dksX9_odds_2 24 rfl rfl
theorem dksX9_odds_4 : cX9_odds.data.toList.drop 92 = dktX9_odds_4 := dk_seg dksX9_odds_3 24 rfl rfl
theorem dksX9_odds_5 : cX9_odds.data.toList.drop 116 = dktX9_odds_5 := dk_seg dksX9_odds_4 24 rfl rfl
theorem dX9_odds_0 : decode cX9_odds 0 = .ok (.aload_n 0, 1) := dk_42 (dk_at dksX9_odds_0 0 rfl rfl)
theorem dX9_odds_1 : decode cX9_odds 1 = .ok (.iconst 0, 1) := dk_3 (dk_at dksX9_odds_0 1 rfl rfl)
theorem dX9_odds_2 : decode cX9_odds 2 = .ok (.putfield 162, 3) := dk_181 0 162 (dk_at dksX9_odds_0 2 rfl rfl)
theorem dX9_odds_5 : decode cX9_odds 5 = .ok (.aload_n 0, 1) := dk_42 (dk_at dksX9_odds_0 5 rfl rfl)
theorem dX9_odds_6 : decode cX9_odds 6 = .ok (.iload_n 1, 1) := dk_27 (dk_at dksX9_odds_0 6 rfl rfl)
theorem dX9_odds_7 : decode cX9_odds 7 = .ok (.invokevirtual 393, 3) := dk_182 1 137 (dk_at dksX9_odds_0 7 rfl rfl)
theorem dX9_odds_10 : decode cX9_odds 10 = .ok (.ifCond .eq 12, 3) := dk_153 0 12 (dk_at dksX9_odds_0 10 rfl rfl)
theorem dX9_odds_13 : decode cX9_odds 13 = .ok (.iload_n 2, 1) := dk_28 (dk_at dksX9_odds_0 13 rfl rfl)
theorem dX9_odds_14 : decode cX9_odds 14 = .ok (.iconst 0, 1) := dk_3 (dk_at dksX9_odds_0 14 rfl rfl)
theorem dX9_odds_15 : decode cX9_odds 15 = .ok (.iconst 1, 1) := dk_4 (dk_at dksX9_odds_0 15 rfl rfl)
theorem dX9_odds_16 : decode cX9_odds 16 = .ok (.invokestatic 407, 3) := dk_184 1 151 (dk_at dksX9_odds_0 16 rfl rfl)
theorem dX9_odds_19 : decode cX9_odds 19 = .ok (.ifCond .ne 7, 3) := dk_154 0 7 (dk_at dksX9_odds_0 19 rfl rfl)
theorem dX9_odds_22 : decode cX9_odds 22 = .ok (.ldc2_w 307, 3) := dk_20 1 51 (dk_at dksX9_odds_1 0 rfl rfl)
theorem dX9_odds_25 : decode cX9_odds 25 = .ok (.lreturn, 1) := dk_173 (dk_at dksX9_odds_1 3 rfl rfl)
theorem dX9_odds_26 : decode cX9_odds 26 = .ok (.aload_n 0, 1) := dk_42 (dk_at dksX9_odds_1 4 rfl rfl)
theorem dX9_odds_27 : decode cX9_odds 27 = .ok (.invokevirtual 390, 3) := dk_182 1 134 (dk_at dksX9_odds_1 5 rfl rfl)
theorem dX9_odds_30 : decode cX9_odds 30 = .ok (.lstore_n 3, 1) := dk_66 (dk_at dksX9_odds_1 8 rfl rfl)
theorem dX9_odds_31 : decode cX9_odds 31 = .ok (.lconst 0, 1) := dk_9 (dk_at dksX9_odds_1 9 rfl rfl)
theorem dX9_odds_32 : decode cX9_odds 32 = .ok (.lstore 5, 2) := dk_55 5 (dk_at dksX9_odds_1 10 rfl rfl)
theorem dX9_odds_34 : decode cX9_odds 34 = .ok (.lconst 0, 1) := dk_9 (dk_at dksX9_odds_1 12 rfl rfl)
theorem dX9_odds_35 : decode cX9_odds 35 = .ok (.lstore 7, 2) := dk_55 7 (dk_at dksX9_odds_1 13 rfl rfl)
theorem dX9_odds_37 : decode cX9_odds 37 = .ok (.iconst 0, 1) := dk_3 (dk_at dksX9_odds_1 15 rfl rfl)
theorem dX9_odds_38 : decode cX9_odds 38 = .ok (.istore 9, 2) := dk_54 9 (dk_at dksX9_odds_1 16 rfl rfl)
theorem dX9_odds_40 : decode cX9_odds 40 = .ok (.iload 9, 2) := dk_21 9 (dk_at dksX9_odds_1 18 rfl rfl)
theorem dX9_odds_42 : decode cX9_odds 42 = .ok (.iconst 1, 1) := dk_4 (dk_at dksX9_odds_1 20 rfl rfl)
theorem dX9_odds_43 : decode cX9_odds 43 = .ok (.aload_n 0, 1) := dk_42 (dk_at dksX9_odds_1 21 rfl rfl)
theorem dX9_odds_44 : decode cX9_odds 44 = .ok (.getfield 13, 3) := dk_180 0 13 (dk_at dksX9_odds_2 0 rfl rfl)
theorem dX9_odds_47 : decode cX9_odds 47 = .ok (.iconst 0, 1) := dk_3 (dk_at dksX9_odds_2 3 rfl rfl)
theorem dX9_odds_48 : decode cX9_odds 48 = .ok (.iaload, 1) := dk_46 (dk_at dksX9_odds_2 4 rfl rfl)
theorem dX9_odds_49 : decode cX9_odds 49 = .ok (.ishl, 1) := dk_120 (dk_at dksX9_odds_2 5 rfl rfl)
theorem dX9_odds_50 : decode cX9_odds 50 = .ok (.if_icmp .ge 51, 3) := dk_162 0 51 (dk_at dksX9_odds_2 6 rfl rfl)
theorem dX9_odds_53 : decode cX9_odds 53 = .ok (.lload_n 3, 1) := dk_33 (dk_at dksX9_odds_2 9 rfl rfl)
theorem dX9_odds_54 : decode cX9_odds 54 = .ok (.iload 9, 2) := dk_21 9 (dk_at dksX9_odds_2 10 rfl rfl)
theorem dX9_odds_56 : decode cX9_odds 56 = .ok (.invokestatic 350, 3) := dk_184 1 94 (dk_at dksX9_odds_2 12 rfl rfl)
theorem dX9_odds_59 : decode cX9_odds 59 = .ok (.ifCond .ne 6, 3) := dk_154 0 6 (dk_at dksX9_odds_2 15 rfl rfl)
theorem dX9_odds_62 : decode cX9_odds 62 = .ok (.goto 33, 3) := dk_167 0 33 (dk_at dksX9_odds_2 18 rfl rfl)
theorem dX9_odds_65 : decode cX9_odds 65 = .ok (.lload 7, 2) := dk_22 7 (dk_at dksX9_odds_2 21 rfl rfl)
theorem dX9_odds_67 : decode cX9_odds 67 = .ok (.aload_n 0, 1) := dk_42 (dk_at dksX9_odds_2 23 rfl rfl)
theorem dX9_odds_68 : decode cX9_odds 68 = .ok (.iload 9, 2) := dk_21 9 (dk_at dksX9_odds_3 0 rfl rfl)
theorem dX9_odds_70 : decode cX9_odds 70 = .ok (.invokevirtual 410, 3) := dk_182 1 154 (dk_at dksX9_odds_3 2 rfl rfl)
theorem dX9_odds_73 : decode cX9_odds 73 = .ok (.ladd, 1) := dk_97 (dk_at dksX9_odds_3 5 rfl rfl)
theorem dX9_odds_74 : decode cX9_odds 74 = .ok (.lstore 7, 2) := dk_55 7 (dk_at dksX9_odds_3 6 rfl rfl)
theorem dX9_odds_76 : decode cX9_odds 76 = .ok (.lload 5, 2) := dk_22 5 (dk_at dksX9_odds_3 8 rfl rfl)
theorem dX9_odds_78 : decode cX9_odds 78 = .ok (.iload 9, 2) := dk_21 9 (dk_at dksX9_odds_3 10 rfl rfl)
theorem dX9_odds_80 : decode cX9_odds 80 = .ok (.iload_n 1, 1) := dk_27 (dk_at dksX9_odds_3 12 rfl rfl)
theorem dX9_odds_81 : decode cX9_odds 81 = .ok (.ishr, 1) := dk_122 (dk_at dksX9_odds_3 13 rfl rfl)
theorem dX9_odds_82 : decode cX9_odds 82 = .ok (.iconst 1, 1) := dk_4 (dk_at dksX9_odds_3 14 rfl rfl)
theorem dX9_odds_83 : decode cX9_odds 83 = .ok (.iand, 1) := dk_126 (dk_at dksX9_odds_3 15 rfl rfl)
theorem dX9_odds_84 : decode cX9_odds 84 = .ok (.i2l, 1) := dk_133 (dk_at dksX9_odds_3 16 rfl rfl)
theorem dX9_odds_85 : decode cX9_odds 85 = .ok (.aload_n 0, 1) := dk_42 (dk_at dksX9_odds_3 17 rfl rfl)
theorem dX9_odds_86 : decode cX9_odds 86 = .ok (.iload 9, 2) := dk_21 9 (dk_at dksX9_odds_3 18 rfl rfl)
theorem dX9_odds_88 : decode cX9_odds 88 = .ok (.invokevirtual 410, 3) := dk_182 1 154 (dk_at dksX9_odds_3 20 rfl rfl)
theorem dX9_odds_91 : decode cX9_odds 91 = .ok (.lmul, 1) := dk_105 (dk_at dksX9_odds_3 23 rfl rfl)
theorem dX9_odds_92 : decode cX9_odds 92 = .ok (.ladd, 1) := dk_97 (dk_at dksX9_odds_4 0 rfl rfl)
theorem dX9_odds_93 : decode cX9_odds 93 = .ok (.lstore 5, 2) := dk_55 5 (dk_at dksX9_odds_4 1 rfl rfl)
theorem dX9_odds_95 : decode cX9_odds 95 = .ok (.iinc 9 1, 3) := dk_132 9 1 (dk_at dksX9_odds_4 3 rfl rfl)
theorem dX9_odds_98 : decode cX9_odds 98 = .ok (.goto (-58), 3) := dk_167 255 198 (dk_at dksX9_odds_4 6 rfl rfl)
theorem dX9_odds_101 : decode cX9_odds 101 = .ok (.lload 7, 2) := dk_22 7 (dk_at dksX9_odds_4 9 rfl rfl)
theorem dX9_odds_103 : decode cX9_odds 103 = .ok (.lconst 0, 1) := dk_9 (dk_at dksX9_odds_4 11 rfl rfl)
theorem dX9_odds_104 : decode cX9_odds 104 = .ok (.lcmp, 1) := dk_148 (dk_at dksX9_odds_4 12 rfl rfl)
theorem dX9_odds_105 : decode cX9_odds 105 = .ok (.ifCond .ne 9, 3) := dk_154 0 9 (dk_at dksX9_odds_4 13 rfl rfl)
theorem dX9_odds_108 : decode cX9_odds 108 = .ok (.ldc2_w 307, 3) := dk_20 1 51 (dk_at dksX9_odds_4 16 rfl rfl)
theorem dX9_odds_111 : decode cX9_odds 111 = .ok (.goto 11, 3) := dk_167 0 11 (dk_at dksX9_odds_4 19 rfl rfl)
theorem dX9_odds_114 : decode cX9_odds 114 = .ok (.lload 5, 2) := dk_22 5 (dk_at dksX9_odds_4 22 rfl rfl)
theorem dX9_odds_116 : decode cX9_odds 116 = .ok (.lload 7, 2) := dk_22 7 (dk_at dksX9_odds_5 0 rfl rfl)
theorem dX9_odds_118 : decode cX9_odds 118 = .ok (.iload_n 2, 1) := dk_28 (dk_at dksX9_odds_5 2 rfl rfl)
theorem dX9_odds_119 : decode cX9_odds 119 = .ok (.invokestatic 413, 3) := dk_184 1 157 (dk_at dksX9_odds_5 3 rfl rfl)
theorem dX9_odds_122 : decode cX9_odds 122 = .ok (.lreturn, 1) := dk_173 (dk_at dksX9_odds_5 6 rfl rfl)
abbrev cX9_within : ByteArray := prog_28_method_3_code
def yX9_within : MethodName := ⟨RX9, "within", "(III)Z"⟩
def dkwX9_within_0 : List UInt8 := [26, 27, 161, 0, 12, 26, 28, 163, 0, 7, 4, 167, 0, 4, 3, 172]
abbrev dktX9_within_0 : List UInt8 := dkwX9_within_0 ++ []
theorem dksX9_within_0 : cX9_within.data.toList.drop 0 = dktX9_within_0 := by decide +kernel
theorem dX9_within_0 : decode cX9_within 0 = .ok (.iload_n 0, 1) := dk_26 (dk_at dksX9_within_0 0 rfl rfl)
theorem dX9_within_1 : decode cX9_within 1 = .ok (.iload_n 1, 1) := dk_27 (dk_at dksX9_within_0 1 rfl rfl)
theorem dX9_within_2 : decode cX9_within 2 = .ok (.if_icmp .lt 12, 3) := dk_161 0 12 (dk_at dksX9_within_0 2 rfl rfl)
theorem dX9_within_5 : decode cX9_within 5 = .ok (.iload_n 0, 1) := dk_26 (dk_at dksX9_within_0 5 rfl rfl)
theorem dX9_within_6 : decode cX9_within 6 = .ok (.iload_n 2, 1) := dk_28 (dk_at dksX9_within_0 6 rfl rfl)
theorem dX9_within_7 : decode cX9_within 7 = .ok (.if_icmp .gt 7, 3) := dk_163 0 7 (dk_at dksX9_within_0 7 rfl rfl)
theorem dX9_within_10 : decode cX9_within 10 = .ok (.iconst 1, 1) := dk_4 (dk_at dksX9_within_0 10 rfl rfl)
theorem dX9_within_11 : decode cX9_within 11 = .ok (.goto 4, 3) := dk_167 0 4 (dk_at dksX9_within_0 11 rfl rfl)
theorem dX9_within_14 : decode cX9_within 14 = .ok (.iconst 0, 1) := dk_3 (dk_at dksX9_within_0 14 rfl rfl)
theorem dX9_within_15 : decode cX9_within 15 = .ok (.ireturn, 1) := dk_172 (dk_at dksX9_within_0 15 rfl rfl)
abbrev cX9_weight : ByteArray := prog_28_method_64_code
def yX9_weight : MethodName := ⟨RX9, "weight", "(I)J"⟩
def dkwX9_weight_2 : List UInt8 := [133, 105, 65, 132, 4, 1, 167, 255, 207, 32, 173]
abbrev dktX9_weight_2 : List UInt8 := dkwX9_weight_2 ++ []
def dkwX9_weight_1 : List UInt8 := [160, 0, 14, 42, 180, 0, 20, 21, 4, 46, 133, 167, 0, 14, 16, 10, 42, 180, 0, 20, 21, 4, 46, 100]
abbrev dktX9_weight_1 : List UInt8 := dkwX9_weight_1 ++ dktX9_weight_2
def dkwX9_weight_0 : List UInt8 := [10, 65, 3, 54, 4, 21, 4, 42, 180, 0, 13, 3, 46, 162, 0, 44, 32, 27, 21, 4, 122, 4, 126, 4]
abbrev dktX9_weight_0 : List UInt8 := dkwX9_weight_0 ++ dktX9_weight_1
theorem dksX9_weight_0 : cX9_weight.data.toList.drop 0 = dktX9_weight_0 := by decide +kernel
theorem dksX9_weight_1 : cX9_weight.data.toList.drop 24 = dktX9_weight_1 := dk_seg dksX9_weight_0 24 rfl rfl
theorem dksX9_weight_2 : cX9_weight.data.toList.drop 48 = dktX9_weight_2 := dk_seg dksX9_weight_1 24 rfl rfl
theorem dX9_weight_0 : decode cX9_weight 0 = .ok (.lconst 1, 1) := dk_10 (dk_at dksX9_weight_0 0 rfl rfl)
theorem dX9_weight_1 : decode cX9_weight 1 = .ok (.lstore_n 2, 1) := dk_65 (dk_at dksX9_weight_0 1 rfl rfl)
theorem dX9_weight_2 : decode cX9_weight 2 = .ok (.iconst 0, 1) := dk_3 (dk_at dksX9_weight_0 2 rfl rfl)
theorem dX9_weight_3 : decode cX9_weight 3 = .ok (.istore 4, 2) := dk_54 4 (dk_at dksX9_weight_0 3 rfl rfl)
theorem dX9_weight_5 : decode cX9_weight 5 = .ok (.iload 4, 2) := dk_21 4 (dk_at dksX9_weight_0 5 rfl rfl)
theorem dX9_weight_7 : decode cX9_weight 7 = .ok (.aload_n 0, 1) := dk_42 (dk_at dksX9_weight_0 7 rfl rfl)
theorem dX9_weight_8 : decode cX9_weight 8 = .ok (.getfield 13, 3) := dk_180 0 13 (dk_at dksX9_weight_0 8 rfl rfl)
theorem dX9_weight_11 : decode cX9_weight 11 = .ok (.iconst 0, 1) := dk_3 (dk_at dksX9_weight_0 11 rfl rfl)
theorem dX9_weight_12 : decode cX9_weight 12 = .ok (.iaload, 1) := dk_46 (dk_at dksX9_weight_0 12 rfl rfl)
theorem dX9_weight_13 : decode cX9_weight 13 = .ok (.if_icmp .ge 44, 3) := dk_162 0 44 (dk_at dksX9_weight_0 13 rfl rfl)
theorem dX9_weight_16 : decode cX9_weight 16 = .ok (.lload_n 2, 1) := dk_32 (dk_at dksX9_weight_0 16 rfl rfl)
theorem dX9_weight_17 : decode cX9_weight 17 = .ok (.iload_n 1, 1) := dk_27 (dk_at dksX9_weight_0 17 rfl rfl)
theorem dX9_weight_18 : decode cX9_weight 18 = .ok (.iload 4, 2) := dk_21 4 (dk_at dksX9_weight_0 18 rfl rfl)
theorem dX9_weight_20 : decode cX9_weight 20 = .ok (.ishr, 1) := dk_122 (dk_at dksX9_weight_0 20 rfl rfl)
theorem dX9_weight_21 : decode cX9_weight 21 = .ok (.iconst 1, 1) := dk_4 (dk_at dksX9_weight_0 21 rfl rfl)
theorem dX9_weight_22 : decode cX9_weight 22 = .ok (.iand, 1) := dk_126 (dk_at dksX9_weight_0 22 rfl rfl)
theorem dX9_weight_23 : decode cX9_weight 23 = .ok (.iconst 1, 1) := dk_4 (dk_at dksX9_weight_0 23 rfl rfl)
theorem dX9_weight_24 : decode cX9_weight 24 = .ok (.if_icmp .ne 14, 3) := dk_160 0 14 (dk_at dksX9_weight_1 0 rfl rfl)
theorem dX9_weight_27 : decode cX9_weight 27 = .ok (.aload_n 0, 1) := dk_42 (dk_at dksX9_weight_1 3 rfl rfl)
theorem dX9_weight_28 : decode cX9_weight 28 = .ok (.getfield 20, 3) := dk_180 0 20 (dk_at dksX9_weight_1 4 rfl rfl)
theorem dX9_weight_31 : decode cX9_weight 31 = .ok (.iload 4, 2) := dk_21 4 (dk_at dksX9_weight_1 7 rfl rfl)
theorem dX9_weight_33 : decode cX9_weight 33 = .ok (.iaload, 1) := dk_46 (dk_at dksX9_weight_1 9 rfl rfl)
theorem dX9_weight_34 : decode cX9_weight 34 = .ok (.i2l, 1) := dk_133 (dk_at dksX9_weight_1 10 rfl rfl)
theorem dX9_weight_35 : decode cX9_weight 35 = .ok (.goto 14, 3) := dk_167 0 14 (dk_at dksX9_weight_1 11 rfl rfl)
theorem dX9_weight_38 : decode cX9_weight 38 = .ok (.bipush 10, 2) := dk_16 10 (dk_at dksX9_weight_1 14 rfl rfl)
theorem dX9_weight_40 : decode cX9_weight 40 = .ok (.aload_n 0, 1) := dk_42 (dk_at dksX9_weight_1 16 rfl rfl)
theorem dX9_weight_41 : decode cX9_weight 41 = .ok (.getfield 20, 3) := dk_180 0 20 (dk_at dksX9_weight_1 17 rfl rfl)
theorem dX9_weight_44 : decode cX9_weight 44 = .ok (.iload 4, 2) := dk_21 4 (dk_at dksX9_weight_1 20 rfl rfl)
theorem dX9_weight_46 : decode cX9_weight 46 = .ok (.iaload, 1) := dk_46 (dk_at dksX9_weight_1 22 rfl rfl)
theorem dX9_weight_47 : decode cX9_weight 47 = .ok (.isub, 1) := dk_100 (dk_at dksX9_weight_1 23 rfl rfl)
theorem dX9_weight_48 : decode cX9_weight 48 = .ok (.i2l, 1) := dk_133 (dk_at dksX9_weight_2 0 rfl rfl)
theorem dX9_weight_49 : decode cX9_weight 49 = .ok (.lmul, 1) := dk_105 (dk_at dksX9_weight_2 1 rfl rfl)
theorem dX9_weight_50 : decode cX9_weight 50 = .ok (.lstore_n 2, 1) := dk_65 (dk_at dksX9_weight_2 2 rfl rfl)
theorem dX9_weight_51 : decode cX9_weight 51 = .ok (.iinc 4 1, 3) := dk_132 4 1 (dk_at dksX9_weight_2 3 rfl rfl)
theorem dX9_weight_54 : decode cX9_weight 54 = .ok (.goto (-49), 3) := dk_167 255 207 (dk_at dksX9_weight_2 6 rfl rfl)
theorem dX9_weight_57 : decode cX9_weight 57 = .ok (.lload_n 2, 1) := dk_32 (dk_at dksX9_weight_2 9 rfl rfl)
theorem dX9_weight_58 : decode cX9_weight 58 = .ok (.lreturn, 1) := dk_173 (dk_at dksX9_weight_2 10 rfl rfl)
abbrev cX9_lowest : ByteArray := prog_28_method_6_code
def yX9_lowest : MethodName := ⟨RX9, "lowest", "(JJI)J"⟩
def dkwX9_lowest_1 : List UInt8 := [22, 9, 55, 7, 167, 255, 234, 21, 4, 154, 0, 10, 30, 22, 5, 109, 167, 0, 7, 32, 22, 5, 109, 173]
abbrev dktX9_lowest_1 : List UInt8 := dkwX9_lowest_1 ++ []
def dkwX9_lowest_0 : List UInt8 := [30, 55, 5, 32, 55, 7, 22, 7, 9, 148, 153, 0, 21, 22, 5, 22, 7, 113, 55, 9, 22, 7, 55, 5]
abbrev dktX9_lowest_0 : List UInt8 := dkwX9_lowest_0 ++ dktX9_lowest_1
theorem dksX9_lowest_0 : cX9_lowest.data.toList.drop 0 = dktX9_lowest_0 := by decide +kernel
theorem dksX9_lowest_1 : cX9_lowest.data.toList.drop 24 = dktX9_lowest_1 := dk_seg dksX9_lowest_0 24 rfl rfl
theorem dX9_lowest_0 : decode cX9_lowest 0 = .ok (.lload_n 0, 1) := dk_30 (dk_at dksX9_lowest_0 0 rfl rfl)
theorem dX9_lowest_1 : decode cX9_lowest 1 = .ok (.lstore 5, 2) := dk_55 5 (dk_at dksX9_lowest_0 1 rfl rfl)
theorem dX9_lowest_3 : decode cX9_lowest 3 = .ok (.lload_n 2, 1) := dk_32 (dk_at dksX9_lowest_0 3 rfl rfl)
theorem dX9_lowest_4 : decode cX9_lowest 4 = .ok (.lstore 7, 2) := dk_55 7 (dk_at dksX9_lowest_0 4 rfl rfl)
theorem dX9_lowest_6 : decode cX9_lowest 6 = .ok (.lload 7, 2) := dk_22 7 (dk_at dksX9_lowest_0 6 rfl rfl)
theorem dX9_lowest_8 : decode cX9_lowest 8 = .ok (.lconst 0, 1) := dk_9 (dk_at dksX9_lowest_0 8 rfl rfl)
theorem dX9_lowest_9 : decode cX9_lowest 9 = .ok (.lcmp, 1) := dk_148 (dk_at dksX9_lowest_0 9 rfl rfl)
theorem dX9_lowest_10 : decode cX9_lowest 10 = .ok (.ifCond .eq 21, 3) := dk_153 0 21 (dk_at dksX9_lowest_0 10 rfl rfl)
theorem dX9_lowest_13 : decode cX9_lowest 13 = .ok (.lload 5, 2) := dk_22 5 (dk_at dksX9_lowest_0 13 rfl rfl)
theorem dX9_lowest_15 : decode cX9_lowest 15 = .ok (.lload 7, 2) := dk_22 7 (dk_at dksX9_lowest_0 15 rfl rfl)
theorem dX9_lowest_17 : decode cX9_lowest 17 = .ok (.lrem, 1) := dk_113 (dk_at dksX9_lowest_0 17 rfl rfl)
theorem dX9_lowest_18 : decode cX9_lowest 18 = .ok (.lstore 9, 2) := dk_55 9 (dk_at dksX9_lowest_0 18 rfl rfl)
theorem dX9_lowest_20 : decode cX9_lowest 20 = .ok (.lload 7, 2) := dk_22 7 (dk_at dksX9_lowest_0 20 rfl rfl)
theorem dX9_lowest_22 : decode cX9_lowest 22 = .ok (.lstore 5, 2) := dk_55 5 (dk_at dksX9_lowest_0 22 rfl rfl)
theorem dX9_lowest_24 : decode cX9_lowest 24 = .ok (.lload 9, 2) := dk_22 9 (dk_at dksX9_lowest_1 0 rfl rfl)
theorem dX9_lowest_26 : decode cX9_lowest 26 = .ok (.lstore 7, 2) := dk_55 7 (dk_at dksX9_lowest_1 2 rfl rfl)
theorem dX9_lowest_28 : decode cX9_lowest 28 = .ok (.goto (-22), 3) := dk_167 255 234 (dk_at dksX9_lowest_1 4 rfl rfl)
theorem dX9_lowest_31 : decode cX9_lowest 31 = .ok (.iload 4, 2) := dk_21 4 (dk_at dksX9_lowest_1 7 rfl rfl)
theorem dX9_lowest_33 : decode cX9_lowest 33 = .ok (.ifCond .ne 10, 3) := dk_154 0 10 (dk_at dksX9_lowest_1 9 rfl rfl)
theorem dX9_lowest_36 : decode cX9_lowest 36 = .ok (.lload_n 0, 1) := dk_30 (dk_at dksX9_lowest_1 12 rfl rfl)
theorem dX9_lowest_37 : decode cX9_lowest 37 = .ok (.lload 5, 2) := dk_22 5 (dk_at dksX9_lowest_1 13 rfl rfl)
theorem dX9_lowest_39 : decode cX9_lowest 39 = .ok (.ldiv, 1) := dk_109 (dk_at dksX9_lowest_1 15 rfl rfl)
theorem dX9_lowest_40 : decode cX9_lowest 40 = .ok (.goto 7, 3) := dk_167 0 7 (dk_at dksX9_lowest_1 16 rfl rfl)
theorem dX9_lowest_43 : decode cX9_lowest 43 = .ok (.lload_n 2, 1) := dk_32 (dk_at dksX9_lowest_1 19 rfl rfl)
theorem dX9_lowest_44 : decode cX9_lowest 44 = .ok (.lload 5, 2) := dk_22 5 (dk_at dksX9_lowest_1 20 rfl rfl)
theorem dX9_lowest_46 : decode cX9_lowest 46 = .ok (.ldiv, 1) := dk_109 (dk_at dksX9_lowest_1 22 rfl rfl)
theorem dX9_lowest_47 : decode cX9_lowest 47 = .ok (.lreturn, 1) := dk_173 (dk_at dksX9_lowest_1 23 rfl rfl)
abbrev cX9_proof : ByteArray := prog_28_method_67_code
def yX9_proof : MethodName := ⟨RX9, "proof", "(II)I"⟩
def dkwX9_proof_5 : List UInt8 := [154, 0, 12, 21, 4, 133, 184, 1, 143, 167, 0, 5, 21, 4, 172]
abbrev dktX9_proof_5 : List UInt8 := dkwX9_proof_5 ++ []
def dkwX9_proof_4 : List UInt8 := [184, 1, 143, 21, 4, 133, 184, 1, 143, 162, 0, 7, 21, 5, 54, 4, 132, 5, 1, 167, 255, 199, 28]
abbrev dktX9_proof_4 : List UInt8 := dkwX9_proof_4 ++ dktX9_proof_5
def dkwX9_proof_3 : List UInt8 := [182, 1, 161, 42, 180, 0, 102, 27, 47, 184, 1, 147, 29, 160, 0, 27, 21, 4, 155, 0, 18, 21, 5, 133]
abbrev dktX9_proof_3 : List UInt8 := dkwX9_proof_3 ++ dktX9_proof_4
def dkwX9_proof_2 : List UInt8 := [2, 172, 2, 54, 4, 3, 54, 5, 21, 5, 4, 42, 180, 1, 72, 120, 162, 0, 52, 42, 21, 5]
abbrev dktX9_proof_2 : List UInt8 := dkwX9_proof_2 ++ dktX9_proof_3
def dkwX9_proof_1 : List UInt8 := [154, 0, 5, 2, 172, 42, 182, 1, 134, 42, 180, 0, 102, 27, 47, 184, 1, 147, 62, 29, 4, 164, 0, 5]
abbrev dktX9_proof_1 : List UInt8 := dkwX9_proof_1 ++ dktX9_proof_2
def dkwX9_proof_0 : List UInt8 := [42, 3, 181, 0, 162, 27, 155, 0, 20, 27, 42, 180, 1, 66, 162, 0, 12, 28, 3, 4, 184, 1, 151]
abbrev dktX9_proof_0 : List UInt8 := dkwX9_proof_0 ++ dktX9_proof_1
theorem dksX9_proof_0 : cX9_proof.data.toList.drop 0 = dktX9_proof_0 := by decide +kernel
theorem dksX9_proof_1 : cX9_proof.data.toList.drop 23 = dktX9_proof_1 := dk_seg dksX9_proof_0 23 rfl rfl
theorem dksX9_proof_2 : cX9_proof.data.toList.drop 47 = dktX9_proof_2 := dk_seg dksX9_proof_1 24 rfl rfl
theorem dksX9_proof_3 : cX9_proof.data.toList.drop 69 = dktX9_proof_3 := dk_seg dksX9_proof_2 22 rfl rfl
theorem dksX9_proof_4 : cX9_proof.data.toList.drop 93 = dktX9_proof_4 := dk_seg dksX9_proof_3 24 rfl rfl
theorem dksX9_proof_5 : cX9_proof.data.toList.drop 116 = dktX9_proof_5 := dk_seg dksX9_proof_4 23 rfl rfl
theorem dX9_proof_0 : decode cX9_proof 0 = .ok (.aload_n 0, 1) := dk_42 (dk_at dksX9_proof_0 0 rfl rfl)
theorem dX9_proof_1 : decode cX9_proof 1 = .ok (.iconst 0, 1) := dk_3 (dk_at dksX9_proof_0 1 rfl rfl)
theorem dX9_proof_2 : decode cX9_proof 2 = .ok (.putfield 162, 3) := dk_181 0 162 (dk_at dksX9_proof_0 2 rfl rfl)
theorem dX9_proof_5 : decode cX9_proof 5 = .ok (.iload_n 1, 1) := dk_27 (dk_at dksX9_proof_0 5 rfl rfl)
theorem dX9_proof_6 : decode cX9_proof 6 = .ok (.ifCond .lt 20, 3) := dk_155 0 20 (dk_at dksX9_proof_0 6 rfl rfl)
theorem dX9_proof_9 : decode cX9_proof 9 = .ok (.iload_n 1, 1) := dk_27 (dk_at dksX9_proof_0 9 rfl rfl)
theorem dX9_proof_10 : decode cX9_proof 10 = .ok (.aload_n 0, 1) := dk_42 (dk_at dksX9_proof_0 10 rfl rfl)
theorem dX9_proof_11 : decode cX9_proof 11 = .ok (.getfield 322, 3) := dk_180 1 66 (dk_at dksX9_proof_0 11 rfl rfl)
theorem dX9_proof_14 : decode cX9_proof 14 = .ok (.if_icmp .ge 12, 3) := dk_162 0 12 (dk_at dksX9_proof_0 14 rfl rfl)
theorem dX9_proof_17 : decode cX9_proof 17 = .ok (.iload_n 2, 1) := dk_28 (dk_at dksX9_proof_0 17 rfl rfl)
theorem dX9_proof_18 : decode cX9_proof 18 = .ok (.iconst 0, 1) := dk_3 (dk_at dksX9_proof_0 18 rfl rfl)
theorem dX9_proof_19 : decode cX9_proof 19 = .ok (.iconst 1, 1) := dk_4 (dk_at dksX9_proof_0 19 rfl rfl)
theorem dX9_proof_20 : decode cX9_proof 20 = .ok (.invokestatic 407, 3) := dk_184 1 151 (dk_at dksX9_proof_0 20 rfl rfl)
theorem dX9_proof_23 : decode cX9_proof 23 = .ok (.ifCond .ne 5, 3) := dk_154 0 5 (dk_at dksX9_proof_1 0 rfl rfl)
theorem dX9_proof_26 : decode cX9_proof 26 = .ok (.iconst (-1), 1) := dk_2 (dk_at dksX9_proof_1 3 rfl rfl)
theorem dX9_proof_27 : decode cX9_proof 27 = .ok (.ireturn, 1) := dk_172 (dk_at dksX9_proof_1 4 rfl rfl)
theorem dX9_proof_28 : decode cX9_proof 28 = .ok (.aload_n 0, 1) := dk_42 (dk_at dksX9_proof_1 5 rfl rfl)
theorem dX9_proof_29 : decode cX9_proof 29 = .ok (.invokevirtual 390, 3) := dk_182 1 134 (dk_at dksX9_proof_1 6 rfl rfl)
theorem dX9_proof_32 : decode cX9_proof 32 = .ok (.aload_n 0, 1) := dk_42 (dk_at dksX9_proof_1 9 rfl rfl)
theorem dX9_proof_33 : decode cX9_proof 33 = .ok (.getfield 102, 3) := dk_180 0 102 (dk_at dksX9_proof_1 10 rfl rfl)
theorem dX9_proof_36 : decode cX9_proof 36 = .ok (.iload_n 1, 1) := dk_27 (dk_at dksX9_proof_1 13 rfl rfl)
theorem dX9_proof_37 : decode cX9_proof 37 = .ok (.laload, 1) := dk_47 (dk_at dksX9_proof_1 14 rfl rfl)
theorem dX9_proof_38 : decode cX9_proof 38 = .ok (.invokestatic 403, 3) := dk_184 1 147 (dk_at dksX9_proof_1 15 rfl rfl)
theorem dX9_proof_41 : decode cX9_proof 41 = .ok (.istore_n 3, 1) := dk_62 (dk_at dksX9_proof_1 18 rfl rfl)
theorem dX9_proof_42 : decode cX9_proof 42 = .ok (.iload_n 3, 1) := dk_29 (dk_at dksX9_proof_1 19 rfl rfl)
theorem dX9_proof_43 : decode cX9_proof 43 = .ok (.iconst 1, 1) := dk_4 (dk_at dksX9_proof_1 20 rfl rfl)
theorem dX9_proof_44 : decode cX9_proof 44 = .ok (.if_icmp .le 5, 3) := dk_164 0 5 (dk_at dksX9_proof_1 21 rfl rfl)
theorem dX9_proof_47 : decode cX9_proof 47 = .ok (.iconst (-1), 1) := dk_2 (dk_at dksX9_proof_2 0 rfl rfl)
theorem dX9_proof_48 : decode cX9_proof 48 = .ok (.ireturn, 1) := dk_172 (dk_at dksX9_proof_2 1 rfl rfl)
theorem dX9_proof_49 : decode cX9_proof 49 = .ok (.iconst (-1), 1) := dk_2 (dk_at dksX9_proof_2 2 rfl rfl)
theorem dX9_proof_50 : decode cX9_proof 50 = .ok (.istore 4, 2) := dk_54 4 (dk_at dksX9_proof_2 3 rfl rfl)
theorem dX9_proof_52 : decode cX9_proof 52 = .ok (.iconst 0, 1) := dk_3 (dk_at dksX9_proof_2 5 rfl rfl)
theorem dX9_proof_53 : decode cX9_proof 53 = .ok (.istore 5, 2) := dk_54 5 (dk_at dksX9_proof_2 6 rfl rfl)
theorem dX9_proof_55 : decode cX9_proof 55 = .ok (.iload 5, 2) := dk_21 5 (dk_at dksX9_proof_2 8 rfl rfl)
theorem dX9_proof_57 : decode cX9_proof 57 = .ok (.iconst 1, 1) := dk_4 (dk_at dksX9_proof_2 10 rfl rfl)
theorem dX9_proof_58 : decode cX9_proof 58 = .ok (.aload_n 0, 1) := dk_42 (dk_at dksX9_proof_2 11 rfl rfl)
theorem dX9_proof_59 : decode cX9_proof 59 = .ok (.getfield 328, 3) := dk_180 1 72 (dk_at dksX9_proof_2 12 rfl rfl)
theorem dX9_proof_62 : decode cX9_proof 62 = .ok (.ishl, 1) := dk_120 (dk_at dksX9_proof_2 15 rfl rfl)
theorem dX9_proof_63 : decode cX9_proof 63 = .ok (.if_icmp .ge 52, 3) := dk_162 0 52 (dk_at dksX9_proof_2 16 rfl rfl)
theorem dX9_proof_66 : decode cX9_proof 66 = .ok (.aload_n 0, 1) := dk_42 (dk_at dksX9_proof_2 19 rfl rfl)
theorem dX9_proof_67 : decode cX9_proof 67 = .ok (.iload 5, 2) := dk_21 5 (dk_at dksX9_proof_2 20 rfl rfl)
theorem dX9_proof_69 : decode cX9_proof 69 = .ok (.invokevirtual 417, 3) := dk_182 1 161 (dk_at dksX9_proof_3 0 rfl rfl)
theorem dX9_proof_72 : decode cX9_proof 72 = .ok (.aload_n 0, 1) := dk_42 (dk_at dksX9_proof_3 3 rfl rfl)
theorem dX9_proof_73 : decode cX9_proof 73 = .ok (.getfield 102, 3) := dk_180 0 102 (dk_at dksX9_proof_3 4 rfl rfl)
theorem dX9_proof_76 : decode cX9_proof 76 = .ok (.iload_n 1, 1) := dk_27 (dk_at dksX9_proof_3 7 rfl rfl)
theorem dX9_proof_77 : decode cX9_proof 77 = .ok (.laload, 1) := dk_47 (dk_at dksX9_proof_3 8 rfl rfl)
theorem dX9_proof_78 : decode cX9_proof 78 = .ok (.invokestatic 403, 3) := dk_184 1 147 (dk_at dksX9_proof_3 9 rfl rfl)
theorem dX9_proof_81 : decode cX9_proof 81 = .ok (.iload_n 3, 1) := dk_29 (dk_at dksX9_proof_3 12 rfl rfl)
theorem dX9_proof_82 : decode cX9_proof 82 = .ok (.if_icmp .ne 27, 3) := dk_160 0 27 (dk_at dksX9_proof_3 13 rfl rfl)
theorem dX9_proof_85 : decode cX9_proof 85 = .ok (.iload 4, 2) := dk_21 4 (dk_at dksX9_proof_3 16 rfl rfl)
theorem dX9_proof_87 : decode cX9_proof 87 = .ok (.ifCond .lt 18, 3) := dk_155 0 18 (dk_at dksX9_proof_3 18 rfl rfl)
theorem dX9_proof_90 : decode cX9_proof 90 = .ok (.iload 5, 2) := dk_21 5 (dk_at dksX9_proof_3 21 rfl rfl)
theorem dX9_proof_92 : decode cX9_proof 92 = .ok (.i2l, 1) := dk_133 (dk_at dksX9_proof_3 23 rfl rfl)
theorem dX9_proof_93 : decode cX9_proof 93 = .ok (.invokestatic 399, 3) := dk_184 1 143 (dk_at dksX9_proof_4 0 rfl rfl)
theorem dX9_proof_96 : decode cX9_proof 96 = .ok (.iload 4, 2) := dk_21 4 (dk_at dksX9_proof_4 3 rfl rfl)
theorem dX9_proof_98 : decode cX9_proof 98 = .ok (.i2l, 1) := dk_133 (dk_at dksX9_proof_4 5 rfl rfl)
theorem dX9_proof_99 : decode cX9_proof 99 = .ok (.invokestatic 399, 3) := dk_184 1 143 (dk_at dksX9_proof_4 6 rfl rfl)
theorem dX9_proof_102 : decode cX9_proof 102 = .ok (.if_icmp .ge 7, 3) := dk_162 0 7 (dk_at dksX9_proof_4 9 rfl rfl)
theorem dX9_proof_105 : decode cX9_proof 105 = .ok (.iload 5, 2) := dk_21 5 (dk_at dksX9_proof_4 12 rfl rfl)
theorem dX9_proof_107 : decode cX9_proof 107 = .ok (.istore 4, 2) := dk_54 4 (dk_at dksX9_proof_4 14 rfl rfl)
theorem dX9_proof_109 : decode cX9_proof 109 = .ok (.iinc 5 1, 3) := dk_132 5 1 (dk_at dksX9_proof_4 16 rfl rfl)
theorem dX9_proof_112 : decode cX9_proof 112 = .ok (.goto (-57), 3) := dk_167 255 199 (dk_at dksX9_proof_4 19 rfl rfl)
theorem dX9_proof_115 : decode cX9_proof 115 = .ok (.iload_n 2, 1) := dk_28 (dk_at dksX9_proof_4 22 rfl rfl)
theorem dX9_proof_116 : decode cX9_proof 116 = .ok (.ifCond .ne 12, 3) := dk_154 0 12 (dk_at dksX9_proof_5 0 rfl rfl)
theorem dX9_proof_119 : decode cX9_proof 119 = .ok (.iload 4, 2) := dk_21 4 (dk_at dksX9_proof_5 3 rfl rfl)
theorem dX9_proof_121 : decode cX9_proof 121 = .ok (.i2l, 1) := dk_133 (dk_at dksX9_proof_5 5 rfl rfl)
theorem dX9_proof_122 : decode cX9_proof 122 = .ok (.invokestatic 399, 3) := dk_184 1 143 (dk_at dksX9_proof_5 6 rfl rfl)
theorem dX9_proof_125 : decode cX9_proof 125 = .ok (.goto 5, 3) := dk_167 0 5 (dk_at dksX9_proof_5 9 rfl rfl)
theorem dX9_proof_128 : decode cX9_proof 128 = .ok (.iload 4, 2) := dk_21 4 (dk_at dksX9_proof_5 12 rfl rfl)
theorem dX9_proof_130 : decode cX9_proof 130 = .ok (.ireturn, 1) := dk_172 (dk_at dksX9_proof_5 14 rfl rfl)
abbrev cX9_withLooks : ByteArray := prog_28_method_66_code
def yX9_withLooks : MethodName := ⟨RX9, "withLooks", "(I)J"⟩
def dkwX9_withLooks_1 : List UInt8 := [126, 4, 160, 0, 13, 32, 42, 180, 0, 126, 21, 4, 47, 127, 65, 132, 4, 1, 167, 255, 224, 32, 173]
abbrev dktX9_withLooks_1 : List UInt8 := dkwX9_withLooks_1 ++ []
def dkwX9_withLooks_0 : List UInt8 := [42, 180, 0, 42, 3, 47, 65, 3, 54, 4, 21, 4, 42, 180, 1, 72, 162, 0, 29, 27, 21, 4, 122, 4]
abbrev dktX9_withLooks_0 : List UInt8 := dkwX9_withLooks_0 ++ dktX9_withLooks_1
theorem dksX9_withLooks_0 : cX9_withLooks.data.toList.drop 0 = dktX9_withLooks_0 := by decide +kernel
theorem dksX9_withLooks_1 : cX9_withLooks.data.toList.drop 24 = dktX9_withLooks_1 := dk_seg dksX9_withLooks_0 24 rfl rfl
theorem dX9_withLooks_0 : decode cX9_withLooks 0 = .ok (.aload_n 0, 1) := dk_42 (dk_at dksX9_withLooks_0 0 rfl rfl)
theorem dX9_withLooks_1 : decode cX9_withLooks 1 = .ok (.getfield 42, 3) := dk_180 0 42 (dk_at dksX9_withLooks_0 1 rfl rfl)
theorem dX9_withLooks_4 : decode cX9_withLooks 4 = .ok (.iconst 0, 1) := dk_3 (dk_at dksX9_withLooks_0 4 rfl rfl)
theorem dX9_withLooks_5 : decode cX9_withLooks 5 = .ok (.laload, 1) := dk_47 (dk_at dksX9_withLooks_0 5 rfl rfl)
theorem dX9_withLooks_6 : decode cX9_withLooks 6 = .ok (.lstore_n 2, 1) := dk_65 (dk_at dksX9_withLooks_0 6 rfl rfl)
theorem dX9_withLooks_7 : decode cX9_withLooks 7 = .ok (.iconst 0, 1) := dk_3 (dk_at dksX9_withLooks_0 7 rfl rfl)
theorem dX9_withLooks_8 : decode cX9_withLooks 8 = .ok (.istore 4, 2) := dk_54 4 (dk_at dksX9_withLooks_0 8 rfl rfl)
theorem dX9_withLooks_10 : decode cX9_withLooks 10 = .ok (.iload 4, 2) := dk_21 4 (dk_at dksX9_withLooks_0 10 rfl rfl)
theorem dX9_withLooks_12 : decode cX9_withLooks 12 = .ok (.aload_n 0, 1) := dk_42 (dk_at dksX9_withLooks_0 12 rfl rfl)
theorem dX9_withLooks_13 : decode cX9_withLooks 13 = .ok (.getfield 328, 3) := dk_180 1 72 (dk_at dksX9_withLooks_0 13 rfl rfl)
theorem dX9_withLooks_16 : decode cX9_withLooks 16 = .ok (.if_icmp .ge 29, 3) := dk_162 0 29 (dk_at dksX9_withLooks_0 16 rfl rfl)
theorem dX9_withLooks_19 : decode cX9_withLooks 19 = .ok (.iload_n 1, 1) := dk_27 (dk_at dksX9_withLooks_0 19 rfl rfl)
theorem dX9_withLooks_20 : decode cX9_withLooks 20 = .ok (.iload 4, 2) := dk_21 4 (dk_at dksX9_withLooks_0 20 rfl rfl)
theorem dX9_withLooks_22 : decode cX9_withLooks 22 = .ok (.ishr, 1) := dk_122 (dk_at dksX9_withLooks_0 22 rfl rfl)
theorem dX9_withLooks_23 : decode cX9_withLooks 23 = .ok (.iconst 1, 1) := dk_4 (dk_at dksX9_withLooks_0 23 rfl rfl)
theorem dX9_withLooks_24 : decode cX9_withLooks 24 = .ok (.iand, 1) := dk_126 (dk_at dksX9_withLooks_1 0 rfl rfl)
theorem dX9_withLooks_25 : decode cX9_withLooks 25 = .ok (.iconst 1, 1) := dk_4 (dk_at dksX9_withLooks_1 1 rfl rfl)
theorem dX9_withLooks_26 : decode cX9_withLooks 26 = .ok (.if_icmp .ne 13, 3) := dk_160 0 13 (dk_at dksX9_withLooks_1 2 rfl rfl)
theorem dX9_withLooks_29 : decode cX9_withLooks 29 = .ok (.lload_n 2, 1) := dk_32 (dk_at dksX9_withLooks_1 5 rfl rfl)
theorem dX9_withLooks_30 : decode cX9_withLooks 30 = .ok (.aload_n 0, 1) := dk_42 (dk_at dksX9_withLooks_1 6 rfl rfl)
theorem dX9_withLooks_31 : decode cX9_withLooks 31 = .ok (.getfield 126, 3) := dk_180 0 126 (dk_at dksX9_withLooks_1 7 rfl rfl)
theorem dX9_withLooks_34 : decode cX9_withLooks 34 = .ok (.iload 4, 2) := dk_21 4 (dk_at dksX9_withLooks_1 10 rfl rfl)
theorem dX9_withLooks_36 : decode cX9_withLooks 36 = .ok (.laload, 1) := dk_47 (dk_at dksX9_withLooks_1 12 rfl rfl)
theorem dX9_withLooks_37 : decode cX9_withLooks 37 = .ok (.land, 1) := dk_127 (dk_at dksX9_withLooks_1 13 rfl rfl)
theorem dX9_withLooks_38 : decode cX9_withLooks 38 = .ok (.lstore_n 2, 1) := dk_65 (dk_at dksX9_withLooks_1 14 rfl rfl)
theorem dX9_withLooks_39 : decode cX9_withLooks 39 = .ok (.iinc 4 1, 3) := dk_132 4 1 (dk_at dksX9_withLooks_1 15 rfl rfl)
theorem dX9_withLooks_42 : decode cX9_withLooks 42 = .ok (.goto (-32), 3) := dk_167 255 224 (dk_at dksX9_withLooks_1 18 rfl rfl)
theorem dX9_withLooks_45 : decode cX9_withLooks 45 = .ok (.lload_n 2, 1) := dk_32 (dk_at dksX9_withLooks_1 21 rfl rfl)
theorem dX9_withLooks_46 : decode cX9_withLooks 46 = .ok (.lreturn, 1) := dk_173 (dk_at dksX9_withLooks_1 22 rfl rfl)
abbrev cX9_clash : ByteArray := prog_28_method_68_code
def yX9_clash : MethodName := ⟨RX9, "clash", "(I)I"⟩
def dkwX9_clash_3 : List UInt8 := [132, 3, 1, 167, 255, 214, 27, 154, 0, 11, 28, 133, 184, 1, 143, 167, 0, 4, 28, 172]
abbrev dktX9_clash_3 : List UInt8 := dkwX9_clash_3 ++ []
def dkwX9_clash_2 : List UInt8 := [154, 0, 22, 28, 155, 0, 16, 29, 133, 184, 1, 143, 28, 133, 184, 1, 143, 162, 0, 5, 29, 61]
abbrev dktX9_clash_2 : List UInt8 := dkwX9_clash_2 ++ dktX9_clash_3
def dkwX9_clash_1 : List UInt8 := [172, 2, 61, 3, 62, 29, 4, 42, 180, 1, 72, 120, 162, 0, 38, 42, 29, 182, 1, 161, 9, 148]
abbrev dktX9_clash_1 : List UInt8 := dkwX9_clash_1 ++ dktX9_clash_2
def dkwX9_clash_0 : List UInt8 := [42, 3, 181, 0, 162, 27, 3, 4, 184, 1, 151, 153, 0, 12, 42, 182, 1, 134, 9, 148, 153, 0, 5, 2]
abbrev dktX9_clash_0 : List UInt8 := dkwX9_clash_0 ++ dktX9_clash_1
theorem dksX9_clash_0 : cX9_clash.data.toList.drop 0 = dktX9_clash_0 := by decide +kernel
theorem dksX9_clash_1 : cX9_clash.data.toList.drop 24 = dktX9_clash_1 := dk_seg dksX9_clash_0 24 rfl rfl
theorem dksX9_clash_2 : cX9_clash.data.toList.drop 46 = dktX9_clash_2 := dk_seg dksX9_clash_1 22 rfl rfl
theorem dksX9_clash_3 : cX9_clash.data.toList.drop 68 = dktX9_clash_3 := dk_seg dksX9_clash_2 22 rfl rfl
theorem dX9_clash_0 : decode cX9_clash 0 = .ok (.aload_n 0, 1) := dk_42 (dk_at dksX9_clash_0 0 rfl rfl)
theorem dX9_clash_1 : decode cX9_clash 1 = .ok (.iconst 0, 1) := dk_3 (dk_at dksX9_clash_0 1 rfl rfl)
theorem dX9_clash_2 : decode cX9_clash 2 = .ok (.putfield 162, 3) := dk_181 0 162 (dk_at dksX9_clash_0 2 rfl rfl)
theorem dX9_clash_5 : decode cX9_clash 5 = .ok (.iload_n 1, 1) := dk_27 (dk_at dksX9_clash_0 5 rfl rfl)
theorem dX9_clash_6 : decode cX9_clash 6 = .ok (.iconst 0, 1) := dk_3 (dk_at dksX9_clash_0 6 rfl rfl)
theorem dX9_clash_7 : decode cX9_clash 7 = .ok (.iconst 1, 1) := dk_4 (dk_at dksX9_clash_0 7 rfl rfl)
theorem dX9_clash_8 : decode cX9_clash 8 = .ok (.invokestatic 407, 3) := dk_184 1 151 (dk_at dksX9_clash_0 8 rfl rfl)
theorem dX9_clash_11 : decode cX9_clash 11 = .ok (.ifCond .eq 12, 3) := dk_153 0 12 (dk_at dksX9_clash_0 11 rfl rfl)
theorem dX9_clash_14 : decode cX9_clash 14 = .ok (.aload_n 0, 1) := dk_42 (dk_at dksX9_clash_0 14 rfl rfl)
theorem dX9_clash_15 : decode cX9_clash 15 = .ok (.invokevirtual 390, 3) := dk_182 1 134 (dk_at dksX9_clash_0 15 rfl rfl)
theorem dX9_clash_18 : decode cX9_clash 18 = .ok (.lconst 0, 1) := dk_9 (dk_at dksX9_clash_0 18 rfl rfl)
theorem dX9_clash_19 : decode cX9_clash 19 = .ok (.lcmp, 1) := dk_148 (dk_at dksX9_clash_0 19 rfl rfl)
theorem dX9_clash_20 : decode cX9_clash 20 = .ok (.ifCond .eq 5, 3) := dk_153 0 5 (dk_at dksX9_clash_0 20 rfl rfl)
theorem dX9_clash_23 : decode cX9_clash 23 = .ok (.iconst (-1), 1) := dk_2 (dk_at dksX9_clash_0 23 rfl rfl)
theorem dX9_clash_24 : decode cX9_clash 24 = .ok (.ireturn, 1) := dk_172 (dk_at dksX9_clash_1 0 rfl rfl)
theorem dX9_clash_25 : decode cX9_clash 25 = .ok (.iconst (-1), 1) := dk_2 (dk_at dksX9_clash_1 1 rfl rfl)
theorem dX9_clash_26 : decode cX9_clash 26 = .ok (.istore_n 2, 1) := dk_61 (dk_at dksX9_clash_1 2 rfl rfl)
theorem dX9_clash_27 : decode cX9_clash 27 = .ok (.iconst 0, 1) := dk_3 (dk_at dksX9_clash_1 3 rfl rfl)
theorem dX9_clash_28 : decode cX9_clash 28 = .ok (.istore_n 3, 1) := dk_62 (dk_at dksX9_clash_1 4 rfl rfl)
theorem dX9_clash_29 : decode cX9_clash 29 = .ok (.iload_n 3, 1) := dk_29 (dk_at dksX9_clash_1 5 rfl rfl)
theorem dX9_clash_30 : decode cX9_clash 30 = .ok (.iconst 1, 1) := dk_4 (dk_at dksX9_clash_1 6 rfl rfl)
theorem dX9_clash_31 : decode cX9_clash 31 = .ok (.aload_n 0, 1) := dk_42 (dk_at dksX9_clash_1 7 rfl rfl)
theorem dX9_clash_32 : decode cX9_clash 32 = .ok (.getfield 328, 3) := dk_180 1 72 (dk_at dksX9_clash_1 8 rfl rfl)
theorem dX9_clash_35 : decode cX9_clash 35 = .ok (.ishl, 1) := dk_120 (dk_at dksX9_clash_1 11 rfl rfl)
theorem dX9_clash_36 : decode cX9_clash 36 = .ok (.if_icmp .ge 38, 3) := dk_162 0 38 (dk_at dksX9_clash_1 12 rfl rfl)
theorem dX9_clash_39 : decode cX9_clash 39 = .ok (.aload_n 0, 1) := dk_42 (dk_at dksX9_clash_1 15 rfl rfl)
theorem dX9_clash_40 : decode cX9_clash 40 = .ok (.iload_n 3, 1) := dk_29 (dk_at dksX9_clash_1 16 rfl rfl)
theorem dX9_clash_41 : decode cX9_clash 41 = .ok (.invokevirtual 417, 3) := dk_182 1 161 (dk_at dksX9_clash_1 17 rfl rfl)
theorem dX9_clash_44 : decode cX9_clash 44 = .ok (.lconst 0, 1) := dk_9 (dk_at dksX9_clash_1 20 rfl rfl)
theorem dX9_clash_45 : decode cX9_clash 45 = .ok (.lcmp, 1) := dk_148 (dk_at dksX9_clash_1 21 rfl rfl)
theorem dX9_clash_46 : decode cX9_clash 46 = .ok (.ifCond .ne 22, 3) := dk_154 0 22 (dk_at dksX9_clash_2 0 rfl rfl)
theorem dX9_clash_49 : decode cX9_clash 49 = .ok (.iload_n 2, 1) := dk_28 (dk_at dksX9_clash_2 3 rfl rfl)
theorem dX9_clash_50 : decode cX9_clash 50 = .ok (.ifCond .lt 16, 3) := dk_155 0 16 (dk_at dksX9_clash_2 4 rfl rfl)
theorem dX9_clash_53 : decode cX9_clash 53 = .ok (.iload_n 3, 1) := dk_29 (dk_at dksX9_clash_2 7 rfl rfl)
theorem dX9_clash_54 : decode cX9_clash 54 = .ok (.i2l, 1) := dk_133 (dk_at dksX9_clash_2 8 rfl rfl)
theorem dX9_clash_55 : decode cX9_clash 55 = .ok (.invokestatic 399, 3) := dk_184 1 143 (dk_at dksX9_clash_2 9 rfl rfl)
theorem dX9_clash_58 : decode cX9_clash 58 = .ok (.iload_n 2, 1) := dk_28 (dk_at dksX9_clash_2 12 rfl rfl)
theorem dX9_clash_59 : decode cX9_clash 59 = .ok (.i2l, 1) := dk_133 (dk_at dksX9_clash_2 13 rfl rfl)
theorem dX9_clash_60 : decode cX9_clash 60 = .ok (.invokestatic 399, 3) := dk_184 1 143 (dk_at dksX9_clash_2 14 rfl rfl)
theorem dX9_clash_63 : decode cX9_clash 63 = .ok (.if_icmp .ge 5, 3) := dk_162 0 5 (dk_at dksX9_clash_2 17 rfl rfl)
theorem dX9_clash_66 : decode cX9_clash 66 = .ok (.iload_n 3, 1) := dk_29 (dk_at dksX9_clash_2 20 rfl rfl)
theorem dX9_clash_67 : decode cX9_clash 67 = .ok (.istore_n 2, 1) := dk_61 (dk_at dksX9_clash_2 21 rfl rfl)
theorem dX9_clash_68 : decode cX9_clash 68 = .ok (.iinc 3 1, 3) := dk_132 3 1 (dk_at dksX9_clash_3 0 rfl rfl)
theorem dX9_clash_71 : decode cX9_clash 71 = .ok (.goto (-42), 3) := dk_167 255 214 (dk_at dksX9_clash_3 3 rfl rfl)
theorem dX9_clash_74 : decode cX9_clash 74 = .ok (.iload_n 1, 1) := dk_27 (dk_at dksX9_clash_3 6 rfl rfl)
theorem dX9_clash_75 : decode cX9_clash 75 = .ok (.ifCond .ne 11, 3) := dk_154 0 11 (dk_at dksX9_clash_3 7 rfl rfl)
theorem dX9_clash_78 : decode cX9_clash 78 = .ok (.iload_n 2, 1) := dk_28 (dk_at dksX9_clash_3 10 rfl rfl)
theorem dX9_clash_79 : decode cX9_clash 79 = .ok (.i2l, 1) := dk_133 (dk_at dksX9_clash_3 11 rfl rfl)
theorem dX9_clash_80 : decode cX9_clash 80 = .ok (.invokestatic 399, 3) := dk_184 1 143 (dk_at dksX9_clash_3 12 rfl rfl)
theorem dX9_clash_83 : decode cX9_clash 83 = .ok (.goto 4, 3) := dk_167 0 4 (dk_at dksX9_clash_3 15 rfl rfl)
theorem dX9_clash_86 : decode cX9_clash 86 = .ok (.iload_n 2, 1) := dk_28 (dk_at dksX9_clash_3 18 rfl rfl)
theorem dX9_clash_87 : decode cX9_clash 87 = .ok (.ireturn, 1) := dk_172 (dk_at dksX9_clash_3 19 rfl rfl)
abbrev cX9_next : ByteArray := prog_28_method_72_code
def yX9_next : MethodName := ⟨RX9, "next", "(IIII)I"⟩
def dkwX9_next_5 : List UInt8 := [167, 0, 5, 21, 8, 172]
abbrev dktX9_next_5 : List UInt8 := dkwX9_next_5 ++ []
def dkwX9_next_4 : List UInt8 := [167, 0, 11, 21, 10, 54, 8, 21, 9, 54, 7, 132, 9, 1, 167, 255, 203, 21, 4, 154, 0, 8, 21, 7]
abbrev dktX9_next_4 : List UInt8 := dkwX9_next_4 ++ dktX9_next_5
def dkwX9_next_3 : List UInt8 := [167, 0, 33, 42, 27, 21, 9, 22, 5, 4, 182, 1, 176, 54, 10, 21, 10, 21, 8, 161, 0, 6]
abbrev dktX9_next_3 : List UInt8 := dkwX9_next_3 ++ dktX9_next_4
def dkwX9_next_2 : List UInt8 := [16, 99, 54, 8, 28, 54, 9, 21, 9, 29, 163, 0, 53, 42, 27, 21, 9, 28, 182, 1, 173, 153, 0, 6]
abbrev dktX9_next_2 : List UInt8 := dkwX9_next_2 ++ dktX9_next_3
def dkwX9_next_1 : List UInt8 := [154, 0, 5, 2, 172, 42, 182, 1, 134, 55, 5, 22, 5, 9, 148, 154, 0, 5, 2, 172, 2, 54, 7]
abbrev dktX9_next_1 : List UInt8 := dkwX9_next_1 ++ dktX9_next_2
def dkwX9_next_0 : List UInt8 := [42, 3, 181, 0, 162, 42, 27, 28, 29, 182, 1, 170, 153, 0, 13, 21, 4, 3, 4, 184, 1, 151]
abbrev dktX9_next_0 : List UInt8 := dkwX9_next_0 ++ dktX9_next_1
theorem dksX9_next_0 : cX9_next.data.toList.drop 0 = dktX9_next_0 := by decide +kernel
theorem dksX9_next_1 : cX9_next.data.toList.drop 22 = dktX9_next_1 := dk_seg dksX9_next_0 22 rfl rfl
theorem dksX9_next_2 : cX9_next.data.toList.drop 45 = dktX9_next_2 := dk_seg dksX9_next_1 23 rfl rfl
theorem dksX9_next_3 : cX9_next.data.toList.drop 69 = dktX9_next_3 := dk_seg dksX9_next_2 24 rfl rfl
theorem dksX9_next_4 : cX9_next.data.toList.drop 91 = dktX9_next_4 := dk_seg dksX9_next_3 22 rfl rfl
theorem dksX9_next_5 : cX9_next.data.toList.drop 115 = dktX9_next_5 := dk_seg dksX9_next_4 24 rfl rfl
theorem dX9_next_0 : decode cX9_next 0 = .ok (.aload_n 0, 1) := dk_42 (dk_at dksX9_next_0 0 rfl rfl)
theorem dX9_next_1 : decode cX9_next 1 = .ok (.iconst 0, 1) := dk_3 (dk_at dksX9_next_0 1 rfl rfl)
theorem dX9_next_2 : decode cX9_next 2 = .ok (.putfield 162, 3) := dk_181 0 162 (dk_at dksX9_next_0 2 rfl rfl)
theorem dX9_next_5 : decode cX9_next 5 = .ok (.aload_n 0, 1) := dk_42 (dk_at dksX9_next_0 5 rfl rfl)
theorem dX9_next_6 : decode cX9_next 6 = .ok (.iload_n 1, 1) := dk_27 (dk_at dksX9_next_0 6 rfl rfl)
theorem dX9_next_7 : decode cX9_next 7 = .ok (.iload_n 2, 1) := dk_28 (dk_at dksX9_next_0 7 rfl rfl)
theorem dX9_next_8 : decode cX9_next 8 = .ok (.iload_n 3, 1) := dk_29 (dk_at dksX9_next_0 8 rfl rfl)
theorem dX9_next_9 : decode cX9_next 9 = .ok (.invokevirtual 426, 3) := dk_182 1 170 (dk_at dksX9_next_0 9 rfl rfl)
theorem dX9_next_12 : decode cX9_next 12 = .ok (.ifCond .eq 13, 3) := dk_153 0 13 (dk_at dksX9_next_0 12 rfl rfl)
theorem dX9_next_15 : decode cX9_next 15 = .ok (.iload 4, 2) := dk_21 4 (dk_at dksX9_next_0 15 rfl rfl)
theorem dX9_next_17 : decode cX9_next 17 = .ok (.iconst 0, 1) := dk_3 (dk_at dksX9_next_0 17 rfl rfl)
theorem dX9_next_18 : decode cX9_next 18 = .ok (.iconst 1, 1) := dk_4 (dk_at dksX9_next_0 18 rfl rfl)
theorem dX9_next_19 : decode cX9_next 19 = .ok (.invokestatic 407, 3) := dk_184 1 151 (dk_at dksX9_next_0 19 rfl rfl)
theorem dX9_next_22 : decode cX9_next 22 = .ok (.ifCond .ne 5, 3) := dk_154 0 5 (dk_at dksX9_next_1 0 rfl rfl)
theorem dX9_next_25 : decode cX9_next 25 = .ok (.iconst (-1), 1) := dk_2 (dk_at dksX9_next_1 3 rfl rfl)
theorem dX9_next_26 : decode cX9_next 26 = .ok (.ireturn, 1) := dk_172 (dk_at dksX9_next_1 4 rfl rfl)
theorem dX9_next_27 : decode cX9_next 27 = .ok (.aload_n 0, 1) := dk_42 (dk_at dksX9_next_1 5 rfl rfl)
theorem dX9_next_28 : decode cX9_next 28 = .ok (.invokevirtual 390, 3) := dk_182 1 134 (dk_at dksX9_next_1 6 rfl rfl)
theorem dX9_next_31 : decode cX9_next 31 = .ok (.lstore 5, 2) := dk_55 5 (dk_at dksX9_next_1 9 rfl rfl)
theorem dX9_next_33 : decode cX9_next 33 = .ok (.lload 5, 2) := dk_22 5 (dk_at dksX9_next_1 11 rfl rfl)
theorem dX9_next_35 : decode cX9_next 35 = .ok (.lconst 0, 1) := dk_9 (dk_at dksX9_next_1 13 rfl rfl)
theorem dX9_next_36 : decode cX9_next 36 = .ok (.lcmp, 1) := dk_148 (dk_at dksX9_next_1 14 rfl rfl)
theorem dX9_next_37 : decode cX9_next 37 = .ok (.ifCond .ne 5, 3) := dk_154 0 5 (dk_at dksX9_next_1 15 rfl rfl)
theorem dX9_next_40 : decode cX9_next 40 = .ok (.iconst (-1), 1) := dk_2 (dk_at dksX9_next_1 18 rfl rfl)
theorem dX9_next_41 : decode cX9_next 41 = .ok (.ireturn, 1) := dk_172 (dk_at dksX9_next_1 19 rfl rfl)
theorem dX9_next_42 : decode cX9_next 42 = .ok (.iconst (-1), 1) := dk_2 (dk_at dksX9_next_1 20 rfl rfl)
theorem dX9_next_43 : decode cX9_next 43 = .ok (.istore 7, 2) := dk_54 7 (dk_at dksX9_next_1 21 rfl rfl)
theorem dX9_next_45 : decode cX9_next 45 = .ok (.bipush 99, 2) := dk_16 99 (dk_at dksX9_next_2 0 rfl rfl)
theorem dX9_next_47 : decode cX9_next 47 = .ok (.istore 8, 2) := dk_54 8 (dk_at dksX9_next_2 2 rfl rfl)
theorem dX9_next_49 : decode cX9_next 49 = .ok (.iload_n 2, 1) := dk_28 (dk_at dksX9_next_2 4 rfl rfl)
theorem dX9_next_50 : decode cX9_next 50 = .ok (.istore 9, 2) := dk_54 9 (dk_at dksX9_next_2 5 rfl rfl)
theorem dX9_next_52 : decode cX9_next 52 = .ok (.iload 9, 2) := dk_21 9 (dk_at dksX9_next_2 7 rfl rfl)
theorem dX9_next_54 : decode cX9_next 54 = .ok (.iload_n 3, 1) := dk_29 (dk_at dksX9_next_2 9 rfl rfl)
theorem dX9_next_55 : decode cX9_next 55 = .ok (.if_icmp .gt 53, 3) := dk_163 0 53 (dk_at dksX9_next_2 10 rfl rfl)
theorem dX9_next_58 : decode cX9_next 58 = .ok (.aload_n 0, 1) := dk_42 (dk_at dksX9_next_2 13 rfl rfl)
theorem dX9_next_59 : decode cX9_next 59 = .ok (.iload_n 1, 1) := dk_27 (dk_at dksX9_next_2 14 rfl rfl)
theorem dX9_next_60 : decode cX9_next 60 = .ok (.iload 9, 2) := dk_21 9 (dk_at dksX9_next_2 15 rfl rfl)
theorem dX9_next_62 : decode cX9_next 62 = .ok (.iload_n 2, 1) := dk_28 (dk_at dksX9_next_2 17 rfl rfl)
theorem dX9_next_63 : decode cX9_next 63 = .ok (.invokevirtual 429, 3) := dk_182 1 173 (dk_at dksX9_next_2 18 rfl rfl)
theorem dX9_next_66 : decode cX9_next 66 = .ok (.ifCond .eq 6, 3) := dk_153 0 6 (dk_at dksX9_next_2 21 rfl rfl)
theorem dX9_next_69 : decode cX9_next 69 = .ok (.goto 33, 3) := dk_167 0 33 (dk_at dksX9_next_3 0 rfl rfl)
theorem dX9_next_72 : decode cX9_next 72 = .ok (.aload_n 0, 1) := dk_42 (dk_at dksX9_next_3 3 rfl rfl)
theorem dX9_next_73 : decode cX9_next 73 = .ok (.iload_n 1, 1) := dk_27 (dk_at dksX9_next_3 4 rfl rfl)
theorem dX9_next_74 : decode cX9_next 74 = .ok (.iload 9, 2) := dk_21 9 (dk_at dksX9_next_3 5 rfl rfl)
theorem dX9_next_76 : decode cX9_next 76 = .ok (.lload 5, 2) := dk_22 5 (dk_at dksX9_next_3 7 rfl rfl)
theorem dX9_next_78 : decode cX9_next 78 = .ok (.iconst 1, 1) := dk_4 (dk_at dksX9_next_3 9 rfl rfl)
theorem dX9_next_79 : decode cX9_next 79 = .ok (.invokevirtual 432, 3) := dk_182 1 176 (dk_at dksX9_next_3 10 rfl rfl)
theorem dX9_next_82 : decode cX9_next 82 = .ok (.istore 10, 2) := dk_54 10 (dk_at dksX9_next_3 13 rfl rfl)
theorem dX9_next_84 : decode cX9_next 84 = .ok (.iload 10, 2) := dk_21 10 (dk_at dksX9_next_3 15 rfl rfl)
theorem dX9_next_86 : decode cX9_next 86 = .ok (.iload 8, 2) := dk_21 8 (dk_at dksX9_next_3 17 rfl rfl)
theorem dX9_next_88 : decode cX9_next 88 = .ok (.if_icmp .lt 6, 3) := dk_161 0 6 (dk_at dksX9_next_3 19 rfl rfl)
theorem dX9_next_91 : decode cX9_next 91 = .ok (.goto 11, 3) := dk_167 0 11 (dk_at dksX9_next_4 0 rfl rfl)
theorem dX9_next_94 : decode cX9_next 94 = .ok (.iload 10, 2) := dk_21 10 (dk_at dksX9_next_4 3 rfl rfl)
theorem dX9_next_96 : decode cX9_next 96 = .ok (.istore 8, 2) := dk_54 8 (dk_at dksX9_next_4 5 rfl rfl)
theorem dX9_next_98 : decode cX9_next 98 = .ok (.iload 9, 2) := dk_21 9 (dk_at dksX9_next_4 7 rfl rfl)
theorem dX9_next_100 : decode cX9_next 100 = .ok (.istore 7, 2) := dk_54 7 (dk_at dksX9_next_4 9 rfl rfl)
theorem dX9_next_102 : decode cX9_next 102 = .ok (.iinc 9 1, 3) := dk_132 9 1 (dk_at dksX9_next_4 11 rfl rfl)
theorem dX9_next_105 : decode cX9_next 105 = .ok (.goto (-53), 3) := dk_167 255 203 (dk_at dksX9_next_4 14 rfl rfl)
theorem dX9_next_108 : decode cX9_next 108 = .ok (.iload 4, 2) := dk_21 4 (dk_at dksX9_next_4 17 rfl rfl)
theorem dX9_next_110 : decode cX9_next 110 = .ok (.ifCond .ne 8, 3) := dk_154 0 8 (dk_at dksX9_next_4 19 rfl rfl)
theorem dX9_next_113 : decode cX9_next 113 = .ok (.iload 7, 2) := dk_21 7 (dk_at dksX9_next_4 22 rfl rfl)
theorem dX9_next_115 : decode cX9_next 115 = .ok (.goto 5, 3) := dk_167 0 5 (dk_at dksX9_next_5 0 rfl rfl)
theorem dX9_next_118 : decode cX9_next 118 = .ok (.iload 8, 2) := dk_21 8 (dk_at dksX9_next_5 3 rfl rfl)
theorem dX9_next_120 : decode cX9_next 120 = .ok (.ireturn, 1) := dk_172 (dk_at dksX9_next_5 5 rfl rfl)
abbrev cX9_isSpan : ByteArray := prog_28_method_70_code
def yX9_isSpan : MethodName := ⟨RX9, "isSpan", "(III)Z"⟩
def dkwX9_isSpan_1 : List UInt8 := [163, 0, 7, 4, 167, 0, 4, 3, 172]
abbrev dktX9_isSpan_1 : List UInt8 := dkwX9_isSpan_1 ++ []
def dkwX9_isSpan_0 : List UInt8 := [42, 27, 182, 1, 115, 153, 0, 26, 28, 184, 1, 84, 153, 0, 19, 29, 184, 1, 84, 153, 0, 12, 28, 29]
abbrev dktX9_isSpan_0 : List UInt8 := dkwX9_isSpan_0 ++ dktX9_isSpan_1
theorem dksX9_isSpan_0 : cX9_isSpan.data.toList.drop 0 = dktX9_isSpan_0 := by decide +kernel
theorem dksX9_isSpan_1 : cX9_isSpan.data.toList.drop 24 = dktX9_isSpan_1 := dk_seg dksX9_isSpan_0 24 rfl rfl
theorem dX9_isSpan_0 : decode cX9_isSpan 0 = .ok (.aload_n 0, 1) := dk_42 (dk_at dksX9_isSpan_0 0 rfl rfl)
theorem dX9_isSpan_1 : decode cX9_isSpan 1 = .ok (.iload_n 1, 1) := dk_27 (dk_at dksX9_isSpan_0 1 rfl rfl)
theorem dX9_isSpan_2 : decode cX9_isSpan 2 = .ok (.invokevirtual 371, 3) := dk_182 1 115 (dk_at dksX9_isSpan_0 2 rfl rfl)
theorem dX9_isSpan_5 : decode cX9_isSpan 5 = .ok (.ifCond .eq 26, 3) := dk_153 0 26 (dk_at dksX9_isSpan_0 5 rfl rfl)
theorem dX9_isSpan_8 : decode cX9_isSpan 8 = .ok (.iload_n 2, 1) := dk_28 (dk_at dksX9_isSpan_0 8 rfl rfl)
theorem dX9_isSpan_9 : decode cX9_isSpan 9 = .ok (.invokestatic 340, 3) := dk_184 1 84 (dk_at dksX9_isSpan_0 9 rfl rfl)
theorem dX9_isSpan_12 : decode cX9_isSpan 12 = .ok (.ifCond .eq 19, 3) := dk_153 0 19 (dk_at dksX9_isSpan_0 12 rfl rfl)
theorem dX9_isSpan_15 : decode cX9_isSpan 15 = .ok (.iload_n 3, 1) := dk_29 (dk_at dksX9_isSpan_0 15 rfl rfl)
theorem dX9_isSpan_16 : decode cX9_isSpan 16 = .ok (.invokestatic 340, 3) := dk_184 1 84 (dk_at dksX9_isSpan_0 16 rfl rfl)
theorem dX9_isSpan_19 : decode cX9_isSpan 19 = .ok (.ifCond .eq 12, 3) := dk_153 0 12 (dk_at dksX9_isSpan_0 19 rfl rfl)
theorem dX9_isSpan_22 : decode cX9_isSpan 22 = .ok (.iload_n 2, 1) := dk_28 (dk_at dksX9_isSpan_0 22 rfl rfl)
theorem dX9_isSpan_23 : decode cX9_isSpan 23 = .ok (.iload_n 3, 1) := dk_29 (dk_at dksX9_isSpan_0 23 rfl rfl)
theorem dX9_isSpan_24 : decode cX9_isSpan 24 = .ok (.if_icmp .gt 7, 3) := dk_163 0 7 (dk_at dksX9_isSpan_1 0 rfl rfl)
theorem dX9_isSpan_27 : decode cX9_isSpan 27 = .ok (.iconst 1, 1) := dk_4 (dk_at dksX9_isSpan_1 3 rfl rfl)
theorem dX9_isSpan_28 : decode cX9_isSpan 28 = .ok (.goto 4, 3) := dk_167 0 4 (dk_at dksX9_isSpan_1 4 rfl rfl)
theorem dX9_isSpan_31 : decode cX9_isSpan 31 = .ok (.iconst 0, 1) := dk_3 (dk_at dksX9_isSpan_1 7 rfl rfl)
theorem dX9_isSpan_32 : decode cX9_isSpan 32 = .ok (.ireturn, 1) := dk_172 (dk_at dksX9_isSpan_1 8 rfl rfl)
abbrev cX9_isAsBefore : ByteArray := prog_28_method_71_code
def yX9_isAsBefore : MethodName := ⟨RX9, "isAsBefore", "(III)Z"⟩
def dkwX9_isAsBefore_1 : List UInt8 := [21, 4, 46, 42, 180, 0, 35, 27, 46, 96, 28, 160, 0, 5, 3, 172, 132, 4, 1, 167, 255, 224, 4, 172]
abbrev dktX9_isAsBefore_1 : List UInt8 := dkwX9_isAsBefore_1 ++ []
def dkwX9_isAsBefore_0 : List UInt8 := [28, 29, 160, 0, 5, 3, 172, 3, 54, 4, 21, 4, 42, 180, 1, 66, 162, 0, 29, 42, 180, 0, 99]
abbrev dktX9_isAsBefore_0 : List UInt8 := dkwX9_isAsBefore_0 ++ dktX9_isAsBefore_1
theorem dksX9_isAsBefore_0 : cX9_isAsBefore.data.toList.drop 0 = dktX9_isAsBefore_0 := by decide +kernel
theorem dksX9_isAsBefore_1 : cX9_isAsBefore.data.toList.drop 23 = dktX9_isAsBefore_1 := dk_seg dksX9_isAsBefore_0 23 rfl rfl
theorem dX9_isAsBefore_0 : decode cX9_isAsBefore 0 = .ok (.iload_n 2, 1) := dk_28 (dk_at dksX9_isAsBefore_0 0 rfl rfl)
theorem dX9_isAsBefore_1 : decode cX9_isAsBefore 1 = .ok (.iload_n 3, 1) := dk_29 (dk_at dksX9_isAsBefore_0 1 rfl rfl)
theorem dX9_isAsBefore_2 : decode cX9_isAsBefore 2 = .ok (.if_icmp .ne 5, 3) := dk_160 0 5 (dk_at dksX9_isAsBefore_0 2 rfl rfl)
theorem dX9_isAsBefore_5 : decode cX9_isAsBefore 5 = .ok (.iconst 0, 1) := dk_3 (dk_at dksX9_isAsBefore_0 5 rfl rfl)
theorem dX9_isAsBefore_6 : decode cX9_isAsBefore 6 = .ok (.ireturn, 1) := dk_172 (dk_at dksX9_isAsBefore_0 6 rfl rfl)
theorem dX9_isAsBefore_7 : decode cX9_isAsBefore 7 = .ok (.iconst 0, 1) := dk_3 (dk_at dksX9_isAsBefore_0 7 rfl rfl)
theorem dX9_isAsBefore_8 : decode cX9_isAsBefore 8 = .ok (.istore 4, 2) := dk_54 4 (dk_at dksX9_isAsBefore_0 8 rfl rfl)
theorem dX9_isAsBefore_10 : decode cX9_isAsBefore 10 = .ok (.iload 4, 2) := dk_21 4 (dk_at dksX9_isAsBefore_0 10 rfl rfl)
theorem dX9_isAsBefore_12 : decode cX9_isAsBefore 12 = .ok (.aload_n 0, 1) := dk_42 (dk_at dksX9_isAsBefore_0 12 rfl rfl)
theorem dX9_isAsBefore_13 : decode cX9_isAsBefore 13 = .ok (.getfield 322, 3) := dk_180 1 66 (dk_at dksX9_isAsBefore_0 13 rfl rfl)
theorem dX9_isAsBefore_16 : decode cX9_isAsBefore 16 = .ok (.if_icmp .ge 29, 3) := dk_162 0 29 (dk_at dksX9_isAsBefore_0 16 rfl rfl)
theorem dX9_isAsBefore_19 : decode cX9_isAsBefore 19 = .ok (.aload_n 0, 1) := dk_42 (dk_at dksX9_isAsBefore_0 19 rfl rfl)
theorem dX9_isAsBefore_20 : decode cX9_isAsBefore 20 = .ok (.getfield 99, 3) := dk_180 0 99 (dk_at dksX9_isAsBefore_0 20 rfl rfl)
theorem dX9_isAsBefore_23 : decode cX9_isAsBefore 23 = .ok (.iload 4, 2) := dk_21 4 (dk_at dksX9_isAsBefore_1 0 rfl rfl)
theorem dX9_isAsBefore_25 : decode cX9_isAsBefore 25 = .ok (.iaload, 1) := dk_46 (dk_at dksX9_isAsBefore_1 2 rfl rfl)
theorem dX9_isAsBefore_26 : decode cX9_isAsBefore 26 = .ok (.aload_n 0, 1) := dk_42 (dk_at dksX9_isAsBefore_1 3 rfl rfl)
theorem dX9_isAsBefore_27 : decode cX9_isAsBefore 27 = .ok (.getfield 35, 3) := dk_180 0 35 (dk_at dksX9_isAsBefore_1 4 rfl rfl)
theorem dX9_isAsBefore_30 : decode cX9_isAsBefore 30 = .ok (.iload_n 1, 1) := dk_27 (dk_at dksX9_isAsBefore_1 7 rfl rfl)
theorem dX9_isAsBefore_31 : decode cX9_isAsBefore 31 = .ok (.iaload, 1) := dk_46 (dk_at dksX9_isAsBefore_1 8 rfl rfl)
theorem dX9_isAsBefore_32 : decode cX9_isAsBefore 32 = .ok (.iadd, 1) := dk_96 (dk_at dksX9_isAsBefore_1 9 rfl rfl)
theorem dX9_isAsBefore_33 : decode cX9_isAsBefore 33 = .ok (.iload_n 2, 1) := dk_28 (dk_at dksX9_isAsBefore_1 10 rfl rfl)
theorem dX9_isAsBefore_34 : decode cX9_isAsBefore 34 = .ok (.if_icmp .ne 5, 3) := dk_160 0 5 (dk_at dksX9_isAsBefore_1 11 rfl rfl)
theorem dX9_isAsBefore_37 : decode cX9_isAsBefore 37 = .ok (.iconst 0, 1) := dk_3 (dk_at dksX9_isAsBefore_1 14 rfl rfl)
theorem dX9_isAsBefore_38 : decode cX9_isAsBefore 38 = .ok (.ireturn, 1) := dk_172 (dk_at dksX9_isAsBefore_1 15 rfl rfl)
theorem dX9_isAsBefore_39 : decode cX9_isAsBefore 39 = .ok (.iinc 4 1, 3) := dk_132 4 1 (dk_at dksX9_isAsBefore_1 16 rfl rfl)
theorem dX9_isAsBefore_42 : decode cX9_isAsBefore 42 = .ok (.goto (-32), 3) := dk_167 255 224 (dk_at dksX9_isAsBefore_1 19 rfl rfl)
theorem dX9_isAsBefore_45 : decode cX9_isAsBefore 45 = .ok (.iconst 1, 1) := dk_4 (dk_at dksX9_isAsBefore_1 22 rfl rfl)
theorem dX9_isAsBefore_46 : decode cX9_isAsBefore 46 = .ok (.ireturn, 1) := dk_172 (dk_at dksX9_isAsBefore_1 23 rfl rfl)
abbrev cX9_classes : ByteArray := prog_28_method_69_code
def yX9_classes : MethodName := ⟨RX9, "classes", "(IIJZ)I"⟩
def dkwX9_classes_5 : List UInt8 := [54, 6, 132, 8, 1, 167, 255, 172, 21, 5, 153, 0, 8, 21, 6, 167, 0, 5, 21, 7, 172]
abbrev dktX9_classes_5 : List UInt8 := dkwX9_classes_5 ++ []
def dkwX9_classes_4 : List UInt8 := [160, 0, 7, 4, 167, 0, 4, 3, 96, 54, 7, 21, 6, 42, 180, 0, 129, 21, 9, 46, 184, 1, 164]
abbrev dktX9_classes_4 : List UInt8 := dkwX9_classes_4 ++ dktX9_classes_5
def dkwX9_classes_3 : List UInt8 := [54, 9, 42, 180, 0, 129, 21, 9, 92, 46, 4, 96, 79, 21, 7, 42, 180, 0, 129, 21, 9, 46, 4]
abbrev dktX9_classes_3 : List UInt8 := dkwX9_classes_3 ++ dktX9_classes_4
def dkwX9_classes_2 : List UInt8 := [162, 0, 77, 33, 21, 8, 184, 1, 94, 154, 0, 6, 167, 0, 59, 42, 27, 28, 21, 8, 182, 1, 124]
abbrev dktX9_classes_2 : List UInt8 := dkwX9_classes_2 ++ dktX9_classes_3
def dkwX9_classes_1 : List UInt8 := [167, 255, 237, 3, 54, 6, 3, 54, 7, 3, 54, 8, 21, 8, 4, 42, 180, 0, 13, 3, 46, 120]
abbrev dktX9_classes_1 : List UInt8 := dkwX9_classes_1 ++ dktX9_classes_2
def dkwX9_classes_0 : List UInt8 := [3, 54, 6, 21, 6, 17, 1, 104, 162, 0, 17, 42, 180, 0, 129, 21, 6, 3, 79, 132, 6, 1]
abbrev dktX9_classes_0 : List UInt8 := dkwX9_classes_0 ++ dktX9_classes_1
theorem dksX9_classes_0 : cX9_classes.data.toList.drop 0 = dktX9_classes_0 := by decide +kernel
theorem dksX9_classes_1 : cX9_classes.data.toList.drop 22 = dktX9_classes_1 := dk_seg dksX9_classes_0 22 rfl rfl
theorem dksX9_classes_2 : cX9_classes.data.toList.drop 44 = dktX9_classes_2 := dk_seg dksX9_classes_1 22 rfl rfl
theorem dksX9_classes_3 : cX9_classes.data.toList.drop 67 = dktX9_classes_3 := dk_seg dksX9_classes_2 23 rfl rfl
theorem dksX9_classes_4 : cX9_classes.data.toList.drop 90 = dktX9_classes_4 := dk_seg dksX9_classes_3 23 rfl rfl
theorem dksX9_classes_5 : cX9_classes.data.toList.drop 113 = dktX9_classes_5 := dk_seg dksX9_classes_4 23 rfl rfl
theorem dX9_classes_0 : decode cX9_classes 0 = .ok (.iconst 0, 1) := dk_3 (dk_at dksX9_classes_0 0 rfl rfl)
theorem dX9_classes_1 : decode cX9_classes 1 = .ok (.istore 6, 2) := dk_54 6 (dk_at dksX9_classes_0 1 rfl rfl)
theorem dX9_classes_3 : decode cX9_classes 3 = .ok (.iload 6, 2) := dk_21 6 (dk_at dksX9_classes_0 3 rfl rfl)
theorem dX9_classes_5 : decode cX9_classes 5 = .ok (.sipush 360, 3) := dk_17 1 104 (dk_at dksX9_classes_0 5 rfl rfl)
theorem dX9_classes_8 : decode cX9_classes 8 = .ok (.if_icmp .ge 17, 3) := dk_162 0 17 (dk_at dksX9_classes_0 8 rfl rfl)
theorem dX9_classes_11 : decode cX9_classes 11 = .ok (.aload_n 0, 1) := dk_42 (dk_at dksX9_classes_0 11 rfl rfl)
theorem dX9_classes_12 : decode cX9_classes 12 = .ok (.getfield 129, 3) := dk_180 0 129 (dk_at dksX9_classes_0 12 rfl rfl)
theorem dX9_classes_15 : decode cX9_classes 15 = .ok (.iload 6, 2) := dk_21 6 (dk_at dksX9_classes_0 15 rfl rfl)
theorem dX9_classes_17 : decode cX9_classes 17 = .ok (.iconst 0, 1) := dk_3 (dk_at dksX9_classes_0 17 rfl rfl)
theorem dX9_classes_18 : decode cX9_classes 18 = .ok (.iastore, 1) := dk_79 (dk_at dksX9_classes_0 18 rfl rfl)
theorem dX9_classes_19 : decode cX9_classes 19 = .ok (.iinc 6 1, 3) := dk_132 6 1 (dk_at dksX9_classes_0 19 rfl rfl)
theorem dX9_classes_22 : decode cX9_classes 22 = .ok (.goto (-19), 3) := dk_167 255 237 (dk_at dksX9_classes_1 0 rfl rfl)
theorem dX9_classes_25 : decode cX9_classes 25 = .ok (.iconst 0, 1) := dk_3 (dk_at dksX9_classes_1 3 rfl rfl)
theorem dX9_classes_26 : decode cX9_classes 26 = .ok (.istore 6, 2) := dk_54 6 (dk_at dksX9_classes_1 4 rfl rfl)
theorem dX9_classes_28 : decode cX9_classes 28 = .ok (.iconst 0, 1) := dk_3 (dk_at dksX9_classes_1 6 rfl rfl)
theorem dX9_classes_29 : decode cX9_classes 29 = .ok (.istore 7, 2) := dk_54 7 (dk_at dksX9_classes_1 7 rfl rfl)
theorem dX9_classes_31 : decode cX9_classes 31 = .ok (.iconst 0, 1) := dk_3 (dk_at dksX9_classes_1 9 rfl rfl)
theorem dX9_classes_32 : decode cX9_classes 32 = .ok (.istore 8, 2) := dk_54 8 (dk_at dksX9_classes_1 10 rfl rfl)
theorem dX9_classes_34 : decode cX9_classes 34 = .ok (.iload 8, 2) := dk_21 8 (dk_at dksX9_classes_1 12 rfl rfl)
theorem dX9_classes_36 : decode cX9_classes 36 = .ok (.iconst 1, 1) := dk_4 (dk_at dksX9_classes_1 14 rfl rfl)
theorem dX9_classes_37 : decode cX9_classes 37 = .ok (.aload_n 0, 1) := dk_42 (dk_at dksX9_classes_1 15 rfl rfl)
theorem dX9_classes_38 : decode cX9_classes 38 = .ok (.getfield 13, 3) := dk_180 0 13 (dk_at dksX9_classes_1 16 rfl rfl)
theorem dX9_classes_41 : decode cX9_classes 41 = .ok (.iconst 0, 1) := dk_3 (dk_at dksX9_classes_1 19 rfl rfl)
theorem dX9_classes_42 : decode cX9_classes 42 = .ok (.iaload, 1) := dk_46 (dk_at dksX9_classes_1 20 rfl rfl)
theorem dX9_classes_43 : decode cX9_classes 43 = .ok (.ishl, 1) := dk_120 (dk_at dksX9_classes_1 21 rfl rfl)
theorem dX9_classes_44 : decode cX9_classes 44 = .ok (.if_icmp .ge 77, 3) := dk_162 0 77 (dk_at dksX9_classes_2 0 rfl rfl)
theorem dX9_classes_47 : decode cX9_classes 47 = .ok (.lload_n 3, 1) := dk_33 (dk_at dksX9_classes_2 3 rfl rfl)
theorem dX9_classes_48 : decode cX9_classes 48 = .ok (.iload 8, 2) := dk_21 8 (dk_at dksX9_classes_2 4 rfl rfl)
theorem dX9_classes_50 : decode cX9_classes 50 = .ok (.invokestatic 350, 3) := dk_184 1 94 (dk_at dksX9_classes_2 6 rfl rfl)
theorem dX9_classes_53 : decode cX9_classes 53 = .ok (.ifCond .ne 6, 3) := dk_154 0 6 (dk_at dksX9_classes_2 9 rfl rfl)
theorem dX9_classes_56 : decode cX9_classes 56 = .ok (.goto 59, 3) := dk_167 0 59 (dk_at dksX9_classes_2 12 rfl rfl)
theorem dX9_classes_59 : decode cX9_classes 59 = .ok (.aload_n 0, 1) := dk_42 (dk_at dksX9_classes_2 15 rfl rfl)
theorem dX9_classes_60 : decode cX9_classes 60 = .ok (.iload_n 1, 1) := dk_27 (dk_at dksX9_classes_2 16 rfl rfl)
theorem dX9_classes_61 : decode cX9_classes 61 = .ok (.iload_n 2, 1) := dk_28 (dk_at dksX9_classes_2 17 rfl rfl)
theorem dX9_classes_62 : decode cX9_classes 62 = .ok (.iload 8, 2) := dk_21 8 (dk_at dksX9_classes_2 18 rfl rfl)
theorem dX9_classes_64 : decode cX9_classes 64 = .ok (.invokevirtual 380, 3) := dk_182 1 124 (dk_at dksX9_classes_2 20 rfl rfl)
theorem dX9_classes_67 : decode cX9_classes 67 = .ok (.istore 9, 2) := dk_54 9 (dk_at dksX9_classes_3 0 rfl rfl)
theorem dX9_classes_69 : decode cX9_classes 69 = .ok (.aload_n 0, 1) := dk_42 (dk_at dksX9_classes_3 2 rfl rfl)
theorem dX9_classes_70 : decode cX9_classes 70 = .ok (.getfield 129, 3) := dk_180 0 129 (dk_at dksX9_classes_3 3 rfl rfl)
theorem dX9_classes_73 : decode cX9_classes 73 = .ok (.iload 9, 2) := dk_21 9 (dk_at dksX9_classes_3 6 rfl rfl)
theorem dX9_classes_75 : decode cX9_classes 75 = .ok (.dup2, 1) := dk_92 (dk_at dksX9_classes_3 8 rfl rfl)
theorem dX9_classes_76 : decode cX9_classes 76 = .ok (.iaload, 1) := dk_46 (dk_at dksX9_classes_3 9 rfl rfl)
theorem dX9_classes_77 : decode cX9_classes 77 = .ok (.iconst 1, 1) := dk_4 (dk_at dksX9_classes_3 10 rfl rfl)
theorem dX9_classes_78 : decode cX9_classes 78 = .ok (.iadd, 1) := dk_96 (dk_at dksX9_classes_3 11 rfl rfl)
theorem dX9_classes_79 : decode cX9_classes 79 = .ok (.iastore, 1) := dk_79 (dk_at dksX9_classes_3 12 rfl rfl)
theorem dX9_classes_80 : decode cX9_classes 80 = .ok (.iload 7, 2) := dk_21 7 (dk_at dksX9_classes_3 13 rfl rfl)
theorem dX9_classes_82 : decode cX9_classes 82 = .ok (.aload_n 0, 1) := dk_42 (dk_at dksX9_classes_3 15 rfl rfl)
theorem dX9_classes_83 : decode cX9_classes 83 = .ok (.getfield 129, 3) := dk_180 0 129 (dk_at dksX9_classes_3 16 rfl rfl)
theorem dX9_classes_86 : decode cX9_classes 86 = .ok (.iload 9, 2) := dk_21 9 (dk_at dksX9_classes_3 19 rfl rfl)
theorem dX9_classes_88 : decode cX9_classes 88 = .ok (.iaload, 1) := dk_46 (dk_at dksX9_classes_3 21 rfl rfl)
theorem dX9_classes_89 : decode cX9_classes 89 = .ok (.iconst 1, 1) := dk_4 (dk_at dksX9_classes_3 22 rfl rfl)
theorem dX9_classes_90 : decode cX9_classes 90 = .ok (.if_icmp .ne 7, 3) := dk_160 0 7 (dk_at dksX9_classes_4 0 rfl rfl)
theorem dX9_classes_93 : decode cX9_classes 93 = .ok (.iconst 1, 1) := dk_4 (dk_at dksX9_classes_4 3 rfl rfl)
theorem dX9_classes_94 : decode cX9_classes 94 = .ok (.goto 4, 3) := dk_167 0 4 (dk_at dksX9_classes_4 4 rfl rfl)
theorem dX9_classes_97 : decode cX9_classes 97 = .ok (.iconst 0, 1) := dk_3 (dk_at dksX9_classes_4 7 rfl rfl)
theorem dX9_classes_98 : decode cX9_classes 98 = .ok (.iadd, 1) := dk_96 (dk_at dksX9_classes_4 8 rfl rfl)
theorem dX9_classes_99 : decode cX9_classes 99 = .ok (.istore 7, 2) := dk_54 7 (dk_at dksX9_classes_4 9 rfl rfl)
theorem dX9_classes_101 : decode cX9_classes 101 = .ok (.iload 6, 2) := dk_21 6 (dk_at dksX9_classes_4 11 rfl rfl)
theorem dX9_classes_103 : decode cX9_classes 103 = .ok (.aload_n 0, 1) := dk_42 (dk_at dksX9_classes_4 13 rfl rfl)
theorem dX9_classes_104 : decode cX9_classes 104 = .ok (.getfield 129, 3) := dk_180 0 129 (dk_at dksX9_classes_4 14 rfl rfl)
theorem dX9_classes_107 : decode cX9_classes 107 = .ok (.iload 9, 2) := dk_21 9 (dk_at dksX9_classes_4 17 rfl rfl)
theorem dX9_classes_109 : decode cX9_classes 109 = .ok (.iaload, 1) := dk_46 (dk_at dksX9_classes_4 19 rfl rfl)
theorem dX9_classes_110 : decode cX9_classes 110 = .ok (.invokestatic 420, 3) := dk_184 1 164 (dk_at dksX9_classes_4 20 rfl rfl)
theorem dX9_classes_113 : decode cX9_classes 113 = .ok (.istore 6, 2) := dk_54 6 (dk_at dksX9_classes_5 0 rfl rfl)
theorem dX9_classes_115 : decode cX9_classes 115 = .ok (.iinc 8 1, 3) := dk_132 8 1 (dk_at dksX9_classes_5 2 rfl rfl)
theorem dX9_classes_118 : decode cX9_classes 118 = .ok (.goto (-84), 3) := dk_167 255 172 (dk_at dksX9_classes_5 5 rfl rfl)
theorem dX9_classes_121 : decode cX9_classes 121 = .ok (.iload 5, 2) := dk_21 5 (dk_at dksX9_classes_5 8 rfl rfl)
theorem dX9_classes_123 : decode cX9_classes 123 = .ok (.ifCond .eq 8, 3) := dk_153 0 8 (dk_at dksX9_classes_5 10 rfl rfl)
theorem dX9_classes_126 : decode cX9_classes 126 = .ok (.iload 6, 2) := dk_21 6 (dk_at dksX9_classes_5 13 rfl rfl)
theorem dX9_classes_128 : decode cX9_classes 128 = .ok (.goto 5, 3) := dk_167 0 5 (dk_at dksX9_classes_5 15 rfl rfl)
theorem dX9_classes_131 : decode cX9_classes 131 = .ok (.iload 7, 2) := dk_21 7 (dk_at dksX9_classes_5 18 rfl rfl)
theorem dX9_classes_133 : decode cX9_classes 133 = .ok (.ireturn, 1) := dk_172 (dk_at dksX9_classes_5 20 rfl rfl)
abbrev cX9_fog : ByteArray := prog_28_method_73_code
def yX9_fog : MethodName := ⟨RX9, "fog", "(IIII)I"⟩
def dkwX9_fog_5 : List UInt8 := [167, 0, 5, 21, 8, 172]
abbrev dktX9_fog_5 : List UInt8 := dkwX9_fog_5 ++ []
def dkwX9_fog_4 : List UInt8 := [167, 0, 11, 21, 10, 54, 8, 21, 9, 54, 7, 132, 9, 1, 167, 255, 203, 21, 4, 154, 0, 8, 21, 7]
abbrev dktX9_fog_4 : List UInt8 := dkwX9_fog_4 ++ dktX9_fog_5
def dkwX9_fog_3 : List UInt8 := [167, 0, 33, 42, 27, 21, 9, 22, 5, 3, 182, 1, 176, 54, 10, 21, 10, 21, 8, 163, 0, 6]
abbrev dktX9_fog_3 : List UInt8 := dkwX9_fog_3 ++ dktX9_fog_4
def dkwX9_fog_2 : List UInt8 := [54, 8, 28, 54, 9, 21, 9, 29, 163, 0, 53, 42, 27, 21, 9, 28, 182, 1, 173, 153, 0, 6]
abbrev dktX9_fog_2 : List UInt8 := dkwX9_fog_2 ++ dktX9_fog_3
def dkwX9_fog_1 : List UInt8 := [154, 0, 5, 2, 172, 42, 182, 1, 134, 55, 5, 22, 5, 9, 148, 154, 0, 5, 2, 172, 2, 54, 7, 3]
abbrev dktX9_fog_1 : List UInt8 := dkwX9_fog_1 ++ dktX9_fog_2
def dkwX9_fog_0 : List UInt8 := [42, 3, 181, 0, 162, 42, 27, 28, 29, 182, 1, 170, 153, 0, 13, 21, 4, 3, 4, 184, 1, 151]
abbrev dktX9_fog_0 : List UInt8 := dkwX9_fog_0 ++ dktX9_fog_1
theorem dksX9_fog_0 : cX9_fog.data.toList.drop 0 = dktX9_fog_0 := by decide +kernel
theorem dksX9_fog_1 : cX9_fog.data.toList.drop 22 = dktX9_fog_1 := dk_seg dksX9_fog_0 22 rfl rfl
theorem dksX9_fog_2 : cX9_fog.data.toList.drop 46 = dktX9_fog_2 := dk_seg dksX9_fog_1 24 rfl rfl
theorem dksX9_fog_3 : cX9_fog.data.toList.drop 68 = dktX9_fog_3 := dk_seg dksX9_fog_2 22 rfl rfl
theorem dksX9_fog_4 : cX9_fog.data.toList.drop 90 = dktX9_fog_4 := dk_seg dksX9_fog_3 22 rfl rfl
theorem dksX9_fog_5 : cX9_fog.data.toList.drop 114 = dktX9_fog_5 := dk_seg dksX9_fog_4 24 rfl rfl
theorem dX9_fog_0 : decode cX9_fog 0 = .ok (.aload_n 0, 1) := dk_42 (dk_at dksX9_fog_0 0 rfl rfl)
theorem dX9_fog_1 : decode cX9_fog 1 = .ok (.iconst 0, 1) := dk_3 (dk_at dksX9_fog_0 1 rfl rfl)
theorem dX9_fog_2 : decode cX9_fog 2 = .ok (.putfield 162, 3) := dk_181 0 162 (dk_at dksX9_fog_0 2 rfl rfl)
theorem dX9_fog_5 : decode cX9_fog 5 = .ok (.aload_n 0, 1) := dk_42 (dk_at dksX9_fog_0 5 rfl rfl)
theorem dX9_fog_6 : decode cX9_fog 6 = .ok (.iload_n 1, 1) := dk_27 (dk_at dksX9_fog_0 6 rfl rfl)
theorem dX9_fog_7 : decode cX9_fog 7 = .ok (.iload_n 2, 1) := dk_28 (dk_at dksX9_fog_0 7 rfl rfl)
theorem dX9_fog_8 : decode cX9_fog 8 = .ok (.iload_n 3, 1) := dk_29 (dk_at dksX9_fog_0 8 rfl rfl)
theorem dX9_fog_9 : decode cX9_fog 9 = .ok (.invokevirtual 426, 3) := dk_182 1 170 (dk_at dksX9_fog_0 9 rfl rfl)
theorem dX9_fog_12 : decode cX9_fog 12 = .ok (.ifCond .eq 13, 3) := dk_153 0 13 (dk_at dksX9_fog_0 12 rfl rfl)
theorem dX9_fog_15 : decode cX9_fog 15 = .ok (.iload 4, 2) := dk_21 4 (dk_at dksX9_fog_0 15 rfl rfl)
theorem dX9_fog_17 : decode cX9_fog 17 = .ok (.iconst 0, 1) := dk_3 (dk_at dksX9_fog_0 17 rfl rfl)
theorem dX9_fog_18 : decode cX9_fog 18 = .ok (.iconst 1, 1) := dk_4 (dk_at dksX9_fog_0 18 rfl rfl)
theorem dX9_fog_19 : decode cX9_fog 19 = .ok (.invokestatic 407, 3) := dk_184 1 151 (dk_at dksX9_fog_0 19 rfl rfl)
theorem dX9_fog_22 : decode cX9_fog 22 = .ok (.ifCond .ne 5, 3) := dk_154 0 5 (dk_at dksX9_fog_1 0 rfl rfl)
theorem dX9_fog_25 : decode cX9_fog 25 = .ok (.iconst (-1), 1) := dk_2 (dk_at dksX9_fog_1 3 rfl rfl)
theorem dX9_fog_26 : decode cX9_fog 26 = .ok (.ireturn, 1) := dk_172 (dk_at dksX9_fog_1 4 rfl rfl)
theorem dX9_fog_27 : decode cX9_fog 27 = .ok (.aload_n 0, 1) := dk_42 (dk_at dksX9_fog_1 5 rfl rfl)
theorem dX9_fog_28 : decode cX9_fog 28 = .ok (.invokevirtual 390, 3) := dk_182 1 134 (dk_at dksX9_fog_1 6 rfl rfl)
theorem dX9_fog_31 : decode cX9_fog 31 = .ok (.lstore 5, 2) := dk_55 5 (dk_at dksX9_fog_1 9 rfl rfl)
theorem dX9_fog_33 : decode cX9_fog 33 = .ok (.lload 5, 2) := dk_22 5 (dk_at dksX9_fog_1 11 rfl rfl)
theorem dX9_fog_35 : decode cX9_fog 35 = .ok (.lconst 0, 1) := dk_9 (dk_at dksX9_fog_1 13 rfl rfl)
theorem dX9_fog_36 : decode cX9_fog 36 = .ok (.lcmp, 1) := dk_148 (dk_at dksX9_fog_1 14 rfl rfl)
theorem dX9_fog_37 : decode cX9_fog 37 = .ok (.ifCond .ne 5, 3) := dk_154 0 5 (dk_at dksX9_fog_1 15 rfl rfl)
theorem dX9_fog_40 : decode cX9_fog 40 = .ok (.iconst (-1), 1) := dk_2 (dk_at dksX9_fog_1 18 rfl rfl)
theorem dX9_fog_41 : decode cX9_fog 41 = .ok (.ireturn, 1) := dk_172 (dk_at dksX9_fog_1 19 rfl rfl)
theorem dX9_fog_42 : decode cX9_fog 42 = .ok (.iconst (-1), 1) := dk_2 (dk_at dksX9_fog_1 20 rfl rfl)
theorem dX9_fog_43 : decode cX9_fog 43 = .ok (.istore 7, 2) := dk_54 7 (dk_at dksX9_fog_1 21 rfl rfl)
theorem dX9_fog_45 : decode cX9_fog 45 = .ok (.iconst 0, 1) := dk_3 (dk_at dksX9_fog_1 23 rfl rfl)
theorem dX9_fog_46 : decode cX9_fog 46 = .ok (.istore 8, 2) := dk_54 8 (dk_at dksX9_fog_2 0 rfl rfl)
theorem dX9_fog_48 : decode cX9_fog 48 = .ok (.iload_n 2, 1) := dk_28 (dk_at dksX9_fog_2 2 rfl rfl)
theorem dX9_fog_49 : decode cX9_fog 49 = .ok (.istore 9, 2) := dk_54 9 (dk_at dksX9_fog_2 3 rfl rfl)
theorem dX9_fog_51 : decode cX9_fog 51 = .ok (.iload 9, 2) := dk_21 9 (dk_at dksX9_fog_2 5 rfl rfl)
theorem dX9_fog_53 : decode cX9_fog 53 = .ok (.iload_n 3, 1) := dk_29 (dk_at dksX9_fog_2 7 rfl rfl)
theorem dX9_fog_54 : decode cX9_fog 54 = .ok (.if_icmp .gt 53, 3) := dk_163 0 53 (dk_at dksX9_fog_2 8 rfl rfl)
theorem dX9_fog_57 : decode cX9_fog 57 = .ok (.aload_n 0, 1) := dk_42 (dk_at dksX9_fog_2 11 rfl rfl)
theorem dX9_fog_58 : decode cX9_fog 58 = .ok (.iload_n 1, 1) := dk_27 (dk_at dksX9_fog_2 12 rfl rfl)
theorem dX9_fog_59 : decode cX9_fog 59 = .ok (.iload 9, 2) := dk_21 9 (dk_at dksX9_fog_2 13 rfl rfl)
theorem dX9_fog_61 : decode cX9_fog 61 = .ok (.iload_n 2, 1) := dk_28 (dk_at dksX9_fog_2 15 rfl rfl)
theorem dX9_fog_62 : decode cX9_fog 62 = .ok (.invokevirtual 429, 3) := dk_182 1 173 (dk_at dksX9_fog_2 16 rfl rfl)
theorem dX9_fog_65 : decode cX9_fog 65 = .ok (.ifCond .eq 6, 3) := dk_153 0 6 (dk_at dksX9_fog_2 19 rfl rfl)
theorem dX9_fog_68 : decode cX9_fog 68 = .ok (.goto 33, 3) := dk_167 0 33 (dk_at dksX9_fog_3 0 rfl rfl)
theorem dX9_fog_71 : decode cX9_fog 71 = .ok (.aload_n 0, 1) := dk_42 (dk_at dksX9_fog_3 3 rfl rfl)
theorem dX9_fog_72 : decode cX9_fog 72 = .ok (.iload_n 1, 1) := dk_27 (dk_at dksX9_fog_3 4 rfl rfl)
theorem dX9_fog_73 : decode cX9_fog 73 = .ok (.iload 9, 2) := dk_21 9 (dk_at dksX9_fog_3 5 rfl rfl)
theorem dX9_fog_75 : decode cX9_fog 75 = .ok (.lload 5, 2) := dk_22 5 (dk_at dksX9_fog_3 7 rfl rfl)
theorem dX9_fog_77 : decode cX9_fog 77 = .ok (.iconst 0, 1) := dk_3 (dk_at dksX9_fog_3 9 rfl rfl)
theorem dX9_fog_78 : decode cX9_fog 78 = .ok (.invokevirtual 432, 3) := dk_182 1 176 (dk_at dksX9_fog_3 10 rfl rfl)
theorem dX9_fog_81 : decode cX9_fog 81 = .ok (.istore 10, 2) := dk_54 10 (dk_at dksX9_fog_3 13 rfl rfl)
theorem dX9_fog_83 : decode cX9_fog 83 = .ok (.iload 10, 2) := dk_21 10 (dk_at dksX9_fog_3 15 rfl rfl)
theorem dX9_fog_85 : decode cX9_fog 85 = .ok (.iload 8, 2) := dk_21 8 (dk_at dksX9_fog_3 17 rfl rfl)
theorem dX9_fog_87 : decode cX9_fog 87 = .ok (.if_icmp .gt 6, 3) := dk_163 0 6 (dk_at dksX9_fog_3 19 rfl rfl)
theorem dX9_fog_90 : decode cX9_fog 90 = .ok (.goto 11, 3) := dk_167 0 11 (dk_at dksX9_fog_4 0 rfl rfl)
theorem dX9_fog_93 : decode cX9_fog 93 = .ok (.iload 10, 2) := dk_21 10 (dk_at dksX9_fog_4 3 rfl rfl)
theorem dX9_fog_95 : decode cX9_fog 95 = .ok (.istore 8, 2) := dk_54 8 (dk_at dksX9_fog_4 5 rfl rfl)
theorem dX9_fog_97 : decode cX9_fog 97 = .ok (.iload 9, 2) := dk_21 9 (dk_at dksX9_fog_4 7 rfl rfl)
theorem dX9_fog_99 : decode cX9_fog 99 = .ok (.istore 7, 2) := dk_54 7 (dk_at dksX9_fog_4 9 rfl rfl)
theorem dX9_fog_101 : decode cX9_fog 101 = .ok (.iinc 9 1, 3) := dk_132 9 1 (dk_at dksX9_fog_4 11 rfl rfl)
theorem dX9_fog_104 : decode cX9_fog 104 = .ok (.goto (-53), 3) := dk_167 255 203 (dk_at dksX9_fog_4 14 rfl rfl)
theorem dX9_fog_107 : decode cX9_fog 107 = .ok (.iload 4, 2) := dk_21 4 (dk_at dksX9_fog_4 17 rfl rfl)
theorem dX9_fog_109 : decode cX9_fog 109 = .ok (.ifCond .ne 8, 3) := dk_154 0 8 (dk_at dksX9_fog_4 19 rfl rfl)
theorem dX9_fog_112 : decode cX9_fog 112 = .ok (.iload 7, 2) := dk_21 7 (dk_at dksX9_fog_4 22 rfl rfl)
theorem dX9_fog_114 : decode cX9_fog 114 = .ok (.goto 5, 3) := dk_167 0 5 (dk_at dksX9_fog_5 0 rfl rfl)
theorem dX9_fog_117 : decode cX9_fog 117 = .ok (.iload 8, 2) := dk_21 8 (dk_at dksX9_fog_5 3 rfl rfl)
theorem dX9_fog_119 : decode cX9_fog 119 = .ok (.ireturn, 1) := dk_172 (dk_at dksX9_fog_5 5 rfl rfl)
abbrev cX9_learns : ByteArray := prog_28_method_74_code
def yX9_learns : MethodName := ⟨RX9, "learns", "(IIZII)I"⟩
def dkwX9_learns_14 : List UInt8 := [153, 0, 7, 4, 167, 0, 4, 3, 172]
abbrev dktX9_learns_14 : List UInt8 := dkwX9_learns_14 ++ []
def dkwX9_learns_13 : List UInt8 := [21, 10, 46, 6, 162, 0, 7, 4, 167, 0, 4, 3, 54, 8, 132, 9, 1, 167, 255, 159, 21, 8]
abbrev dktX9_learns_13 : List UInt8 := dkwX9_learns_13 ++ dktX9_learns_14
def dkwX9_learns_12 : List UInt8 := [28, 122, 4, 126, 4, 160, 0, 7, 4, 167, 0, 4, 5, 128, 79, 21, 8, 153, 0, 18, 42, 180, 0, 132]
abbrev dktX9_learns_12 : List UInt8 := dkwX9_learns_12 ++ dktX9_learns_13
def dkwX9_learns_11 : List UInt8 := [180, 0, 35, 21, 5, 46, 96, 21, 9, 182, 1, 124, 54, 10, 42, 180, 0, 132, 21, 10, 92, 46, 21, 9]
abbrev dktX9_learns_11 : List UInt8 := dkwX9_learns_11 ++ dktX9_learns_12
def dkwX9_learns_10 : List UInt8 := [162, 0, 90, 22, 6, 21, 9, 184, 1, 94, 154, 0, 6, 167, 0, 71, 42, 21, 5, 21, 4, 42]
abbrev dktX9_learns_10 : List UInt8 := dkwX9_learns_10 ++ dktX9_learns_11
def dkwX9_learns_9 : List UInt8 := [132, 8, 1, 167, 255, 237, 4, 54, 8, 3, 54, 9, 21, 9, 4, 42, 180, 0, 13, 3, 46, 120]
abbrev dktX9_learns_9 : List UInt8 := dkwX9_learns_9 ++ dktX9_learns_10
def dkwX9_learns_8 : List UInt8 := [16, 30, 182, 1, 109, 3, 54, 8, 21, 8, 17, 1, 104, 162, 0, 17, 42, 180, 0, 132, 21, 8, 3, 79]
abbrev dktX9_learns_8 : List UInt8 := dkwX9_learns_8 ++ dktX9_learns_9
def dkwX9_learns_7 : List UInt8 := [127, 80, 42, 180, 0, 108, 42, 180, 1, 106, 16, 30, 79, 42, 89, 180, 1, 106, 4, 96, 181, 1, 106, 42]
abbrev dktX9_learns_7 : List UInt8 := dkwX9_learns_7 ++ dktX9_learns_8
def dkwX9_learns_6 : List UInt8 := [153, 0, 11, 42, 28, 182, 1, 140, 167, 0, 17, 42, 182, 1, 62, 42, 28, 182, 1, 140, 20, 1, 51, 131]
abbrev dktX9_learns_6 : List UInt8 := dkwX9_learns_6 ++ dktX9_learns_7
def dkwX9_learns_5 : List UInt8 := [180, 0, 99, 16, 30, 21, 4, 79, 42, 180, 0, 105, 16, 30, 3, 84, 42, 180, 0, 102, 16, 30, 29]
abbrev dktX9_learns_5 : List UInt8 := dkwX9_learns_5 ++ dktX9_learns_6
def dkwX9_learns_4 : List UInt8 := [182, 1, 98, 127, 55, 6, 22, 6, 9, 148, 154, 0, 5, 2, 172, 42, 180, 0, 96, 16, 30, 27, 79, 42]
abbrev dktX9_learns_4 : List UInt8 := dkwX9_learns_4 ++ dktX9_learns_5
def dkwX9_learns_3 : List UInt8 := [4, 100, 46, 162, 0, 5, 2, 172, 42, 182, 1, 134, 42, 42, 180, 0, 29, 27, 46, 42, 180, 1, 78]
abbrev dktX9_learns_3 : List UInt8 := dkwX9_learns_3 ++ dktX9_learns_4
def dkwX9_learns_2 : List UInt8 := [96, 17, 5, 159, 163, 0, 26, 42, 180, 1, 66, 158, 0, 21, 21, 4, 42, 180, 0, 99, 42, 180, 1, 66]
abbrev dktX9_learns_2 : List UInt8 := dkwX9_learns_2 ++ dktX9_learns_3
def dkwX9_learns_1 : List UInt8 := [184, 1, 84, 153, 0, 51, 42, 21, 5, 182, 1, 115, 153, 0, 42, 21, 4, 42, 180, 0, 35, 21, 5, 46]
abbrev dktX9_learns_1 : List UInt8 := dkwX9_learns_1 ++ dktX9_learns_2
def dkwX9_learns_0 : List UInt8 := [42, 3, 181, 0, 162, 42, 27, 182, 1, 81, 153, 0, 67, 42, 28, 182, 1, 137, 153, 0, 59, 21, 4]
abbrev dktX9_learns_0 : List UInt8 := dkwX9_learns_0 ++ dktX9_learns_1
theorem dksX9_learns_0 : cX9_learns.data.toList.drop 0 = dktX9_learns_0 := by decide +kernel
theorem dksX9_learns_1 : cX9_learns.data.toList.drop 23 = dktX9_learns_1 := dk_seg dksX9_learns_0 23 rfl rfl
theorem dksX9_learns_2 : cX9_learns.data.toList.drop 47 = dktX9_learns_2 := dk_seg dksX9_learns_1 24 rfl rfl
theorem dksX9_learns_3 : cX9_learns.data.toList.drop 71 = dktX9_learns_3 := dk_seg dksX9_learns_2 24 rfl rfl
theorem dksX9_learns_4 : cX9_learns.data.toList.drop 94 = dktX9_learns_4 := dk_seg dksX9_learns_3 23 rfl rfl
theorem dksX9_learns_5 : cX9_learns.data.toList.drop 118 = dktX9_learns_5 := dk_seg dksX9_learns_4 24 rfl rfl
theorem dksX9_learns_6 : cX9_learns.data.toList.drop 141 = dktX9_learns_6 := dk_seg dksX9_learns_5 23 rfl rfl
theorem dksX9_learns_7 : cX9_learns.data.toList.drop 165 = dktX9_learns_7 := dk_seg dksX9_learns_6 24 rfl rfl
theorem dksX9_learns_8 : cX9_learns.data.toList.drop 189 = dktX9_learns_8 := dk_seg dksX9_learns_7 24 rfl rfl
theorem dksX9_learns_9 : cX9_learns.data.toList.drop 213 = dktX9_learns_9 := dk_seg dksX9_learns_8 24 rfl rfl
theorem dksX9_learns_10 : cX9_learns.data.toList.drop 235 = dktX9_learns_10 := dk_seg dksX9_learns_9 22 rfl rfl
theorem dksX9_learns_11 : cX9_learns.data.toList.drop 257 = dktX9_learns_11 := dk_seg dksX9_learns_10 22 rfl rfl
theorem dksX9_learns_12 : cX9_learns.data.toList.drop 281 = dktX9_learns_12 := dk_seg dksX9_learns_11 24 rfl rfl
theorem dksX9_learns_13 : cX9_learns.data.toList.drop 305 = dktX9_learns_13 := dk_seg dksX9_learns_12 24 rfl rfl
theorem dksX9_learns_14 : cX9_learns.data.toList.drop 327 = dktX9_learns_14 := dk_seg dksX9_learns_13 22 rfl rfl
theorem dX9_learns_0 : decode cX9_learns 0 = .ok (.aload_n 0, 1) := dk_42 (dk_at dksX9_learns_0 0 rfl rfl)
theorem dX9_learns_1 : decode cX9_learns 1 = .ok (.iconst 0, 1) := dk_3 (dk_at dksX9_learns_0 1 rfl rfl)
theorem dX9_learns_2 : decode cX9_learns 2 = .ok (.putfield 162, 3) := dk_181 0 162 (dk_at dksX9_learns_0 2 rfl rfl)
theorem dX9_learns_5 : decode cX9_learns 5 = .ok (.aload_n 0, 1) := dk_42 (dk_at dksX9_learns_0 5 rfl rfl)
theorem dX9_learns_6 : decode cX9_learns 6 = .ok (.iload_n 1, 1) := dk_27 (dk_at dksX9_learns_0 6 rfl rfl)
theorem dX9_learns_7 : decode cX9_learns 7 = .ok (.invokevirtual 337, 3) := dk_182 1 81 (dk_at dksX9_learns_0 7 rfl rfl)
theorem dX9_learns_10 : decode cX9_learns 10 = .ok (.ifCond .eq 67, 3) := dk_153 0 67 (dk_at dksX9_learns_0 10 rfl rfl)
theorem dX9_learns_13 : decode cX9_learns 13 = .ok (.aload_n 0, 1) := dk_42 (dk_at dksX9_learns_0 13 rfl rfl)
theorem dX9_learns_14 : decode cX9_learns 14 = .ok (.iload_n 2, 1) := dk_28 (dk_at dksX9_learns_0 14 rfl rfl)
theorem dX9_learns_15 : decode cX9_learns 15 = .ok (.invokevirtual 393, 3) := dk_182 1 137 (dk_at dksX9_learns_0 15 rfl rfl)
theorem dX9_learns_18 : decode cX9_learns 18 = .ok (.ifCond .eq 59, 3) := dk_153 0 59 (dk_at dksX9_learns_0 18 rfl rfl)
theorem dX9_learns_21 : decode cX9_learns 21 = .ok (.iload 4, 2) := dk_21 4 (dk_at dksX9_learns_0 21 rfl rfl)
theorem dX9_learns_23 : decode cX9_learns 23 = .ok (.invokestatic 340, 3) := dk_184 1 84 (dk_at dksX9_learns_1 0 rfl rfl)
theorem dX9_learns_26 : decode cX9_learns 26 = .ok (.ifCond .eq 51, 3) := dk_153 0 51 (dk_at dksX9_learns_1 3 rfl rfl)
theorem dX9_learns_29 : decode cX9_learns 29 = .ok (.aload_n 0, 1) := dk_42 (dk_at dksX9_learns_1 6 rfl rfl)
theorem dX9_learns_30 : decode cX9_learns 30 = .ok (.iload 5, 2) := dk_21 5 (dk_at dksX9_learns_1 7 rfl rfl)
theorem dX9_learns_32 : decode cX9_learns 32 = .ok (.invokevirtual 371, 3) := dk_182 1 115 (dk_at dksX9_learns_1 9 rfl rfl)
theorem dX9_learns_35 : decode cX9_learns 35 = .ok (.ifCond .eq 42, 3) := dk_153 0 42 (dk_at dksX9_learns_1 12 rfl rfl)
theorem dX9_learns_38 : decode cX9_learns 38 = .ok (.iload 4, 2) := dk_21 4 (dk_at dksX9_learns_1 15 rfl rfl)
theorem dX9_learns_40 : decode cX9_learns 40 = .ok (.aload_n 0, 1) := dk_42 (dk_at dksX9_learns_1 17 rfl rfl)
theorem dX9_learns_41 : decode cX9_learns 41 = .ok (.getfield 35, 3) := dk_180 0 35 (dk_at dksX9_learns_1 18 rfl rfl)
theorem dX9_learns_44 : decode cX9_learns 44 = .ok (.iload 5, 2) := dk_21 5 (dk_at dksX9_learns_1 21 rfl rfl)
theorem dX9_learns_46 : decode cX9_learns 46 = .ok (.iaload, 1) := dk_46 (dk_at dksX9_learns_1 23 rfl rfl)
theorem dX9_learns_47 : decode cX9_learns 47 = .ok (.iadd, 1) := dk_96 (dk_at dksX9_learns_2 0 rfl rfl)
theorem dX9_learns_48 : decode cX9_learns 48 = .ok (.sipush 1439, 3) := dk_17 5 159 (dk_at dksX9_learns_2 1 rfl rfl)
theorem dX9_learns_51 : decode cX9_learns 51 = .ok (.if_icmp .gt 26, 3) := dk_163 0 26 (dk_at dksX9_learns_2 4 rfl rfl)
theorem dX9_learns_54 : decode cX9_learns 54 = .ok (.aload_n 0, 1) := dk_42 (dk_at dksX9_learns_2 7 rfl rfl)
theorem dX9_learns_55 : decode cX9_learns 55 = .ok (.getfield 322, 3) := dk_180 1 66 (dk_at dksX9_learns_2 8 rfl rfl)
theorem dX9_learns_58 : decode cX9_learns 58 = .ok (.ifCond .le 21, 3) := dk_158 0 21 (dk_at dksX9_learns_2 11 rfl rfl)
theorem dX9_learns_61 : decode cX9_learns 61 = .ok (.iload 4, 2) := dk_21 4 (dk_at dksX9_learns_2 14 rfl rfl)
theorem dX9_learns_63 : decode cX9_learns 63 = .ok (.aload_n 0, 1) := dk_42 (dk_at dksX9_learns_2 16 rfl rfl)
theorem dX9_learns_64 : decode cX9_learns 64 = .ok (.getfield 99, 3) := dk_180 0 99 (dk_at dksX9_learns_2 17 rfl rfl)
theorem dX9_learns_67 : decode cX9_learns 67 = .ok (.aload_n 0, 1) := dk_42 (dk_at dksX9_learns_2 20 rfl rfl)
theorem dX9_learns_68 : decode cX9_learns 68 = .ok (.getfield 322, 3) := dk_180 1 66 (dk_at dksX9_learns_2 21 rfl rfl)
theorem dX9_learns_71 : decode cX9_learns 71 = .ok (.iconst 1, 1) := dk_4 (dk_at dksX9_learns_3 0 rfl rfl)
theorem dX9_learns_72 : decode cX9_learns 72 = .ok (.isub, 1) := dk_100 (dk_at dksX9_learns_3 1 rfl rfl)
theorem dX9_learns_73 : decode cX9_learns 73 = .ok (.iaload, 1) := dk_46 (dk_at dksX9_learns_3 2 rfl rfl)
theorem dX9_learns_74 : decode cX9_learns 74 = .ok (.if_icmp .ge 5, 3) := dk_162 0 5 (dk_at dksX9_learns_3 3 rfl rfl)
theorem dX9_learns_77 : decode cX9_learns 77 = .ok (.iconst (-1), 1) := dk_2 (dk_at dksX9_learns_3 6 rfl rfl)
theorem dX9_learns_78 : decode cX9_learns 78 = .ok (.ireturn, 1) := dk_172 (dk_at dksX9_learns_3 7 rfl rfl)
theorem dX9_learns_79 : decode cX9_learns 79 = .ok (.aload_n 0, 1) := dk_42 (dk_at dksX9_learns_3 8 rfl rfl)
theorem dX9_learns_80 : decode cX9_learns 80 = .ok (.invokevirtual 390, 3) := dk_182 1 134 (dk_at dksX9_learns_3 9 rfl rfl)
theorem dX9_learns_83 : decode cX9_learns 83 = .ok (.aload_n 0, 1) := dk_42 (dk_at dksX9_learns_3 12 rfl rfl)
theorem dX9_learns_84 : decode cX9_learns 84 = .ok (.aload_n 0, 1) := dk_42 (dk_at dksX9_learns_3 13 rfl rfl)
theorem dX9_learns_85 : decode cX9_learns 85 = .ok (.getfield 29, 3) := dk_180 0 29 (dk_at dksX9_learns_3 14 rfl rfl)
theorem dX9_learns_88 : decode cX9_learns 88 = .ok (.iload_n 1, 1) := dk_27 (dk_at dksX9_learns_3 17 rfl rfl)
theorem dX9_learns_89 : decode cX9_learns 89 = .ok (.iaload, 1) := dk_46 (dk_at dksX9_learns_3 18 rfl rfl)
theorem dX9_learns_90 : decode cX9_learns 90 = .ok (.aload_n 0, 1) := dk_42 (dk_at dksX9_learns_3 19 rfl rfl)
theorem dX9_learns_91 : decode cX9_learns 91 = .ok (.getfield 334, 3) := dk_180 1 78 (dk_at dksX9_learns_3 20 rfl rfl)
theorem dX9_learns_94 : decode cX9_learns 94 = .ok (.invokevirtual 354, 3) := dk_182 1 98 (dk_at dksX9_learns_4 0 rfl rfl)
theorem dX9_learns_97 : decode cX9_learns 97 = .ok (.land, 1) := dk_127 (dk_at dksX9_learns_4 3 rfl rfl)
theorem dX9_learns_98 : decode cX9_learns 98 = .ok (.lstore 6, 2) := dk_55 6 (dk_at dksX9_learns_4 4 rfl rfl)
theorem dX9_learns_100 : decode cX9_learns 100 = .ok (.lload 6, 2) := dk_22 6 (dk_at dksX9_learns_4 6 rfl rfl)
theorem dX9_learns_102 : decode cX9_learns 102 = .ok (.lconst 0, 1) := dk_9 (dk_at dksX9_learns_4 8 rfl rfl)
theorem dX9_learns_103 : decode cX9_learns 103 = .ok (.lcmp, 1) := dk_148 (dk_at dksX9_learns_4 9 rfl rfl)
theorem dX9_learns_104 : decode cX9_learns 104 = .ok (.ifCond .ne 5, 3) := dk_154 0 5 (dk_at dksX9_learns_4 10 rfl rfl)
theorem dX9_learns_107 : decode cX9_learns 107 = .ok (.iconst (-1), 1) := dk_2 (dk_at dksX9_learns_4 13 rfl rfl)
theorem dX9_learns_108 : decode cX9_learns 108 = .ok (.ireturn, 1) := dk_172 (dk_at dksX9_learns_4 14 rfl rfl)
theorem dX9_learns_109 : decode cX9_learns 109 = .ok (.aload_n 0, 1) := dk_42 (dk_at dksX9_learns_4 15 rfl rfl)
theorem dX9_learns_110 : decode cX9_learns 110 = .ok (.getfield 96, 3) := dk_180 0 96 (dk_at dksX9_learns_4 16 rfl rfl)
theorem dX9_learns_113 : decode cX9_learns 113 = .ok (.bipush 30, 2) := dk_16 30 (dk_at dksX9_learns_4 19 rfl rfl)
theorem dX9_learns_115 : decode cX9_learns 115 = .ok (.iload_n 1, 1) := dk_27 (dk_at dksX9_learns_4 21 rfl rfl)
theorem dX9_learns_116 : decode cX9_learns 116 = .ok (.iastore, 1) := dk_79 (dk_at dksX9_learns_4 22 rfl rfl)
theorem dX9_learns_117 : decode cX9_learns 117 = .ok (.aload_n 0, 1) := dk_42 (dk_at dksX9_learns_4 23 rfl rfl)
theorem dX9_learns_118 : decode cX9_learns 118 = .ok (.getfield 99, 3) := dk_180 0 99 (dk_at dksX9_learns_5 0 rfl rfl)
theorem dX9_learns_121 : decode cX9_learns 121 = .ok (.bipush 30, 2) := dk_16 30 (dk_at dksX9_learns_5 3 rfl rfl)
theorem dX9_learns_123 : decode cX9_learns 123 = .ok (.iload 4, 2) := dk_21 4 (dk_at dksX9_learns_5 5 rfl rfl)
theorem dX9_learns_125 : decode cX9_learns 125 = .ok (.iastore, 1) := dk_79 (dk_at dksX9_learns_5 7 rfl rfl)
theorem dX9_learns_126 : decode cX9_learns 126 = .ok (.aload_n 0, 1) := dk_42 (dk_at dksX9_learns_5 8 rfl rfl)
theorem dX9_learns_127 : decode cX9_learns 127 = .ok (.getfield 105, 3) := dk_180 0 105 (dk_at dksX9_learns_5 9 rfl rfl)
theorem dX9_learns_130 : decode cX9_learns 130 = .ok (.bipush 30, 2) := dk_16 30 (dk_at dksX9_learns_5 12 rfl rfl)
theorem dX9_learns_132 : decode cX9_learns 132 = .ok (.iconst 0, 1) := dk_3 (dk_at dksX9_learns_5 14 rfl rfl)
theorem dX9_learns_133 : decode cX9_learns 133 = .ok (.bastore, 1) := dk_84 (dk_at dksX9_learns_5 15 rfl rfl)
theorem dX9_learns_134 : decode cX9_learns 134 = .ok (.aload_n 0, 1) := dk_42 (dk_at dksX9_learns_5 16 rfl rfl)
theorem dX9_learns_135 : decode cX9_learns 135 = .ok (.getfield 102, 3) := dk_180 0 102 (dk_at dksX9_learns_5 17 rfl rfl)
theorem dX9_learns_138 : decode cX9_learns 138 = .ok (.bipush 30, 2) := dk_16 30 (dk_at dksX9_learns_5 20 rfl rfl)
theorem dX9_learns_140 : decode cX9_learns 140 = .ok (.iload_n 3, 1) := dk_29 (dk_at dksX9_learns_5 22 rfl rfl)
theorem dX9_learns_141 : decode cX9_learns 141 = .ok (.ifCond .eq 11, 3) := dk_153 0 11 (dk_at dksX9_learns_6 0 rfl rfl)
theorem dX9_learns_144 : decode cX9_learns 144 = .ok (.aload_n 0, 1) := dk_42 (dk_at dksX9_learns_6 3 rfl rfl)
theorem dX9_learns_145 : decode cX9_learns 145 = .ok (.iload_n 2, 1) := dk_28 (dk_at dksX9_learns_6 4 rfl rfl)
theorem dX9_learns_146 : decode cX9_learns 146 = .ok (.invokevirtual 396, 3) := dk_182 1 140 (dk_at dksX9_learns_6 5 rfl rfl)
theorem dX9_learns_149 : decode cX9_learns 149 = .ok (.goto 17, 3) := dk_167 0 17 (dk_at dksX9_learns_6 8 rfl rfl)
theorem dX9_learns_152 : decode cX9_learns 152 = .ok (.aload_n 0, 1) := dk_42 (dk_at dksX9_learns_6 11 rfl rfl)
theorem dX9_learns_153 : decode cX9_learns 153 = .ok (.invokevirtual 318, 3) := dk_182 1 62 (dk_at dksX9_learns_6 12 rfl rfl)
theorem dX9_learns_156 : decode cX9_learns 156 = .ok (.aload_n 0, 1) := dk_42 (dk_at dksX9_learns_6 15 rfl rfl)
theorem dX9_learns_157 : decode cX9_learns 157 = .ok (.iload_n 2, 1) := dk_28 (dk_at dksX9_learns_6 16 rfl rfl)
theorem dX9_learns_158 : decode cX9_learns 158 = .ok (.invokevirtual 396, 3) := dk_182 1 140 (dk_at dksX9_learns_6 17 rfl rfl)
theorem dX9_learns_161 : decode cX9_learns 161 = .ok (.ldc2_w 307, 3) := dk_20 1 51 (dk_at dksX9_learns_6 20 rfl rfl)
theorem dX9_learns_164 : decode cX9_learns 164 = .ok (.lxor, 1) := dk_131 (dk_at dksX9_learns_6 23 rfl rfl)
theorem dX9_learns_165 : decode cX9_learns 165 = .ok (.land, 1) := dk_127 (dk_at dksX9_learns_7 0 rfl rfl)
theorem dX9_learns_166 : decode cX9_learns 166 = .ok (.lastore, 1) := dk_80 (dk_at dksX9_learns_7 1 rfl rfl)
theorem dX9_learns_167 : decode cX9_learns 167 = .ok (.aload_n 0, 1) := dk_42 (dk_at dksX9_learns_7 2 rfl rfl)
theorem dX9_learns_168 : decode cX9_learns 168 = .ok (.getfield 108, 3) := dk_180 0 108 (dk_at dksX9_learns_7 3 rfl rfl)
theorem dX9_learns_171 : decode cX9_learns 171 = .ok (.aload_n 0, 1) := dk_42 (dk_at dksX9_learns_7 6 rfl rfl)
theorem dX9_learns_172 : decode cX9_learns 172 = .ok (.getfield 362, 3) := dk_180 1 106 (dk_at dksX9_learns_7 7 rfl rfl)
theorem dX9_learns_175 : decode cX9_learns 175 = .ok (.bipush 30, 2) := dk_16 30 (dk_at dksX9_learns_7 10 rfl rfl)
theorem dX9_learns_177 : decode cX9_learns 177 = .ok (.iastore, 1) := dk_79 (dk_at dksX9_learns_7 12 rfl rfl)
theorem dX9_learns_178 : decode cX9_learns 178 = .ok (.aload_n 0, 1) := dk_42 (dk_at dksX9_learns_7 13 rfl rfl)
theorem dX9_learns_179 : decode cX9_learns 179 = .ok (.dup, 1) := dk_89 (dk_at dksX9_learns_7 14 rfl rfl)
theorem dX9_learns_180 : decode cX9_learns 180 = .ok (.getfield 362, 3) := dk_180 1 106 (dk_at dksX9_learns_7 15 rfl rfl)
theorem dX9_learns_183 : decode cX9_learns 183 = .ok (.iconst 1, 1) := dk_4 (dk_at dksX9_learns_7 18 rfl rfl)
theorem dX9_learns_184 : decode cX9_learns 184 = .ok (.iadd, 1) := dk_96 (dk_at dksX9_learns_7 19 rfl rfl)
theorem dX9_learns_185 : decode cX9_learns 185 = .ok (.putfield 362, 3) := dk_181 1 106 (dk_at dksX9_learns_7 20 rfl rfl)
theorem dX9_learns_188 : decode cX9_learns 188 = .ok (.aload_n 0, 1) := dk_42 (dk_at dksX9_learns_7 23 rfl rfl)
theorem dX9_learns_189 : decode cX9_learns 189 = .ok (.bipush 30, 2) := dk_16 30 (dk_at dksX9_learns_8 0 rfl rfl)
theorem dX9_learns_191 : decode cX9_learns 191 = .ok (.invokevirtual 365, 3) := dk_182 1 109 (dk_at dksX9_learns_8 2 rfl rfl)
theorem dX9_learns_194 : decode cX9_learns 194 = .ok (.iconst 0, 1) := dk_3 (dk_at dksX9_learns_8 5 rfl rfl)
theorem dX9_learns_195 : decode cX9_learns 195 = .ok (.istore 8, 2) := dk_54 8 (dk_at dksX9_learns_8 6 rfl rfl)
theorem dX9_learns_197 : decode cX9_learns 197 = .ok (.iload 8, 2) := dk_21 8 (dk_at dksX9_learns_8 8 rfl rfl)
theorem dX9_learns_199 : decode cX9_learns 199 = .ok (.sipush 360, 3) := dk_17 1 104 (dk_at dksX9_learns_8 10 rfl rfl)
theorem dX9_learns_202 : decode cX9_learns 202 = .ok (.if_icmp .ge 17, 3) := dk_162 0 17 (dk_at dksX9_learns_8 13 rfl rfl)
theorem dX9_learns_205 : decode cX9_learns 205 = .ok (.aload_n 0, 1) := dk_42 (dk_at dksX9_learns_8 16 rfl rfl)
theorem dX9_learns_206 : decode cX9_learns 206 = .ok (.getfield 132, 3) := dk_180 0 132 (dk_at dksX9_learns_8 17 rfl rfl)
theorem dX9_learns_209 : decode cX9_learns 209 = .ok (.iload 8, 2) := dk_21 8 (dk_at dksX9_learns_8 20 rfl rfl)
theorem dX9_learns_211 : decode cX9_learns 211 = .ok (.iconst 0, 1) := dk_3 (dk_at dksX9_learns_8 22 rfl rfl)
theorem dX9_learns_212 : decode cX9_learns 212 = .ok (.iastore, 1) := dk_79 (dk_at dksX9_learns_8 23 rfl rfl)
theorem dX9_learns_213 : decode cX9_learns 213 = .ok (.iinc 8 1, 3) := dk_132 8 1 (dk_at dksX9_learns_9 0 rfl rfl)
theorem dX9_learns_216 : decode cX9_learns 216 = .ok (.goto (-19), 3) := dk_167 255 237 (dk_at dksX9_learns_9 3 rfl rfl)
theorem dX9_learns_219 : decode cX9_learns 219 = .ok (.iconst 1, 1) := dk_4 (dk_at dksX9_learns_9 6 rfl rfl)
theorem dX9_learns_220 : decode cX9_learns 220 = .ok (.istore 8, 2) := dk_54 8 (dk_at dksX9_learns_9 7 rfl rfl)
theorem dX9_learns_222 : decode cX9_learns 222 = .ok (.iconst 0, 1) := dk_3 (dk_at dksX9_learns_9 9 rfl rfl)
theorem dX9_learns_223 : decode cX9_learns 223 = .ok (.istore 9, 2) := dk_54 9 (dk_at dksX9_learns_9 10 rfl rfl)
theorem dX9_learns_225 : decode cX9_learns 225 = .ok (.iload 9, 2) := dk_21 9 (dk_at dksX9_learns_9 12 rfl rfl)
theorem dX9_learns_227 : decode cX9_learns 227 = .ok (.iconst 1, 1) := dk_4 (dk_at dksX9_learns_9 14 rfl rfl)
theorem dX9_learns_228 : decode cX9_learns 228 = .ok (.aload_n 0, 1) := dk_42 (dk_at dksX9_learns_9 15 rfl rfl)
theorem dX9_learns_229 : decode cX9_learns 229 = .ok (.getfield 13, 3) := dk_180 0 13 (dk_at dksX9_learns_9 16 rfl rfl)
theorem dX9_learns_232 : decode cX9_learns 232 = .ok (.iconst 0, 1) := dk_3 (dk_at dksX9_learns_9 19 rfl rfl)
theorem dX9_learns_233 : decode cX9_learns 233 = .ok (.iaload, 1) := dk_46 (dk_at dksX9_learns_9 20 rfl rfl)
theorem dX9_learns_234 : decode cX9_learns 234 = .ok (.ishl, 1) := dk_120 (dk_at dksX9_learns_9 21 rfl rfl)
theorem dX9_learns_235 : decode cX9_learns 235 = .ok (.if_icmp .ge 90, 3) := dk_162 0 90 (dk_at dksX9_learns_10 0 rfl rfl)
theorem dX9_learns_238 : decode cX9_learns 238 = .ok (.lload 6, 2) := dk_22 6 (dk_at dksX9_learns_10 3 rfl rfl)
theorem dX9_learns_240 : decode cX9_learns 240 = .ok (.iload 9, 2) := dk_21 9 (dk_at dksX9_learns_10 5 rfl rfl)
theorem dX9_learns_242 : decode cX9_learns 242 = .ok (.invokestatic 350, 3) := dk_184 1 94 (dk_at dksX9_learns_10 7 rfl rfl)
theorem dX9_learns_245 : decode cX9_learns 245 = .ok (.ifCond .ne 6, 3) := dk_154 0 6 (dk_at dksX9_learns_10 10 rfl rfl)
theorem dX9_learns_248 : decode cX9_learns 248 = .ok (.goto 71, 3) := dk_167 0 71 (dk_at dksX9_learns_10 13 rfl rfl)
theorem dX9_learns_251 : decode cX9_learns 251 = .ok (.aload_n 0, 1) := dk_42 (dk_at dksX9_learns_10 16 rfl rfl)
theorem dX9_learns_252 : decode cX9_learns 252 = .ok (.iload 5, 2) := dk_21 5 (dk_at dksX9_learns_10 17 rfl rfl)
theorem dX9_learns_254 : decode cX9_learns 254 = .ok (.iload 4, 2) := dk_21 4 (dk_at dksX9_learns_10 19 rfl rfl)
theorem dX9_learns_256 : decode cX9_learns 256 = .ok (.aload_n 0, 1) := dk_42 (dk_at dksX9_learns_10 21 rfl rfl)
theorem dX9_learns_257 : decode cX9_learns 257 = .ok (.getfield 35, 3) := dk_180 0 35 (dk_at dksX9_learns_11 0 rfl rfl)
theorem dX9_learns_260 : decode cX9_learns 260 = .ok (.iload 5, 2) := dk_21 5 (dk_at dksX9_learns_11 3 rfl rfl)
theorem dX9_learns_262 : decode cX9_learns 262 = .ok (.iaload, 1) := dk_46 (dk_at dksX9_learns_11 5 rfl rfl)
theorem dX9_learns_263 : decode cX9_learns 263 = .ok (.iadd, 1) := dk_96 (dk_at dksX9_learns_11 6 rfl rfl)
theorem dX9_learns_264 : decode cX9_learns 264 = .ok (.iload 9, 2) := dk_21 9 (dk_at dksX9_learns_11 7 rfl rfl)
theorem dX9_learns_266 : decode cX9_learns 266 = .ok (.invokevirtual 380, 3) := dk_182 1 124 (dk_at dksX9_learns_11 9 rfl rfl)
theorem dX9_learns_269 : decode cX9_learns 269 = .ok (.istore 10, 2) := dk_54 10 (dk_at dksX9_learns_11 12 rfl rfl)
theorem dX9_learns_271 : decode cX9_learns 271 = .ok (.aload_n 0, 1) := dk_42 (dk_at dksX9_learns_11 14 rfl rfl)
theorem dX9_learns_272 : decode cX9_learns 272 = .ok (.getfield 132, 3) := dk_180 0 132 (dk_at dksX9_learns_11 15 rfl rfl)
theorem dX9_learns_275 : decode cX9_learns 275 = .ok (.iload 10, 2) := dk_21 10 (dk_at dksX9_learns_11 18 rfl rfl)
theorem dX9_learns_277 : decode cX9_learns 277 = .ok (.dup2, 1) := dk_92 (dk_at dksX9_learns_11 20 rfl rfl)
theorem dX9_learns_278 : decode cX9_learns 278 = .ok (.iaload, 1) := dk_46 (dk_at dksX9_learns_11 21 rfl rfl)
theorem dX9_learns_279 : decode cX9_learns 279 = .ok (.iload 9, 2) := dk_21 9 (dk_at dksX9_learns_11 22 rfl rfl)
theorem dX9_learns_281 : decode cX9_learns 281 = .ok (.iload_n 2, 1) := dk_28 (dk_at dksX9_learns_12 0 rfl rfl)
theorem dX9_learns_282 : decode cX9_learns 282 = .ok (.ishr, 1) := dk_122 (dk_at dksX9_learns_12 1 rfl rfl)
theorem dX9_learns_283 : decode cX9_learns 283 = .ok (.iconst 1, 1) := dk_4 (dk_at dksX9_learns_12 2 rfl rfl)
theorem dX9_learns_284 : decode cX9_learns 284 = .ok (.iand, 1) := dk_126 (dk_at dksX9_learns_12 3 rfl rfl)
theorem dX9_learns_285 : decode cX9_learns 285 = .ok (.iconst 1, 1) := dk_4 (dk_at dksX9_learns_12 4 rfl rfl)
theorem dX9_learns_286 : decode cX9_learns 286 = .ok (.if_icmp .ne 7, 3) := dk_160 0 7 (dk_at dksX9_learns_12 5 rfl rfl)
theorem dX9_learns_289 : decode cX9_learns 289 = .ok (.iconst 1, 1) := dk_4 (dk_at dksX9_learns_12 8 rfl rfl)
theorem dX9_learns_290 : decode cX9_learns 290 = .ok (.goto 4, 3) := dk_167 0 4 (dk_at dksX9_learns_12 9 rfl rfl)
theorem dX9_learns_293 : decode cX9_learns 293 = .ok (.iconst 2, 1) := dk_5 (dk_at dksX9_learns_12 12 rfl rfl)
theorem dX9_learns_294 : decode cX9_learns 294 = .ok (.ior, 1) := dk_128 (dk_at dksX9_learns_12 13 rfl rfl)
theorem dX9_learns_295 : decode cX9_learns 295 = .ok (.iastore, 1) := dk_79 (dk_at dksX9_learns_12 14 rfl rfl)
theorem dX9_learns_296 : decode cX9_learns 296 = .ok (.iload 8, 2) := dk_21 8 (dk_at dksX9_learns_12 15 rfl rfl)
theorem dX9_learns_298 : decode cX9_learns 298 = .ok (.ifCond .eq 18, 3) := dk_153 0 18 (dk_at dksX9_learns_12 17 rfl rfl)
theorem dX9_learns_301 : decode cX9_learns 301 = .ok (.aload_n 0, 1) := dk_42 (dk_at dksX9_learns_12 20 rfl rfl)
theorem dX9_learns_302 : decode cX9_learns 302 = .ok (.getfield 132, 3) := dk_180 0 132 (dk_at dksX9_learns_12 21 rfl rfl)
theorem dX9_learns_305 : decode cX9_learns 305 = .ok (.iload 10, 2) := dk_21 10 (dk_at dksX9_learns_13 0 rfl rfl)
theorem dX9_learns_307 : decode cX9_learns 307 = .ok (.iaload, 1) := dk_46 (dk_at dksX9_learns_13 2 rfl rfl)
theorem dX9_learns_308 : decode cX9_learns 308 = .ok (.iconst 3, 1) := dk_6 (dk_at dksX9_learns_13 3 rfl rfl)
theorem dX9_learns_309 : decode cX9_learns 309 = .ok (.if_icmp .ge 7, 3) := dk_162 0 7 (dk_at dksX9_learns_13 4 rfl rfl)
theorem dX9_learns_312 : decode cX9_learns 312 = .ok (.iconst 1, 1) := dk_4 (dk_at dksX9_learns_13 7 rfl rfl)
theorem dX9_learns_313 : decode cX9_learns 313 = .ok (.goto 4, 3) := dk_167 0 4 (dk_at dksX9_learns_13 8 rfl rfl)
theorem dX9_learns_316 : decode cX9_learns 316 = .ok (.iconst 0, 1) := dk_3 (dk_at dksX9_learns_13 11 rfl rfl)
theorem dX9_learns_317 : decode cX9_learns 317 = .ok (.istore 8, 2) := dk_54 8 (dk_at dksX9_learns_13 12 rfl rfl)
theorem dX9_learns_319 : decode cX9_learns 319 = .ok (.iinc 9 1, 3) := dk_132 9 1 (dk_at dksX9_learns_13 14 rfl rfl)
theorem dX9_learns_322 : decode cX9_learns 322 = .ok (.goto (-97), 3) := dk_167 255 159 (dk_at dksX9_learns_13 17 rfl rfl)
theorem dX9_learns_325 : decode cX9_learns 325 = .ok (.iload 8, 2) := dk_21 8 (dk_at dksX9_learns_13 20 rfl rfl)
theorem dX9_learns_327 : decode cX9_learns 327 = .ok (.ifCond .eq 7, 3) := dk_153 0 7 (dk_at dksX9_learns_14 0 rfl rfl)
theorem dX9_learns_330 : decode cX9_learns 330 = .ok (.iconst 1, 1) := dk_4 (dk_at dksX9_learns_14 3 rfl rfl)
theorem dX9_learns_331 : decode cX9_learns 331 = .ok (.goto 4, 3) := dk_167 0 4 (dk_at dksX9_learns_14 4 rfl rfl)
theorem dX9_learns_334 : decode cX9_learns 334 = .ok (.iconst 0, 1) := dk_3 (dk_at dksX9_learns_14 7 rfl rfl)
theorem dX9_learns_335 : decode cX9_learns 335 = .ok (.ireturn, 1) := dk_172 (dk_at dksX9_learns_14 8 rfl rfl)
abbrev cX9_judged : ByteArray := prog_28_method_75_code
def yX9_judged : MethodName := ⟨RX9, "judged", "()I"⟩
def dkwX9_judged_1 : List UInt8 := [180, 1, 78, 182, 1, 130, 154, 0, 5, 27, 172, 132, 1, 1, 167, 255, 231, 2, 172]
abbrev dktX9_judged_1 : List UInt8 := dkwX9_judged_1 ++ []
def dkwX9_judged_0 : List UInt8 := [42, 3, 181, 0, 162, 42, 3, 182, 1, 118, 3, 60, 27, 42, 180, 1, 72, 162, 0, 23, 42, 27, 42]
abbrev dktX9_judged_0 : List UInt8 := dkwX9_judged_0 ++ dktX9_judged_1
theorem dksX9_judged_0 : cX9_judged.data.toList.drop 0 = dktX9_judged_0 := by decide +kernel
theorem dksX9_judged_1 : cX9_judged.data.toList.drop 23 = dktX9_judged_1 := dk_seg dksX9_judged_0 23 rfl rfl
theorem dX9_judged_0 : decode cX9_judged 0 = .ok (.aload_n 0, 1) := dk_42 (dk_at dksX9_judged_0 0 rfl rfl)
theorem dX9_judged_1 : decode cX9_judged 1 = .ok (.iconst 0, 1) := dk_3 (dk_at dksX9_judged_0 1 rfl rfl)
theorem dX9_judged_2 : decode cX9_judged 2 = .ok (.putfield 162, 3) := dk_181 0 162 (dk_at dksX9_judged_0 2 rfl rfl)
theorem dX9_judged_5 : decode cX9_judged 5 = .ok (.aload_n 0, 1) := dk_42 (dk_at dksX9_judged_0 5 rfl rfl)
theorem dX9_judged_6 : decode cX9_judged 6 = .ok (.iconst 0, 1) := dk_3 (dk_at dksX9_judged_0 6 rfl rfl)
theorem dX9_judged_7 : decode cX9_judged 7 = .ok (.invokevirtual 374, 3) := dk_182 1 118 (dk_at dksX9_judged_0 7 rfl rfl)
theorem dX9_judged_10 : decode cX9_judged 10 = .ok (.iconst 0, 1) := dk_3 (dk_at dksX9_judged_0 10 rfl rfl)
theorem dX9_judged_11 : decode cX9_judged 11 = .ok (.istore_n 1, 1) := dk_60 (dk_at dksX9_judged_0 11 rfl rfl)
theorem dX9_judged_12 : decode cX9_judged 12 = .ok (.iload_n 1, 1) := dk_27 (dk_at dksX9_judged_0 12 rfl rfl)
theorem dX9_judged_13 : decode cX9_judged 13 = .ok (.aload_n 0, 1) := dk_42 (dk_at dksX9_judged_0 13 rfl rfl)
theorem dX9_judged_14 : decode cX9_judged 14 = .ok (.getfield 328, 3) := dk_180 1 72 (dk_at dksX9_judged_0 14 rfl rfl)
theorem dX9_judged_17 : decode cX9_judged 17 = .ok (.if_icmp .ge 23, 3) := dk_162 0 23 (dk_at dksX9_judged_0 17 rfl rfl)
theorem dX9_judged_20 : decode cX9_judged 20 = .ok (.aload_n 0, 1) := dk_42 (dk_at dksX9_judged_0 20 rfl rfl)
theorem dX9_judged_21 : decode cX9_judged 21 = .ok (.iload_n 1, 1) := dk_27 (dk_at dksX9_judged_0 21 rfl rfl)
theorem dX9_judged_22 : decode cX9_judged 22 = .ok (.aload_n 0, 1) := dk_42 (dk_at dksX9_judged_0 22 rfl rfl)
theorem dX9_judged_23 : decode cX9_judged 23 = .ok (.getfield 334, 3) := dk_180 1 78 (dk_at dksX9_judged_1 0 rfl rfl)
theorem dX9_judged_26 : decode cX9_judged 26 = .ok (.invokevirtual 386, 3) := dk_182 1 130 (dk_at dksX9_judged_1 3 rfl rfl)
theorem dX9_judged_29 : decode cX9_judged 29 = .ok (.ifCond .ne 5, 3) := dk_154 0 5 (dk_at dksX9_judged_1 6 rfl rfl)
theorem dX9_judged_32 : decode cX9_judged 32 = .ok (.iload_n 1, 1) := dk_27 (dk_at dksX9_judged_1 9 rfl rfl)
theorem dX9_judged_33 : decode cX9_judged 33 = .ok (.ireturn, 1) := dk_172 (dk_at dksX9_judged_1 10 rfl rfl)
theorem dX9_judged_34 : decode cX9_judged 34 = .ok (.iinc 1 1, 3) := dk_132 1 1 (dk_at dksX9_judged_1 11 rfl rfl)
theorem dX9_judged_37 : decode cX9_judged 37 = .ok (.goto (-25), 3) := dk_167 255 231 (dk_at dksX9_judged_1 14 rfl rfl)
theorem dX9_judged_40 : decode cX9_judged 40 = .ok (.iconst (-1), 1) := dk_2 (dk_at dksX9_judged_1 17 rfl rfl)
theorem dX9_judged_41 : decode cX9_judged 41 = .ok (.ireturn, 1) := dk_172 (dk_at dksX9_judged_1 18 rfl rfl)
abbrev cX9_turned : ByteArray := prog_28_method_76_code
def yX9_turned : MethodName := ⟨RX9, "turned", "(II)I"⟩
def dkwX9_turned_3 : List UInt8 := [21, 6, 54, 4, 132, 5, 1, 167, 255, 215, 29, 172]
abbrev dktX9_turned_3 : List UInt8 := dkwX9_turned_3 ++ []
def dkwX9_turned_2 : List UInt8 := [180, 1, 78, 182, 1, 112, 54, 6, 29, 21, 6, 21, 4, 159, 0, 7, 4, 167, 0, 4, 3, 96, 62]
abbrev dktX9_turned_2 : List UInt8 := dkwX9_turned_2 ++ dktX9_turned_3
def dkwX9_turned_1 : List UInt8 := [182, 1, 118, 3, 62, 2, 54, 4, 3, 54, 5, 21, 5, 28, 163, 0, 41, 42, 27, 21, 5, 42]
abbrev dktX9_turned_1 : List UInt8 := dkwX9_turned_1 ++ dktX9_turned_2
def dkwX9_turned_0 : List UInt8 := [42, 3, 181, 0, 162, 42, 27, 182, 1, 115, 153, 0, 10, 28, 184, 1, 84, 154, 0, 5, 2, 172, 42, 3]
abbrev dktX9_turned_0 : List UInt8 := dkwX9_turned_0 ++ dktX9_turned_1
theorem dksX9_turned_0 : cX9_turned.data.toList.drop 0 = dktX9_turned_0 := by decide +kernel
theorem dksX9_turned_1 : cX9_turned.data.toList.drop 24 = dktX9_turned_1 := dk_seg dksX9_turned_0 24 rfl rfl
theorem dksX9_turned_2 : cX9_turned.data.toList.drop 46 = dktX9_turned_2 := dk_seg dksX9_turned_1 22 rfl rfl
theorem dksX9_turned_3 : cX9_turned.data.toList.drop 69 = dktX9_turned_3 := dk_seg dksX9_turned_2 23 rfl rfl
theorem dX9_turned_0 : decode cX9_turned 0 = .ok (.aload_n 0, 1) := dk_42 (dk_at dksX9_turned_0 0 rfl rfl)
theorem dX9_turned_1 : decode cX9_turned 1 = .ok (.iconst 0, 1) := dk_3 (dk_at dksX9_turned_0 1 rfl rfl)
theorem dX9_turned_2 : decode cX9_turned 2 = .ok (.putfield 162, 3) := dk_181 0 162 (dk_at dksX9_turned_0 2 rfl rfl)
theorem dX9_turned_5 : decode cX9_turned 5 = .ok (.aload_n 0, 1) := dk_42 (dk_at dksX9_turned_0 5 rfl rfl)
theorem dX9_turned_6 : decode cX9_turned 6 = .ok (.iload_n 1, 1) := dk_27 (dk_at dksX9_turned_0 6 rfl rfl)
theorem dX9_turned_7 : decode cX9_turned 7 = .ok (.invokevirtual 371, 3) := dk_182 1 115 (dk_at dksX9_turned_0 7 rfl rfl)
theorem dX9_turned_10 : decode cX9_turned 10 = .ok (.ifCond .eq 10, 3) := dk_153 0 10 (dk_at dksX9_turned_0 10 rfl rfl)
theorem dX9_turned_13 : decode cX9_turned 13 = .ok (.iload_n 2, 1) := dk_28 (dk_at dksX9_turned_0 13 rfl rfl)
theorem dX9_turned_14 : decode cX9_turned 14 = .ok (.invokestatic 340, 3) := dk_184 1 84 (dk_at dksX9_turned_0 14 rfl rfl)
theorem dX9_turned_17 : decode cX9_turned 17 = .ok (.ifCond .ne 5, 3) := dk_154 0 5 (dk_at dksX9_turned_0 17 rfl rfl)
theorem dX9_turned_20 : decode cX9_turned 20 = .ok (.iconst (-1), 1) := dk_2 (dk_at dksX9_turned_0 20 rfl rfl)
theorem dX9_turned_21 : decode cX9_turned 21 = .ok (.ireturn, 1) := dk_172 (dk_at dksX9_turned_0 21 rfl rfl)
theorem dX9_turned_22 : decode cX9_turned 22 = .ok (.aload_n 0, 1) := dk_42 (dk_at dksX9_turned_0 22 rfl rfl)
theorem dX9_turned_23 : decode cX9_turned 23 = .ok (.iconst 0, 1) := dk_3 (dk_at dksX9_turned_0 23 rfl rfl)
theorem dX9_turned_24 : decode cX9_turned 24 = .ok (.invokevirtual 374, 3) := dk_182 1 118 (dk_at dksX9_turned_1 0 rfl rfl)
theorem dX9_turned_27 : decode cX9_turned 27 = .ok (.iconst 0, 1) := dk_3 (dk_at dksX9_turned_1 3 rfl rfl)
theorem dX9_turned_28 : decode cX9_turned 28 = .ok (.istore_n 3, 1) := dk_62 (dk_at dksX9_turned_1 4 rfl rfl)
theorem dX9_turned_29 : decode cX9_turned 29 = .ok (.iconst (-1), 1) := dk_2 (dk_at dksX9_turned_1 5 rfl rfl)
theorem dX9_turned_30 : decode cX9_turned 30 = .ok (.istore 4, 2) := dk_54 4 (dk_at dksX9_turned_1 6 rfl rfl)
theorem dX9_turned_32 : decode cX9_turned 32 = .ok (.iconst 0, 1) := dk_3 (dk_at dksX9_turned_1 8 rfl rfl)
theorem dX9_turned_33 : decode cX9_turned 33 = .ok (.istore 5, 2) := dk_54 5 (dk_at dksX9_turned_1 9 rfl rfl)
theorem dX9_turned_35 : decode cX9_turned 35 = .ok (.iload 5, 2) := dk_21 5 (dk_at dksX9_turned_1 11 rfl rfl)
theorem dX9_turned_37 : decode cX9_turned 37 = .ok (.iload_n 2, 1) := dk_28 (dk_at dksX9_turned_1 13 rfl rfl)
theorem dX9_turned_38 : decode cX9_turned 38 = .ok (.if_icmp .gt 41, 3) := dk_163 0 41 (dk_at dksX9_turned_1 14 rfl rfl)
theorem dX9_turned_41 : decode cX9_turned 41 = .ok (.aload_n 0, 1) := dk_42 (dk_at dksX9_turned_1 17 rfl rfl)
theorem dX9_turned_42 : decode cX9_turned 42 = .ok (.iload_n 1, 1) := dk_27 (dk_at dksX9_turned_1 18 rfl rfl)
theorem dX9_turned_43 : decode cX9_turned 43 = .ok (.iload 5, 2) := dk_21 5 (dk_at dksX9_turned_1 19 rfl rfl)
theorem dX9_turned_45 : decode cX9_turned 45 = .ok (.aload_n 0, 1) := dk_42 (dk_at dksX9_turned_1 21 rfl rfl)
theorem dX9_turned_46 : decode cX9_turned 46 = .ok (.getfield 334, 3) := dk_180 1 78 (dk_at dksX9_turned_2 0 rfl rfl)
theorem dX9_turned_49 : decode cX9_turned 49 = .ok (.invokevirtual 368, 3) := dk_182 1 112 (dk_at dksX9_turned_2 3 rfl rfl)
theorem dX9_turned_52 : decode cX9_turned 52 = .ok (.istore 6, 2) := dk_54 6 (dk_at dksX9_turned_2 6 rfl rfl)
theorem dX9_turned_54 : decode cX9_turned 54 = .ok (.iload_n 3, 1) := dk_29 (dk_at dksX9_turned_2 8 rfl rfl)
theorem dX9_turned_55 : decode cX9_turned 55 = .ok (.iload 6, 2) := dk_21 6 (dk_at dksX9_turned_2 9 rfl rfl)
theorem dX9_turned_57 : decode cX9_turned 57 = .ok (.iload 4, 2) := dk_21 4 (dk_at dksX9_turned_2 11 rfl rfl)
theorem dX9_turned_59 : decode cX9_turned 59 = .ok (.if_icmp .eq 7, 3) := dk_159 0 7 (dk_at dksX9_turned_2 13 rfl rfl)
theorem dX9_turned_62 : decode cX9_turned 62 = .ok (.iconst 1, 1) := dk_4 (dk_at dksX9_turned_2 16 rfl rfl)
theorem dX9_turned_63 : decode cX9_turned 63 = .ok (.goto 4, 3) := dk_167 0 4 (dk_at dksX9_turned_2 17 rfl rfl)
theorem dX9_turned_66 : decode cX9_turned 66 = .ok (.iconst 0, 1) := dk_3 (dk_at dksX9_turned_2 20 rfl rfl)
theorem dX9_turned_67 : decode cX9_turned 67 = .ok (.iadd, 1) := dk_96 (dk_at dksX9_turned_2 21 rfl rfl)
theorem dX9_turned_68 : decode cX9_turned 68 = .ok (.istore_n 3, 1) := dk_62 (dk_at dksX9_turned_2 22 rfl rfl)
theorem dX9_turned_69 : decode cX9_turned 69 = .ok (.iload 6, 2) := dk_21 6 (dk_at dksX9_turned_3 0 rfl rfl)
theorem dX9_turned_71 : decode cX9_turned 71 = .ok (.istore 4, 2) := dk_54 4 (dk_at dksX9_turned_3 2 rfl rfl)
theorem dX9_turned_73 : decode cX9_turned 73 = .ok (.iinc 5 1, 3) := dk_132 5 1 (dk_at dksX9_turned_3 4 rfl rfl)
theorem dX9_turned_76 : decode cX9_turned 76 = .ok (.goto (-41), 3) := dk_167 255 215 (dk_at dksX9_turned_3 7 rfl rfl)
theorem dX9_turned_79 : decode cX9_turned 79 = .ok (.iload_n 3, 1) := dk_29 (dk_at dksX9_turned_3 10 rfl rfl)
theorem dX9_turned_80 : decode cX9_turned 80 = .ok (.ireturn, 1) := dk_172 (dk_at dksX9_turned_3 11 rfl rfl)
abbrev cX9_pointed : ByteArray := prog_28_method_77_code
def yX9_pointed : MethodName := ⟨RX9, "pointed", "(IIII)I"⟩
def dkwX9_pointed_3 : List UInt8 := [3, 96, 54, 5, 132, 6, 1, 167, 255, 221, 21, 5, 172]
abbrev dktX9_pointed_3 : List UInt8 := dkwX9_pointed_3 ++ []
def dkwX9_pointed_2 : List UInt8 := [163, 0, 34, 21, 5, 42, 27, 21, 6, 42, 180, 1, 78, 182, 1, 112, 28, 160, 0, 7, 4, 167, 0, 4]
abbrev dktX9_pointed_2 : List UInt8 := dkwX9_pointed_2 ++ dktX9_pointed_3
def dkwX9_pointed_1 : List UInt8 := [182, 1, 81, 154, 0, 5, 2, 172, 42, 3, 182, 1, 118, 3, 54, 5, 29, 54, 6, 21, 6, 21, 4]
abbrev dktX9_pointed_1 : List UInt8 := dkwX9_pointed_1 ++ dktX9_pointed_2
def dkwX9_pointed_0 : List UInt8 := [42, 3, 181, 0, 162, 42, 27, 29, 21, 4, 182, 1, 170, 153, 0, 16, 28, 2, 159, 0, 13, 42, 28]
abbrev dktX9_pointed_0 : List UInt8 := dkwX9_pointed_0 ++ dktX9_pointed_1
theorem dksX9_pointed_0 : cX9_pointed.data.toList.drop 0 = dktX9_pointed_0 := by decide +kernel
theorem dksX9_pointed_1 : cX9_pointed.data.toList.drop 23 = dktX9_pointed_1 := dk_seg dksX9_pointed_0 23 rfl rfl
theorem dksX9_pointed_2 : cX9_pointed.data.toList.drop 46 = dktX9_pointed_2 := dk_seg dksX9_pointed_1 23 rfl rfl
theorem dksX9_pointed_3 : cX9_pointed.data.toList.drop 70 = dktX9_pointed_3 := dk_seg dksX9_pointed_2 24 rfl rfl
theorem dX9_pointed_0 : decode cX9_pointed 0 = .ok (.aload_n 0, 1) := dk_42 (dk_at dksX9_pointed_0 0 rfl rfl)
theorem dX9_pointed_1 : decode cX9_pointed 1 = .ok (.iconst 0, 1) := dk_3 (dk_at dksX9_pointed_0 1 rfl rfl)
theorem dX9_pointed_2 : decode cX9_pointed 2 = .ok (.putfield 162, 3) := dk_181 0 162 (dk_at dksX9_pointed_0 2 rfl rfl)
theorem dX9_pointed_5 : decode cX9_pointed 5 = .ok (.aload_n 0, 1) := dk_42 (dk_at dksX9_pointed_0 5 rfl rfl)
theorem dX9_pointed_6 : decode cX9_pointed 6 = .ok (.iload_n 1, 1) := dk_27 (dk_at dksX9_pointed_0 6 rfl rfl)
theorem dX9_pointed_7 : decode cX9_pointed 7 = .ok (.iload_n 3, 1) := dk_29 (dk_at dksX9_pointed_0 7 rfl rfl)
theorem dX9_pointed_8 : decode cX9_pointed 8 = .ok (.iload 4, 2) := dk_21 4 (dk_at dksX9_pointed_0 8 rfl rfl)
theorem dX9_pointed_10 : decode cX9_pointed 10 = .ok (.invokevirtual 426, 3) := dk_182 1 170 (dk_at dksX9_pointed_0 10 rfl rfl)
theorem dX9_pointed_13 : decode cX9_pointed 13 = .ok (.ifCond .eq 16, 3) := dk_153 0 16 (dk_at dksX9_pointed_0 13 rfl rfl)
theorem dX9_pointed_16 : decode cX9_pointed 16 = .ok (.iload_n 2, 1) := dk_28 (dk_at dksX9_pointed_0 16 rfl rfl)
theorem dX9_pointed_17 : decode cX9_pointed 17 = .ok (.iconst (-1), 1) := dk_2 (dk_at dksX9_pointed_0 17 rfl rfl)
theorem dX9_pointed_18 : decode cX9_pointed 18 = .ok (.if_icmp .eq 13, 3) := dk_159 0 13 (dk_at dksX9_pointed_0 18 rfl rfl)
theorem dX9_pointed_21 : decode cX9_pointed 21 = .ok (.aload_n 0, 1) := dk_42 (dk_at dksX9_pointed_0 21 rfl rfl)
theorem dX9_pointed_22 : decode cX9_pointed 22 = .ok (.iload_n 2, 1) := dk_28 (dk_at dksX9_pointed_0 22 rfl rfl)
theorem dX9_pointed_23 : decode cX9_pointed 23 = .ok (.invokevirtual 337, 3) := dk_182 1 81 (dk_at dksX9_pointed_1 0 rfl rfl)
theorem dX9_pointed_26 : decode cX9_pointed 26 = .ok (.ifCond .ne 5, 3) := dk_154 0 5 (dk_at dksX9_pointed_1 3 rfl rfl)
theorem dX9_pointed_29 : decode cX9_pointed 29 = .ok (.iconst (-1), 1) := dk_2 (dk_at dksX9_pointed_1 6 rfl rfl)
theorem dX9_pointed_30 : decode cX9_pointed 30 = .ok (.ireturn, 1) := dk_172 (dk_at dksX9_pointed_1 7 rfl rfl)
theorem dX9_pointed_31 : decode cX9_pointed 31 = .ok (.aload_n 0, 1) := dk_42 (dk_at dksX9_pointed_1 8 rfl rfl)
theorem dX9_pointed_32 : decode cX9_pointed 32 = .ok (.iconst 0, 1) := dk_3 (dk_at dksX9_pointed_1 9 rfl rfl)
theorem dX9_pointed_33 : decode cX9_pointed 33 = .ok (.invokevirtual 374, 3) := dk_182 1 118 (dk_at dksX9_pointed_1 10 rfl rfl)
theorem dX9_pointed_36 : decode cX9_pointed 36 = .ok (.iconst 0, 1) := dk_3 (dk_at dksX9_pointed_1 13 rfl rfl)
theorem dX9_pointed_37 : decode cX9_pointed 37 = .ok (.istore 5, 2) := dk_54 5 (dk_at dksX9_pointed_1 14 rfl rfl)
theorem dX9_pointed_39 : decode cX9_pointed 39 = .ok (.iload_n 3, 1) := dk_29 (dk_at dksX9_pointed_1 16 rfl rfl)
theorem dX9_pointed_40 : decode cX9_pointed 40 = .ok (.istore 6, 2) := dk_54 6 (dk_at dksX9_pointed_1 17 rfl rfl)
theorem dX9_pointed_42 : decode cX9_pointed 42 = .ok (.iload 6, 2) := dk_21 6 (dk_at dksX9_pointed_1 19 rfl rfl)
theorem dX9_pointed_44 : decode cX9_pointed 44 = .ok (.iload 4, 2) := dk_21 4 (dk_at dksX9_pointed_1 21 rfl rfl)
theorem dX9_pointed_46 : decode cX9_pointed 46 = .ok (.if_icmp .gt 34, 3) := dk_163 0 34 (dk_at dksX9_pointed_2 0 rfl rfl)
theorem dX9_pointed_49 : decode cX9_pointed 49 = .ok (.iload 5, 2) := dk_21 5 (dk_at dksX9_pointed_2 3 rfl rfl)
theorem dX9_pointed_51 : decode cX9_pointed 51 = .ok (.aload_n 0, 1) := dk_42 (dk_at dksX9_pointed_2 5 rfl rfl)
theorem dX9_pointed_52 : decode cX9_pointed 52 = .ok (.iload_n 1, 1) := dk_27 (dk_at dksX9_pointed_2 6 rfl rfl)
theorem dX9_pointed_53 : decode cX9_pointed 53 = .ok (.iload 6, 2) := dk_21 6 (dk_at dksX9_pointed_2 7 rfl rfl)
theorem dX9_pointed_55 : decode cX9_pointed 55 = .ok (.aload_n 0, 1) := dk_42 (dk_at dksX9_pointed_2 9 rfl rfl)
theorem dX9_pointed_56 : decode cX9_pointed 56 = .ok (.getfield 334, 3) := dk_180 1 78 (dk_at dksX9_pointed_2 10 rfl rfl)
theorem dX9_pointed_59 : decode cX9_pointed 59 = .ok (.invokevirtual 368, 3) := dk_182 1 112 (dk_at dksX9_pointed_2 13 rfl rfl)
theorem dX9_pointed_62 : decode cX9_pointed 62 = .ok (.iload_n 2, 1) := dk_28 (dk_at dksX9_pointed_2 16 rfl rfl)
theorem dX9_pointed_63 : decode cX9_pointed 63 = .ok (.if_icmp .ne 7, 3) := dk_160 0 7 (dk_at dksX9_pointed_2 17 rfl rfl)
theorem dX9_pointed_66 : decode cX9_pointed 66 = .ok (.iconst 1, 1) := dk_4 (dk_at dksX9_pointed_2 20 rfl rfl)
theorem dX9_pointed_67 : decode cX9_pointed 67 = .ok (.goto 4, 3) := dk_167 0 4 (dk_at dksX9_pointed_2 21 rfl rfl)
theorem dX9_pointed_70 : decode cX9_pointed 70 = .ok (.iconst 0, 1) := dk_3 (dk_at dksX9_pointed_3 0 rfl rfl)
theorem dX9_pointed_71 : decode cX9_pointed 71 = .ok (.iadd, 1) := dk_96 (dk_at dksX9_pointed_3 1 rfl rfl)
theorem dX9_pointed_72 : decode cX9_pointed 72 = .ok (.istore 5, 2) := dk_54 5 (dk_at dksX9_pointed_3 2 rfl rfl)
theorem dX9_pointed_74 : decode cX9_pointed 74 = .ok (.iinc 6 1, 3) := dk_132 6 1 (dk_at dksX9_pointed_3 4 rfl rfl)
theorem dX9_pointed_77 : decode cX9_pointed 77 = .ok (.goto (-35), 3) := dk_167 255 221 (dk_at dksX9_pointed_3 7 rfl rfl)
theorem dX9_pointed_80 : decode cX9_pointed 80 = .ok (.iload 5, 2) := dk_21 5 (dk_at dksX9_pointed_3 10 rfl rfl)
theorem dX9_pointed_82 : decode cX9_pointed 82 = .ok (.ireturn, 1) := dk_172 (dk_at dksX9_pointed_3 12 rfl rfl)
abbrev cX9_round : ByteArray := prog_28_method_79_code
def yX9_round : MethodName := ⟨RX9, "round", "(II)I"⟩
def dkwX9_round_3 : List UInt8 := [132, 5, 1, 167, 255, 220, 29, 172]
abbrev dktX9_round_3 : List UInt8 := dkwX9_round_3 ++ []
def dkwX9_round_2 : List UInt8 := [180, 1, 78, 182, 1, 124, 54, 6, 29, 21, 6, 21, 4, 184, 1, 183, 96, 62, 21, 6, 54, 4]
abbrev dktX9_round_2 : List UInt8 := dkwX9_round_2 ++ dktX9_round_3
def dkwX9_round_1 : List UInt8 := [182, 1, 118, 3, 62, 3, 54, 4, 3, 54, 5, 21, 5, 28, 163, 0, 36, 42, 27, 21, 5, 42]
abbrev dktX9_round_1 : List UInt8 := dkwX9_round_1 ++ dktX9_round_2
def dkwX9_round_0 : List UInt8 := [42, 3, 181, 0, 162, 42, 27, 182, 1, 115, 153, 0, 10, 28, 184, 1, 84, 154, 0, 5, 2, 172, 42, 3]
abbrev dktX9_round_0 : List UInt8 := dkwX9_round_0 ++ dktX9_round_1
theorem dksX9_round_0 : cX9_round.data.toList.drop 0 = dktX9_round_0 := by decide +kernel
theorem dksX9_round_1 : cX9_round.data.toList.drop 24 = dktX9_round_1 := dk_seg dksX9_round_0 24 rfl rfl
theorem dksX9_round_2 : cX9_round.data.toList.drop 46 = dktX9_round_2 := dk_seg dksX9_round_1 22 rfl rfl
theorem dksX9_round_3 : cX9_round.data.toList.drop 68 = dktX9_round_3 := dk_seg dksX9_round_2 22 rfl rfl
theorem dX9_round_0 : decode cX9_round 0 = .ok (.aload_n 0, 1) := dk_42 (dk_at dksX9_round_0 0 rfl rfl)
theorem dX9_round_1 : decode cX9_round 1 = .ok (.iconst 0, 1) := dk_3 (dk_at dksX9_round_0 1 rfl rfl)
theorem dX9_round_2 : decode cX9_round 2 = .ok (.putfield 162, 3) := dk_181 0 162 (dk_at dksX9_round_0 2 rfl rfl)
theorem dX9_round_5 : decode cX9_round 5 = .ok (.aload_n 0, 1) := dk_42 (dk_at dksX9_round_0 5 rfl rfl)
theorem dX9_round_6 : decode cX9_round 6 = .ok (.iload_n 1, 1) := dk_27 (dk_at dksX9_round_0 6 rfl rfl)
theorem dX9_round_7 : decode cX9_round 7 = .ok (.invokevirtual 371, 3) := dk_182 1 115 (dk_at dksX9_round_0 7 rfl rfl)
theorem dX9_round_10 : decode cX9_round 10 = .ok (.ifCond .eq 10, 3) := dk_153 0 10 (dk_at dksX9_round_0 10 rfl rfl)
theorem dX9_round_13 : decode cX9_round 13 = .ok (.iload_n 2, 1) := dk_28 (dk_at dksX9_round_0 13 rfl rfl)
theorem dX9_round_14 : decode cX9_round 14 = .ok (.invokestatic 340, 3) := dk_184 1 84 (dk_at dksX9_round_0 14 rfl rfl)
theorem dX9_round_17 : decode cX9_round 17 = .ok (.ifCond .ne 5, 3) := dk_154 0 5 (dk_at dksX9_round_0 17 rfl rfl)
theorem dX9_round_20 : decode cX9_round 20 = .ok (.iconst (-1), 1) := dk_2 (dk_at dksX9_round_0 20 rfl rfl)
theorem dX9_round_21 : decode cX9_round 21 = .ok (.ireturn, 1) := dk_172 (dk_at dksX9_round_0 21 rfl rfl)
theorem dX9_round_22 : decode cX9_round 22 = .ok (.aload_n 0, 1) := dk_42 (dk_at dksX9_round_0 22 rfl rfl)
theorem dX9_round_23 : decode cX9_round 23 = .ok (.iconst 0, 1) := dk_3 (dk_at dksX9_round_0 23 rfl rfl)
theorem dX9_round_24 : decode cX9_round 24 = .ok (.invokevirtual 374, 3) := dk_182 1 118 (dk_at dksX9_round_1 0 rfl rfl)
theorem dX9_round_27 : decode cX9_round 27 = .ok (.iconst 0, 1) := dk_3 (dk_at dksX9_round_1 3 rfl rfl)
theorem dX9_round_28 : decode cX9_round 28 = .ok (.istore_n 3, 1) := dk_62 (dk_at dksX9_round_1 4 rfl rfl)
theorem dX9_round_29 : decode cX9_round 29 = .ok (.iconst 0, 1) := dk_3 (dk_at dksX9_round_1 5 rfl rfl)
theorem dX9_round_30 : decode cX9_round 30 = .ok (.istore 4, 2) := dk_54 4 (dk_at dksX9_round_1 6 rfl rfl)
theorem dX9_round_32 : decode cX9_round 32 = .ok (.iconst 0, 1) := dk_3 (dk_at dksX9_round_1 8 rfl rfl)
theorem dX9_round_33 : decode cX9_round 33 = .ok (.istore 5, 2) := dk_54 5 (dk_at dksX9_round_1 9 rfl rfl)
theorem dX9_round_35 : decode cX9_round 35 = .ok (.iload 5, 2) := dk_21 5 (dk_at dksX9_round_1 11 rfl rfl)
theorem dX9_round_37 : decode cX9_round 37 = .ok (.iload_n 2, 1) := dk_28 (dk_at dksX9_round_1 13 rfl rfl)
theorem dX9_round_38 : decode cX9_round 38 = .ok (.if_icmp .gt 36, 3) := dk_163 0 36 (dk_at dksX9_round_1 14 rfl rfl)
theorem dX9_round_41 : decode cX9_round 41 = .ok (.aload_n 0, 1) := dk_42 (dk_at dksX9_round_1 17 rfl rfl)
theorem dX9_round_42 : decode cX9_round 42 = .ok (.iload_n 1, 1) := dk_27 (dk_at dksX9_round_1 18 rfl rfl)
theorem dX9_round_43 : decode cX9_round 43 = .ok (.iload 5, 2) := dk_21 5 (dk_at dksX9_round_1 19 rfl rfl)
theorem dX9_round_45 : decode cX9_round 45 = .ok (.aload_n 0, 1) := dk_42 (dk_at dksX9_round_1 21 rfl rfl)
theorem dX9_round_46 : decode cX9_round 46 = .ok (.getfield 334, 3) := dk_180 1 78 (dk_at dksX9_round_2 0 rfl rfl)
theorem dX9_round_49 : decode cX9_round 49 = .ok (.invokevirtual 380, 3) := dk_182 1 124 (dk_at dksX9_round_2 3 rfl rfl)
theorem dX9_round_52 : decode cX9_round 52 = .ok (.istore 6, 2) := dk_54 6 (dk_at dksX9_round_2 6 rfl rfl)
theorem dX9_round_54 : decode cX9_round 54 = .ok (.iload_n 3, 1) := dk_29 (dk_at dksX9_round_2 8 rfl rfl)
theorem dX9_round_55 : decode cX9_round 55 = .ok (.iload 6, 2) := dk_21 6 (dk_at dksX9_round_2 9 rfl rfl)
theorem dX9_round_57 : decode cX9_round 57 = .ok (.iload 4, 2) := dk_21 4 (dk_at dksX9_round_2 11 rfl rfl)
theorem dX9_round_59 : decode cX9_round 59 = .ok (.invokestatic 439, 3) := dk_184 1 183 (dk_at dksX9_round_2 13 rfl rfl)
theorem dX9_round_62 : decode cX9_round 62 = .ok (.iadd, 1) := dk_96 (dk_at dksX9_round_2 16 rfl rfl)
theorem dX9_round_63 : decode cX9_round 63 = .ok (.istore_n 3, 1) := dk_62 (dk_at dksX9_round_2 17 rfl rfl)
theorem dX9_round_64 : decode cX9_round 64 = .ok (.iload 6, 2) := dk_21 6 (dk_at dksX9_round_2 18 rfl rfl)
theorem dX9_round_66 : decode cX9_round 66 = .ok (.istore 4, 2) := dk_54 4 (dk_at dksX9_round_2 20 rfl rfl)
theorem dX9_round_68 : decode cX9_round 68 = .ok (.iinc 5 1, 3) := dk_132 5 1 (dk_at dksX9_round_3 0 rfl rfl)
theorem dX9_round_71 : decode cX9_round 71 = .ok (.goto (-36), 3) := dk_167 255 220 (dk_at dksX9_round_3 3 rfl rfl)
theorem dX9_round_74 : decode cX9_round 74 = .ok (.iload_n 3, 1) := dk_29 (dk_at dksX9_round_3 6 rfl rfl)
theorem dX9_round_75 : decode cX9_round 75 = .ok (.ireturn, 1) := dk_172 (dk_at dksX9_round_3 7 rfl rfl)
abbrev cX9_apart : ByteArray := prog_28_method_78_code
def yX9_apart : MethodName := ⟨RX9, "apart", "(II)I"⟩
def dkwX9_apart_1 : List UInt8 := [172]
abbrev dktX9_apart_1 : List UInt8 := dkwX9_apart_1 ++ []
def dkwX9_apart_0 : List UInt8 := [26, 27, 162, 0, 9, 27, 26, 100, 167, 0, 6, 26, 27, 100, 61, 28, 17, 1, 104, 28, 100, 184, 1, 180]
abbrev dktX9_apart_0 : List UInt8 := dkwX9_apart_0 ++ dktX9_apart_1
theorem dksX9_apart_0 : cX9_apart.data.toList.drop 0 = dktX9_apart_0 := by decide +kernel
theorem dksX9_apart_1 : cX9_apart.data.toList.drop 24 = dktX9_apart_1 := dk_seg dksX9_apart_0 24 rfl rfl
theorem dX9_apart_0 : decode cX9_apart 0 = .ok (.iload_n 0, 1) := dk_26 (dk_at dksX9_apart_0 0 rfl rfl)
theorem dX9_apart_1 : decode cX9_apart 1 = .ok (.iload_n 1, 1) := dk_27 (dk_at dksX9_apart_0 1 rfl rfl)
theorem dX9_apart_2 : decode cX9_apart 2 = .ok (.if_icmp .ge 9, 3) := dk_162 0 9 (dk_at dksX9_apart_0 2 rfl rfl)
theorem dX9_apart_5 : decode cX9_apart 5 = .ok (.iload_n 1, 1) := dk_27 (dk_at dksX9_apart_0 5 rfl rfl)
theorem dX9_apart_6 : decode cX9_apart 6 = .ok (.iload_n 0, 1) := dk_26 (dk_at dksX9_apart_0 6 rfl rfl)
theorem dX9_apart_7 : decode cX9_apart 7 = .ok (.isub, 1) := dk_100 (dk_at dksX9_apart_0 7 rfl rfl)
theorem dX9_apart_8 : decode cX9_apart 8 = .ok (.goto 6, 3) := dk_167 0 6 (dk_at dksX9_apart_0 8 rfl rfl)
theorem dX9_apart_11 : decode cX9_apart 11 = .ok (.iload_n 0, 1) := dk_26 (dk_at dksX9_apart_0 11 rfl rfl)
theorem dX9_apart_12 : decode cX9_apart 12 = .ok (.iload_n 1, 1) := dk_27 (dk_at dksX9_apart_0 12 rfl rfl)
theorem dX9_apart_13 : decode cX9_apart 13 = .ok (.isub, 1) := dk_100 (dk_at dksX9_apart_0 13 rfl rfl)
theorem dX9_apart_14 : decode cX9_apart 14 = .ok (.istore_n 2, 1) := dk_61 (dk_at dksX9_apart_0 14 rfl rfl)
theorem dX9_apart_15 : decode cX9_apart 15 = .ok (.iload_n 2, 1) := dk_28 (dk_at dksX9_apart_0 15 rfl rfl)
theorem dX9_apart_16 : decode cX9_apart 16 = .ok (.sipush 360, 3) := dk_17 1 104 (dk_at dksX9_apart_0 16 rfl rfl)
theorem dX9_apart_19 : decode cX9_apart 19 = .ok (.iload_n 2, 1) := dk_28 (dk_at dksX9_apart_0 19 rfl rfl)
theorem dX9_apart_20 : decode cX9_apart 20 = .ok (.isub, 1) := dk_100 (dk_at dksX9_apart_0 20 rfl rfl)
theorem dX9_apart_21 : decode cX9_apart 21 = .ok (.invokestatic 436, 3) := dk_184 1 180 (dk_at dksX9_apart_0 21 rfl rfl)
theorem dX9_apart_24 : decode cX9_apart 24 = .ok (.ireturn, 1) := dk_172 (dk_at dksX9_apart_1 0 rfl rfl)
abbrev cX9_watch : ByteArray := prog_28_method_80_code
def yX9_watch : MethodName := ⟨RX9, "watch", "(II)I"⟩
def dkwX9_watch_2 : List UInt8 := [28, 79, 42, 89, 180, 1, 75, 4, 96, 181, 1, 75, 42, 180, 1, 75, 4, 100, 172]
abbrev dktX9_watch_2 : List UInt8 := dkwX9_watch_2 ++ []
def dkwX9_watch_1 : List UInt8 := [7, 160, 0, 5, 2, 172, 42, 180, 0, 135, 42, 180, 1, 75, 27, 79, 42, 180, 0, 138, 42, 180, 1, 75]
abbrev dktX9_watch_1 : List UInt8 := dkwX9_watch_1 ++ dktX9_watch_2
def dkwX9_watch_0 : List UInt8 := [42, 3, 181, 0, 162, 42, 27, 182, 1, 115, 153, 0, 18, 28, 184, 1, 84, 153, 0, 11, 42, 180, 1, 75]
abbrev dktX9_watch_0 : List UInt8 := dkwX9_watch_0 ++ dktX9_watch_1
theorem dksX9_watch_0 : cX9_watch.data.toList.drop 0 = dktX9_watch_0 := by decide +kernel
theorem dksX9_watch_1 : cX9_watch.data.toList.drop 24 = dktX9_watch_1 := dk_seg dksX9_watch_0 24 rfl rfl
theorem dksX9_watch_2 : cX9_watch.data.toList.drop 48 = dktX9_watch_2 := dk_seg dksX9_watch_1 24 rfl rfl
theorem dX9_watch_0 : decode cX9_watch 0 = .ok (.aload_n 0, 1) := dk_42 (dk_at dksX9_watch_0 0 rfl rfl)
theorem dX9_watch_1 : decode cX9_watch 1 = .ok (.iconst 0, 1) := dk_3 (dk_at dksX9_watch_0 1 rfl rfl)
theorem dX9_watch_2 : decode cX9_watch 2 = .ok (.putfield 162, 3) := dk_181 0 162 (dk_at dksX9_watch_0 2 rfl rfl)
theorem dX9_watch_5 : decode cX9_watch 5 = .ok (.aload_n 0, 1) := dk_42 (dk_at dksX9_watch_0 5 rfl rfl)
theorem dX9_watch_6 : decode cX9_watch 6 = .ok (.iload_n 1, 1) := dk_27 (dk_at dksX9_watch_0 6 rfl rfl)
theorem dX9_watch_7 : decode cX9_watch 7 = .ok (.invokevirtual 371, 3) := dk_182 1 115 (dk_at dksX9_watch_0 7 rfl rfl)
theorem dX9_watch_10 : decode cX9_watch 10 = .ok (.ifCond .eq 18, 3) := dk_153 0 18 (dk_at dksX9_watch_0 10 rfl rfl)
theorem dX9_watch_13 : decode cX9_watch 13 = .ok (.iload_n 2, 1) := dk_28 (dk_at dksX9_watch_0 13 rfl rfl)
theorem dX9_watch_14 : decode cX9_watch 14 = .ok (.invokestatic 340, 3) := dk_184 1 84 (dk_at dksX9_watch_0 14 rfl rfl)
theorem dX9_watch_17 : decode cX9_watch 17 = .ok (.ifCond .eq 11, 3) := dk_153 0 11 (dk_at dksX9_watch_0 17 rfl rfl)
theorem dX9_watch_20 : decode cX9_watch 20 = .ok (.aload_n 0, 1) := dk_42 (dk_at dksX9_watch_0 20 rfl rfl)
theorem dX9_watch_21 : decode cX9_watch 21 = .ok (.getfield 331, 3) := dk_180 1 75 (dk_at dksX9_watch_0 21 rfl rfl)
theorem dX9_watch_24 : decode cX9_watch 24 = .ok (.iconst 4, 1) := dk_7 (dk_at dksX9_watch_1 0 rfl rfl)
theorem dX9_watch_25 : decode cX9_watch 25 = .ok (.if_icmp .ne 5, 3) := dk_160 0 5 (dk_at dksX9_watch_1 1 rfl rfl)
theorem dX9_watch_28 : decode cX9_watch 28 = .ok (.iconst (-1), 1) := dk_2 (dk_at dksX9_watch_1 4 rfl rfl)
theorem dX9_watch_29 : decode cX9_watch 29 = .ok (.ireturn, 1) := dk_172 (dk_at dksX9_watch_1 5 rfl rfl)
theorem dX9_watch_30 : decode cX9_watch 30 = .ok (.aload_n 0, 1) := dk_42 (dk_at dksX9_watch_1 6 rfl rfl)
theorem dX9_watch_31 : decode cX9_watch 31 = .ok (.getfield 135, 3) := dk_180 0 135 (dk_at dksX9_watch_1 7 rfl rfl)
theorem dX9_watch_34 : decode cX9_watch 34 = .ok (.aload_n 0, 1) := dk_42 (dk_at dksX9_watch_1 10 rfl rfl)
theorem dX9_watch_35 : decode cX9_watch 35 = .ok (.getfield 331, 3) := dk_180 1 75 (dk_at dksX9_watch_1 11 rfl rfl)
theorem dX9_watch_38 : decode cX9_watch 38 = .ok (.iload_n 1, 1) := dk_27 (dk_at dksX9_watch_1 14 rfl rfl)
theorem dX9_watch_39 : decode cX9_watch 39 = .ok (.iastore, 1) := dk_79 (dk_at dksX9_watch_1 15 rfl rfl)
theorem dX9_watch_40 : decode cX9_watch 40 = .ok (.aload_n 0, 1) := dk_42 (dk_at dksX9_watch_1 16 rfl rfl)
theorem dX9_watch_41 : decode cX9_watch 41 = .ok (.getfield 138, 3) := dk_180 0 138 (dk_at dksX9_watch_1 17 rfl rfl)
theorem dX9_watch_44 : decode cX9_watch 44 = .ok (.aload_n 0, 1) := dk_42 (dk_at dksX9_watch_1 20 rfl rfl)
theorem dX9_watch_45 : decode cX9_watch 45 = .ok (.getfield 331, 3) := dk_180 1 75 (dk_at dksX9_watch_1 21 rfl rfl)
theorem dX9_watch_48 : decode cX9_watch 48 = .ok (.iload_n 2, 1) := dk_28 (dk_at dksX9_watch_2 0 rfl rfl)
theorem dX9_watch_49 : decode cX9_watch 49 = .ok (.iastore, 1) := dk_79 (dk_at dksX9_watch_2 1 rfl rfl)
theorem dX9_watch_50 : decode cX9_watch 50 = .ok (.aload_n 0, 1) := dk_42 (dk_at dksX9_watch_2 2 rfl rfl)
theorem dX9_watch_51 : decode cX9_watch 51 = .ok (.dup, 1) := dk_89 (dk_at dksX9_watch_2 3 rfl rfl)
theorem dX9_watch_52 : decode cX9_watch 52 = .ok (.getfield 331, 3) := dk_180 1 75 (dk_at dksX9_watch_2 4 rfl rfl)
theorem dX9_watch_55 : decode cX9_watch 55 = .ok (.iconst 1, 1) := dk_4 (dk_at dksX9_watch_2 7 rfl rfl)
theorem dX9_watch_56 : decode cX9_watch 56 = .ok (.iadd, 1) := dk_96 (dk_at dksX9_watch_2 8 rfl rfl)
theorem dX9_watch_57 : decode cX9_watch 57 = .ok (.putfield 331, 3) := dk_181 1 75 (dk_at dksX9_watch_2 9 rfl rfl)
theorem dX9_watch_60 : decode cX9_watch 60 = .ok (.aload_n 0, 1) := dk_42 (dk_at dksX9_watch_2 12 rfl rfl)
theorem dX9_watch_61 : decode cX9_watch 61 = .ok (.getfield 331, 3) := dk_180 1 75 (dk_at dksX9_watch_2 13 rfl rfl)
theorem dX9_watch_64 : decode cX9_watch 64 = .ok (.iconst 1, 1) := dk_4 (dk_at dksX9_watch_2 16 rfl rfl)
theorem dX9_watch_65 : decode cX9_watch 65 = .ok (.isub, 1) := dk_100 (dk_at dksX9_watch_2 17 rfl rfl)
theorem dX9_watch_66 : decode cX9_watch 66 = .ok (.ireturn, 1) := dk_172 (dk_at dksX9_watch_2 18 rfl rfl)
abbrev cX9_hidden : ByteArray := prog_28_method_83_code
def yX9_hidden : MethodName := ⟨RX9, "hidden", "(II)I"⟩
def dkwX9_hidden_2 : List UInt8 := [3, 172]
abbrev dktX9_hidden_2 : List UInt8 := dkwX9_hidden_2 ++ []
def dkwX9_hidden_1 : List UInt8 := [4, 42, 180, 1, 69, 120, 161, 0, 5, 2, 172, 42, 27, 28, 182, 1, 189, 153, 0, 7, 4, 167, 0, 4]
abbrev dktX9_hidden_1 : List UInt8 := dkwX9_hidden_1 ++ dktX9_hidden_2
def dkwX9_hidden_0 : List UInt8 := [42, 3, 181, 0, 162, 42, 27, 42, 180, 0, 32, 3, 46, 182, 1, 186, 153, 0, 17, 28, 155, 0, 13, 28]
abbrev dktX9_hidden_0 : List UInt8 := dkwX9_hidden_0 ++ dktX9_hidden_1
theorem dksX9_hidden_0 : cX9_hidden.data.toList.drop 0 = dktX9_hidden_0 := by decide +kernel
theorem dksX9_hidden_1 : cX9_hidden.data.toList.drop 24 = dktX9_hidden_1 := dk_seg dksX9_hidden_0 24 rfl rfl
theorem dksX9_hidden_2 : cX9_hidden.data.toList.drop 48 = dktX9_hidden_2 := dk_seg dksX9_hidden_1 24 rfl rfl
theorem dX9_hidden_0 : decode cX9_hidden 0 = .ok (.aload_n 0, 1) := dk_42 (dk_at dksX9_hidden_0 0 rfl rfl)
theorem dX9_hidden_1 : decode cX9_hidden 1 = .ok (.iconst 0, 1) := dk_3 (dk_at dksX9_hidden_0 1 rfl rfl)
theorem dX9_hidden_2 : decode cX9_hidden 2 = .ok (.putfield 162, 3) := dk_181 0 162 (dk_at dksX9_hidden_0 2 rfl rfl)
theorem dX9_hidden_5 : decode cX9_hidden 5 = .ok (.aload_n 0, 1) := dk_42 (dk_at dksX9_hidden_0 5 rfl rfl)
theorem dX9_hidden_6 : decode cX9_hidden 6 = .ok (.iload_n 1, 1) := dk_27 (dk_at dksX9_hidden_0 6 rfl rfl)
theorem dX9_hidden_7 : decode cX9_hidden 7 = .ok (.aload_n 0, 1) := dk_42 (dk_at dksX9_hidden_0 7 rfl rfl)
theorem dX9_hidden_8 : decode cX9_hidden 8 = .ok (.getfield 32, 3) := dk_180 0 32 (dk_at dksX9_hidden_0 8 rfl rfl)
theorem dX9_hidden_11 : decode cX9_hidden 11 = .ok (.iconst 0, 1) := dk_3 (dk_at dksX9_hidden_0 11 rfl rfl)
theorem dX9_hidden_12 : decode cX9_hidden 12 = .ok (.iaload, 1) := dk_46 (dk_at dksX9_hidden_0 12 rfl rfl)
theorem dX9_hidden_13 : decode cX9_hidden 13 = .ok (.invokevirtual 442, 3) := dk_182 1 186 (dk_at dksX9_hidden_0 13 rfl rfl)
theorem dX9_hidden_16 : decode cX9_hidden 16 = .ok (.ifCond .eq 17, 3) := dk_153 0 17 (dk_at dksX9_hidden_0 16 rfl rfl)
theorem dX9_hidden_19 : decode cX9_hidden 19 = .ok (.iload_n 2, 1) := dk_28 (dk_at dksX9_hidden_0 19 rfl rfl)
theorem dX9_hidden_20 : decode cX9_hidden 20 = .ok (.ifCond .lt 13, 3) := dk_155 0 13 (dk_at dksX9_hidden_0 20 rfl rfl)
theorem dX9_hidden_23 : decode cX9_hidden 23 = .ok (.iload_n 2, 1) := dk_28 (dk_at dksX9_hidden_0 23 rfl rfl)
theorem dX9_hidden_24 : decode cX9_hidden 24 = .ok (.iconst 1, 1) := dk_4 (dk_at dksX9_hidden_1 0 rfl rfl)
theorem dX9_hidden_25 : decode cX9_hidden 25 = .ok (.aload_n 0, 1) := dk_42 (dk_at dksX9_hidden_1 1 rfl rfl)
theorem dX9_hidden_26 : decode cX9_hidden 26 = .ok (.getfield 325, 3) := dk_180 1 69 (dk_at dksX9_hidden_1 2 rfl rfl)
theorem dX9_hidden_29 : decode cX9_hidden 29 = .ok (.ishl, 1) := dk_120 (dk_at dksX9_hidden_1 5 rfl rfl)
theorem dX9_hidden_30 : decode cX9_hidden 30 = .ok (.if_icmp .lt 5, 3) := dk_161 0 5 (dk_at dksX9_hidden_1 6 rfl rfl)
theorem dX9_hidden_33 : decode cX9_hidden 33 = .ok (.iconst (-1), 1) := dk_2 (dk_at dksX9_hidden_1 9 rfl rfl)
theorem dX9_hidden_34 : decode cX9_hidden 34 = .ok (.ireturn, 1) := dk_172 (dk_at dksX9_hidden_1 10 rfl rfl)
theorem dX9_hidden_35 : decode cX9_hidden 35 = .ok (.aload_n 0, 1) := dk_42 (dk_at dksX9_hidden_1 11 rfl rfl)
theorem dX9_hidden_36 : decode cX9_hidden 36 = .ok (.iload_n 1, 1) := dk_27 (dk_at dksX9_hidden_1 12 rfl rfl)
theorem dX9_hidden_37 : decode cX9_hidden 37 = .ok (.iload_n 2, 1) := dk_28 (dk_at dksX9_hidden_1 13 rfl rfl)
theorem dX9_hidden_38 : decode cX9_hidden 38 = .ok (.invokevirtual 445, 3) := dk_182 1 189 (dk_at dksX9_hidden_1 14 rfl rfl)
theorem dX9_hidden_41 : decode cX9_hidden 41 = .ok (.ifCond .eq 7, 3) := dk_153 0 7 (dk_at dksX9_hidden_1 17 rfl rfl)
theorem dX9_hidden_44 : decode cX9_hidden 44 = .ok (.iconst 1, 1) := dk_4 (dk_at dksX9_hidden_1 20 rfl rfl)
theorem dX9_hidden_45 : decode cX9_hidden 45 = .ok (.goto 4, 3) := dk_167 0 4 (dk_at dksX9_hidden_1 21 rfl rfl)
theorem dX9_hidden_48 : decode cX9_hidden 48 = .ok (.iconst 0, 1) := dk_3 (dk_at dksX9_hidden_2 0 rfl rfl)
theorem dX9_hidden_49 : decode cX9_hidden 49 = .ok (.ireturn, 1) := dk_172 (dk_at dksX9_hidden_2 1 rfl rfl)
abbrev cX9_isToldLie : ByteArray := prog_28_method_82_code
def yX9_isToldLie : MethodName := ⟨RX9, "isToldLie", "(II)Z"⟩
def dkwX9_isToldLie_1 : List UInt8 := [153, 0, 7, 4, 167, 0, 4, 3, 172]
abbrev dktX9_isToldLie_1 : List UInt8 := dkwX9_isToldLie_1 ++ []
def dkwX9_isToldLie_0 : List UInt8 := [27, 155, 0, 28, 27, 42, 180, 1, 66, 162, 0, 20, 42, 27, 28, 42, 180, 1, 78, 182, 1, 102]
abbrev dktX9_isToldLie_0 : List UInt8 := dkwX9_isToldLie_0 ++ dktX9_isToldLie_1
theorem dksX9_isToldLie_0 : cX9_isToldLie.data.toList.drop 0 = dktX9_isToldLie_0 := by decide +kernel
theorem dksX9_isToldLie_1 : cX9_isToldLie.data.toList.drop 22 = dktX9_isToldLie_1 := dk_seg dksX9_isToldLie_0 22 rfl rfl
theorem dX9_isToldLie_0 : decode cX9_isToldLie 0 = .ok (.iload_n 1, 1) := dk_27 (dk_at dksX9_isToldLie_0 0 rfl rfl)
theorem dX9_isToldLie_1 : decode cX9_isToldLie 1 = .ok (.ifCond .lt 28, 3) := dk_155 0 28 (dk_at dksX9_isToldLie_0 1 rfl rfl)
theorem dX9_isToldLie_4 : decode cX9_isToldLie 4 = .ok (.iload_n 1, 1) := dk_27 (dk_at dksX9_isToldLie_0 4 rfl rfl)
theorem dX9_isToldLie_5 : decode cX9_isToldLie 5 = .ok (.aload_n 0, 1) := dk_42 (dk_at dksX9_isToldLie_0 5 rfl rfl)
theorem dX9_isToldLie_6 : decode cX9_isToldLie 6 = .ok (.getfield 322, 3) := dk_180 1 66 (dk_at dksX9_isToldLie_0 6 rfl rfl)
theorem dX9_isToldLie_9 : decode cX9_isToldLie 9 = .ok (.if_icmp .ge 20, 3) := dk_162 0 20 (dk_at dksX9_isToldLie_0 9 rfl rfl)
theorem dX9_isToldLie_12 : decode cX9_isToldLie 12 = .ok (.aload_n 0, 1) := dk_42 (dk_at dksX9_isToldLie_0 12 rfl rfl)
theorem dX9_isToldLie_13 : decode cX9_isToldLie 13 = .ok (.iload_n 1, 1) := dk_27 (dk_at dksX9_isToldLie_0 13 rfl rfl)
theorem dX9_isToldLie_14 : decode cX9_isToldLie 14 = .ok (.iload_n 2, 1) := dk_28 (dk_at dksX9_isToldLie_0 14 rfl rfl)
theorem dX9_isToldLie_15 : decode cX9_isToldLie 15 = .ok (.aload_n 0, 1) := dk_42 (dk_at dksX9_isToldLie_0 15 rfl rfl)
theorem dX9_isToldLie_16 : decode cX9_isToldLie 16 = .ok (.getfield 334, 3) := dk_180 1 78 (dk_at dksX9_isToldLie_0 16 rfl rfl)
theorem dX9_isToldLie_19 : decode cX9_isToldLie 19 = .ok (.invokevirtual 358, 3) := dk_182 1 102 (dk_at dksX9_isToldLie_0 19 rfl rfl)
theorem dX9_isToldLie_22 : decode cX9_isToldLie 22 = .ok (.ifCond .eq 7, 3) := dk_153 0 7 (dk_at dksX9_isToldLie_1 0 rfl rfl)
theorem dX9_isToldLie_25 : decode cX9_isToldLie 25 = .ok (.iconst 1, 1) := dk_4 (dk_at dksX9_isToldLie_1 3 rfl rfl)
theorem dX9_isToldLie_26 : decode cX9_isToldLie 26 = .ok (.goto 4, 3) := dk_167 0 4 (dk_at dksX9_isToldLie_1 4 rfl rfl)
theorem dX9_isToldLie_29 : decode cX9_isToldLie 29 = .ok (.iconst 0, 1) := dk_3 (dk_at dksX9_isToldLie_1 7 rfl rfl)
theorem dX9_isToldLie_30 : decode cX9_isToldLie 30 = .ok (.ireturn, 1) := dk_172 (dk_at dksX9_isToldLie_1 8 rfl rfl)
abbrev cX9_isHidden : ByteArray := prog_28_method_81_code
def yX9_isHidden : MethodName := ⟨RX9, "isHidden", "(II)Z"⟩
def dkwX9_isHidden_6 : List UInt8 := [167, 255, 126, 29, 154, 0, 7, 4, 167, 0, 4, 3, 172]
abbrev dktX9_isHidden_6 : List UInt8 := dkwX9_isHidden_6 ++ []
def dkwX9_isHidden_5 : List UInt8 := [167, 0, 21, 42, 180, 0, 102, 27, 47, 21, 4, 184, 1, 94, 153, 0, 5, 4, 172, 4, 62, 132, 4, 1]
abbrev dktX9_isHidden_5 : List UInt8 := dkwX9_isHidden_5 ++ dktX9_isHidden_6
def dkwX9_isHidden_4 : List UInt8 := [182, 1, 124, 160, 0, 7, 4, 167, 0, 4, 3, 54, 5, 132, 6, 1, 167, 255, 187, 21, 5, 154, 0, 6]
abbrev dktX9_isHidden_4 : List UInt8 := dkwX9_isHidden_4 ++ dktX9_isHidden_5
def dkwX9_isHidden_3 : List UInt8 := [182, 1, 124, 42, 42, 180, 0, 135, 21, 6, 46, 42, 180, 0, 138, 21, 6, 46, 42, 180, 1, 78]
abbrev dktX9_isHidden_3 : List UInt8 := dkwX9_isHidden_3 ++ dktX9_isHidden_4
def dkwX9_isHidden_2 : List UInt8 := [21, 5, 153, 0, 61, 42, 42, 180, 0, 135, 21, 6, 46, 42, 180, 0, 138, 21, 6, 46, 21, 4]
abbrev dktX9_isHidden_2 : List UInt8 := dkwX9_isHidden_2 ++ dktX9_isHidden_3
def dkwX9_isHidden_1 : List UInt8 := [180, 0, 42, 3, 47, 21, 4, 184, 1, 94, 54, 5, 3, 54, 6, 21, 6, 42, 180, 1, 75, 162, 0, 66]
abbrev dktX9_isHidden_1 : List UInt8 := dkwX9_isHidden_1 ++ dktX9_isHidden_2
def dkwX9_isHidden_0 : List UInt8 := [42, 28, 182, 1, 118, 3, 62, 3, 54, 4, 21, 4, 4, 42, 180, 0, 13, 3, 46, 120, 162, 0, 123, 42]
abbrev dktX9_isHidden_0 : List UInt8 := dkwX9_isHidden_0 ++ dktX9_isHidden_1
theorem dksX9_isHidden_0 : cX9_isHidden.data.toList.drop 0 = dktX9_isHidden_0 := by decide +kernel
theorem dksX9_isHidden_1 : cX9_isHidden.data.toList.drop 24 = dktX9_isHidden_1 := dk_seg dksX9_isHidden_0 24 rfl rfl
theorem dksX9_isHidden_2 : cX9_isHidden.data.toList.drop 48 = dktX9_isHidden_2 := dk_seg dksX9_isHidden_1 24 rfl rfl
theorem dksX9_isHidden_3 : cX9_isHidden.data.toList.drop 70 = dktX9_isHidden_3 := dk_seg dksX9_isHidden_2 22 rfl rfl
theorem dksX9_isHidden_4 : cX9_isHidden.data.toList.drop 92 = dktX9_isHidden_4 := dk_seg dksX9_isHidden_3 22 rfl rfl
theorem dksX9_isHidden_5 : cX9_isHidden.data.toList.drop 116 = dktX9_isHidden_5 := dk_seg dksX9_isHidden_4 24 rfl rfl
theorem dksX9_isHidden_6 : cX9_isHidden.data.toList.drop 140 = dktX9_isHidden_6 := dk_seg dksX9_isHidden_5 24 rfl rfl
theorem dX9_isHidden_0 : decode cX9_isHidden 0 = .ok (.aload_n 0, 1) := dk_42 (dk_at dksX9_isHidden_0 0 rfl rfl)
theorem dX9_isHidden_1 : decode cX9_isHidden 1 = .ok (.iload_n 2, 1) := dk_28 (dk_at dksX9_isHidden_0 1 rfl rfl)
theorem dX9_isHidden_2 : decode cX9_isHidden 2 = .ok (.invokevirtual 374, 3) := dk_182 1 118 (dk_at dksX9_isHidden_0 2 rfl rfl)
theorem dX9_isHidden_5 : decode cX9_isHidden 5 = .ok (.iconst 0, 1) := dk_3 (dk_at dksX9_isHidden_0 5 rfl rfl)
theorem dX9_isHidden_6 : decode cX9_isHidden 6 = .ok (.istore_n 3, 1) := dk_62 (dk_at dksX9_isHidden_0 6 rfl rfl)
theorem dX9_isHidden_7 : decode cX9_isHidden 7 = .ok (.iconst 0, 1) := dk_3 (dk_at dksX9_isHidden_0 7 rfl rfl)
theorem dX9_isHidden_8 : decode cX9_isHidden 8 = .ok (.istore 4, 2) := dk_54 4 (dk_at dksX9_isHidden_0 8 rfl rfl)
theorem dX9_isHidden_10 : decode cX9_isHidden 10 = .ok (.iload 4, 2) := dk_21 4 (dk_at dksX9_isHidden_0 10 rfl rfl)
theorem dX9_isHidden_12 : decode cX9_isHidden 12 = .ok (.iconst 1, 1) := dk_4 (dk_at dksX9_isHidden_0 12 rfl rfl)
theorem dX9_isHidden_13 : decode cX9_isHidden 13 = .ok (.aload_n 0, 1) := dk_42 (dk_at dksX9_isHidden_0 13 rfl rfl)
theorem dX9_isHidden_14 : decode cX9_isHidden 14 = .ok (.getfield 13, 3) := dk_180 0 13 (dk_at dksX9_isHidden_0 14 rfl rfl)
theorem dX9_isHidden_17 : decode cX9_isHidden 17 = .ok (.iconst 0, 1) := dk_3 (dk_at dksX9_isHidden_0 17 rfl rfl)
theorem dX9_isHidden_18 : decode cX9_isHidden 18 = .ok (.iaload, 1) := dk_46 (dk_at dksX9_isHidden_0 18 rfl rfl)
theorem dX9_isHidden_19 : decode cX9_isHidden 19 = .ok (.ishl, 1) := dk_120 (dk_at dksX9_isHidden_0 19 rfl rfl)
theorem dX9_isHidden_20 : decode cX9_isHidden 20 = .ok (.if_icmp .ge 123, 3) := dk_162 0 123 (dk_at dksX9_isHidden_0 20 rfl rfl)
theorem dX9_isHidden_23 : decode cX9_isHidden 23 = .ok (.aload_n 0, 1) := dk_42 (dk_at dksX9_isHidden_0 23 rfl rfl)
theorem dX9_isHidden_24 : decode cX9_isHidden 24 = .ok (.getfield 42, 3) := dk_180 0 42 (dk_at dksX9_isHidden_1 0 rfl rfl)
theorem dX9_isHidden_27 : decode cX9_isHidden 27 = .ok (.iconst 0, 1) := dk_3 (dk_at dksX9_isHidden_1 3 rfl rfl)
theorem dX9_isHidden_28 : decode cX9_isHidden 28 = .ok (.laload, 1) := dk_47 (dk_at dksX9_isHidden_1 4 rfl rfl)
theorem dX9_isHidden_29 : decode cX9_isHidden 29 = .ok (.iload 4, 2) := dk_21 4 (dk_at dksX9_isHidden_1 5 rfl rfl)
theorem dX9_isHidden_31 : decode cX9_isHidden 31 = .ok (.invokestatic 350, 3) := dk_184 1 94 (dk_at dksX9_isHidden_1 7 rfl rfl)
theorem dX9_isHidden_34 : decode cX9_isHidden 34 = .ok (.istore 5, 2) := dk_54 5 (dk_at dksX9_isHidden_1 10 rfl rfl)
theorem dX9_isHidden_36 : decode cX9_isHidden 36 = .ok (.iconst 0, 1) := dk_3 (dk_at dksX9_isHidden_1 12 rfl rfl)
theorem dX9_isHidden_37 : decode cX9_isHidden 37 = .ok (.istore 6, 2) := dk_54 6 (dk_at dksX9_isHidden_1 13 rfl rfl)
theorem dX9_isHidden_39 : decode cX9_isHidden 39 = .ok (.iload 6, 2) := dk_21 6 (dk_at dksX9_isHidden_1 15 rfl rfl)
theorem dX9_isHidden_41 : decode cX9_isHidden 41 = .ok (.aload_n 0, 1) := dk_42 (dk_at dksX9_isHidden_1 17 rfl rfl)
theorem dX9_isHidden_42 : decode cX9_isHidden 42 = .ok (.getfield 331, 3) := dk_180 1 75 (dk_at dksX9_isHidden_1 18 rfl rfl)
theorem dX9_isHidden_45 : decode cX9_isHidden 45 = .ok (.if_icmp .ge 66, 3) := dk_162 0 66 (dk_at dksX9_isHidden_1 21 rfl rfl)
theorem dX9_isHidden_48 : decode cX9_isHidden 48 = .ok (.iload 5, 2) := dk_21 5 (dk_at dksX9_isHidden_2 0 rfl rfl)
theorem dX9_isHidden_50 : decode cX9_isHidden 50 = .ok (.ifCond .eq 61, 3) := dk_153 0 61 (dk_at dksX9_isHidden_2 2 rfl rfl)
theorem dX9_isHidden_53 : decode cX9_isHidden 53 = .ok (.aload_n 0, 1) := dk_42 (dk_at dksX9_isHidden_2 5 rfl rfl)
theorem dX9_isHidden_54 : decode cX9_isHidden 54 = .ok (.aload_n 0, 1) := dk_42 (dk_at dksX9_isHidden_2 6 rfl rfl)
theorem dX9_isHidden_55 : decode cX9_isHidden 55 = .ok (.getfield 135, 3) := dk_180 0 135 (dk_at dksX9_isHidden_2 7 rfl rfl)
theorem dX9_isHidden_58 : decode cX9_isHidden 58 = .ok (.iload 6, 2) := dk_21 6 (dk_at dksX9_isHidden_2 10 rfl rfl)
theorem dX9_isHidden_60 : decode cX9_isHidden 60 = .ok (.iaload, 1) := dk_46 (dk_at dksX9_isHidden_2 12 rfl rfl)
theorem dX9_isHidden_61 : decode cX9_isHidden 61 = .ok (.aload_n 0, 1) := dk_42 (dk_at dksX9_isHidden_2 13 rfl rfl)
theorem dX9_isHidden_62 : decode cX9_isHidden 62 = .ok (.getfield 138, 3) := dk_180 0 138 (dk_at dksX9_isHidden_2 14 rfl rfl)
theorem dX9_isHidden_65 : decode cX9_isHidden 65 = .ok (.iload 6, 2) := dk_21 6 (dk_at dksX9_isHidden_2 17 rfl rfl)
theorem dX9_isHidden_67 : decode cX9_isHidden 67 = .ok (.iaload, 1) := dk_46 (dk_at dksX9_isHidden_2 19 rfl rfl)
theorem dX9_isHidden_68 : decode cX9_isHidden 68 = .ok (.iload 4, 2) := dk_21 4 (dk_at dksX9_isHidden_2 20 rfl rfl)
theorem dX9_isHidden_70 : decode cX9_isHidden 70 = .ok (.invokevirtual 380, 3) := dk_182 1 124 (dk_at dksX9_isHidden_3 0 rfl rfl)
theorem dX9_isHidden_73 : decode cX9_isHidden 73 = .ok (.aload_n 0, 1) := dk_42 (dk_at dksX9_isHidden_3 3 rfl rfl)
theorem dX9_isHidden_74 : decode cX9_isHidden 74 = .ok (.aload_n 0, 1) := dk_42 (dk_at dksX9_isHidden_3 4 rfl rfl)
theorem dX9_isHidden_75 : decode cX9_isHidden 75 = .ok (.getfield 135, 3) := dk_180 0 135 (dk_at dksX9_isHidden_3 5 rfl rfl)
theorem dX9_isHidden_78 : decode cX9_isHidden 78 = .ok (.iload 6, 2) := dk_21 6 (dk_at dksX9_isHidden_3 8 rfl rfl)
theorem dX9_isHidden_80 : decode cX9_isHidden 80 = .ok (.iaload, 1) := dk_46 (dk_at dksX9_isHidden_3 10 rfl rfl)
theorem dX9_isHidden_81 : decode cX9_isHidden 81 = .ok (.aload_n 0, 1) := dk_42 (dk_at dksX9_isHidden_3 11 rfl rfl)
theorem dX9_isHidden_82 : decode cX9_isHidden 82 = .ok (.getfield 138, 3) := dk_180 0 138 (dk_at dksX9_isHidden_3 12 rfl rfl)
theorem dX9_isHidden_85 : decode cX9_isHidden 85 = .ok (.iload 6, 2) := dk_21 6 (dk_at dksX9_isHidden_3 15 rfl rfl)
theorem dX9_isHidden_87 : decode cX9_isHidden 87 = .ok (.iaload, 1) := dk_46 (dk_at dksX9_isHidden_3 17 rfl rfl)
theorem dX9_isHidden_88 : decode cX9_isHidden 88 = .ok (.aload_n 0, 1) := dk_42 (dk_at dksX9_isHidden_3 18 rfl rfl)
theorem dX9_isHidden_89 : decode cX9_isHidden 89 = .ok (.getfield 334, 3) := dk_180 1 78 (dk_at dksX9_isHidden_3 19 rfl rfl)
theorem dX9_isHidden_92 : decode cX9_isHidden 92 = .ok (.invokevirtual 380, 3) := dk_182 1 124 (dk_at dksX9_isHidden_4 0 rfl rfl)
theorem dX9_isHidden_95 : decode cX9_isHidden 95 = .ok (.if_icmp .ne 7, 3) := dk_160 0 7 (dk_at dksX9_isHidden_4 3 rfl rfl)
theorem dX9_isHidden_98 : decode cX9_isHidden 98 = .ok (.iconst 1, 1) := dk_4 (dk_at dksX9_isHidden_4 6 rfl rfl)
theorem dX9_isHidden_99 : decode cX9_isHidden 99 = .ok (.goto 4, 3) := dk_167 0 4 (dk_at dksX9_isHidden_4 7 rfl rfl)
theorem dX9_isHidden_102 : decode cX9_isHidden 102 = .ok (.iconst 0, 1) := dk_3 (dk_at dksX9_isHidden_4 10 rfl rfl)
theorem dX9_isHidden_103 : decode cX9_isHidden 103 = .ok (.istore 5, 2) := dk_54 5 (dk_at dksX9_isHidden_4 11 rfl rfl)
theorem dX9_isHidden_105 : decode cX9_isHidden 105 = .ok (.iinc 6 1, 3) := dk_132 6 1 (dk_at dksX9_isHidden_4 13 rfl rfl)
theorem dX9_isHidden_108 : decode cX9_isHidden 108 = .ok (.goto (-69), 3) := dk_167 255 187 (dk_at dksX9_isHidden_4 16 rfl rfl)
theorem dX9_isHidden_111 : decode cX9_isHidden 111 = .ok (.iload 5, 2) := dk_21 5 (dk_at dksX9_isHidden_4 19 rfl rfl)
theorem dX9_isHidden_113 : decode cX9_isHidden 113 = .ok (.ifCond .ne 6, 3) := dk_154 0 6 (dk_at dksX9_isHidden_4 21 rfl rfl)
theorem dX9_isHidden_116 : decode cX9_isHidden 116 = .ok (.goto 21, 3) := dk_167 0 21 (dk_at dksX9_isHidden_5 0 rfl rfl)
theorem dX9_isHidden_119 : decode cX9_isHidden 119 = .ok (.aload_n 0, 1) := dk_42 (dk_at dksX9_isHidden_5 3 rfl rfl)
theorem dX9_isHidden_120 : decode cX9_isHidden 120 = .ok (.getfield 102, 3) := dk_180 0 102 (dk_at dksX9_isHidden_5 4 rfl rfl)
theorem dX9_isHidden_123 : decode cX9_isHidden 123 = .ok (.iload_n 1, 1) := dk_27 (dk_at dksX9_isHidden_5 7 rfl rfl)
theorem dX9_isHidden_124 : decode cX9_isHidden 124 = .ok (.laload, 1) := dk_47 (dk_at dksX9_isHidden_5 8 rfl rfl)
theorem dX9_isHidden_125 : decode cX9_isHidden 125 = .ok (.iload 4, 2) := dk_21 4 (dk_at dksX9_isHidden_5 9 rfl rfl)
theorem dX9_isHidden_127 : decode cX9_isHidden 127 = .ok (.invokestatic 350, 3) := dk_184 1 94 (dk_at dksX9_isHidden_5 11 rfl rfl)
theorem dX9_isHidden_130 : decode cX9_isHidden 130 = .ok (.ifCond .eq 5, 3) := dk_153 0 5 (dk_at dksX9_isHidden_5 14 rfl rfl)
theorem dX9_isHidden_133 : decode cX9_isHidden 133 = .ok (.iconst 1, 1) := dk_4 (dk_at dksX9_isHidden_5 17 rfl rfl)
theorem dX9_isHidden_134 : decode cX9_isHidden 134 = .ok (.ireturn, 1) := dk_172 (dk_at dksX9_isHidden_5 18 rfl rfl)
theorem dX9_isHidden_135 : decode cX9_isHidden 135 = .ok (.iconst 1, 1) := dk_4 (dk_at dksX9_isHidden_5 19 rfl rfl)
theorem dX9_isHidden_136 : decode cX9_isHidden 136 = .ok (.istore_n 3, 1) := dk_62 (dk_at dksX9_isHidden_5 20 rfl rfl)
theorem dX9_isHidden_137 : decode cX9_isHidden 137 = .ok (.iinc 4 1, 3) := dk_132 4 1 (dk_at dksX9_isHidden_5 21 rfl rfl)
theorem dX9_isHidden_140 : decode cX9_isHidden 140 = .ok (.goto (-130), 3) := dk_167 255 126 (dk_at dksX9_isHidden_6 0 rfl rfl)
theorem dX9_isHidden_143 : decode cX9_isHidden 143 = .ok (.iload_n 3, 1) := dk_29 (dk_at dksX9_isHidden_6 3 rfl rfl)
theorem dX9_isHidden_144 : decode cX9_isHidden 144 = .ok (.ifCond .ne 7, 3) := dk_154 0 7 (dk_at dksX9_isHidden_6 4 rfl rfl)
theorem dX9_isHidden_147 : decode cX9_isHidden 147 = .ok (.iconst 1, 1) := dk_4 (dk_at dksX9_isHidden_6 7 rfl rfl)
theorem dX9_isHidden_148 : decode cX9_isHidden 148 = .ok (.goto 4, 3) := dk_167 0 4 (dk_at dksX9_isHidden_6 8 rfl rfl)
theorem dX9_isHidden_151 : decode cX9_isHidden 151 = .ok (.iconst 0, 1) := dk_3 (dk_at dksX9_isHidden_6 11 rfl rfl)
theorem dX9_isHidden_152 : decode cX9_isHidden 152 = .ok (.ireturn, 1) := dk_172 (dk_at dksX9_isHidden_6 12 rfl rfl)
abbrev cX9_hide : ByteArray := prog_28_method_84_code
def yX9_hide : MethodName := ⟨RX9, "hide", "(II)I"⟩
def dkwX9_hide_4 : List UInt8 := [154, 0, 11, 29, 133, 184, 1, 143, 167, 0, 4, 29, 172]
abbrev dktX9_hide_4 : List UInt8 := dkwX9_hide_4 ++ []
def dkwX9_hide_3 : List UInt8 := [182, 1, 189, 153, 0, 6, 21, 4, 62, 132, 4, 1, 167, 255, 211, 29, 156, 0, 7, 2, 167, 0, 16, 28]
abbrev dktX9_hide_3 : List UInt8 := dkwX9_hide_3 ++ dktX9_hide_4
def dkwX9_hide_2 : List UInt8 := [29, 155, 0, 17, 21, 4, 133, 184, 1, 143, 29, 133, 184, 1, 143, 162, 0, 16, 42, 27, 21, 4]
abbrev dktX9_hide_2 : List UInt8 := dkwX9_hide_2 ++ dktX9_hide_3
def dkwX9_hide_1 : List UInt8 := [184, 1, 151, 154, 0, 5, 2, 172, 2, 62, 3, 54, 4, 21, 4, 4, 42, 180, 1, 69, 120, 162, 0, 40]
abbrev dktX9_hide_1 : List UInt8 := dkwX9_hide_1 ++ dktX9_hide_2
def dkwX9_hide_0 : List UInt8 := [42, 3, 181, 0, 162, 42, 27, 42, 180, 0, 32, 3, 46, 182, 1, 186, 153, 0, 12, 28, 3, 4]
abbrev dktX9_hide_0 : List UInt8 := dkwX9_hide_0 ++ dktX9_hide_1
theorem dksX9_hide_0 : cX9_hide.data.toList.drop 0 = dktX9_hide_0 := by decide +kernel
theorem dksX9_hide_1 : cX9_hide.data.toList.drop 22 = dktX9_hide_1 := dk_seg dksX9_hide_0 22 rfl rfl
theorem dksX9_hide_2 : cX9_hide.data.toList.drop 46 = dktX9_hide_2 := dk_seg dksX9_hide_1 24 rfl rfl
theorem dksX9_hide_3 : cX9_hide.data.toList.drop 68 = dktX9_hide_3 := dk_seg dksX9_hide_2 22 rfl rfl
theorem dksX9_hide_4 : cX9_hide.data.toList.drop 92 = dktX9_hide_4 := dk_seg dksX9_hide_3 24 rfl rfl
theorem dX9_hide_0 : decode cX9_hide 0 = .ok (.aload_n 0, 1) := dk_42 (dk_at dksX9_hide_0 0 rfl rfl)
theorem dX9_hide_1 : decode cX9_hide 1 = .ok (.iconst 0, 1) := dk_3 (dk_at dksX9_hide_0 1 rfl rfl)
theorem dX9_hide_2 : decode cX9_hide 2 = .ok (.putfield 162, 3) := dk_181 0 162 (dk_at dksX9_hide_0 2 rfl rfl)
theorem dX9_hide_5 : decode cX9_hide 5 = .ok (.aload_n 0, 1) := dk_42 (dk_at dksX9_hide_0 5 rfl rfl)
theorem dX9_hide_6 : decode cX9_hide 6 = .ok (.iload_n 1, 1) := dk_27 (dk_at dksX9_hide_0 6 rfl rfl)
theorem dX9_hide_7 : decode cX9_hide 7 = .ok (.aload_n 0, 1) := dk_42 (dk_at dksX9_hide_0 7 rfl rfl)
theorem dX9_hide_8 : decode cX9_hide 8 = .ok (.getfield 32, 3) := dk_180 0 32 (dk_at dksX9_hide_0 8 rfl rfl)
theorem dX9_hide_11 : decode cX9_hide 11 = .ok (.iconst 0, 1) := dk_3 (dk_at dksX9_hide_0 11 rfl rfl)
theorem dX9_hide_12 : decode cX9_hide 12 = .ok (.iaload, 1) := dk_46 (dk_at dksX9_hide_0 12 rfl rfl)
theorem dX9_hide_13 : decode cX9_hide 13 = .ok (.invokevirtual 442, 3) := dk_182 1 186 (dk_at dksX9_hide_0 13 rfl rfl)
theorem dX9_hide_16 : decode cX9_hide 16 = .ok (.ifCond .eq 12, 3) := dk_153 0 12 (dk_at dksX9_hide_0 16 rfl rfl)
theorem dX9_hide_19 : decode cX9_hide 19 = .ok (.iload_n 2, 1) := dk_28 (dk_at dksX9_hide_0 19 rfl rfl)
theorem dX9_hide_20 : decode cX9_hide 20 = .ok (.iconst 0, 1) := dk_3 (dk_at dksX9_hide_0 20 rfl rfl)
theorem dX9_hide_21 : decode cX9_hide 21 = .ok (.iconst 1, 1) := dk_4 (dk_at dksX9_hide_0 21 rfl rfl)
theorem dX9_hide_22 : decode cX9_hide 22 = .ok (.invokestatic 407, 3) := dk_184 1 151 (dk_at dksX9_hide_1 0 rfl rfl)
theorem dX9_hide_25 : decode cX9_hide 25 = .ok (.ifCond .ne 5, 3) := dk_154 0 5 (dk_at dksX9_hide_1 3 rfl rfl)
theorem dX9_hide_28 : decode cX9_hide 28 = .ok (.iconst (-1), 1) := dk_2 (dk_at dksX9_hide_1 6 rfl rfl)
theorem dX9_hide_29 : decode cX9_hide 29 = .ok (.ireturn, 1) := dk_172 (dk_at dksX9_hide_1 7 rfl rfl)
theorem dX9_hide_30 : decode cX9_hide 30 = .ok (.iconst (-1), 1) := dk_2 (dk_at dksX9_hide_1 8 rfl rfl)
theorem dX9_hide_31 : decode cX9_hide 31 = .ok (.istore_n 3, 1) := dk_62 (dk_at dksX9_hide_1 9 rfl rfl)
theorem dX9_hide_32 : decode cX9_hide 32 = .ok (.iconst 0, 1) := dk_3 (dk_at dksX9_hide_1 10 rfl rfl)
theorem dX9_hide_33 : decode cX9_hide 33 = .ok (.istore 4, 2) := dk_54 4 (dk_at dksX9_hide_1 11 rfl rfl)
theorem dX9_hide_35 : decode cX9_hide 35 = .ok (.iload 4, 2) := dk_21 4 (dk_at dksX9_hide_1 13 rfl rfl)
theorem dX9_hide_37 : decode cX9_hide 37 = .ok (.iconst 1, 1) := dk_4 (dk_at dksX9_hide_1 15 rfl rfl)
theorem dX9_hide_38 : decode cX9_hide 38 = .ok (.aload_n 0, 1) := dk_42 (dk_at dksX9_hide_1 16 rfl rfl)
theorem dX9_hide_39 : decode cX9_hide 39 = .ok (.getfield 325, 3) := dk_180 1 69 (dk_at dksX9_hide_1 17 rfl rfl)
theorem dX9_hide_42 : decode cX9_hide 42 = .ok (.ishl, 1) := dk_120 (dk_at dksX9_hide_1 20 rfl rfl)
theorem dX9_hide_43 : decode cX9_hide 43 = .ok (.if_icmp .ge 40, 3) := dk_162 0 40 (dk_at dksX9_hide_1 21 rfl rfl)
theorem dX9_hide_46 : decode cX9_hide 46 = .ok (.iload_n 3, 1) := dk_29 (dk_at dksX9_hide_2 0 rfl rfl)
theorem dX9_hide_47 : decode cX9_hide 47 = .ok (.ifCond .lt 17, 3) := dk_155 0 17 (dk_at dksX9_hide_2 1 rfl rfl)
theorem dX9_hide_50 : decode cX9_hide 50 = .ok (.iload 4, 2) := dk_21 4 (dk_at dksX9_hide_2 4 rfl rfl)
theorem dX9_hide_52 : decode cX9_hide 52 = .ok (.i2l, 1) := dk_133 (dk_at dksX9_hide_2 6 rfl rfl)
theorem dX9_hide_53 : decode cX9_hide 53 = .ok (.invokestatic 399, 3) := dk_184 1 143 (dk_at dksX9_hide_2 7 rfl rfl)
theorem dX9_hide_56 : decode cX9_hide 56 = .ok (.iload_n 3, 1) := dk_29 (dk_at dksX9_hide_2 10 rfl rfl)
theorem dX9_hide_57 : decode cX9_hide 57 = .ok (.i2l, 1) := dk_133 (dk_at dksX9_hide_2 11 rfl rfl)
theorem dX9_hide_58 : decode cX9_hide 58 = .ok (.invokestatic 399, 3) := dk_184 1 143 (dk_at dksX9_hide_2 12 rfl rfl)
theorem dX9_hide_61 : decode cX9_hide 61 = .ok (.if_icmp .ge 16, 3) := dk_162 0 16 (dk_at dksX9_hide_2 15 rfl rfl)
theorem dX9_hide_64 : decode cX9_hide 64 = .ok (.aload_n 0, 1) := dk_42 (dk_at dksX9_hide_2 18 rfl rfl)
theorem dX9_hide_65 : decode cX9_hide 65 = .ok (.iload_n 1, 1) := dk_27 (dk_at dksX9_hide_2 19 rfl rfl)
theorem dX9_hide_66 : decode cX9_hide 66 = .ok (.iload 4, 2) := dk_21 4 (dk_at dksX9_hide_2 20 rfl rfl)
theorem dX9_hide_68 : decode cX9_hide 68 = .ok (.invokevirtual 445, 3) := dk_182 1 189 (dk_at dksX9_hide_3 0 rfl rfl)
theorem dX9_hide_71 : decode cX9_hide 71 = .ok (.ifCond .eq 6, 3) := dk_153 0 6 (dk_at dksX9_hide_3 3 rfl rfl)
theorem dX9_hide_74 : decode cX9_hide 74 = .ok (.iload 4, 2) := dk_21 4 (dk_at dksX9_hide_3 6 rfl rfl)
theorem dX9_hide_76 : decode cX9_hide 76 = .ok (.istore_n 3, 1) := dk_62 (dk_at dksX9_hide_3 8 rfl rfl)
theorem dX9_hide_77 : decode cX9_hide 77 = .ok (.iinc 4 1, 3) := dk_132 4 1 (dk_at dksX9_hide_3 9 rfl rfl)
theorem dX9_hide_80 : decode cX9_hide 80 = .ok (.goto (-45), 3) := dk_167 255 211 (dk_at dksX9_hide_3 12 rfl rfl)
theorem dX9_hide_83 : decode cX9_hide 83 = .ok (.iload_n 3, 1) := dk_29 (dk_at dksX9_hide_3 15 rfl rfl)
theorem dX9_hide_84 : decode cX9_hide 84 = .ok (.ifCond .ge 7, 3) := dk_156 0 7 (dk_at dksX9_hide_3 16 rfl rfl)
theorem dX9_hide_87 : decode cX9_hide 87 = .ok (.iconst (-1), 1) := dk_2 (dk_at dksX9_hide_3 19 rfl rfl)
theorem dX9_hide_88 : decode cX9_hide 88 = .ok (.goto 16, 3) := dk_167 0 16 (dk_at dksX9_hide_3 20 rfl rfl)
theorem dX9_hide_91 : decode cX9_hide 91 = .ok (.iload_n 2, 1) := dk_28 (dk_at dksX9_hide_3 23 rfl rfl)
theorem dX9_hide_92 : decode cX9_hide 92 = .ok (.ifCond .ne 11, 3) := dk_154 0 11 (dk_at dksX9_hide_4 0 rfl rfl)
theorem dX9_hide_95 : decode cX9_hide 95 = .ok (.iload_n 3, 1) := dk_29 (dk_at dksX9_hide_4 3 rfl rfl)
theorem dX9_hide_96 : decode cX9_hide 96 = .ok (.i2l, 1) := dk_133 (dk_at dksX9_hide_4 4 rfl rfl)
theorem dX9_hide_97 : decode cX9_hide 97 = .ok (.invokestatic 399, 3) := dk_184 1 143 (dk_at dksX9_hide_4 5 rfl rfl)
theorem dX9_hide_100 : decode cX9_hide 100 = .ok (.goto 4, 3) := dk_167 0 4 (dk_at dksX9_hide_4 8 rfl rfl)
theorem dX9_hide_103 : decode cX9_hide 103 = .ok (.iload_n 3, 1) := dk_29 (dk_at dksX9_hide_4 11 rfl rfl)
theorem dX9_hide_104 : decode cX9_hide 104 = .ok (.ireturn, 1) := dk_172 (dk_at dksX9_hide_4 12 rfl rfl)
abbrev cX9_secret : ByteArray := prog_28_method_85_code
def yX9_secret : MethodName := ⟨RX9, "secret", "(IIIII)J"⟩
def dkwX9_secret_8 : List UInt8 := [167, 255, 191, 22, 6, 22, 8, 21, 5, 184, 1, 157, 173]
abbrev dktX9_secret_8 : List UInt8 := dkwX9_secret_8 ++ []
def dkwX9_secret_7 : List UInt8 := [167, 0, 21, 22, 6, 16, 10, 29, 100, 133, 105, 55, 6, 22, 8, 20, 1, 192, 105, 55, 8, 132, 10, 1]
abbrev dktX9_secret_7 : List UInt8 := dkwX9_secret_7 ++ dktX9_secret_8
def dkwX9_secret_6 : List UInt8 := [28, 46, 96, 21, 10, 96, 42, 180, 1, 78, 182, 1, 112, 42, 180, 0, 96, 27, 46, 159, 0, 6]
abbrev dktX9_secret_6 : List UInt8 := dkwX9_secret_6 ++ dktX9_secret_7
def dkwX9_secret_5 : List UInt8 := [55, 8, 3, 54, 10, 21, 10, 21, 4, 162, 0, 64, 42, 28, 42, 180, 0, 99, 27, 46, 42, 180, 0, 35]
abbrev dktX9_secret_5 : List UInt8 := dkwX9_secret_5 ++ dktX9_secret_6
def dkwX9_secret_4 : List UInt8 := [4, 181, 0, 162, 42, 180, 0, 162, 4, 160, 0, 5, 9, 173, 42, 3, 182, 1, 118, 10, 55, 6, 10]
abbrev dktX9_secret_4 : List UInt8 := dkwX9_secret_4 ++ dktX9_secret_5
def dkwX9_secret_3 : List UInt8 := [180, 0, 99, 27, 46, 42, 180, 0, 35, 28, 46, 96, 21, 4, 96, 4, 100, 17, 5, 159, 164, 0, 8, 42]
abbrev dktX9_secret_3 : List UInt8 := dkwX9_secret_3 ++ dktX9_secret_4
def dkwX9_secret_2 : List UInt8 := [184, 1, 151, 153, 0, 7, 3, 167, 0, 4, 4, 181, 0, 162, 42, 180, 0, 162, 154, 0, 32, 42]
abbrev dktX9_secret_2 : List UInt8 := dkwX9_secret_2 ++ dktX9_secret_3
def dkwX9_secret_1 : List UInt8 := [4, 16, 9, 184, 1, 151, 153, 0, 28, 21, 4, 4, 16, 15, 184, 1, 151, 153, 0, 17, 21, 5, 3, 4]
abbrev dktX9_secret_1 : List UInt8 := dkwX9_secret_1 ++ dktX9_secret_2
def dkwX9_secret_0 : List UInt8 := [42, 42, 28, 182, 1, 115, 153, 0, 52, 42, 27, 42, 180, 0, 32, 28, 46, 182, 1, 186, 153, 0, 38, 29]
abbrev dktX9_secret_0 : List UInt8 := dkwX9_secret_0 ++ dktX9_secret_1
theorem dksX9_secret_0 : cX9_secret.data.toList.drop 0 = dktX9_secret_0 := by decide +kernel
theorem dksX9_secret_1 : cX9_secret.data.toList.drop 24 = dktX9_secret_1 := dk_seg dksX9_secret_0 24 rfl rfl
theorem dksX9_secret_2 : cX9_secret.data.toList.drop 48 = dktX9_secret_2 := dk_seg dksX9_secret_1 24 rfl rfl
theorem dksX9_secret_3 : cX9_secret.data.toList.drop 70 = dktX9_secret_3 := dk_seg dksX9_secret_2 22 rfl rfl
theorem dksX9_secret_4 : cX9_secret.data.toList.drop 94 = dktX9_secret_4 := dk_seg dksX9_secret_3 24 rfl rfl
theorem dksX9_secret_5 : cX9_secret.data.toList.drop 117 = dktX9_secret_5 := dk_seg dksX9_secret_4 23 rfl rfl
theorem dksX9_secret_6 : cX9_secret.data.toList.drop 141 = dktX9_secret_6 := dk_seg dksX9_secret_5 24 rfl rfl
theorem dksX9_secret_7 : cX9_secret.data.toList.drop 163 = dktX9_secret_7 := dk_seg dksX9_secret_6 22 rfl rfl
theorem dksX9_secret_8 : cX9_secret.data.toList.drop 187 = dktX9_secret_8 := dk_seg dksX9_secret_7 24 rfl rfl
theorem dX9_secret_0 : decode cX9_secret 0 = .ok (.aload_n 0, 1) := dk_42 (dk_at dksX9_secret_0 0 rfl rfl)
theorem dX9_secret_1 : decode cX9_secret 1 = .ok (.aload_n 0, 1) := dk_42 (dk_at dksX9_secret_0 1 rfl rfl)
theorem dX9_secret_2 : decode cX9_secret 2 = .ok (.iload_n 2, 1) := dk_28 (dk_at dksX9_secret_0 2 rfl rfl)
theorem dX9_secret_3 : decode cX9_secret 3 = .ok (.invokevirtual 371, 3) := dk_182 1 115 (dk_at dksX9_secret_0 3 rfl rfl)
theorem dX9_secret_6 : decode cX9_secret 6 = .ok (.ifCond .eq 52, 3) := dk_153 0 52 (dk_at dksX9_secret_0 6 rfl rfl)
theorem dX9_secret_9 : decode cX9_secret 9 = .ok (.aload_n 0, 1) := dk_42 (dk_at dksX9_secret_0 9 rfl rfl)
theorem dX9_secret_10 : decode cX9_secret 10 = .ok (.iload_n 1, 1) := dk_27 (dk_at dksX9_secret_0 10 rfl rfl)
theorem dX9_secret_11 : decode cX9_secret 11 = .ok (.aload_n 0, 1) := dk_42 (dk_at dksX9_secret_0 11 rfl rfl)
theorem dX9_secret_12 : decode cX9_secret 12 = .ok (.getfield 32, 3) := dk_180 0 32 (dk_at dksX9_secret_0 12 rfl rfl)
theorem dX9_secret_15 : decode cX9_secret 15 = .ok (.iload_n 2, 1) := dk_28 (dk_at dksX9_secret_0 15 rfl rfl)
theorem dX9_secret_16 : decode cX9_secret 16 = .ok (.iaload, 1) := dk_46 (dk_at dksX9_secret_0 16 rfl rfl)
theorem dX9_secret_17 : decode cX9_secret 17 = .ok (.invokevirtual 442, 3) := dk_182 1 186 (dk_at dksX9_secret_0 17 rfl rfl)
theorem dX9_secret_20 : decode cX9_secret 20 = .ok (.ifCond .eq 38, 3) := dk_153 0 38 (dk_at dksX9_secret_0 20 rfl rfl)
theorem dX9_secret_23 : decode cX9_secret 23 = .ok (.iload_n 3, 1) := dk_29 (dk_at dksX9_secret_0 23 rfl rfl)
theorem dX9_secret_24 : decode cX9_secret 24 = .ok (.iconst 1, 1) := dk_4 (dk_at dksX9_secret_1 0 rfl rfl)
theorem dX9_secret_25 : decode cX9_secret 25 = .ok (.bipush 9, 2) := dk_16 9 (dk_at dksX9_secret_1 1 rfl rfl)
theorem dX9_secret_27 : decode cX9_secret 27 = .ok (.invokestatic 407, 3) := dk_184 1 151 (dk_at dksX9_secret_1 3 rfl rfl)
theorem dX9_secret_30 : decode cX9_secret 30 = .ok (.ifCond .eq 28, 3) := dk_153 0 28 (dk_at dksX9_secret_1 6 rfl rfl)
theorem dX9_secret_33 : decode cX9_secret 33 = .ok (.iload 4, 2) := dk_21 4 (dk_at dksX9_secret_1 9 rfl rfl)
theorem dX9_secret_35 : decode cX9_secret 35 = .ok (.iconst 1, 1) := dk_4 (dk_at dksX9_secret_1 11 rfl rfl)
theorem dX9_secret_36 : decode cX9_secret 36 = .ok (.bipush 15, 2) := dk_16 15 (dk_at dksX9_secret_1 12 rfl rfl)
theorem dX9_secret_38 : decode cX9_secret 38 = .ok (.invokestatic 407, 3) := dk_184 1 151 (dk_at dksX9_secret_1 14 rfl rfl)
theorem dX9_secret_41 : decode cX9_secret 41 = .ok (.ifCond .eq 17, 3) := dk_153 0 17 (dk_at dksX9_secret_1 17 rfl rfl)
theorem dX9_secret_44 : decode cX9_secret 44 = .ok (.iload 5, 2) := dk_21 5 (dk_at dksX9_secret_1 20 rfl rfl)
theorem dX9_secret_46 : decode cX9_secret 46 = .ok (.iconst 0, 1) := dk_3 (dk_at dksX9_secret_1 22 rfl rfl)
theorem dX9_secret_47 : decode cX9_secret 47 = .ok (.iconst 1, 1) := dk_4 (dk_at dksX9_secret_1 23 rfl rfl)
theorem dX9_secret_48 : decode cX9_secret 48 = .ok (.invokestatic 407, 3) := dk_184 1 151 (dk_at dksX9_secret_2 0 rfl rfl)
theorem dX9_secret_51 : decode cX9_secret 51 = .ok (.ifCond .eq 7, 3) := dk_153 0 7 (dk_at dksX9_secret_2 3 rfl rfl)
theorem dX9_secret_54 : decode cX9_secret 54 = .ok (.iconst 0, 1) := dk_3 (dk_at dksX9_secret_2 6 rfl rfl)
theorem dX9_secret_55 : decode cX9_secret 55 = .ok (.goto 4, 3) := dk_167 0 4 (dk_at dksX9_secret_2 7 rfl rfl)
theorem dX9_secret_58 : decode cX9_secret 58 = .ok (.iconst 1, 1) := dk_4 (dk_at dksX9_secret_2 10 rfl rfl)
theorem dX9_secret_59 : decode cX9_secret 59 = .ok (.putfield 162, 3) := dk_181 0 162 (dk_at dksX9_secret_2 11 rfl rfl)
theorem dX9_secret_62 : decode cX9_secret 62 = .ok (.aload_n 0, 1) := dk_42 (dk_at dksX9_secret_2 14 rfl rfl)
theorem dX9_secret_63 : decode cX9_secret 63 = .ok (.getfield 162, 3) := dk_180 0 162 (dk_at dksX9_secret_2 15 rfl rfl)
theorem dX9_secret_66 : decode cX9_secret 66 = .ok (.ifCond .ne 32, 3) := dk_154 0 32 (dk_at dksX9_secret_2 18 rfl rfl)
theorem dX9_secret_69 : decode cX9_secret 69 = .ok (.aload_n 0, 1) := dk_42 (dk_at dksX9_secret_2 21 rfl rfl)
theorem dX9_secret_70 : decode cX9_secret 70 = .ok (.getfield 99, 3) := dk_180 0 99 (dk_at dksX9_secret_3 0 rfl rfl)
theorem dX9_secret_73 : decode cX9_secret 73 = .ok (.iload_n 1, 1) := dk_27 (dk_at dksX9_secret_3 3 rfl rfl)
theorem dX9_secret_74 : decode cX9_secret 74 = .ok (.iaload, 1) := dk_46 (dk_at dksX9_secret_3 4 rfl rfl)
theorem dX9_secret_75 : decode cX9_secret 75 = .ok (.aload_n 0, 1) := dk_42 (dk_at dksX9_secret_3 5 rfl rfl)
theorem dX9_secret_76 : decode cX9_secret 76 = .ok (.getfield 35, 3) := dk_180 0 35 (dk_at dksX9_secret_3 6 rfl rfl)
theorem dX9_secret_79 : decode cX9_secret 79 = .ok (.iload_n 2, 1) := dk_28 (dk_at dksX9_secret_3 9 rfl rfl)
theorem dX9_secret_80 : decode cX9_secret 80 = .ok (.iaload, 1) := dk_46 (dk_at dksX9_secret_3 10 rfl rfl)
theorem dX9_secret_81 : decode cX9_secret 81 = .ok (.iadd, 1) := dk_96 (dk_at dksX9_secret_3 11 rfl rfl)
theorem dX9_secret_82 : decode cX9_secret 82 = .ok (.iload 4, 2) := dk_21 4 (dk_at dksX9_secret_3 12 rfl rfl)
theorem dX9_secret_84 : decode cX9_secret 84 = .ok (.iadd, 1) := dk_96 (dk_at dksX9_secret_3 14 rfl rfl)
theorem dX9_secret_85 : decode cX9_secret 85 = .ok (.iconst 1, 1) := dk_4 (dk_at dksX9_secret_3 15 rfl rfl)
theorem dX9_secret_86 : decode cX9_secret 86 = .ok (.isub, 1) := dk_100 (dk_at dksX9_secret_3 16 rfl rfl)
theorem dX9_secret_87 : decode cX9_secret 87 = .ok (.sipush 1439, 3) := dk_17 5 159 (dk_at dksX9_secret_3 17 rfl rfl)
theorem dX9_secret_90 : decode cX9_secret 90 = .ok (.if_icmp .le 8, 3) := dk_164 0 8 (dk_at dksX9_secret_3 20 rfl rfl)
theorem dX9_secret_93 : decode cX9_secret 93 = .ok (.aload_n 0, 1) := dk_42 (dk_at dksX9_secret_3 23 rfl rfl)
theorem dX9_secret_94 : decode cX9_secret 94 = .ok (.iconst 1, 1) := dk_4 (dk_at dksX9_secret_4 0 rfl rfl)
theorem dX9_secret_95 : decode cX9_secret 95 = .ok (.putfield 162, 3) := dk_181 0 162 (dk_at dksX9_secret_4 1 rfl rfl)
theorem dX9_secret_98 : decode cX9_secret 98 = .ok (.aload_n 0, 1) := dk_42 (dk_at dksX9_secret_4 4 rfl rfl)
theorem dX9_secret_99 : decode cX9_secret 99 = .ok (.getfield 162, 3) := dk_180 0 162 (dk_at dksX9_secret_4 5 rfl rfl)
theorem dX9_secret_102 : decode cX9_secret 102 = .ok (.iconst 1, 1) := dk_4 (dk_at dksX9_secret_4 8 rfl rfl)
theorem dX9_secret_103 : decode cX9_secret 103 = .ok (.if_icmp .ne 5, 3) := dk_160 0 5 (dk_at dksX9_secret_4 9 rfl rfl)
theorem dX9_secret_106 : decode cX9_secret 106 = .ok (.lconst 0, 1) := dk_9 (dk_at dksX9_secret_4 12 rfl rfl)
theorem dX9_secret_107 : decode cX9_secret 107 = .ok (.lreturn, 1) := dk_173 (dk_at dksX9_secret_4 13 rfl rfl)
theorem dX9_secret_108 : decode cX9_secret 108 = .ok (.aload_n 0, 1) := dk_42 (dk_at dksX9_secret_4 14 rfl rfl)
theorem dX9_secret_109 : decode cX9_secret 109 = .ok (.iconst 0, 1) := dk_3 (dk_at dksX9_secret_4 15 rfl rfl)
theorem dX9_secret_110 : decode cX9_secret 110 = .ok (.invokevirtual 374, 3) := dk_182 1 118 (dk_at dksX9_secret_4 16 rfl rfl)
theorem dX9_secret_113 : decode cX9_secret 113 = .ok (.lconst 1, 1) := dk_10 (dk_at dksX9_secret_4 19 rfl rfl)
theorem dX9_secret_114 : decode cX9_secret 114 = .ok (.lstore 6, 2) := dk_55 6 (dk_at dksX9_secret_4 20 rfl rfl)
theorem dX9_secret_116 : decode cX9_secret 116 = .ok (.lconst 1, 1) := dk_10 (dk_at dksX9_secret_4 22 rfl rfl)
theorem dX9_secret_117 : decode cX9_secret 117 = .ok (.lstore 8, 2) := dk_55 8 (dk_at dksX9_secret_5 0 rfl rfl)
theorem dX9_secret_119 : decode cX9_secret 119 = .ok (.iconst 0, 1) := dk_3 (dk_at dksX9_secret_5 2 rfl rfl)
theorem dX9_secret_120 : decode cX9_secret 120 = .ok (.istore 10, 2) := dk_54 10 (dk_at dksX9_secret_5 3 rfl rfl)
theorem dX9_secret_122 : decode cX9_secret 122 = .ok (.iload 10, 2) := dk_21 10 (dk_at dksX9_secret_5 5 rfl rfl)
theorem dX9_secret_124 : decode cX9_secret 124 = .ok (.iload 4, 2) := dk_21 4 (dk_at dksX9_secret_5 7 rfl rfl)
theorem dX9_secret_126 : decode cX9_secret 126 = .ok (.if_icmp .ge 64, 3) := dk_162 0 64 (dk_at dksX9_secret_5 9 rfl rfl)
theorem dX9_secret_129 : decode cX9_secret 129 = .ok (.aload_n 0, 1) := dk_42 (dk_at dksX9_secret_5 12 rfl rfl)
theorem dX9_secret_130 : decode cX9_secret 130 = .ok (.iload_n 2, 1) := dk_28 (dk_at dksX9_secret_5 13 rfl rfl)
theorem dX9_secret_131 : decode cX9_secret 131 = .ok (.aload_n 0, 1) := dk_42 (dk_at dksX9_secret_5 14 rfl rfl)
theorem dX9_secret_132 : decode cX9_secret 132 = .ok (.getfield 99, 3) := dk_180 0 99 (dk_at dksX9_secret_5 15 rfl rfl)
theorem dX9_secret_135 : decode cX9_secret 135 = .ok (.iload_n 1, 1) := dk_27 (dk_at dksX9_secret_5 18 rfl rfl)
theorem dX9_secret_136 : decode cX9_secret 136 = .ok (.iaload, 1) := dk_46 (dk_at dksX9_secret_5 19 rfl rfl)
theorem dX9_secret_137 : decode cX9_secret 137 = .ok (.aload_n 0, 1) := dk_42 (dk_at dksX9_secret_5 20 rfl rfl)
theorem dX9_secret_138 : decode cX9_secret 138 = .ok (.getfield 35, 3) := dk_180 0 35 (dk_at dksX9_secret_5 21 rfl rfl)
theorem dX9_secret_141 : decode cX9_secret 141 = .ok (.iload_n 2, 1) := dk_28 (dk_at dksX9_secret_6 0 rfl rfl)
theorem dX9_secret_142 : decode cX9_secret 142 = .ok (.iaload, 1) := dk_46 (dk_at dksX9_secret_6 1 rfl rfl)
theorem dX9_secret_143 : decode cX9_secret 143 = .ok (.iadd, 1) := dk_96 (dk_at dksX9_secret_6 2 rfl rfl)
theorem dX9_secret_144 : decode cX9_secret 144 = .ok (.iload 10, 2) := dk_21 10 (dk_at dksX9_secret_6 3 rfl rfl)
theorem dX9_secret_146 : decode cX9_secret 146 = .ok (.iadd, 1) := dk_96 (dk_at dksX9_secret_6 5 rfl rfl)
theorem dX9_secret_147 : decode cX9_secret 147 = .ok (.aload_n 0, 1) := dk_42 (dk_at dksX9_secret_6 6 rfl rfl)
theorem dX9_secret_148 : decode cX9_secret 148 = .ok (.getfield 334, 3) := dk_180 1 78 (dk_at dksX9_secret_6 7 rfl rfl)
theorem dX9_secret_151 : decode cX9_secret 151 = .ok (.invokevirtual 368, 3) := dk_182 1 112 (dk_at dksX9_secret_6 10 rfl rfl)
theorem dX9_secret_154 : decode cX9_secret 154 = .ok (.aload_n 0, 1) := dk_42 (dk_at dksX9_secret_6 13 rfl rfl)
theorem dX9_secret_155 : decode cX9_secret 155 = .ok (.getfield 96, 3) := dk_180 0 96 (dk_at dksX9_secret_6 14 rfl rfl)
theorem dX9_secret_158 : decode cX9_secret 158 = .ok (.iload_n 1, 1) := dk_27 (dk_at dksX9_secret_6 17 rfl rfl)
theorem dX9_secret_159 : decode cX9_secret 159 = .ok (.iaload, 1) := dk_46 (dk_at dksX9_secret_6 18 rfl rfl)
theorem dX9_secret_160 : decode cX9_secret 160 = .ok (.if_icmp .eq 6, 3) := dk_159 0 6 (dk_at dksX9_secret_6 19 rfl rfl)
theorem dX9_secret_163 : decode cX9_secret 163 = .ok (.goto 21, 3) := dk_167 0 21 (dk_at dksX9_secret_7 0 rfl rfl)
theorem dX9_secret_166 : decode cX9_secret 166 = .ok (.lload 6, 2) := dk_22 6 (dk_at dksX9_secret_7 3 rfl rfl)
theorem dX9_secret_168 : decode cX9_secret 168 = .ok (.bipush 10, 2) := dk_16 10 (dk_at dksX9_secret_7 5 rfl rfl)
theorem dX9_secret_170 : decode cX9_secret 170 = .ok (.iload_n 3, 1) := dk_29 (dk_at dksX9_secret_7 7 rfl rfl)
theorem dX9_secret_171 : decode cX9_secret 171 = .ok (.isub, 1) := dk_100 (dk_at dksX9_secret_7 8 rfl rfl)
theorem dX9_secret_172 : decode cX9_secret 172 = .ok (.i2l, 1) := dk_133 (dk_at dksX9_secret_7 9 rfl rfl)
theorem dX9_secret_173 : decode cX9_secret 173 = .ok (.lmul, 1) := dk_105 (dk_at dksX9_secret_7 10 rfl rfl)
theorem dX9_secret_174 : decode cX9_secret 174 = .ok (.lstore 6, 2) := dk_55 6 (dk_at dksX9_secret_7 11 rfl rfl)
theorem dX9_secret_176 : decode cX9_secret 176 = .ok (.lload 8, 2) := dk_22 8 (dk_at dksX9_secret_7 13 rfl rfl)
theorem dX9_secret_178 : decode cX9_secret 178 = .ok (.ldc2_w 448, 3) := dk_20 1 192 (dk_at dksX9_secret_7 15 rfl rfl)
theorem dX9_secret_181 : decode cX9_secret 181 = .ok (.lmul, 1) := dk_105 (dk_at dksX9_secret_7 18 rfl rfl)
theorem dX9_secret_182 : decode cX9_secret 182 = .ok (.lstore 8, 2) := dk_55 8 (dk_at dksX9_secret_7 19 rfl rfl)
theorem dX9_secret_184 : decode cX9_secret 184 = .ok (.iinc 10 1, 3) := dk_132 10 1 (dk_at dksX9_secret_7 21 rfl rfl)
theorem dX9_secret_187 : decode cX9_secret 187 = .ok (.goto (-65), 3) := dk_167 255 191 (dk_at dksX9_secret_8 0 rfl rfl)
theorem dX9_secret_190 : decode cX9_secret 190 = .ok (.lload 6, 2) := dk_22 6 (dk_at dksX9_secret_8 3 rfl rfl)
theorem dX9_secret_192 : decode cX9_secret 192 = .ok (.lload 8, 2) := dk_22 8 (dk_at dksX9_secret_8 5 rfl rfl)
theorem dX9_secret_194 : decode cX9_secret 194 = .ok (.iload 5, 2) := dk_21 5 (dk_at dksX9_secret_8 7 rfl rfl)
theorem dX9_secret_196 : decode cX9_secret 196 = .ok (.invokestatic 413, 3) := dk_184 1 157 (dk_at dksX9_secret_8 9 rfl rfl)
theorem dX9_secret_199 : decode cX9_secret 199 = .ok (.lreturn, 1) := dk_173 (dk_at dksX9_secret_8 12 rfl rfl)
abbrev cX9_sector : ByteArray := prog_28_method_86_code
def yX9_sector : MethodName := ⟨RX9, "sector", "(II)I"⟩
def dkwX9_sector_3 : List UInt8 := [167, 255, 211, 29, 172]
abbrev dktX9_sector_3 : List UInt8 := dkwX9_sector_3 ++ []
def dkwX9_sector_2 : List UInt8 := [46, 46, 27, 28, 184, 1, 127, 153, 0, 10, 4, 21, 4, 120, 167, 0, 4, 3, 128, 62, 132, 4, 1]
abbrev dktX9_sector_2 : List UInt8 := dkwX9_sector_2 ++ dktX9_sector_3
def dkwX9_sector_1 : List UInt8 := [54, 4, 21, 4, 42, 180, 0, 13, 5, 46, 162, 0, 40, 29, 42, 180, 0, 23, 42, 180, 0, 26, 21, 4]
abbrev dktX9_sector_1 : List UInt8 := dkwX9_sector_1 ++ dktX9_sector_2
def dkwX9_sector_0 : List UInt8 := [42, 3, 181, 0, 162, 27, 184, 1, 121, 153, 0, 10, 28, 184, 1, 121, 154, 0, 5, 2, 172, 3, 62, 3]
abbrev dktX9_sector_0 : List UInt8 := dkwX9_sector_0 ++ dktX9_sector_1
theorem dksX9_sector_0 : cX9_sector.data.toList.drop 0 = dktX9_sector_0 := by decide +kernel
theorem dksX9_sector_1 : cX9_sector.data.toList.drop 24 = dktX9_sector_1 := dk_seg dksX9_sector_0 24 rfl rfl
theorem dksX9_sector_2 : cX9_sector.data.toList.drop 48 = dktX9_sector_2 := dk_seg dksX9_sector_1 24 rfl rfl
theorem dksX9_sector_3 : cX9_sector.data.toList.drop 71 = dktX9_sector_3 := dk_seg dksX9_sector_2 23 rfl rfl
theorem dX9_sector_0 : decode cX9_sector 0 = .ok (.aload_n 0, 1) := dk_42 (dk_at dksX9_sector_0 0 rfl rfl)
theorem dX9_sector_1 : decode cX9_sector 1 = .ok (.iconst 0, 1) := dk_3 (dk_at dksX9_sector_0 1 rfl rfl)
theorem dX9_sector_2 : decode cX9_sector 2 = .ok (.putfield 162, 3) := dk_181 0 162 (dk_at dksX9_sector_0 2 rfl rfl)
theorem dX9_sector_5 : decode cX9_sector 5 = .ok (.iload_n 1, 1) := dk_27 (dk_at dksX9_sector_0 5 rfl rfl)
theorem dX9_sector_6 : decode cX9_sector 6 = .ok (.invokestatic 377, 3) := dk_184 1 121 (dk_at dksX9_sector_0 6 rfl rfl)
theorem dX9_sector_9 : decode cX9_sector 9 = .ok (.ifCond .eq 10, 3) := dk_153 0 10 (dk_at dksX9_sector_0 9 rfl rfl)
theorem dX9_sector_12 : decode cX9_sector 12 = .ok (.iload_n 2, 1) := dk_28 (dk_at dksX9_sector_0 12 rfl rfl)
theorem dX9_sector_13 : decode cX9_sector 13 = .ok (.invokestatic 377, 3) := dk_184 1 121 (dk_at dksX9_sector_0 13 rfl rfl)
theorem dX9_sector_16 : decode cX9_sector 16 = .ok (.ifCond .ne 5, 3) := dk_154 0 5 (dk_at dksX9_sector_0 16 rfl rfl)
theorem dX9_sector_19 : decode cX9_sector 19 = .ok (.iconst (-1), 1) := dk_2 (dk_at dksX9_sector_0 19 rfl rfl)
theorem dX9_sector_20 : decode cX9_sector 20 = .ok (.ireturn, 1) := dk_172 (dk_at dksX9_sector_0 20 rfl rfl)
theorem dX9_sector_21 : decode cX9_sector 21 = .ok (.iconst 0, 1) := dk_3 (dk_at dksX9_sector_0 21 rfl rfl)
theorem dX9_sector_22 : decode cX9_sector 22 = .ok (.istore_n 3, 1) := dk_62 (dk_at dksX9_sector_0 22 rfl rfl)
theorem dX9_sector_23 : decode cX9_sector 23 = .ok (.iconst 0, 1) := dk_3 (dk_at dksX9_sector_0 23 rfl rfl)
theorem dX9_sector_24 : decode cX9_sector 24 = .ok (.istore 4, 2) := dk_54 4 (dk_at dksX9_sector_1 0 rfl rfl)
theorem dX9_sector_26 : decode cX9_sector 26 = .ok (.iload 4, 2) := dk_21 4 (dk_at dksX9_sector_1 2 rfl rfl)
theorem dX9_sector_28 : decode cX9_sector 28 = .ok (.aload_n 0, 1) := dk_42 (dk_at dksX9_sector_1 4 rfl rfl)
theorem dX9_sector_29 : decode cX9_sector 29 = .ok (.getfield 13, 3) := dk_180 0 13 (dk_at dksX9_sector_1 5 rfl rfl)
theorem dX9_sector_32 : decode cX9_sector 32 = .ok (.iconst 2, 1) := dk_5 (dk_at dksX9_sector_1 8 rfl rfl)
theorem dX9_sector_33 : decode cX9_sector 33 = .ok (.iaload, 1) := dk_46 (dk_at dksX9_sector_1 9 rfl rfl)
theorem dX9_sector_34 : decode cX9_sector 34 = .ok (.if_icmp .ge 40, 3) := dk_162 0 40 (dk_at dksX9_sector_1 10 rfl rfl)
theorem dX9_sector_37 : decode cX9_sector 37 = .ok (.iload_n 3, 1) := dk_29 (dk_at dksX9_sector_1 13 rfl rfl)
theorem dX9_sector_38 : decode cX9_sector 38 = .ok (.aload_n 0, 1) := dk_42 (dk_at dksX9_sector_1 14 rfl rfl)
theorem dX9_sector_39 : decode cX9_sector 39 = .ok (.getfield 23, 3) := dk_180 0 23 (dk_at dksX9_sector_1 15 rfl rfl)
theorem dX9_sector_42 : decode cX9_sector 42 = .ok (.aload_n 0, 1) := dk_42 (dk_at dksX9_sector_1 18 rfl rfl)
theorem dX9_sector_43 : decode cX9_sector 43 = .ok (.getfield 26, 3) := dk_180 0 26 (dk_at dksX9_sector_1 19 rfl rfl)
theorem dX9_sector_46 : decode cX9_sector 46 = .ok (.iload 4, 2) := dk_21 4 (dk_at dksX9_sector_1 22 rfl rfl)
theorem dX9_sector_48 : decode cX9_sector 48 = .ok (.iaload, 1) := dk_46 (dk_at dksX9_sector_2 0 rfl rfl)
theorem dX9_sector_49 : decode cX9_sector 49 = .ok (.iaload, 1) := dk_46 (dk_at dksX9_sector_2 1 rfl rfl)
theorem dX9_sector_50 : decode cX9_sector 50 = .ok (.iload_n 1, 1) := dk_27 (dk_at dksX9_sector_2 2 rfl rfl)
theorem dX9_sector_51 : decode cX9_sector 51 = .ok (.iload_n 2, 1) := dk_28 (dk_at dksX9_sector_2 3 rfl rfl)
theorem dX9_sector_52 : decode cX9_sector 52 = .ok (.invokestatic 383, 3) := dk_184 1 127 (dk_at dksX9_sector_2 4 rfl rfl)
theorem dX9_sector_55 : decode cX9_sector 55 = .ok (.ifCond .eq 10, 3) := dk_153 0 10 (dk_at dksX9_sector_2 7 rfl rfl)
theorem dX9_sector_58 : decode cX9_sector 58 = .ok (.iconst 1, 1) := dk_4 (dk_at dksX9_sector_2 10 rfl rfl)
theorem dX9_sector_59 : decode cX9_sector 59 = .ok (.iload 4, 2) := dk_21 4 (dk_at dksX9_sector_2 11 rfl rfl)
theorem dX9_sector_61 : decode cX9_sector 61 = .ok (.ishl, 1) := dk_120 (dk_at dksX9_sector_2 13 rfl rfl)
theorem dX9_sector_62 : decode cX9_sector 62 = .ok (.goto 4, 3) := dk_167 0 4 (dk_at dksX9_sector_2 14 rfl rfl)
theorem dX9_sector_65 : decode cX9_sector 65 = .ok (.iconst 0, 1) := dk_3 (dk_at dksX9_sector_2 17 rfl rfl)
theorem dX9_sector_66 : decode cX9_sector 66 = .ok (.ior, 1) := dk_128 (dk_at dksX9_sector_2 18 rfl rfl)
theorem dX9_sector_67 : decode cX9_sector 67 = .ok (.istore_n 3, 1) := dk_62 (dk_at dksX9_sector_2 19 rfl rfl)
theorem dX9_sector_68 : decode cX9_sector 68 = .ok (.iinc 4 1, 3) := dk_132 4 1 (dk_at dksX9_sector_2 20 rfl rfl)
theorem dX9_sector_71 : decode cX9_sector 71 = .ok (.goto (-45), 3) := dk_167 255 211 (dk_at dksX9_sector_3 0 rfl rfl)
theorem dX9_sector_74 : decode cX9_sector 74 = .ok (.iload_n 3, 1) := dk_29 (dk_at dksX9_sector_3 3 rfl rfl)
theorem dX9_sector_75 : decode cX9_sector 75 = .ok (.ireturn, 1) := dk_172 (dk_at dksX9_sector_3 4 rfl rfl)
abbrev cX9_blind : ByteArray := prog_28_method_87_code
def yX9_blind : MethodName := ⟨RX9, "blind", "(II)I"⟩
def dkwX9_blind_10 : List UInt8 := [167, 255, 61, 28, 154, 0, 7, 29, 167, 0, 5, 21, 4, 172]
abbrev dktX9_blind_10 : List UInt8 := dkwX9_blind_10 ++ []
def dkwX9_blind_9 : List UInt8 := [184, 1, 183, 27, 163, 0, 7, 4, 167, 0, 4, 3, 96, 62, 132, 7, 1, 167, 255, 207, 132, 5, 1]
abbrev dktX9_blind_9 : List UInt8 := dkwX9_blind_9 ++ dktX9_blind_10
def dkwX9_blind_8 : List UInt8 := [180, 0, 23, 42, 180, 0, 26, 21, 5, 46, 46, 42, 180, 0, 23, 42, 180, 0, 26, 21, 7, 46, 46]
abbrev dktX9_blind_8 : List UInt8 := dkwX9_blind_8 ++ dktX9_blind_9
def dkwX9_blind_7 : List UInt8 := [21, 6, 133, 184, 1, 143, 184, 1, 164, 54, 4, 3, 54, 7, 21, 7, 21, 5, 162, 0, 48, 29, 42]
abbrev dktX9_blind_7 : List UInt8 := dkwX9_blind_7 ++ dktX9_blind_8
def dkwX9_blind_6 : List UInt8 := [128, 54, 6, 132, 9, 1, 167, 255, 191, 132, 8, 1, 167, 255, 171, 132, 7, 1, 167, 255, 155, 21, 4]
abbrev dktX9_blind_6 : List UInt8 := dkwX9_blind_6 ++ dktX9_blind_7
def dkwX9_blind_5 : List UInt8 := [180, 0, 23, 42, 180, 0, 26, 21, 9, 46, 46, 184, 1, 183, 27, 163, 0, 12, 21, 6, 4, 21, 9, 120]
abbrev dktX9_blind_5 : List UInt8 := dkwX9_blind_5 ++ dktX9_blind_6
def dkwX9_blind_4 : List UInt8 := [21, 8, 122, 4, 126, 4, 160, 0, 43, 42, 180, 0, 23, 42, 180, 0, 26, 21, 8, 46, 46, 42]
abbrev dktX9_blind_4 : List UInt8 := dkwX9_blind_4 ++ dktX9_blind_5
def dkwX9_blind_3 : List UInt8 := [180, 0, 13, 5, 46, 162, 0, 80, 3, 54, 9, 21, 9, 42, 180, 0, 13, 5, 46, 162, 0, 60, 21, 6]
abbrev dktX9_blind_3 : List UInt8 := dkwX9_blind_3 ++ dktX9_blind_4
def dkwX9_blind_2 : List UInt8 := [4, 21, 5, 120, 54, 6, 3, 54, 7, 21, 7, 16, 6, 162, 0, 100, 3, 54, 8, 21, 8, 42]
abbrev dktX9_blind_2 : List UInt8 := dkwX9_blind_2 ++ dktX9_blind_3
def dkwX9_blind_1 : List UInt8 := [154, 0, 5, 2, 172, 3, 62, 3, 54, 4, 3, 54, 5, 21, 5, 42, 180, 0, 13, 5, 46, 162, 0, 190]
abbrev dktX9_blind_1 : List UInt8 := dkwX9_blind_1 ++ dktX9_blind_2
def dkwX9_blind_0 : List UInt8 := [42, 3, 181, 0, 162, 27, 3, 17, 0, 180, 184, 1, 151, 153, 0, 12, 28, 3, 4, 184, 1, 151]
abbrev dktX9_blind_0 : List UInt8 := dkwX9_blind_0 ++ dktX9_blind_1
theorem dksX9_blind_0 : cX9_blind.data.toList.drop 0 = dktX9_blind_0 := by decide +kernel
theorem dksX9_blind_1 : cX9_blind.data.toList.drop 22 = dktX9_blind_1 := dk_seg dksX9_blind_0 22 rfl rfl
theorem dksX9_blind_2 : cX9_blind.data.toList.drop 46 = dktX9_blind_2 := dk_seg dksX9_blind_1 24 rfl rfl
theorem dksX9_blind_3 : cX9_blind.data.toList.drop 68 = dktX9_blind_3 := dk_seg dksX9_blind_2 22 rfl rfl
theorem dksX9_blind_4 : cX9_blind.data.toList.drop 92 = dktX9_blind_4 := dk_seg dksX9_blind_3 24 rfl rfl
theorem dksX9_blind_5 : cX9_blind.data.toList.drop 114 = dktX9_blind_5 := dk_seg dksX9_blind_4 22 rfl rfl
theorem dksX9_blind_6 : cX9_blind.data.toList.drop 138 = dktX9_blind_6 := dk_seg dksX9_blind_5 24 rfl rfl
theorem dksX9_blind_7 : cX9_blind.data.toList.drop 161 = dktX9_blind_7 := dk_seg dksX9_blind_6 23 rfl rfl
theorem dksX9_blind_8 : cX9_blind.data.toList.drop 184 = dktX9_blind_8 := dk_seg dksX9_blind_7 23 rfl rfl
theorem dksX9_blind_9 : cX9_blind.data.toList.drop 207 = dktX9_blind_9 := dk_seg dksX9_blind_8 23 rfl rfl
theorem dksX9_blind_10 : cX9_blind.data.toList.drop 230 = dktX9_blind_10 := dk_seg dksX9_blind_9 23 rfl rfl
theorem dX9_blind_0 : decode cX9_blind 0 = .ok (.aload_n 0, 1) := dk_42 (dk_at dksX9_blind_0 0 rfl rfl)
theorem dX9_blind_1 : decode cX9_blind 1 = .ok (.iconst 0, 1) := dk_3 (dk_at dksX9_blind_0 1 rfl rfl)
theorem dX9_blind_2 : decode cX9_blind 2 = .ok (.putfield 162, 3) := dk_181 0 162 (dk_at dksX9_blind_0 2 rfl rfl)
theorem dX9_blind_5 : decode cX9_blind 5 = .ok (.iload_n 1, 1) := dk_27 (dk_at dksX9_blind_0 5 rfl rfl)
theorem dX9_blind_6 : decode cX9_blind 6 = .ok (.iconst 0, 1) := dk_3 (dk_at dksX9_blind_0 6 rfl rfl)
theorem dX9_blind_7 : decode cX9_blind 7 = .ok (.sipush 180, 3) := dk_17 0 180 (dk_at dksX9_blind_0 7 rfl rfl)
theorem dX9_blind_10 : decode cX9_blind 10 = .ok (.invokestatic 407, 3) := dk_184 1 151 (dk_at dksX9_blind_0 10 rfl rfl)
theorem dX9_blind_13 : decode cX9_blind 13 = .ok (.ifCond .eq 12, 3) := dk_153 0 12 (dk_at dksX9_blind_0 13 rfl rfl)
theorem dX9_blind_16 : decode cX9_blind 16 = .ok (.iload_n 2, 1) := dk_28 (dk_at dksX9_blind_0 16 rfl rfl)
theorem dX9_blind_17 : decode cX9_blind 17 = .ok (.iconst 0, 1) := dk_3 (dk_at dksX9_blind_0 17 rfl rfl)
theorem dX9_blind_18 : decode cX9_blind 18 = .ok (.iconst 1, 1) := dk_4 (dk_at dksX9_blind_0 18 rfl rfl)
theorem dX9_blind_19 : decode cX9_blind 19 = .ok (.invokestatic 407, 3) := dk_184 1 151 (dk_at dksX9_blind_0 19 rfl rfl)
theorem dX9_blind_22 : decode cX9_blind 22 = .ok (.ifCond .ne 5, 3) := dk_154 0 5 (dk_at dksX9_blind_1 0 rfl rfl)
theorem dX9_blind_25 : decode cX9_blind 25 = .ok (.iconst (-1), 1) := dk_2 (dk_at dksX9_blind_1 3 rfl rfl)
theorem dX9_blind_26 : decode cX9_blind 26 = .ok (.ireturn, 1) := dk_172 (dk_at dksX9_blind_1 4 rfl rfl)
theorem dX9_blind_27 : decode cX9_blind 27 = .ok (.iconst 0, 1) := dk_3 (dk_at dksX9_blind_1 5 rfl rfl)
theorem dX9_blind_28 : decode cX9_blind 28 = .ok (.istore_n 3, 1) := dk_62 (dk_at dksX9_blind_1 6 rfl rfl)
theorem dX9_blind_29 : decode cX9_blind 29 = .ok (.iconst 0, 1) := dk_3 (dk_at dksX9_blind_1 7 rfl rfl)
theorem dX9_blind_30 : decode cX9_blind 30 = .ok (.istore 4, 2) := dk_54 4 (dk_at dksX9_blind_1 8 rfl rfl)
theorem dX9_blind_32 : decode cX9_blind 32 = .ok (.iconst 0, 1) := dk_3 (dk_at dksX9_blind_1 10 rfl rfl)
theorem dX9_blind_33 : decode cX9_blind 33 = .ok (.istore 5, 2) := dk_54 5 (dk_at dksX9_blind_1 11 rfl rfl)
theorem dX9_blind_35 : decode cX9_blind 35 = .ok (.iload 5, 2) := dk_21 5 (dk_at dksX9_blind_1 13 rfl rfl)
theorem dX9_blind_37 : decode cX9_blind 37 = .ok (.aload_n 0, 1) := dk_42 (dk_at dksX9_blind_1 15 rfl rfl)
theorem dX9_blind_38 : decode cX9_blind 38 = .ok (.getfield 13, 3) := dk_180 0 13 (dk_at dksX9_blind_1 16 rfl rfl)
theorem dX9_blind_41 : decode cX9_blind 41 = .ok (.iconst 2, 1) := dk_5 (dk_at dksX9_blind_1 19 rfl rfl)
theorem dX9_blind_42 : decode cX9_blind 42 = .ok (.iaload, 1) := dk_46 (dk_at dksX9_blind_1 20 rfl rfl)
theorem dX9_blind_43 : decode cX9_blind 43 = .ok (.if_icmp .ge 190, 3) := dk_162 0 190 (dk_at dksX9_blind_1 21 rfl rfl)
theorem dX9_blind_46 : decode cX9_blind 46 = .ok (.iconst 1, 1) := dk_4 (dk_at dksX9_blind_2 0 rfl rfl)
theorem dX9_blind_47 : decode cX9_blind 47 = .ok (.iload 5, 2) := dk_21 5 (dk_at dksX9_blind_2 1 rfl rfl)
theorem dX9_blind_49 : decode cX9_blind 49 = .ok (.ishl, 1) := dk_120 (dk_at dksX9_blind_2 3 rfl rfl)
theorem dX9_blind_50 : decode cX9_blind 50 = .ok (.istore 6, 2) := dk_54 6 (dk_at dksX9_blind_2 4 rfl rfl)
theorem dX9_blind_52 : decode cX9_blind 52 = .ok (.iconst 0, 1) := dk_3 (dk_at dksX9_blind_2 6 rfl rfl)
theorem dX9_blind_53 : decode cX9_blind 53 = .ok (.istore 7, 2) := dk_54 7 (dk_at dksX9_blind_2 7 rfl rfl)
theorem dX9_blind_55 : decode cX9_blind 55 = .ok (.iload 7, 2) := dk_21 7 (dk_at dksX9_blind_2 9 rfl rfl)
theorem dX9_blind_57 : decode cX9_blind 57 = .ok (.bipush 6, 2) := dk_16 6 (dk_at dksX9_blind_2 11 rfl rfl)
theorem dX9_blind_59 : decode cX9_blind 59 = .ok (.if_icmp .ge 100, 3) := dk_162 0 100 (dk_at dksX9_blind_2 13 rfl rfl)
theorem dX9_blind_62 : decode cX9_blind 62 = .ok (.iconst 0, 1) := dk_3 (dk_at dksX9_blind_2 16 rfl rfl)
theorem dX9_blind_63 : decode cX9_blind 63 = .ok (.istore 8, 2) := dk_54 8 (dk_at dksX9_blind_2 17 rfl rfl)
theorem dX9_blind_65 : decode cX9_blind 65 = .ok (.iload 8, 2) := dk_21 8 (dk_at dksX9_blind_2 19 rfl rfl)
theorem dX9_blind_67 : decode cX9_blind 67 = .ok (.aload_n 0, 1) := dk_42 (dk_at dksX9_blind_2 21 rfl rfl)
theorem dX9_blind_68 : decode cX9_blind 68 = .ok (.getfield 13, 3) := dk_180 0 13 (dk_at dksX9_blind_3 0 rfl rfl)
theorem dX9_blind_71 : decode cX9_blind 71 = .ok (.iconst 2, 1) := dk_5 (dk_at dksX9_blind_3 3 rfl rfl)
theorem dX9_blind_72 : decode cX9_blind 72 = .ok (.iaload, 1) := dk_46 (dk_at dksX9_blind_3 4 rfl rfl)
theorem dX9_blind_73 : decode cX9_blind 73 = .ok (.if_icmp .ge 80, 3) := dk_162 0 80 (dk_at dksX9_blind_3 5 rfl rfl)
theorem dX9_blind_76 : decode cX9_blind 76 = .ok (.iconst 0, 1) := dk_3 (dk_at dksX9_blind_3 8 rfl rfl)
theorem dX9_blind_77 : decode cX9_blind 77 = .ok (.istore 9, 2) := dk_54 9 (dk_at dksX9_blind_3 9 rfl rfl)
theorem dX9_blind_79 : decode cX9_blind 79 = .ok (.iload 9, 2) := dk_21 9 (dk_at dksX9_blind_3 11 rfl rfl)
theorem dX9_blind_81 : decode cX9_blind 81 = .ok (.aload_n 0, 1) := dk_42 (dk_at dksX9_blind_3 13 rfl rfl)
theorem dX9_blind_82 : decode cX9_blind 82 = .ok (.getfield 13, 3) := dk_180 0 13 (dk_at dksX9_blind_3 14 rfl rfl)
theorem dX9_blind_85 : decode cX9_blind 85 = .ok (.iconst 2, 1) := dk_5 (dk_at dksX9_blind_3 17 rfl rfl)
theorem dX9_blind_86 : decode cX9_blind 86 = .ok (.iaload, 1) := dk_46 (dk_at dksX9_blind_3 18 rfl rfl)
theorem dX9_blind_87 : decode cX9_blind 87 = .ok (.if_icmp .ge 60, 3) := dk_162 0 60 (dk_at dksX9_blind_3 19 rfl rfl)
theorem dX9_blind_90 : decode cX9_blind 90 = .ok (.iload 6, 2) := dk_21 6 (dk_at dksX9_blind_3 22 rfl rfl)
theorem dX9_blind_92 : decode cX9_blind 92 = .ok (.iload 8, 2) := dk_21 8 (dk_at dksX9_blind_4 0 rfl rfl)
theorem dX9_blind_94 : decode cX9_blind 94 = .ok (.ishr, 1) := dk_122 (dk_at dksX9_blind_4 2 rfl rfl)
theorem dX9_blind_95 : decode cX9_blind 95 = .ok (.iconst 1, 1) := dk_4 (dk_at dksX9_blind_4 3 rfl rfl)
theorem dX9_blind_96 : decode cX9_blind 96 = .ok (.iand, 1) := dk_126 (dk_at dksX9_blind_4 4 rfl rfl)
theorem dX9_blind_97 : decode cX9_blind 97 = .ok (.iconst 1, 1) := dk_4 (dk_at dksX9_blind_4 5 rfl rfl)
theorem dX9_blind_98 : decode cX9_blind 98 = .ok (.if_icmp .ne 43, 3) := dk_160 0 43 (dk_at dksX9_blind_4 6 rfl rfl)
theorem dX9_blind_101 : decode cX9_blind 101 = .ok (.aload_n 0, 1) := dk_42 (dk_at dksX9_blind_4 9 rfl rfl)
theorem dX9_blind_102 : decode cX9_blind 102 = .ok (.getfield 23, 3) := dk_180 0 23 (dk_at dksX9_blind_4 10 rfl rfl)
theorem dX9_blind_105 : decode cX9_blind 105 = .ok (.aload_n 0, 1) := dk_42 (dk_at dksX9_blind_4 13 rfl rfl)
theorem dX9_blind_106 : decode cX9_blind 106 = .ok (.getfield 26, 3) := dk_180 0 26 (dk_at dksX9_blind_4 14 rfl rfl)
theorem dX9_blind_109 : decode cX9_blind 109 = .ok (.iload 8, 2) := dk_21 8 (dk_at dksX9_blind_4 17 rfl rfl)
theorem dX9_blind_111 : decode cX9_blind 111 = .ok (.iaload, 1) := dk_46 (dk_at dksX9_blind_4 19 rfl rfl)
theorem dX9_blind_112 : decode cX9_blind 112 = .ok (.iaload, 1) := dk_46 (dk_at dksX9_blind_4 20 rfl rfl)
theorem dX9_blind_113 : decode cX9_blind 113 = .ok (.aload_n 0, 1) := dk_42 (dk_at dksX9_blind_4 21 rfl rfl)
theorem dX9_blind_114 : decode cX9_blind 114 = .ok (.getfield 23, 3) := dk_180 0 23 (dk_at dksX9_blind_5 0 rfl rfl)
theorem dX9_blind_117 : decode cX9_blind 117 = .ok (.aload_n 0, 1) := dk_42 (dk_at dksX9_blind_5 3 rfl rfl)
theorem dX9_blind_118 : decode cX9_blind 118 = .ok (.getfield 26, 3) := dk_180 0 26 (dk_at dksX9_blind_5 4 rfl rfl)
theorem dX9_blind_121 : decode cX9_blind 121 = .ok (.iload 9, 2) := dk_21 9 (dk_at dksX9_blind_5 7 rfl rfl)
theorem dX9_blind_123 : decode cX9_blind 123 = .ok (.iaload, 1) := dk_46 (dk_at dksX9_blind_5 9 rfl rfl)
theorem dX9_blind_124 : decode cX9_blind 124 = .ok (.iaload, 1) := dk_46 (dk_at dksX9_blind_5 10 rfl rfl)
theorem dX9_blind_125 : decode cX9_blind 125 = .ok (.invokestatic 439, 3) := dk_184 1 183 (dk_at dksX9_blind_5 11 rfl rfl)
theorem dX9_blind_128 : decode cX9_blind 128 = .ok (.iload_n 1, 1) := dk_27 (dk_at dksX9_blind_5 14 rfl rfl)
theorem dX9_blind_129 : decode cX9_blind 129 = .ok (.if_icmp .gt 12, 3) := dk_163 0 12 (dk_at dksX9_blind_5 15 rfl rfl)
theorem dX9_blind_132 : decode cX9_blind 132 = .ok (.iload 6, 2) := dk_21 6 (dk_at dksX9_blind_5 18 rfl rfl)
theorem dX9_blind_134 : decode cX9_blind 134 = .ok (.iconst 1, 1) := dk_4 (dk_at dksX9_blind_5 20 rfl rfl)
theorem dX9_blind_135 : decode cX9_blind 135 = .ok (.iload 9, 2) := dk_21 9 (dk_at dksX9_blind_5 21 rfl rfl)
theorem dX9_blind_137 : decode cX9_blind 137 = .ok (.ishl, 1) := dk_120 (dk_at dksX9_blind_5 23 rfl rfl)
theorem dX9_blind_138 : decode cX9_blind 138 = .ok (.ior, 1) := dk_128 (dk_at dksX9_blind_6 0 rfl rfl)
theorem dX9_blind_139 : decode cX9_blind 139 = .ok (.istore 6, 2) := dk_54 6 (dk_at dksX9_blind_6 1 rfl rfl)
theorem dX9_blind_141 : decode cX9_blind 141 = .ok (.iinc 9 1, 3) := dk_132 9 1 (dk_at dksX9_blind_6 3 rfl rfl)
theorem dX9_blind_144 : decode cX9_blind 144 = .ok (.goto (-65), 3) := dk_167 255 191 (dk_at dksX9_blind_6 6 rfl rfl)
theorem dX9_blind_147 : decode cX9_blind 147 = .ok (.iinc 8 1, 3) := dk_132 8 1 (dk_at dksX9_blind_6 9 rfl rfl)
theorem dX9_blind_150 : decode cX9_blind 150 = .ok (.goto (-85), 3) := dk_167 255 171 (dk_at dksX9_blind_6 12 rfl rfl)
theorem dX9_blind_153 : decode cX9_blind 153 = .ok (.iinc 7 1, 3) := dk_132 7 1 (dk_at dksX9_blind_6 15 rfl rfl)
theorem dX9_blind_156 : decode cX9_blind 156 = .ok (.goto (-101), 3) := dk_167 255 155 (dk_at dksX9_blind_6 18 rfl rfl)
theorem dX9_blind_159 : decode cX9_blind 159 = .ok (.iload 4, 2) := dk_21 4 (dk_at dksX9_blind_6 21 rfl rfl)
theorem dX9_blind_161 : decode cX9_blind 161 = .ok (.iload 6, 2) := dk_21 6 (dk_at dksX9_blind_7 0 rfl rfl)
theorem dX9_blind_163 : decode cX9_blind 163 = .ok (.i2l, 1) := dk_133 (dk_at dksX9_blind_7 2 rfl rfl)
theorem dX9_blind_164 : decode cX9_blind 164 = .ok (.invokestatic 399, 3) := dk_184 1 143 (dk_at dksX9_blind_7 3 rfl rfl)
theorem dX9_blind_167 : decode cX9_blind 167 = .ok (.invokestatic 420, 3) := dk_184 1 164 (dk_at dksX9_blind_7 6 rfl rfl)
theorem dX9_blind_170 : decode cX9_blind 170 = .ok (.istore 4, 2) := dk_54 4 (dk_at dksX9_blind_7 9 rfl rfl)
theorem dX9_blind_172 : decode cX9_blind 172 = .ok (.iconst 0, 1) := dk_3 (dk_at dksX9_blind_7 11 rfl rfl)
theorem dX9_blind_173 : decode cX9_blind 173 = .ok (.istore 7, 2) := dk_54 7 (dk_at dksX9_blind_7 12 rfl rfl)
theorem dX9_blind_175 : decode cX9_blind 175 = .ok (.iload 7, 2) := dk_21 7 (dk_at dksX9_blind_7 14 rfl rfl)
theorem dX9_blind_177 : decode cX9_blind 177 = .ok (.iload 5, 2) := dk_21 5 (dk_at dksX9_blind_7 16 rfl rfl)
theorem dX9_blind_179 : decode cX9_blind 179 = .ok (.if_icmp .ge 48, 3) := dk_162 0 48 (dk_at dksX9_blind_7 18 rfl rfl)
theorem dX9_blind_182 : decode cX9_blind 182 = .ok (.iload_n 3, 1) := dk_29 (dk_at dksX9_blind_7 21 rfl rfl)
theorem dX9_blind_183 : decode cX9_blind 183 = .ok (.aload_n 0, 1) := dk_42 (dk_at dksX9_blind_7 22 rfl rfl)
theorem dX9_blind_184 : decode cX9_blind 184 = .ok (.getfield 23, 3) := dk_180 0 23 (dk_at dksX9_blind_8 0 rfl rfl)
theorem dX9_blind_187 : decode cX9_blind 187 = .ok (.aload_n 0, 1) := dk_42 (dk_at dksX9_blind_8 3 rfl rfl)
theorem dX9_blind_188 : decode cX9_blind 188 = .ok (.getfield 26, 3) := dk_180 0 26 (dk_at dksX9_blind_8 4 rfl rfl)
theorem dX9_blind_191 : decode cX9_blind 191 = .ok (.iload 5, 2) := dk_21 5 (dk_at dksX9_blind_8 7 rfl rfl)
theorem dX9_blind_193 : decode cX9_blind 193 = .ok (.iaload, 1) := dk_46 (dk_at dksX9_blind_8 9 rfl rfl)
theorem dX9_blind_194 : decode cX9_blind 194 = .ok (.iaload, 1) := dk_46 (dk_at dksX9_blind_8 10 rfl rfl)
theorem dX9_blind_195 : decode cX9_blind 195 = .ok (.aload_n 0, 1) := dk_42 (dk_at dksX9_blind_8 11 rfl rfl)
theorem dX9_blind_196 : decode cX9_blind 196 = .ok (.getfield 23, 3) := dk_180 0 23 (dk_at dksX9_blind_8 12 rfl rfl)
theorem dX9_blind_199 : decode cX9_blind 199 = .ok (.aload_n 0, 1) := dk_42 (dk_at dksX9_blind_8 15 rfl rfl)
theorem dX9_blind_200 : decode cX9_blind 200 = .ok (.getfield 26, 3) := dk_180 0 26 (dk_at dksX9_blind_8 16 rfl rfl)
theorem dX9_blind_203 : decode cX9_blind 203 = .ok (.iload 7, 2) := dk_21 7 (dk_at dksX9_blind_8 19 rfl rfl)
theorem dX9_blind_205 : decode cX9_blind 205 = .ok (.iaload, 1) := dk_46 (dk_at dksX9_blind_8 21 rfl rfl)
theorem dX9_blind_206 : decode cX9_blind 206 = .ok (.iaload, 1) := dk_46 (dk_at dksX9_blind_8 22 rfl rfl)
theorem dX9_blind_207 : decode cX9_blind 207 = .ok (.invokestatic 439, 3) := dk_184 1 183 (dk_at dksX9_blind_9 0 rfl rfl)
theorem dX9_blind_210 : decode cX9_blind 210 = .ok (.iload_n 1, 1) := dk_27 (dk_at dksX9_blind_9 3 rfl rfl)
theorem dX9_blind_211 : decode cX9_blind 211 = .ok (.if_icmp .gt 7, 3) := dk_163 0 7 (dk_at dksX9_blind_9 4 rfl rfl)
theorem dX9_blind_214 : decode cX9_blind 214 = .ok (.iconst 1, 1) := dk_4 (dk_at dksX9_blind_9 7 rfl rfl)
theorem dX9_blind_215 : decode cX9_blind 215 = .ok (.goto 4, 3) := dk_167 0 4 (dk_at dksX9_blind_9 8 rfl rfl)
theorem dX9_blind_218 : decode cX9_blind 218 = .ok (.iconst 0, 1) := dk_3 (dk_at dksX9_blind_9 11 rfl rfl)
theorem dX9_blind_219 : decode cX9_blind 219 = .ok (.iadd, 1) := dk_96 (dk_at dksX9_blind_9 12 rfl rfl)
theorem dX9_blind_220 : decode cX9_blind 220 = .ok (.istore_n 3, 1) := dk_62 (dk_at dksX9_blind_9 13 rfl rfl)
theorem dX9_blind_221 : decode cX9_blind 221 = .ok (.iinc 7 1, 3) := dk_132 7 1 (dk_at dksX9_blind_9 14 rfl rfl)
theorem dX9_blind_224 : decode cX9_blind 224 = .ok (.goto (-49), 3) := dk_167 255 207 (dk_at dksX9_blind_9 17 rfl rfl)
theorem dX9_blind_227 : decode cX9_blind 227 = .ok (.iinc 5 1, 3) := dk_132 5 1 (dk_at dksX9_blind_9 20 rfl rfl)
theorem dX9_blind_230 : decode cX9_blind 230 = .ok (.goto (-195), 3) := dk_167 255 61 (dk_at dksX9_blind_10 0 rfl rfl)
theorem dX9_blind_233 : decode cX9_blind 233 = .ok (.iload_n 2, 1) := dk_28 (dk_at dksX9_blind_10 3 rfl rfl)
theorem dX9_blind_234 : decode cX9_blind 234 = .ok (.ifCond .ne 7, 3) := dk_154 0 7 (dk_at dksX9_blind_10 4 rfl rfl)
theorem dX9_blind_237 : decode cX9_blind 237 = .ok (.iload_n 3, 1) := dk_29 (dk_at dksX9_blind_10 7 rfl rfl)
theorem dX9_blind_238 : decode cX9_blind 238 = .ok (.goto 5, 3) := dk_167 0 5 (dk_at dksX9_blind_10 8 rfl rfl)
theorem dX9_blind_241 : decode cX9_blind 241 = .ok (.iload 4, 2) := dk_21 4 (dk_at dksX9_blind_10 11 rfl rfl)
theorem dX9_blind_243 : decode cX9_blind 243 = .ok (.ireturn, 1) := dk_172 (dk_at dksX9_blind_10 13 rfl rfl)
abbrev cX9_told : ByteArray := prog_28_method_89_code
def yX9_told : MethodName := ⟨RX9, "told", "(I)I"⟩
def dkwX9_told_1 : List UInt8 := [182, 1, 194, 167, 0, 4, 2, 172]
abbrev dktX9_told_1 : List UInt8 := dkwX9_told_1 ++ []
def dkwX9_told_0 : List UInt8 := [42, 3, 181, 0, 162, 27, 155, 0, 23, 27, 4, 42, 180, 0, 13, 5, 46, 120, 162, 0, 11, 42, 27]
abbrev dktX9_told_0 : List UInt8 := dkwX9_told_0 ++ dktX9_told_1
theorem dksX9_told_0 : cX9_told.data.toList.drop 0 = dktX9_told_0 := by decide +kernel
theorem dksX9_told_1 : cX9_told.data.toList.drop 23 = dktX9_told_1 := dk_seg dksX9_told_0 23 rfl rfl
theorem dX9_told_0 : decode cX9_told 0 = .ok (.aload_n 0, 1) := dk_42 (dk_at dksX9_told_0 0 rfl rfl)
theorem dX9_told_1 : decode cX9_told 1 = .ok (.iconst 0, 1) := dk_3 (dk_at dksX9_told_0 1 rfl rfl)
theorem dX9_told_2 : decode cX9_told 2 = .ok (.putfield 162, 3) := dk_181 0 162 (dk_at dksX9_told_0 2 rfl rfl)
theorem dX9_told_5 : decode cX9_told 5 = .ok (.iload_n 1, 1) := dk_27 (dk_at dksX9_told_0 5 rfl rfl)
theorem dX9_told_6 : decode cX9_told 6 = .ok (.ifCond .lt 23, 3) := dk_155 0 23 (dk_at dksX9_told_0 6 rfl rfl)
theorem dX9_told_9 : decode cX9_told 9 = .ok (.iload_n 1, 1) := dk_27 (dk_at dksX9_told_0 9 rfl rfl)
theorem dX9_told_10 : decode cX9_told 10 = .ok (.iconst 1, 1) := dk_4 (dk_at dksX9_told_0 10 rfl rfl)
theorem dX9_told_11 : decode cX9_told 11 = .ok (.aload_n 0, 1) := dk_42 (dk_at dksX9_told_0 11 rfl rfl)
theorem dX9_told_12 : decode cX9_told 12 = .ok (.getfield 13, 3) := dk_180 0 13 (dk_at dksX9_told_0 12 rfl rfl)
theorem dX9_told_15 : decode cX9_told 15 = .ok (.iconst 2, 1) := dk_5 (dk_at dksX9_told_0 15 rfl rfl)
theorem dX9_told_16 : decode cX9_told 16 = .ok (.iaload, 1) := dk_46 (dk_at dksX9_told_0 16 rfl rfl)
theorem dX9_told_17 : decode cX9_told 17 = .ok (.ishl, 1) := dk_120 (dk_at dksX9_told_0 17 rfl rfl)
theorem dX9_told_18 : decode cX9_told 18 = .ok (.if_icmp .ge 11, 3) := dk_162 0 11 (dk_at dksX9_told_0 18 rfl rfl)
theorem dX9_told_21 : decode cX9_told 21 = .ok (.aload_n 0, 1) := dk_42 (dk_at dksX9_told_0 21 rfl rfl)
theorem dX9_told_22 : decode cX9_told 22 = .ok (.iload_n 1, 1) := dk_27 (dk_at dksX9_told_0 22 rfl rfl)
theorem dX9_told_23 : decode cX9_told 23 = .ok (.invokevirtual 450, 3) := dk_182 1 194 (dk_at dksX9_told_1 0 rfl rfl)
theorem dX9_told_26 : decode cX9_told 26 = .ok (.goto 4, 3) := dk_167 0 4 (dk_at dksX9_told_1 3 rfl rfl)
theorem dX9_told_29 : decode cX9_told 29 = .ok (.iconst (-1), 1) := dk_2 (dk_at dksX9_told_1 6 rfl rfl)
theorem dX9_told_30 : decode cX9_told 30 = .ok (.ireturn, 1) := dk_172 (dk_at dksX9_told_1 7 rfl rfl)
abbrev cX9_toldBy : ByteArray := prog_28_method_88_code
def yX9_toldBy : MethodName := ⟨RX9, "toldBy", "(I)I"⟩
def dkwX9_toldBy_4 : List UInt8 := [167, 0, 4, 3, 128, 54, 5, 132, 6, 1, 167, 255, 209, 21, 5, 172]
abbrev dktX9_toldBy_4 : List UInt8 := dkwX9_toldBy_4 ++ []
def dkwX9_toldBy_3 : List UInt8 := [153, 0, 36, 21, 5, 33, 42, 21, 6, 182, 1, 140, 184, 1, 147, 5, 162, 0, 10, 4, 21, 6, 120]
abbrev dktX9_toldBy_3 : List UInt8 := dkwX9_toldBy_3 ++ dktX9_toldBy_4
def dkwX9_toldBy_2 : List UInt8 := [182, 1, 98, 66, 3, 54, 5, 3, 54, 6, 21, 6, 42, 180, 0, 13, 3, 46, 162, 0, 42, 33, 9, 148]
abbrev dktX9_toldBy_2 : List UInt8 := dkwX9_toldBy_2 ++ dktX9_toldBy_3
def dkwX9_toldBy_1 : List UInt8 := [42, 180, 0, 29, 29, 46, 167, 0, 4, 3, 128, 61, 132, 3, 1, 167, 255, 221, 42, 28, 42, 180, 1, 78]
abbrev dktX9_toldBy_1 : List UInt8 := dkwX9_toldBy_1 ++ dktX9_toldBy_2
def dkwX9_toldBy_0 : List UInt8 := [3, 61, 3, 62, 29, 42, 180, 0, 13, 5, 46, 162, 0, 31, 28, 27, 29, 122, 4, 126, 4, 160, 0, 12]
abbrev dktX9_toldBy_0 : List UInt8 := dkwX9_toldBy_0 ++ dktX9_toldBy_1
theorem dksX9_toldBy_0 : cX9_toldBy.data.toList.drop 0 = dktX9_toldBy_0 := by decide +kernel
theorem dksX9_toldBy_1 : cX9_toldBy.data.toList.drop 24 = dktX9_toldBy_1 := dk_seg dksX9_toldBy_0 24 rfl rfl
theorem dksX9_toldBy_2 : cX9_toldBy.data.toList.drop 48 = dktX9_toldBy_2 := dk_seg dksX9_toldBy_1 24 rfl rfl
theorem dksX9_toldBy_3 : cX9_toldBy.data.toList.drop 72 = dktX9_toldBy_3 := dk_seg dksX9_toldBy_2 24 rfl rfl
theorem dksX9_toldBy_4 : cX9_toldBy.data.toList.drop 95 = dktX9_toldBy_4 := dk_seg dksX9_toldBy_3 23 rfl rfl
theorem dX9_toldBy_0 : decode cX9_toldBy 0 = .ok (.iconst 0, 1) := dk_3 (dk_at dksX9_toldBy_0 0 rfl rfl)
theorem dX9_toldBy_1 : decode cX9_toldBy 1 = .ok (.istore_n 2, 1) := dk_61 (dk_at dksX9_toldBy_0 1 rfl rfl)
theorem dX9_toldBy_2 : decode cX9_toldBy 2 = .ok (.iconst 0, 1) := dk_3 (dk_at dksX9_toldBy_0 2 rfl rfl)
theorem dX9_toldBy_3 : decode cX9_toldBy 3 = .ok (.istore_n 3, 1) := dk_62 (dk_at dksX9_toldBy_0 3 rfl rfl)
theorem dX9_toldBy_4 : decode cX9_toldBy 4 = .ok (.iload_n 3, 1) := dk_29 (dk_at dksX9_toldBy_0 4 rfl rfl)
theorem dX9_toldBy_5 : decode cX9_toldBy 5 = .ok (.aload_n 0, 1) := dk_42 (dk_at dksX9_toldBy_0 5 rfl rfl)
theorem dX9_toldBy_6 : decode cX9_toldBy 6 = .ok (.getfield 13, 3) := dk_180 0 13 (dk_at dksX9_toldBy_0 6 rfl rfl)
theorem dX9_toldBy_9 : decode cX9_toldBy 9 = .ok (.iconst 2, 1) := dk_5 (dk_at dksX9_toldBy_0 9 rfl rfl)
theorem dX9_toldBy_10 : decode cX9_toldBy 10 = .ok (.iaload, 1) := dk_46 (dk_at dksX9_toldBy_0 10 rfl rfl)
theorem dX9_toldBy_11 : decode cX9_toldBy 11 = .ok (.if_icmp .ge 31, 3) := dk_162 0 31 (dk_at dksX9_toldBy_0 11 rfl rfl)
theorem dX9_toldBy_14 : decode cX9_toldBy 14 = .ok (.iload_n 2, 1) := dk_28 (dk_at dksX9_toldBy_0 14 rfl rfl)
theorem dX9_toldBy_15 : decode cX9_toldBy 15 = .ok (.iload_n 1, 1) := dk_27 (dk_at dksX9_toldBy_0 15 rfl rfl)
theorem dX9_toldBy_16 : decode cX9_toldBy 16 = .ok (.iload_n 3, 1) := dk_29 (dk_at dksX9_toldBy_0 16 rfl rfl)
theorem dX9_toldBy_17 : decode cX9_toldBy 17 = .ok (.ishr, 1) := dk_122 (dk_at dksX9_toldBy_0 17 rfl rfl)
theorem dX9_toldBy_18 : decode cX9_toldBy 18 = .ok (.iconst 1, 1) := dk_4 (dk_at dksX9_toldBy_0 18 rfl rfl)
theorem dX9_toldBy_19 : decode cX9_toldBy 19 = .ok (.iand, 1) := dk_126 (dk_at dksX9_toldBy_0 19 rfl rfl)
theorem dX9_toldBy_20 : decode cX9_toldBy 20 = .ok (.iconst 1, 1) := dk_4 (dk_at dksX9_toldBy_0 20 rfl rfl)
theorem dX9_toldBy_21 : decode cX9_toldBy 21 = .ok (.if_icmp .ne 12, 3) := dk_160 0 12 (dk_at dksX9_toldBy_0 21 rfl rfl)
theorem dX9_toldBy_24 : decode cX9_toldBy 24 = .ok (.aload_n 0, 1) := dk_42 (dk_at dksX9_toldBy_1 0 rfl rfl)
theorem dX9_toldBy_25 : decode cX9_toldBy 25 = .ok (.getfield 29, 3) := dk_180 0 29 (dk_at dksX9_toldBy_1 1 rfl rfl)
theorem dX9_toldBy_28 : decode cX9_toldBy 28 = .ok (.iload_n 3, 1) := dk_29 (dk_at dksX9_toldBy_1 4 rfl rfl)
theorem dX9_toldBy_29 : decode cX9_toldBy 29 = .ok (.iaload, 1) := dk_46 (dk_at dksX9_toldBy_1 5 rfl rfl)
theorem dX9_toldBy_30 : decode cX9_toldBy 30 = .ok (.goto 4, 3) := dk_167 0 4 (dk_at dksX9_toldBy_1 6 rfl rfl)
theorem dX9_toldBy_33 : decode cX9_toldBy 33 = .ok (.iconst 0, 1) := dk_3 (dk_at dksX9_toldBy_1 9 rfl rfl)
theorem dX9_toldBy_34 : decode cX9_toldBy 34 = .ok (.ior, 1) := dk_128 (dk_at dksX9_toldBy_1 10 rfl rfl)
theorem dX9_toldBy_35 : decode cX9_toldBy 35 = .ok (.istore_n 2, 1) := dk_61 (dk_at dksX9_toldBy_1 11 rfl rfl)
theorem dX9_toldBy_36 : decode cX9_toldBy 36 = .ok (.iinc 3 1, 3) := dk_132 3 1 (dk_at dksX9_toldBy_1 12 rfl rfl)
theorem dX9_toldBy_39 : decode cX9_toldBy 39 = .ok (.goto (-35), 3) := dk_167 255 221 (dk_at dksX9_toldBy_1 15 rfl rfl)
theorem dX9_toldBy_42 : decode cX9_toldBy 42 = .ok (.aload_n 0, 1) := dk_42 (dk_at dksX9_toldBy_1 18 rfl rfl)
theorem dX9_toldBy_43 : decode cX9_toldBy 43 = .ok (.iload_n 2, 1) := dk_28 (dk_at dksX9_toldBy_1 19 rfl rfl)
theorem dX9_toldBy_44 : decode cX9_toldBy 44 = .ok (.aload_n 0, 1) := dk_42 (dk_at dksX9_toldBy_1 20 rfl rfl)
theorem dX9_toldBy_45 : decode cX9_toldBy 45 = .ok (.getfield 334, 3) := dk_180 1 78 (dk_at dksX9_toldBy_1 21 rfl rfl)
theorem dX9_toldBy_48 : decode cX9_toldBy 48 = .ok (.invokevirtual 354, 3) := dk_182 1 98 (dk_at dksX9_toldBy_2 0 rfl rfl)
theorem dX9_toldBy_51 : decode cX9_toldBy 51 = .ok (.lstore_n 3, 1) := dk_66 (dk_at dksX9_toldBy_2 3 rfl rfl)
theorem dX9_toldBy_52 : decode cX9_toldBy 52 = .ok (.iconst 0, 1) := dk_3 (dk_at dksX9_toldBy_2 4 rfl rfl)
theorem dX9_toldBy_53 : decode cX9_toldBy 53 = .ok (.istore 5, 2) := dk_54 5 (dk_at dksX9_toldBy_2 5 rfl rfl)
theorem dX9_toldBy_55 : decode cX9_toldBy 55 = .ok (.iconst 0, 1) := dk_3 (dk_at dksX9_toldBy_2 7 rfl rfl)
theorem dX9_toldBy_56 : decode cX9_toldBy 56 = .ok (.istore 6, 2) := dk_54 6 (dk_at dksX9_toldBy_2 8 rfl rfl)
theorem dX9_toldBy_58 : decode cX9_toldBy 58 = .ok (.iload 6, 2) := dk_21 6 (dk_at dksX9_toldBy_2 10 rfl rfl)
theorem dX9_toldBy_60 : decode cX9_toldBy 60 = .ok (.aload_n 0, 1) := dk_42 (dk_at dksX9_toldBy_2 12 rfl rfl)
theorem dX9_toldBy_61 : decode cX9_toldBy 61 = .ok (.getfield 13, 3) := dk_180 0 13 (dk_at dksX9_toldBy_2 13 rfl rfl)
theorem dX9_toldBy_64 : decode cX9_toldBy 64 = .ok (.iconst 0, 1) := dk_3 (dk_at dksX9_toldBy_2 16 rfl rfl)
theorem dX9_toldBy_65 : decode cX9_toldBy 65 = .ok (.iaload, 1) := dk_46 (dk_at dksX9_toldBy_2 17 rfl rfl)
theorem dX9_toldBy_66 : decode cX9_toldBy 66 = .ok (.if_icmp .ge 42, 3) := dk_162 0 42 (dk_at dksX9_toldBy_2 18 rfl rfl)
theorem dX9_toldBy_69 : decode cX9_toldBy 69 = .ok (.lload_n 3, 1) := dk_33 (dk_at dksX9_toldBy_2 21 rfl rfl)
theorem dX9_toldBy_70 : decode cX9_toldBy 70 = .ok (.lconst 0, 1) := dk_9 (dk_at dksX9_toldBy_2 22 rfl rfl)
theorem dX9_toldBy_71 : decode cX9_toldBy 71 = .ok (.lcmp, 1) := dk_148 (dk_at dksX9_toldBy_2 23 rfl rfl)
theorem dX9_toldBy_72 : decode cX9_toldBy 72 = .ok (.ifCond .eq 36, 3) := dk_153 0 36 (dk_at dksX9_toldBy_3 0 rfl rfl)
theorem dX9_toldBy_75 : decode cX9_toldBy 75 = .ok (.iload 5, 2) := dk_21 5 (dk_at dksX9_toldBy_3 3 rfl rfl)
theorem dX9_toldBy_77 : decode cX9_toldBy 77 = .ok (.lload_n 3, 1) := dk_33 (dk_at dksX9_toldBy_3 5 rfl rfl)
theorem dX9_toldBy_78 : decode cX9_toldBy 78 = .ok (.aload_n 0, 1) := dk_42 (dk_at dksX9_toldBy_3 6 rfl rfl)
theorem dX9_toldBy_79 : decode cX9_toldBy 79 = .ok (.iload 6, 2) := dk_21 6 (dk_at dksX9_toldBy_3 7 rfl rfl)
theorem dX9_toldBy_81 : decode cX9_toldBy 81 = .ok (.invokevirtual 396, 3) := dk_182 1 140 (dk_at dksX9_toldBy_3 9 rfl rfl)
theorem dX9_toldBy_84 : decode cX9_toldBy 84 = .ok (.invokestatic 403, 3) := dk_184 1 147 (dk_at dksX9_toldBy_3 12 rfl rfl)
theorem dX9_toldBy_87 : decode cX9_toldBy 87 = .ok (.iconst 2, 1) := dk_5 (dk_at dksX9_toldBy_3 15 rfl rfl)
theorem dX9_toldBy_88 : decode cX9_toldBy 88 = .ok (.if_icmp .ge 10, 3) := dk_162 0 10 (dk_at dksX9_toldBy_3 16 rfl rfl)
theorem dX9_toldBy_91 : decode cX9_toldBy 91 = .ok (.iconst 1, 1) := dk_4 (dk_at dksX9_toldBy_3 19 rfl rfl)
theorem dX9_toldBy_92 : decode cX9_toldBy 92 = .ok (.iload 6, 2) := dk_21 6 (dk_at dksX9_toldBy_3 20 rfl rfl)
theorem dX9_toldBy_94 : decode cX9_toldBy 94 = .ok (.ishl, 1) := dk_120 (dk_at dksX9_toldBy_3 22 rfl rfl)
theorem dX9_toldBy_95 : decode cX9_toldBy 95 = .ok (.goto 4, 3) := dk_167 0 4 (dk_at dksX9_toldBy_4 0 rfl rfl)
theorem dX9_toldBy_98 : decode cX9_toldBy 98 = .ok (.iconst 0, 1) := dk_3 (dk_at dksX9_toldBy_4 3 rfl rfl)
theorem dX9_toldBy_99 : decode cX9_toldBy 99 = .ok (.ior, 1) := dk_128 (dk_at dksX9_toldBy_4 4 rfl rfl)
theorem dX9_toldBy_100 : decode cX9_toldBy 100 = .ok (.istore 5, 2) := dk_54 5 (dk_at dksX9_toldBy_4 5 rfl rfl)
theorem dX9_toldBy_102 : decode cX9_toldBy 102 = .ok (.iinc 6 1, 3) := dk_132 6 1 (dk_at dksX9_toldBy_4 7 rfl rfl)
theorem dX9_toldBy_105 : decode cX9_toldBy 105 = .ok (.goto (-47), 3) := dk_167 255 209 (dk_at dksX9_toldBy_4 10 rfl rfl)
theorem dX9_toldBy_108 : decode cX9_toldBy 108 = .ok (.iload 5, 2) := dk_21 5 (dk_at dksX9_toldBy_4 13 rfl rfl)
theorem dX9_toldBy_110 : decode cX9_toldBy 110 = .ok (.ireturn, 1) := dk_172 (dk_at dksX9_toldBy_4 15 rfl rfl)
abbrev cX9_fewest : ByteArray := prog_28_method_90_code
def yX9_fewest : MethodName := ⟨RX9, "fewest", "(II)I"⟩
def dkwX9_fewest_4 : List UInt8 := [29, 133, 184, 1, 143, 167, 0, 4, 29, 172]
abbrev dktX9_fewest_4 : List UInt8 := dkwX9_fewest_4 ++ []
def dkwX9_fewest_3 : List UInt8 := [162, 0, 6, 21, 4, 62, 132, 4, 1, 167, 255, 205, 29, 156, 0, 7, 2, 167, 0, 16, 28, 154, 0, 11]
abbrev dktX9_fewest_3 : List UInt8 := dkwX9_fewest_3 ++ dktX9_fewest_4
def dkwX9_fewest_2 : List UInt8 := [27, 122, 4, 126, 4, 160, 0, 24, 29, 155, 0, 17, 21, 4, 133, 184, 1, 143, 29, 133, 184, 1, 143]
abbrev dktX9_fewest_2 : List UInt8 := dkwX9_fewest_2 ++ dktX9_fewest_3
def dkwX9_fewest_1 : List UInt8 := [2, 62, 3, 54, 4, 21, 4, 4, 42, 180, 0, 13, 5, 46, 120, 162, 0, 44, 42, 21, 4, 182, 1, 194]
abbrev dktX9_fewest_1 : List UInt8 := dkwX9_fewest_1 ++ dktX9_fewest_2
def dkwX9_fewest_0 : List UInt8 := [42, 3, 181, 0, 162, 42, 27, 182, 1, 137, 153, 0, 12, 28, 3, 4, 184, 1, 151, 154, 0, 5, 2, 172]
abbrev dktX9_fewest_0 : List UInt8 := dkwX9_fewest_0 ++ dktX9_fewest_1
theorem dksX9_fewest_0 : cX9_fewest.data.toList.drop 0 = dktX9_fewest_0 := by decide +kernel
theorem dksX9_fewest_1 : cX9_fewest.data.toList.drop 24 = dktX9_fewest_1 := dk_seg dksX9_fewest_0 24 rfl rfl
theorem dksX9_fewest_2 : cX9_fewest.data.toList.drop 48 = dktX9_fewest_2 := dk_seg dksX9_fewest_1 24 rfl rfl
theorem dksX9_fewest_3 : cX9_fewest.data.toList.drop 71 = dktX9_fewest_3 := dk_seg dksX9_fewest_2 23 rfl rfl
theorem dksX9_fewest_4 : cX9_fewest.data.toList.drop 95 = dktX9_fewest_4 := dk_seg dksX9_fewest_3 24 rfl rfl
theorem dX9_fewest_0 : decode cX9_fewest 0 = .ok (.aload_n 0, 1) := dk_42 (dk_at dksX9_fewest_0 0 rfl rfl)
theorem dX9_fewest_1 : decode cX9_fewest 1 = .ok (.iconst 0, 1) := dk_3 (dk_at dksX9_fewest_0 1 rfl rfl)
theorem dX9_fewest_2 : decode cX9_fewest 2 = .ok (.putfield 162, 3) := dk_181 0 162 (dk_at dksX9_fewest_0 2 rfl rfl)
theorem dX9_fewest_5 : decode cX9_fewest 5 = .ok (.aload_n 0, 1) := dk_42 (dk_at dksX9_fewest_0 5 rfl rfl)
theorem dX9_fewest_6 : decode cX9_fewest 6 = .ok (.iload_n 1, 1) := dk_27 (dk_at dksX9_fewest_0 6 rfl rfl)
theorem dX9_fewest_7 : decode cX9_fewest 7 = .ok (.invokevirtual 393, 3) := dk_182 1 137 (dk_at dksX9_fewest_0 7 rfl rfl)
theorem dX9_fewest_10 : decode cX9_fewest 10 = .ok (.ifCond .eq 12, 3) := dk_153 0 12 (dk_at dksX9_fewest_0 10 rfl rfl)
theorem dX9_fewest_13 : decode cX9_fewest 13 = .ok (.iload_n 2, 1) := dk_28 (dk_at dksX9_fewest_0 13 rfl rfl)
theorem dX9_fewest_14 : decode cX9_fewest 14 = .ok (.iconst 0, 1) := dk_3 (dk_at dksX9_fewest_0 14 rfl rfl)
theorem dX9_fewest_15 : decode cX9_fewest 15 = .ok (.iconst 1, 1) := dk_4 (dk_at dksX9_fewest_0 15 rfl rfl)
theorem dX9_fewest_16 : decode cX9_fewest 16 = .ok (.invokestatic 407, 3) := dk_184 1 151 (dk_at dksX9_fewest_0 16 rfl rfl)
theorem dX9_fewest_19 : decode cX9_fewest 19 = .ok (.ifCond .ne 5, 3) := dk_154 0 5 (dk_at dksX9_fewest_0 19 rfl rfl)
theorem dX9_fewest_22 : decode cX9_fewest 22 = .ok (.iconst (-1), 1) := dk_2 (dk_at dksX9_fewest_0 22 rfl rfl)
theorem dX9_fewest_23 : decode cX9_fewest 23 = .ok (.ireturn, 1) := dk_172 (dk_at dksX9_fewest_0 23 rfl rfl)
theorem dX9_fewest_24 : decode cX9_fewest 24 = .ok (.iconst (-1), 1) := dk_2 (dk_at dksX9_fewest_1 0 rfl rfl)
theorem dX9_fewest_25 : decode cX9_fewest 25 = .ok (.istore_n 3, 1) := dk_62 (dk_at dksX9_fewest_1 1 rfl rfl)
theorem dX9_fewest_26 : decode cX9_fewest 26 = .ok (.iconst 0, 1) := dk_3 (dk_at dksX9_fewest_1 2 rfl rfl)
theorem dX9_fewest_27 : decode cX9_fewest 27 = .ok (.istore 4, 2) := dk_54 4 (dk_at dksX9_fewest_1 3 rfl rfl)
theorem dX9_fewest_29 : decode cX9_fewest 29 = .ok (.iload 4, 2) := dk_21 4 (dk_at dksX9_fewest_1 5 rfl rfl)
theorem dX9_fewest_31 : decode cX9_fewest 31 = .ok (.iconst 1, 1) := dk_4 (dk_at dksX9_fewest_1 7 rfl rfl)
theorem dX9_fewest_32 : decode cX9_fewest 32 = .ok (.aload_n 0, 1) := dk_42 (dk_at dksX9_fewest_1 8 rfl rfl)
theorem dX9_fewest_33 : decode cX9_fewest 33 = .ok (.getfield 13, 3) := dk_180 0 13 (dk_at dksX9_fewest_1 9 rfl rfl)
theorem dX9_fewest_36 : decode cX9_fewest 36 = .ok (.iconst 2, 1) := dk_5 (dk_at dksX9_fewest_1 12 rfl rfl)
theorem dX9_fewest_37 : decode cX9_fewest 37 = .ok (.iaload, 1) := dk_46 (dk_at dksX9_fewest_1 13 rfl rfl)
theorem dX9_fewest_38 : decode cX9_fewest 38 = .ok (.ishl, 1) := dk_120 (dk_at dksX9_fewest_1 14 rfl rfl)
theorem dX9_fewest_39 : decode cX9_fewest 39 = .ok (.if_icmp .ge 44, 3) := dk_162 0 44 (dk_at dksX9_fewest_1 15 rfl rfl)
theorem dX9_fewest_42 : decode cX9_fewest 42 = .ok (.aload_n 0, 1) := dk_42 (dk_at dksX9_fewest_1 18 rfl rfl)
theorem dX9_fewest_43 : decode cX9_fewest 43 = .ok (.iload 4, 2) := dk_21 4 (dk_at dksX9_fewest_1 19 rfl rfl)
theorem dX9_fewest_45 : decode cX9_fewest 45 = .ok (.invokevirtual 450, 3) := dk_182 1 194 (dk_at dksX9_fewest_1 21 rfl rfl)
theorem dX9_fewest_48 : decode cX9_fewest 48 = .ok (.iload_n 1, 1) := dk_27 (dk_at dksX9_fewest_2 0 rfl rfl)
theorem dX9_fewest_49 : decode cX9_fewest 49 = .ok (.ishr, 1) := dk_122 (dk_at dksX9_fewest_2 1 rfl rfl)
theorem dX9_fewest_50 : decode cX9_fewest 50 = .ok (.iconst 1, 1) := dk_4 (dk_at dksX9_fewest_2 2 rfl rfl)
theorem dX9_fewest_51 : decode cX9_fewest 51 = .ok (.iand, 1) := dk_126 (dk_at dksX9_fewest_2 3 rfl rfl)
theorem dX9_fewest_52 : decode cX9_fewest 52 = .ok (.iconst 1, 1) := dk_4 (dk_at dksX9_fewest_2 4 rfl rfl)
theorem dX9_fewest_53 : decode cX9_fewest 53 = .ok (.if_icmp .ne 24, 3) := dk_160 0 24 (dk_at dksX9_fewest_2 5 rfl rfl)
theorem dX9_fewest_56 : decode cX9_fewest 56 = .ok (.iload_n 3, 1) := dk_29 (dk_at dksX9_fewest_2 8 rfl rfl)
theorem dX9_fewest_57 : decode cX9_fewest 57 = .ok (.ifCond .lt 17, 3) := dk_155 0 17 (dk_at dksX9_fewest_2 9 rfl rfl)
theorem dX9_fewest_60 : decode cX9_fewest 60 = .ok (.iload 4, 2) := dk_21 4 (dk_at dksX9_fewest_2 12 rfl rfl)
theorem dX9_fewest_62 : decode cX9_fewest 62 = .ok (.i2l, 1) := dk_133 (dk_at dksX9_fewest_2 14 rfl rfl)
theorem dX9_fewest_63 : decode cX9_fewest 63 = .ok (.invokestatic 399, 3) := dk_184 1 143 (dk_at dksX9_fewest_2 15 rfl rfl)
theorem dX9_fewest_66 : decode cX9_fewest 66 = .ok (.iload_n 3, 1) := dk_29 (dk_at dksX9_fewest_2 18 rfl rfl)
theorem dX9_fewest_67 : decode cX9_fewest 67 = .ok (.i2l, 1) := dk_133 (dk_at dksX9_fewest_2 19 rfl rfl)
theorem dX9_fewest_68 : decode cX9_fewest 68 = .ok (.invokestatic 399, 3) := dk_184 1 143 (dk_at dksX9_fewest_2 20 rfl rfl)
theorem dX9_fewest_71 : decode cX9_fewest 71 = .ok (.if_icmp .ge 6, 3) := dk_162 0 6 (dk_at dksX9_fewest_3 0 rfl rfl)
theorem dX9_fewest_74 : decode cX9_fewest 74 = .ok (.iload 4, 2) := dk_21 4 (dk_at dksX9_fewest_3 3 rfl rfl)
theorem dX9_fewest_76 : decode cX9_fewest 76 = .ok (.istore_n 3, 1) := dk_62 (dk_at dksX9_fewest_3 5 rfl rfl)
theorem dX9_fewest_77 : decode cX9_fewest 77 = .ok (.iinc 4 1, 3) := dk_132 4 1 (dk_at dksX9_fewest_3 6 rfl rfl)
theorem dX9_fewest_80 : decode cX9_fewest 80 = .ok (.goto (-51), 3) := dk_167 255 205 (dk_at dksX9_fewest_3 9 rfl rfl)
theorem dX9_fewest_83 : decode cX9_fewest 83 = .ok (.iload_n 3, 1) := dk_29 (dk_at dksX9_fewest_3 12 rfl rfl)
theorem dX9_fewest_84 : decode cX9_fewest 84 = .ok (.ifCond .ge 7, 3) := dk_156 0 7 (dk_at dksX9_fewest_3 13 rfl rfl)
theorem dX9_fewest_87 : decode cX9_fewest 87 = .ok (.iconst (-1), 1) := dk_2 (dk_at dksX9_fewest_3 16 rfl rfl)
theorem dX9_fewest_88 : decode cX9_fewest 88 = .ok (.goto 16, 3) := dk_167 0 16 (dk_at dksX9_fewest_3 17 rfl rfl)
theorem dX9_fewest_91 : decode cX9_fewest 91 = .ok (.iload_n 2, 1) := dk_28 (dk_at dksX9_fewest_3 20 rfl rfl)
theorem dX9_fewest_92 : decode cX9_fewest 92 = .ok (.ifCond .ne 11, 3) := dk_154 0 11 (dk_at dksX9_fewest_3 21 rfl rfl)
theorem dX9_fewest_95 : decode cX9_fewest 95 = .ok (.iload_n 3, 1) := dk_29 (dk_at dksX9_fewest_4 0 rfl rfl)
theorem dX9_fewest_96 : decode cX9_fewest 96 = .ok (.i2l, 1) := dk_133 (dk_at dksX9_fewest_4 1 rfl rfl)
theorem dX9_fewest_97 : decode cX9_fewest 97 = .ok (.invokestatic 399, 3) := dk_184 1 143 (dk_at dksX9_fewest_4 2 rfl rfl)
theorem dX9_fewest_100 : decode cX9_fewest 100 = .ok (.goto 4, 3) := dk_167 0 4 (dk_at dksX9_fewest_4 5 rfl rfl)
theorem dX9_fewest_103 : decode cX9_fewest 103 = .ok (.iload_n 3, 1) := dk_29 (dk_at dksX9_fewest_4 8 rfl rfl)
theorem dX9_fewest_104 : decode cX9_fewest 104 = .ok (.ireturn, 1) := dk_172 (dk_at dksX9_fewest_4 9 rfl rfl)
abbrev cX9_person : ByteArray := prog_28_method_91_code
def yX9_person : MethodName := ⟨RX9, "person", "(II)I"⟩
def dkwX9_person_2 : List UInt8 := [180, 0, 23, 42, 180, 0, 26, 27, 46, 46, 167, 0, 9, 42, 180, 0, 29, 27, 46, 172]
abbrev dktX9_person_2 : List UInt8 := dkwX9_person_2 ++ []
def dkwX9_person_1 : List UInt8 := [167, 0, 41, 28, 154, 0, 12, 42, 180, 0, 26, 27, 46, 167, 0, 28, 28, 4, 160, 0, 17, 42]
abbrev dktX9_person_1 : List UInt8 := dkwX9_person_1 ++ dktX9_person_2
def dkwX9_person_0 : List UInt8 := [42, 3, 181, 0, 162, 42, 27, 182, 1, 81, 153, 0, 12, 28, 3, 5, 184, 1, 151, 154, 0, 7, 2]
abbrev dktX9_person_0 : List UInt8 := dkwX9_person_0 ++ dktX9_person_1
theorem dksX9_person_0 : cX9_person.data.toList.drop 0 = dktX9_person_0 := by decide +kernel
theorem dksX9_person_1 : cX9_person.data.toList.drop 23 = dktX9_person_1 := dk_seg dksX9_person_0 23 rfl rfl
theorem dksX9_person_2 : cX9_person.data.toList.drop 45 = dktX9_person_2 := dk_seg dksX9_person_1 22 rfl rfl
theorem dX9_person_0 : decode cX9_person 0 = .ok (.aload_n 0, 1) := dk_42 (dk_at dksX9_person_0 0 rfl rfl)
theorem dX9_person_1 : decode cX9_person 1 = .ok (.iconst 0, 1) := dk_3 (dk_at dksX9_person_0 1 rfl rfl)
theorem dX9_person_2 : decode cX9_person 2 = .ok (.putfield 162, 3) := dk_181 0 162 (dk_at dksX9_person_0 2 rfl rfl)
theorem dX9_person_5 : decode cX9_person 5 = .ok (.aload_n 0, 1) := dk_42 (dk_at dksX9_person_0 5 rfl rfl)
theorem dX9_person_6 : decode cX9_person 6 = .ok (.iload_n 1, 1) := dk_27 (dk_at dksX9_person_0 6 rfl rfl)
theorem dX9_person_7 : decode cX9_person 7 = .ok (.invokevirtual 337, 3) := dk_182 1 81 (dk_at dksX9_person_0 7 rfl rfl)
theorem dX9_person_10 : decode cX9_person 10 = .ok (.ifCond .eq 12, 3) := dk_153 0 12 (dk_at dksX9_person_0 10 rfl rfl)
theorem dX9_person_13 : decode cX9_person 13 = .ok (.iload_n 2, 1) := dk_28 (dk_at dksX9_person_0 13 rfl rfl)
theorem dX9_person_14 : decode cX9_person 14 = .ok (.iconst 0, 1) := dk_3 (dk_at dksX9_person_0 14 rfl rfl)
theorem dX9_person_15 : decode cX9_person 15 = .ok (.iconst 2, 1) := dk_5 (dk_at dksX9_person_0 15 rfl rfl)
theorem dX9_person_16 : decode cX9_person 16 = .ok (.invokestatic 407, 3) := dk_184 1 151 (dk_at dksX9_person_0 16 rfl rfl)
theorem dX9_person_19 : decode cX9_person 19 = .ok (.ifCond .ne 7, 3) := dk_154 0 7 (dk_at dksX9_person_0 19 rfl rfl)
theorem dX9_person_22 : decode cX9_person 22 = .ok (.iconst (-1), 1) := dk_2 (dk_at dksX9_person_0 22 rfl rfl)
theorem dX9_person_23 : decode cX9_person 23 = .ok (.goto 41, 3) := dk_167 0 41 (dk_at dksX9_person_1 0 rfl rfl)
theorem dX9_person_26 : decode cX9_person 26 = .ok (.iload_n 2, 1) := dk_28 (dk_at dksX9_person_1 3 rfl rfl)
theorem dX9_person_27 : decode cX9_person 27 = .ok (.ifCond .ne 12, 3) := dk_154 0 12 (dk_at dksX9_person_1 4 rfl rfl)
theorem dX9_person_30 : decode cX9_person 30 = .ok (.aload_n 0, 1) := dk_42 (dk_at dksX9_person_1 7 rfl rfl)
theorem dX9_person_31 : decode cX9_person 31 = .ok (.getfield 26, 3) := dk_180 0 26 (dk_at dksX9_person_1 8 rfl rfl)
theorem dX9_person_34 : decode cX9_person 34 = .ok (.iload_n 1, 1) := dk_27 (dk_at dksX9_person_1 11 rfl rfl)
theorem dX9_person_35 : decode cX9_person 35 = .ok (.iaload, 1) := dk_46 (dk_at dksX9_person_1 12 rfl rfl)
theorem dX9_person_36 : decode cX9_person 36 = .ok (.goto 28, 3) := dk_167 0 28 (dk_at dksX9_person_1 13 rfl rfl)
theorem dX9_person_39 : decode cX9_person 39 = .ok (.iload_n 2, 1) := dk_28 (dk_at dksX9_person_1 16 rfl rfl)
theorem dX9_person_40 : decode cX9_person 40 = .ok (.iconst 1, 1) := dk_4 (dk_at dksX9_person_1 17 rfl rfl)
theorem dX9_person_41 : decode cX9_person 41 = .ok (.if_icmp .ne 17, 3) := dk_160 0 17 (dk_at dksX9_person_1 18 rfl rfl)
theorem dX9_person_44 : decode cX9_person 44 = .ok (.aload_n 0, 1) := dk_42 (dk_at dksX9_person_1 21 rfl rfl)
theorem dX9_person_45 : decode cX9_person 45 = .ok (.getfield 23, 3) := dk_180 0 23 (dk_at dksX9_person_2 0 rfl rfl)
theorem dX9_person_48 : decode cX9_person 48 = .ok (.aload_n 0, 1) := dk_42 (dk_at dksX9_person_2 3 rfl rfl)
theorem dX9_person_49 : decode cX9_person 49 = .ok (.getfield 26, 3) := dk_180 0 26 (dk_at dksX9_person_2 4 rfl rfl)
theorem dX9_person_52 : decode cX9_person 52 = .ok (.iload_n 1, 1) := dk_27 (dk_at dksX9_person_2 7 rfl rfl)
theorem dX9_person_53 : decode cX9_person 53 = .ok (.iaload, 1) := dk_46 (dk_at dksX9_person_2 8 rfl rfl)
theorem dX9_person_54 : decode cX9_person 54 = .ok (.iaload, 1) := dk_46 (dk_at dksX9_person_2 9 rfl rfl)
theorem dX9_person_55 : decode cX9_person 55 = .ok (.goto 9, 3) := dk_167 0 9 (dk_at dksX9_person_2 10 rfl rfl)
theorem dX9_person_58 : decode cX9_person 58 = .ok (.aload_n 0, 1) := dk_42 (dk_at dksX9_person_2 13 rfl rfl)
theorem dX9_person_59 : decode cX9_person 59 = .ok (.getfield 29, 3) := dk_180 0 29 (dk_at dksX9_person_2 14 rfl rfl)
theorem dX9_person_62 : decode cX9_person 62 = .ok (.iload_n 1, 1) := dk_27 (dk_at dksX9_person_2 17 rfl rfl)
theorem dX9_person_63 : decode cX9_person 63 = .ok (.iaload, 1) := dk_46 (dk_at dksX9_person_2 18 rfl rfl)
theorem dX9_person_64 : decode cX9_person 64 = .ok (.ireturn, 1) := dk_172 (dk_at dksX9_person_2 19 rfl rfl)
abbrev cX9_lookout : ByteArray := prog_28_method_96_code
def yX9_lookout : MethodName := ⟨RX9, "lookout", "(III)I"⟩
def dkwX9_lookout_5 : List UInt8 := [100, 46, 46, 167, 0, 4, 2, 172]
abbrev dktX9_lookout_5 : List UInt8 := dkwX9_lookout_5 ++ []
def dkwX9_lookout_4 : List UInt8 := [154, 0, 8, 21, 6, 167, 0, 26, 29, 21, 6, 163, 0, 19, 42, 180, 0, 141, 42, 180, 0, 147, 29, 4]
abbrev dktX9_lookout_4 : List UInt8 := dkwX9_lookout_4 ++ dktX9_lookout_5
def dkwX9_lookout_3 : List UInt8 := [182, 1, 207, 154, 0, 9, 132, 6, 1, 167, 255, 234, 21, 6, 6, 164, 0, 7, 2, 167, 0, 35, 29]
abbrev dktX9_lookout_3 : List UInt8 := dkwX9_lookout_3 ++ dktX9_lookout_4
def dkwX9_lookout_2 : List UInt8 := [27, 22, 4, 182, 1, 211, 3, 54, 6, 21, 6, 7, 162, 0, 22, 42, 3, 21, 6, 28, 22, 4]
abbrev dktX9_lookout_2 : List UInt8 := dkwX9_lookout_2 ++ dktX9_lookout_3
def dkwX9_lookout_1 : List UInt8 := [184, 1, 151, 154, 0, 5, 2, 172, 42, 182, 1, 134, 55, 4, 22, 4, 9, 148, 154, 0, 5, 2, 172, 42]
abbrev dktX9_lookout_1 : List UInt8 := dkwX9_lookout_1 ++ dktX9_lookout_2
def dkwX9_lookout_0 : List UInt8 := [42, 3, 181, 0, 162, 42, 27, 182, 1, 115, 153, 0, 20, 42, 28, 182, 1, 137, 153, 0, 12, 29, 3, 6]
abbrev dktX9_lookout_0 : List UInt8 := dkwX9_lookout_0 ++ dktX9_lookout_1
theorem dksX9_lookout_0 : cX9_lookout.data.toList.drop 0 = dktX9_lookout_0 := by decide +kernel
theorem dksX9_lookout_1 : cX9_lookout.data.toList.drop 24 = dktX9_lookout_1 := dk_seg dksX9_lookout_0 24 rfl rfl
theorem dksX9_lookout_2 : cX9_lookout.data.toList.drop 48 = dktX9_lookout_2 := dk_seg dksX9_lookout_1 24 rfl rfl
theorem dksX9_lookout_3 : cX9_lookout.data.toList.drop 70 = dktX9_lookout_3 := dk_seg dksX9_lookout_2 22 rfl rfl
theorem dksX9_lookout_4 : cX9_lookout.data.toList.drop 93 = dktX9_lookout_4 := dk_seg dksX9_lookout_3 23 rfl rfl
theorem dksX9_lookout_5 : cX9_lookout.data.toList.drop 117 = dktX9_lookout_5 := dk_seg dksX9_lookout_4 24 rfl rfl
theorem dX9_lookout_0 : decode cX9_lookout 0 = .ok (.aload_n 0, 1) := dk_42 (dk_at dksX9_lookout_0 0 rfl rfl)
theorem dX9_lookout_1 : decode cX9_lookout 1 = .ok (.iconst 0, 1) := dk_3 (dk_at dksX9_lookout_0 1 rfl rfl)
theorem dX9_lookout_2 : decode cX9_lookout 2 = .ok (.putfield 162, 3) := dk_181 0 162 (dk_at dksX9_lookout_0 2 rfl rfl)
theorem dX9_lookout_5 : decode cX9_lookout 5 = .ok (.aload_n 0, 1) := dk_42 (dk_at dksX9_lookout_0 5 rfl rfl)
theorem dX9_lookout_6 : decode cX9_lookout 6 = .ok (.iload_n 1, 1) := dk_27 (dk_at dksX9_lookout_0 6 rfl rfl)
theorem dX9_lookout_7 : decode cX9_lookout 7 = .ok (.invokevirtual 371, 3) := dk_182 1 115 (dk_at dksX9_lookout_0 7 rfl rfl)
theorem dX9_lookout_10 : decode cX9_lookout 10 = .ok (.ifCond .eq 20, 3) := dk_153 0 20 (dk_at dksX9_lookout_0 10 rfl rfl)
theorem dX9_lookout_13 : decode cX9_lookout 13 = .ok (.aload_n 0, 1) := dk_42 (dk_at dksX9_lookout_0 13 rfl rfl)
theorem dX9_lookout_14 : decode cX9_lookout 14 = .ok (.iload_n 2, 1) := dk_28 (dk_at dksX9_lookout_0 14 rfl rfl)
theorem dX9_lookout_15 : decode cX9_lookout 15 = .ok (.invokevirtual 393, 3) := dk_182 1 137 (dk_at dksX9_lookout_0 15 rfl rfl)
theorem dX9_lookout_18 : decode cX9_lookout 18 = .ok (.ifCond .eq 12, 3) := dk_153 0 12 (dk_at dksX9_lookout_0 18 rfl rfl)
theorem dX9_lookout_21 : decode cX9_lookout 21 = .ok (.iload_n 3, 1) := dk_29 (dk_at dksX9_lookout_0 21 rfl rfl)
theorem dX9_lookout_22 : decode cX9_lookout 22 = .ok (.iconst 0, 1) := dk_3 (dk_at dksX9_lookout_0 22 rfl rfl)
theorem dX9_lookout_23 : decode cX9_lookout 23 = .ok (.iconst 3, 1) := dk_6 (dk_at dksX9_lookout_0 23 rfl rfl)
theorem dX9_lookout_24 : decode cX9_lookout 24 = .ok (.invokestatic 407, 3) := dk_184 1 151 (dk_at dksX9_lookout_1 0 rfl rfl)
theorem dX9_lookout_27 : decode cX9_lookout 27 = .ok (.ifCond .ne 5, 3) := dk_154 0 5 (dk_at dksX9_lookout_1 3 rfl rfl)
theorem dX9_lookout_30 : decode cX9_lookout 30 = .ok (.iconst (-1), 1) := dk_2 (dk_at dksX9_lookout_1 6 rfl rfl)
theorem dX9_lookout_31 : decode cX9_lookout 31 = .ok (.ireturn, 1) := dk_172 (dk_at dksX9_lookout_1 7 rfl rfl)
theorem dX9_lookout_32 : decode cX9_lookout 32 = .ok (.aload_n 0, 1) := dk_42 (dk_at dksX9_lookout_1 8 rfl rfl)
theorem dX9_lookout_33 : decode cX9_lookout 33 = .ok (.invokevirtual 390, 3) := dk_182 1 134 (dk_at dksX9_lookout_1 9 rfl rfl)
theorem dX9_lookout_36 : decode cX9_lookout 36 = .ok (.lstore 4, 2) := dk_55 4 (dk_at dksX9_lookout_1 12 rfl rfl)
theorem dX9_lookout_38 : decode cX9_lookout 38 = .ok (.lload 4, 2) := dk_22 4 (dk_at dksX9_lookout_1 14 rfl rfl)
theorem dX9_lookout_40 : decode cX9_lookout 40 = .ok (.lconst 0, 1) := dk_9 (dk_at dksX9_lookout_1 16 rfl rfl)
theorem dX9_lookout_41 : decode cX9_lookout 41 = .ok (.lcmp, 1) := dk_148 (dk_at dksX9_lookout_1 17 rfl rfl)
theorem dX9_lookout_42 : decode cX9_lookout 42 = .ok (.ifCond .ne 5, 3) := dk_154 0 5 (dk_at dksX9_lookout_1 18 rfl rfl)
theorem dX9_lookout_45 : decode cX9_lookout 45 = .ok (.iconst (-1), 1) := dk_2 (dk_at dksX9_lookout_1 21 rfl rfl)
theorem dX9_lookout_46 : decode cX9_lookout 46 = .ok (.ireturn, 1) := dk_172 (dk_at dksX9_lookout_1 22 rfl rfl)
theorem dX9_lookout_47 : decode cX9_lookout 47 = .ok (.aload_n 0, 1) := dk_42 (dk_at dksX9_lookout_1 23 rfl rfl)
theorem dX9_lookout_48 : decode cX9_lookout 48 = .ok (.iload_n 1, 1) := dk_27 (dk_at dksX9_lookout_2 0 rfl rfl)
theorem dX9_lookout_49 : decode cX9_lookout 49 = .ok (.lload 4, 2) := dk_22 4 (dk_at dksX9_lookout_2 1 rfl rfl)
theorem dX9_lookout_51 : decode cX9_lookout 51 = .ok (.invokevirtual 467, 3) := dk_182 1 211 (dk_at dksX9_lookout_2 3 rfl rfl)
theorem dX9_lookout_54 : decode cX9_lookout 54 = .ok (.iconst 0, 1) := dk_3 (dk_at dksX9_lookout_2 6 rfl rfl)
theorem dX9_lookout_55 : decode cX9_lookout 55 = .ok (.istore 6, 2) := dk_54 6 (dk_at dksX9_lookout_2 7 rfl rfl)
theorem dX9_lookout_57 : decode cX9_lookout 57 = .ok (.iload 6, 2) := dk_21 6 (dk_at dksX9_lookout_2 9 rfl rfl)
theorem dX9_lookout_59 : decode cX9_lookout 59 = .ok (.iconst 4, 1) := dk_7 (dk_at dksX9_lookout_2 11 rfl rfl)
theorem dX9_lookout_60 : decode cX9_lookout 60 = .ok (.if_icmp .ge 22, 3) := dk_162 0 22 (dk_at dksX9_lookout_2 12 rfl rfl)
theorem dX9_lookout_63 : decode cX9_lookout 63 = .ok (.aload_n 0, 1) := dk_42 (dk_at dksX9_lookout_2 15 rfl rfl)
theorem dX9_lookout_64 : decode cX9_lookout 64 = .ok (.iconst 0, 1) := dk_3 (dk_at dksX9_lookout_2 16 rfl rfl)
theorem dX9_lookout_65 : decode cX9_lookout 65 = .ok (.iload 6, 2) := dk_21 6 (dk_at dksX9_lookout_2 17 rfl rfl)
theorem dX9_lookout_67 : decode cX9_lookout 67 = .ok (.iload_n 2, 1) := dk_28 (dk_at dksX9_lookout_2 19 rfl rfl)
theorem dX9_lookout_68 : decode cX9_lookout 68 = .ok (.lload 4, 2) := dk_22 4 (dk_at dksX9_lookout_2 20 rfl rfl)
theorem dX9_lookout_70 : decode cX9_lookout 70 = .ok (.invokevirtual 463, 3) := dk_182 1 207 (dk_at dksX9_lookout_3 0 rfl rfl)
theorem dX9_lookout_73 : decode cX9_lookout 73 = .ok (.ifCond .ne 9, 3) := dk_154 0 9 (dk_at dksX9_lookout_3 3 rfl rfl)
theorem dX9_lookout_76 : decode cX9_lookout 76 = .ok (.iinc 6 1, 3) := dk_132 6 1 (dk_at dksX9_lookout_3 6 rfl rfl)
theorem dX9_lookout_79 : decode cX9_lookout 79 = .ok (.goto (-22), 3) := dk_167 255 234 (dk_at dksX9_lookout_3 9 rfl rfl)
theorem dX9_lookout_82 : decode cX9_lookout 82 = .ok (.iload 6, 2) := dk_21 6 (dk_at dksX9_lookout_3 12 rfl rfl)
theorem dX9_lookout_84 : decode cX9_lookout 84 = .ok (.iconst 3, 1) := dk_6 (dk_at dksX9_lookout_3 14 rfl rfl)
theorem dX9_lookout_85 : decode cX9_lookout 85 = .ok (.if_icmp .le 7, 3) := dk_164 0 7 (dk_at dksX9_lookout_3 15 rfl rfl)
theorem dX9_lookout_88 : decode cX9_lookout 88 = .ok (.iconst (-1), 1) := dk_2 (dk_at dksX9_lookout_3 18 rfl rfl)
theorem dX9_lookout_89 : decode cX9_lookout 89 = .ok (.goto 35, 3) := dk_167 0 35 (dk_at dksX9_lookout_3 19 rfl rfl)
theorem dX9_lookout_92 : decode cX9_lookout 92 = .ok (.iload_n 3, 1) := dk_29 (dk_at dksX9_lookout_3 22 rfl rfl)
theorem dX9_lookout_93 : decode cX9_lookout 93 = .ok (.ifCond .ne 8, 3) := dk_154 0 8 (dk_at dksX9_lookout_4 0 rfl rfl)
theorem dX9_lookout_96 : decode cX9_lookout 96 = .ok (.iload 6, 2) := dk_21 6 (dk_at dksX9_lookout_4 3 rfl rfl)
theorem dX9_lookout_98 : decode cX9_lookout 98 = .ok (.goto 26, 3) := dk_167 0 26 (dk_at dksX9_lookout_4 5 rfl rfl)
theorem dX9_lookout_101 : decode cX9_lookout 101 = .ok (.iload_n 3, 1) := dk_29 (dk_at dksX9_lookout_4 8 rfl rfl)
theorem dX9_lookout_102 : decode cX9_lookout 102 = .ok (.iload 6, 2) := dk_21 6 (dk_at dksX9_lookout_4 9 rfl rfl)
theorem dX9_lookout_104 : decode cX9_lookout 104 = .ok (.if_icmp .gt 19, 3) := dk_163 0 19 (dk_at dksX9_lookout_4 11 rfl rfl)
theorem dX9_lookout_107 : decode cX9_lookout 107 = .ok (.aload_n 0, 1) := dk_42 (dk_at dksX9_lookout_4 14 rfl rfl)
theorem dX9_lookout_108 : decode cX9_lookout 108 = .ok (.getfield 141, 3) := dk_180 0 141 (dk_at dksX9_lookout_4 15 rfl rfl)
theorem dX9_lookout_111 : decode cX9_lookout 111 = .ok (.aload_n 0, 1) := dk_42 (dk_at dksX9_lookout_4 18 rfl rfl)
theorem dX9_lookout_112 : decode cX9_lookout 112 = .ok (.getfield 147, 3) := dk_180 0 147 (dk_at dksX9_lookout_4 19 rfl rfl)
theorem dX9_lookout_115 : decode cX9_lookout 115 = .ok (.iload_n 3, 1) := dk_29 (dk_at dksX9_lookout_4 22 rfl rfl)
theorem dX9_lookout_116 : decode cX9_lookout 116 = .ok (.iconst 1, 1) := dk_4 (dk_at dksX9_lookout_4 23 rfl rfl)
theorem dX9_lookout_117 : decode cX9_lookout 117 = .ok (.isub, 1) := dk_100 (dk_at dksX9_lookout_5 0 rfl rfl)
theorem dX9_lookout_118 : decode cX9_lookout 118 = .ok (.iaload, 1) := dk_46 (dk_at dksX9_lookout_5 1 rfl rfl)
theorem dX9_lookout_119 : decode cX9_lookout 119 = .ok (.iaload, 1) := dk_46 (dk_at dksX9_lookout_5 2 rfl rfl)
theorem dX9_lookout_120 : decode cX9_lookout 120 = .ok (.goto 4, 3) := dk_167 0 4 (dk_at dksX9_lookout_5 3 rfl rfl)
theorem dX9_lookout_123 : decode cX9_lookout 123 = .ok (.iconst (-1), 1) := dk_2 (dk_at dksX9_lookout_5 6 rfl rfl)
theorem dX9_lookout_124 : decode cX9_lookout 124 = .ok (.ireturn, 1) := dk_172 (dk_at dksX9_lookout_5 7 rfl rfl)
abbrev cX9_turnsOut : ByteArray := prog_28_method_93_code
def yX9_turnsOut : MethodName := ⟨RX9, "turnsOut", "(IJ)V"⟩
def dkwX9_turnsOut_6 : List UInt8 := [181, 1, 197, 132, 4, 1, 167, 255, 116, 177]
abbrev dktX9_turnsOut_6 : List UInt8 := dkwX9_turnsOut_6 ++ []
def dkwX9_turnsOut_5 : List UInt8 := [27, 21, 5, 21, 6, 182, 1, 124, 79, 132, 6, 1, 167, 255, 216, 42, 89, 180, 1, 197, 4, 96]
abbrev dktX9_turnsOut_5 : List UInt8 := dkwX9_turnsOut_5 ++ dktX9_turnsOut_6
def dkwX9_turnsOut_4 : List UInt8 := [180, 0, 13, 3, 46, 120, 162, 0, 33, 42, 180, 0, 144, 16, 64, 42, 180, 1, 197, 104, 21, 6, 96, 42]
abbrev dktX9_turnsOut_4 : List UInt8 := dkwX9_turnsOut_4 ++ dktX9_turnsOut_5
def dkwX9_turnsOut_3 : List UInt8 := [154, 0, 6, 167, 0, 70, 42, 180, 0, 141, 42, 180, 1, 197, 21, 5, 79, 3, 54, 6, 21, 6, 4, 42]
abbrev dktX9_turnsOut_3 : List UInt8 := dkwX9_turnsOut_3 ++ dktX9_turnsOut_4
def dkwX9_turnsOut_2 : List UInt8 := [42, 180, 0, 141, 42, 180, 1, 197, 4, 100, 46, 21, 5, 159, 0, 84, 42, 27, 21, 5, 32, 182, 1, 200]
abbrev dktX9_turnsOut_2 : List UInt8 := dkwX9_turnsOut_2 ++ dktX9_turnsOut_3
def dkwX9_turnsOut_1 : List UInt8 := [42, 180, 0, 35, 27, 46, 96, 54, 5, 21, 5, 17, 5, 159, 163, 0, 107, 42, 180, 1, 197, 158, 0, 19]
abbrev dktX9_turnsOut_1 : List UInt8 := dkwX9_turnsOut_1 ++ dktX9_turnsOut_2
def dkwX9_turnsOut_0 : List UInt8 := [42, 3, 181, 1, 197, 3, 54, 4, 21, 4, 42, 180, 1, 66, 162, 0, 137, 42, 180, 0, 99, 21, 4, 46]
abbrev dktX9_turnsOut_0 : List UInt8 := dkwX9_turnsOut_0 ++ dktX9_turnsOut_1
theorem dksX9_turnsOut_0 : cX9_turnsOut.data.toList.drop 0 = dktX9_turnsOut_0 := by decide +kernel
theorem dksX9_turnsOut_1 : cX9_turnsOut.data.toList.drop 24 = dktX9_turnsOut_1 := dk_seg dksX9_turnsOut_0 24 rfl rfl
theorem dksX9_turnsOut_2 : cX9_turnsOut.data.toList.drop 48 = dktX9_turnsOut_2 := dk_seg dksX9_turnsOut_1 24 rfl rfl
theorem dksX9_turnsOut_3 : cX9_turnsOut.data.toList.drop 72 = dktX9_turnsOut_3 := dk_seg dksX9_turnsOut_2 24 rfl rfl
theorem dksX9_turnsOut_4 : cX9_turnsOut.data.toList.drop 96 = dktX9_turnsOut_4 := dk_seg dksX9_turnsOut_3 24 rfl rfl
theorem dksX9_turnsOut_5 : cX9_turnsOut.data.toList.drop 120 = dktX9_turnsOut_5 := dk_seg dksX9_turnsOut_4 24 rfl rfl
theorem dksX9_turnsOut_6 : cX9_turnsOut.data.toList.drop 142 = dktX9_turnsOut_6 := dk_seg dksX9_turnsOut_5 22 rfl rfl
theorem dX9_turnsOut_0 : decode cX9_turnsOut 0 = .ok (.aload_n 0, 1) := dk_42 (dk_at dksX9_turnsOut_0 0 rfl rfl)
theorem dX9_turnsOut_1 : decode cX9_turnsOut 1 = .ok (.iconst 0, 1) := dk_3 (dk_at dksX9_turnsOut_0 1 rfl rfl)
theorem dX9_turnsOut_2 : decode cX9_turnsOut 2 = .ok (.putfield 453, 3) := dk_181 1 197 (dk_at dksX9_turnsOut_0 2 rfl rfl)
theorem dX9_turnsOut_5 : decode cX9_turnsOut 5 = .ok (.iconst 0, 1) := dk_3 (dk_at dksX9_turnsOut_0 5 rfl rfl)
theorem dX9_turnsOut_6 : decode cX9_turnsOut 6 = .ok (.istore 4, 2) := dk_54 4 (dk_at dksX9_turnsOut_0 6 rfl rfl)
theorem dX9_turnsOut_8 : decode cX9_turnsOut 8 = .ok (.iload 4, 2) := dk_21 4 (dk_at dksX9_turnsOut_0 8 rfl rfl)
theorem dX9_turnsOut_10 : decode cX9_turnsOut 10 = .ok (.aload_n 0, 1) := dk_42 (dk_at dksX9_turnsOut_0 10 rfl rfl)
theorem dX9_turnsOut_11 : decode cX9_turnsOut 11 = .ok (.getfield 322, 3) := dk_180 1 66 (dk_at dksX9_turnsOut_0 11 rfl rfl)
theorem dX9_turnsOut_14 : decode cX9_turnsOut 14 = .ok (.if_icmp .ge 137, 3) := dk_162 0 137 (dk_at dksX9_turnsOut_0 14 rfl rfl)
theorem dX9_turnsOut_17 : decode cX9_turnsOut 17 = .ok (.aload_n 0, 1) := dk_42 (dk_at dksX9_turnsOut_0 17 rfl rfl)
theorem dX9_turnsOut_18 : decode cX9_turnsOut 18 = .ok (.getfield 99, 3) := dk_180 0 99 (dk_at dksX9_turnsOut_0 18 rfl rfl)
theorem dX9_turnsOut_21 : decode cX9_turnsOut 21 = .ok (.iload 4, 2) := dk_21 4 (dk_at dksX9_turnsOut_0 21 rfl rfl)
theorem dX9_turnsOut_23 : decode cX9_turnsOut 23 = .ok (.iaload, 1) := dk_46 (dk_at dksX9_turnsOut_0 23 rfl rfl)
theorem dX9_turnsOut_24 : decode cX9_turnsOut 24 = .ok (.aload_n 0, 1) := dk_42 (dk_at dksX9_turnsOut_1 0 rfl rfl)
theorem dX9_turnsOut_25 : decode cX9_turnsOut 25 = .ok (.getfield 35, 3) := dk_180 0 35 (dk_at dksX9_turnsOut_1 1 rfl rfl)
theorem dX9_turnsOut_28 : decode cX9_turnsOut 28 = .ok (.iload_n 1, 1) := dk_27 (dk_at dksX9_turnsOut_1 4 rfl rfl)
theorem dX9_turnsOut_29 : decode cX9_turnsOut 29 = .ok (.iaload, 1) := dk_46 (dk_at dksX9_turnsOut_1 5 rfl rfl)
theorem dX9_turnsOut_30 : decode cX9_turnsOut 30 = .ok (.iadd, 1) := dk_96 (dk_at dksX9_turnsOut_1 6 rfl rfl)
theorem dX9_turnsOut_31 : decode cX9_turnsOut 31 = .ok (.istore 5, 2) := dk_54 5 (dk_at dksX9_turnsOut_1 7 rfl rfl)
theorem dX9_turnsOut_33 : decode cX9_turnsOut 33 = .ok (.iload 5, 2) := dk_21 5 (dk_at dksX9_turnsOut_1 9 rfl rfl)
theorem dX9_turnsOut_35 : decode cX9_turnsOut 35 = .ok (.sipush 1439, 3) := dk_17 5 159 (dk_at dksX9_turnsOut_1 11 rfl rfl)
theorem dX9_turnsOut_38 : decode cX9_turnsOut 38 = .ok (.if_icmp .gt 107, 3) := dk_163 0 107 (dk_at dksX9_turnsOut_1 14 rfl rfl)
theorem dX9_turnsOut_41 : decode cX9_turnsOut 41 = .ok (.aload_n 0, 1) := dk_42 (dk_at dksX9_turnsOut_1 17 rfl rfl)
theorem dX9_turnsOut_42 : decode cX9_turnsOut 42 = .ok (.getfield 453, 3) := dk_180 1 197 (dk_at dksX9_turnsOut_1 18 rfl rfl)
theorem dX9_turnsOut_45 : decode cX9_turnsOut 45 = .ok (.ifCond .le 19, 3) := dk_158 0 19 (dk_at dksX9_turnsOut_1 21 rfl rfl)
theorem dX9_turnsOut_48 : decode cX9_turnsOut 48 = .ok (.aload_n 0, 1) := dk_42 (dk_at dksX9_turnsOut_2 0 rfl rfl)
theorem dX9_turnsOut_49 : decode cX9_turnsOut 49 = .ok (.getfield 141, 3) := dk_180 0 141 (dk_at dksX9_turnsOut_2 1 rfl rfl)
theorem dX9_turnsOut_52 : decode cX9_turnsOut 52 = .ok (.aload_n 0, 1) := dk_42 (dk_at dksX9_turnsOut_2 4 rfl rfl)
theorem dX9_turnsOut_53 : decode cX9_turnsOut 53 = .ok (.getfield 453, 3) := dk_180 1 197 (dk_at dksX9_turnsOut_2 5 rfl rfl)
theorem dX9_turnsOut_56 : decode cX9_turnsOut 56 = .ok (.iconst 1, 1) := dk_4 (dk_at dksX9_turnsOut_2 8 rfl rfl)
theorem dX9_turnsOut_57 : decode cX9_turnsOut 57 = .ok (.isub, 1) := dk_100 (dk_at dksX9_turnsOut_2 9 rfl rfl)
theorem dX9_turnsOut_58 : decode cX9_turnsOut 58 = .ok (.iaload, 1) := dk_46 (dk_at dksX9_turnsOut_2 10 rfl rfl)
theorem dX9_turnsOut_59 : decode cX9_turnsOut 59 = .ok (.iload 5, 2) := dk_21 5 (dk_at dksX9_turnsOut_2 11 rfl rfl)
theorem dX9_turnsOut_61 : decode cX9_turnsOut 61 = .ok (.if_icmp .eq 84, 3) := dk_159 0 84 (dk_at dksX9_turnsOut_2 13 rfl rfl)
theorem dX9_turnsOut_64 : decode cX9_turnsOut 64 = .ok (.aload_n 0, 1) := dk_42 (dk_at dksX9_turnsOut_2 16 rfl rfl)
theorem dX9_turnsOut_65 : decode cX9_turnsOut 65 = .ok (.iload_n 1, 1) := dk_27 (dk_at dksX9_turnsOut_2 17 rfl rfl)
theorem dX9_turnsOut_66 : decode cX9_turnsOut 66 = .ok (.iload 5, 2) := dk_21 5 (dk_at dksX9_turnsOut_2 18 rfl rfl)
theorem dX9_turnsOut_68 : decode cX9_turnsOut 68 = .ok (.lload_n 2, 1) := dk_32 (dk_at dksX9_turnsOut_2 20 rfl rfl)
theorem dX9_turnsOut_69 : decode cX9_turnsOut 69 = .ok (.invokevirtual 456, 3) := dk_182 1 200 (dk_at dksX9_turnsOut_2 21 rfl rfl)
theorem dX9_turnsOut_72 : decode cX9_turnsOut 72 = .ok (.ifCond .ne 6, 3) := dk_154 0 6 (dk_at dksX9_turnsOut_3 0 rfl rfl)
theorem dX9_turnsOut_75 : decode cX9_turnsOut 75 = .ok (.goto 70, 3) := dk_167 0 70 (dk_at dksX9_turnsOut_3 3 rfl rfl)
theorem dX9_turnsOut_78 : decode cX9_turnsOut 78 = .ok (.aload_n 0, 1) := dk_42 (dk_at dksX9_turnsOut_3 6 rfl rfl)
theorem dX9_turnsOut_79 : decode cX9_turnsOut 79 = .ok (.getfield 141, 3) := dk_180 0 141 (dk_at dksX9_turnsOut_3 7 rfl rfl)
theorem dX9_turnsOut_82 : decode cX9_turnsOut 82 = .ok (.aload_n 0, 1) := dk_42 (dk_at dksX9_turnsOut_3 10 rfl rfl)
theorem dX9_turnsOut_83 : decode cX9_turnsOut 83 = .ok (.getfield 453, 3) := dk_180 1 197 (dk_at dksX9_turnsOut_3 11 rfl rfl)
theorem dX9_turnsOut_86 : decode cX9_turnsOut 86 = .ok (.iload 5, 2) := dk_21 5 (dk_at dksX9_turnsOut_3 14 rfl rfl)
theorem dX9_turnsOut_88 : decode cX9_turnsOut 88 = .ok (.iastore, 1) := dk_79 (dk_at dksX9_turnsOut_3 16 rfl rfl)
theorem dX9_turnsOut_89 : decode cX9_turnsOut 89 = .ok (.iconst 0, 1) := dk_3 (dk_at dksX9_turnsOut_3 17 rfl rfl)
theorem dX9_turnsOut_90 : decode cX9_turnsOut 90 = .ok (.istore 6, 2) := dk_54 6 (dk_at dksX9_turnsOut_3 18 rfl rfl)
theorem dX9_turnsOut_92 : decode cX9_turnsOut 92 = .ok (.iload 6, 2) := dk_21 6 (dk_at dksX9_turnsOut_3 20 rfl rfl)
theorem dX9_turnsOut_94 : decode cX9_turnsOut 94 = .ok (.iconst 1, 1) := dk_4 (dk_at dksX9_turnsOut_3 22 rfl rfl)
theorem dX9_turnsOut_95 : decode cX9_turnsOut 95 = .ok (.aload_n 0, 1) := dk_42 (dk_at dksX9_turnsOut_3 23 rfl rfl)
theorem dX9_turnsOut_96 : decode cX9_turnsOut 96 = .ok (.getfield 13, 3) := dk_180 0 13 (dk_at dksX9_turnsOut_4 0 rfl rfl)
theorem dX9_turnsOut_99 : decode cX9_turnsOut 99 = .ok (.iconst 0, 1) := dk_3 (dk_at dksX9_turnsOut_4 3 rfl rfl)
theorem dX9_turnsOut_100 : decode cX9_turnsOut 100 = .ok (.iaload, 1) := dk_46 (dk_at dksX9_turnsOut_4 4 rfl rfl)
theorem dX9_turnsOut_101 : decode cX9_turnsOut 101 = .ok (.ishl, 1) := dk_120 (dk_at dksX9_turnsOut_4 5 rfl rfl)
theorem dX9_turnsOut_102 : decode cX9_turnsOut 102 = .ok (.if_icmp .ge 33, 3) := dk_162 0 33 (dk_at dksX9_turnsOut_4 6 rfl rfl)
theorem dX9_turnsOut_105 : decode cX9_turnsOut 105 = .ok (.aload_n 0, 1) := dk_42 (dk_at dksX9_turnsOut_4 9 rfl rfl)
theorem dX9_turnsOut_106 : decode cX9_turnsOut 106 = .ok (.getfield 144, 3) := dk_180 0 144 (dk_at dksX9_turnsOut_4 10 rfl rfl)
theorem dX9_turnsOut_109 : decode cX9_turnsOut 109 = .ok (.bipush 64, 2) := dk_16 64 (dk_at dksX9_turnsOut_4 13 rfl rfl)
theorem dX9_turnsOut_111 : decode cX9_turnsOut 111 = .ok (.aload_n 0, 1) := dk_42 (dk_at dksX9_turnsOut_4 15 rfl rfl)
theorem dX9_turnsOut_112 : decode cX9_turnsOut 112 = .ok (.getfield 453, 3) := dk_180 1 197 (dk_at dksX9_turnsOut_4 16 rfl rfl)
theorem dX9_turnsOut_115 : decode cX9_turnsOut 115 = .ok (.imul, 1) := dk_104 (dk_at dksX9_turnsOut_4 19 rfl rfl)
theorem dX9_turnsOut_116 : decode cX9_turnsOut 116 = .ok (.iload 6, 2) := dk_21 6 (dk_at dksX9_turnsOut_4 20 rfl rfl)
theorem dX9_turnsOut_118 : decode cX9_turnsOut 118 = .ok (.iadd, 1) := dk_96 (dk_at dksX9_turnsOut_4 22 rfl rfl)
theorem dX9_turnsOut_119 : decode cX9_turnsOut 119 = .ok (.aload_n 0, 1) := dk_42 (dk_at dksX9_turnsOut_4 23 rfl rfl)
theorem dX9_turnsOut_120 : decode cX9_turnsOut 120 = .ok (.iload_n 1, 1) := dk_27 (dk_at dksX9_turnsOut_5 0 rfl rfl)
theorem dX9_turnsOut_121 : decode cX9_turnsOut 121 = .ok (.iload 5, 2) := dk_21 5 (dk_at dksX9_turnsOut_5 1 rfl rfl)
theorem dX9_turnsOut_123 : decode cX9_turnsOut 123 = .ok (.iload 6, 2) := dk_21 6 (dk_at dksX9_turnsOut_5 3 rfl rfl)
theorem dX9_turnsOut_125 : decode cX9_turnsOut 125 = .ok (.invokevirtual 380, 3) := dk_182 1 124 (dk_at dksX9_turnsOut_5 5 rfl rfl)
theorem dX9_turnsOut_128 : decode cX9_turnsOut 128 = .ok (.iastore, 1) := dk_79 (dk_at dksX9_turnsOut_5 8 rfl rfl)
theorem dX9_turnsOut_129 : decode cX9_turnsOut 129 = .ok (.iinc 6 1, 3) := dk_132 6 1 (dk_at dksX9_turnsOut_5 9 rfl rfl)
theorem dX9_turnsOut_132 : decode cX9_turnsOut 132 = .ok (.goto (-40), 3) := dk_167 255 216 (dk_at dksX9_turnsOut_5 12 rfl rfl)
theorem dX9_turnsOut_135 : decode cX9_turnsOut 135 = .ok (.aload_n 0, 1) := dk_42 (dk_at dksX9_turnsOut_5 15 rfl rfl)
theorem dX9_turnsOut_136 : decode cX9_turnsOut 136 = .ok (.dup, 1) := dk_89 (dk_at dksX9_turnsOut_5 16 rfl rfl)
theorem dX9_turnsOut_137 : decode cX9_turnsOut 137 = .ok (.getfield 453, 3) := dk_180 1 197 (dk_at dksX9_turnsOut_5 17 rfl rfl)
theorem dX9_turnsOut_140 : decode cX9_turnsOut 140 = .ok (.iconst 1, 1) := dk_4 (dk_at dksX9_turnsOut_5 20 rfl rfl)
theorem dX9_turnsOut_141 : decode cX9_turnsOut 141 = .ok (.iadd, 1) := dk_96 (dk_at dksX9_turnsOut_5 21 rfl rfl)
theorem dX9_turnsOut_142 : decode cX9_turnsOut 142 = .ok (.putfield 453, 3) := dk_181 1 197 (dk_at dksX9_turnsOut_6 0 rfl rfl)
theorem dX9_turnsOut_145 : decode cX9_turnsOut 145 = .ok (.iinc 4 1, 3) := dk_132 4 1 (dk_at dksX9_turnsOut_6 3 rfl rfl)
theorem dX9_turnsOut_148 : decode cX9_turnsOut 148 = .ok (.goto (-140), 3) := dk_167 255 116 (dk_at dksX9_turnsOut_6 6 rfl rfl)
theorem dX9_turnsOut_151 : decode cX9_turnsOut 151 = .ok (.return_, 1) := dk_177 (dk_at dksX9_turnsOut_6 9 rfl rfl)
abbrev cX9_turnsIn : ByteArray := prog_28_method_92_code
def yX9_turnsIn : MethodName := ⟨RX9, "turnsIn", "(IIJ)Z"⟩
def dkwX9_turnsIn_2 : List UInt8 := [4, 172, 132, 5, 1, 167, 255, 208, 3, 172]
abbrev dktX9_turnsIn_2 : List UInt8 := dkwX9_turnsIn_2 ++ []
def dkwX9_turnsIn_1 : List UInt8 := [153, 0, 26, 42, 27, 28, 21, 5, 182, 1, 112, 42, 27, 28, 4, 100, 21, 5, 182, 1, 112, 159, 0, 5]
abbrev dktX9_turnsIn_1 : List UInt8 := dkwX9_turnsIn_1 ++ dktX9_turnsIn_2
def dkwX9_turnsIn_0 : List UInt8 := [3, 54, 5, 21, 5, 4, 42, 180, 0, 13, 3, 46, 120, 162, 0, 41, 33, 21, 5, 184, 1, 94]
abbrev dktX9_turnsIn_0 : List UInt8 := dkwX9_turnsIn_0 ++ dktX9_turnsIn_1
theorem dksX9_turnsIn_0 : cX9_turnsIn.data.toList.drop 0 = dktX9_turnsIn_0 := by decide +kernel
theorem dksX9_turnsIn_1 : cX9_turnsIn.data.toList.drop 22 = dktX9_turnsIn_1 := dk_seg dksX9_turnsIn_0 22 rfl rfl
theorem dksX9_turnsIn_2 : cX9_turnsIn.data.toList.drop 46 = dktX9_turnsIn_2 := dk_seg dksX9_turnsIn_1 24 rfl rfl
theorem dX9_turnsIn_0 : decode cX9_turnsIn 0 = .ok (.iconst 0, 1) := dk_3 (dk_at dksX9_turnsIn_0 0 rfl rfl)
theorem dX9_turnsIn_1 : decode cX9_turnsIn 1 = .ok (.istore 5, 2) := dk_54 5 (dk_at dksX9_turnsIn_0 1 rfl rfl)
theorem dX9_turnsIn_3 : decode cX9_turnsIn 3 = .ok (.iload 5, 2) := dk_21 5 (dk_at dksX9_turnsIn_0 3 rfl rfl)
theorem dX9_turnsIn_5 : decode cX9_turnsIn 5 = .ok (.iconst 1, 1) := dk_4 (dk_at dksX9_turnsIn_0 5 rfl rfl)
theorem dX9_turnsIn_6 : decode cX9_turnsIn 6 = .ok (.aload_n 0, 1) := dk_42 (dk_at dksX9_turnsIn_0 6 rfl rfl)
theorem dX9_turnsIn_7 : decode cX9_turnsIn 7 = .ok (.getfield 13, 3) := dk_180 0 13 (dk_at dksX9_turnsIn_0 7 rfl rfl)
theorem dX9_turnsIn_10 : decode cX9_turnsIn 10 = .ok (.iconst 0, 1) := dk_3 (dk_at dksX9_turnsIn_0 10 rfl rfl)
theorem dX9_turnsIn_11 : decode cX9_turnsIn 11 = .ok (.iaload, 1) := dk_46 (dk_at dksX9_turnsIn_0 11 rfl rfl)
theorem dX9_turnsIn_12 : decode cX9_turnsIn 12 = .ok (.ishl, 1) := dk_120 (dk_at dksX9_turnsIn_0 12 rfl rfl)
theorem dX9_turnsIn_13 : decode cX9_turnsIn 13 = .ok (.if_icmp .ge 41, 3) := dk_162 0 41 (dk_at dksX9_turnsIn_0 13 rfl rfl)
theorem dX9_turnsIn_16 : decode cX9_turnsIn 16 = .ok (.lload_n 3, 1) := dk_33 (dk_at dksX9_turnsIn_0 16 rfl rfl)
theorem dX9_turnsIn_17 : decode cX9_turnsIn 17 = .ok (.iload 5, 2) := dk_21 5 (dk_at dksX9_turnsIn_0 17 rfl rfl)
theorem dX9_turnsIn_19 : decode cX9_turnsIn 19 = .ok (.invokestatic 350, 3) := dk_184 1 94 (dk_at dksX9_turnsIn_0 19 rfl rfl)
theorem dX9_turnsIn_22 : decode cX9_turnsIn 22 = .ok (.ifCond .eq 26, 3) := dk_153 0 26 (dk_at dksX9_turnsIn_1 0 rfl rfl)
theorem dX9_turnsIn_25 : decode cX9_turnsIn 25 = .ok (.aload_n 0, 1) := dk_42 (dk_at dksX9_turnsIn_1 3 rfl rfl)
theorem dX9_turnsIn_26 : decode cX9_turnsIn 26 = .ok (.iload_n 1, 1) := dk_27 (dk_at dksX9_turnsIn_1 4 rfl rfl)
theorem dX9_turnsIn_27 : decode cX9_turnsIn 27 = .ok (.iload_n 2, 1) := dk_28 (dk_at dksX9_turnsIn_1 5 rfl rfl)
theorem dX9_turnsIn_28 : decode cX9_turnsIn 28 = .ok (.iload 5, 2) := dk_21 5 (dk_at dksX9_turnsIn_1 6 rfl rfl)
theorem dX9_turnsIn_30 : decode cX9_turnsIn 30 = .ok (.invokevirtual 368, 3) := dk_182 1 112 (dk_at dksX9_turnsIn_1 8 rfl rfl)
theorem dX9_turnsIn_33 : decode cX9_turnsIn 33 = .ok (.aload_n 0, 1) := dk_42 (dk_at dksX9_turnsIn_1 11 rfl rfl)
theorem dX9_turnsIn_34 : decode cX9_turnsIn 34 = .ok (.iload_n 1, 1) := dk_27 (dk_at dksX9_turnsIn_1 12 rfl rfl)
theorem dX9_turnsIn_35 : decode cX9_turnsIn 35 = .ok (.iload_n 2, 1) := dk_28 (dk_at dksX9_turnsIn_1 13 rfl rfl)
theorem dX9_turnsIn_36 : decode cX9_turnsIn 36 = .ok (.iconst 1, 1) := dk_4 (dk_at dksX9_turnsIn_1 14 rfl rfl)
theorem dX9_turnsIn_37 : decode cX9_turnsIn 37 = .ok (.isub, 1) := dk_100 (dk_at dksX9_turnsIn_1 15 rfl rfl)
theorem dX9_turnsIn_38 : decode cX9_turnsIn 38 = .ok (.iload 5, 2) := dk_21 5 (dk_at dksX9_turnsIn_1 16 rfl rfl)
theorem dX9_turnsIn_40 : decode cX9_turnsIn 40 = .ok (.invokevirtual 368, 3) := dk_182 1 112 (dk_at dksX9_turnsIn_1 18 rfl rfl)
theorem dX9_turnsIn_43 : decode cX9_turnsIn 43 = .ok (.if_icmp .eq 5, 3) := dk_159 0 5 (dk_at dksX9_turnsIn_1 21 rfl rfl)
theorem dX9_turnsIn_46 : decode cX9_turnsIn 46 = .ok (.iconst 1, 1) := dk_4 (dk_at dksX9_turnsIn_2 0 rfl rfl)
theorem dX9_turnsIn_47 : decode cX9_turnsIn 47 = .ok (.ireturn, 1) := dk_172 (dk_at dksX9_turnsIn_2 1 rfl rfl)
theorem dX9_turnsIn_48 : decode cX9_turnsIn 48 = .ok (.iinc 5 1, 3) := dk_132 5 1 (dk_at dksX9_turnsIn_2 2 rfl rfl)
theorem dX9_turnsIn_51 : decode cX9_turnsIn 51 = .ok (.goto (-48), 3) := dk_167 255 208 (dk_at dksX9_turnsIn_2 5 rfl rfl)
theorem dX9_turnsIn_54 : decode cX9_turnsIn 54 = .ok (.iconst 0, 1) := dk_3 (dk_at dksX9_turnsIn_2 8 rfl rfl)
theorem dX9_turnsIn_55 : decode cX9_turnsIn 55 = .ok (.ireturn, 1) := dk_172 (dk_at dksX9_turnsIn_2 9 rfl rfl)
abbrev cX9_finds : ByteArray := prog_28_method_95_code
def yX9_finds : MethodName := ⟨RX9, "finds", "(IIIJ)Z"⟩
def dkwX9_finds_3 : List UInt8 := [167, 255, 220, 3, 172]
abbrev dktX9_finds_3 : List UInt8 := dkwX9_finds_3 ++ []
def dkwX9_finds_2 : List UInt8 := [27, 21, 6, 79, 42, 27, 4, 96, 28, 29, 22, 4, 182, 1, 207, 153, 0, 5, 4, 172, 132, 6, 1]
abbrev dktX9_finds_2 : List UInt8 := dkwX9_finds_2 ++ dktX9_finds_3
def dkwX9_finds_1 : List UInt8 := [180, 0, 147, 27, 4, 100, 46, 4, 96, 54, 6, 21, 6, 42, 180, 1, 197, 162, 0, 33, 42, 180, 0, 147]
abbrev dktX9_finds_1 : List UInt8 := dkwX9_finds_1 ++ dktX9_finds_2
def dkwX9_finds_0 : List UInt8 := [27, 28, 160, 0, 12, 42, 28, 29, 22, 4, 182, 1, 204, 172, 27, 154, 0, 7, 3, 167, 0, 13, 42]
abbrev dktX9_finds_0 : List UInt8 := dkwX9_finds_0 ++ dktX9_finds_1
theorem dksX9_finds_0 : cX9_finds.data.toList.drop 0 = dktX9_finds_0 := by decide +kernel
theorem dksX9_finds_1 : cX9_finds.data.toList.drop 23 = dktX9_finds_1 := dk_seg dksX9_finds_0 23 rfl rfl
theorem dksX9_finds_2 : cX9_finds.data.toList.drop 47 = dktX9_finds_2 := dk_seg dksX9_finds_1 24 rfl rfl
theorem dksX9_finds_3 : cX9_finds.data.toList.drop 70 = dktX9_finds_3 := dk_seg dksX9_finds_2 23 rfl rfl
theorem dX9_finds_0 : decode cX9_finds 0 = .ok (.iload_n 1, 1) := dk_27 (dk_at dksX9_finds_0 0 rfl rfl)
theorem dX9_finds_1 : decode cX9_finds 1 = .ok (.iload_n 2, 1) := dk_28 (dk_at dksX9_finds_0 1 rfl rfl)
theorem dX9_finds_2 : decode cX9_finds 2 = .ok (.if_icmp .ne 12, 3) := dk_160 0 12 (dk_at dksX9_finds_0 2 rfl rfl)
theorem dX9_finds_5 : decode cX9_finds 5 = .ok (.aload_n 0, 1) := dk_42 (dk_at dksX9_finds_0 5 rfl rfl)
theorem dX9_finds_6 : decode cX9_finds 6 = .ok (.iload_n 2, 1) := dk_28 (dk_at dksX9_finds_0 6 rfl rfl)
theorem dX9_finds_7 : decode cX9_finds 7 = .ok (.iload_n 3, 1) := dk_29 (dk_at dksX9_finds_0 7 rfl rfl)
theorem dX9_finds_8 : decode cX9_finds 8 = .ok (.lload 4, 2) := dk_22 4 (dk_at dksX9_finds_0 8 rfl rfl)
theorem dX9_finds_10 : decode cX9_finds 10 = .ok (.invokevirtual 460, 3) := dk_182 1 204 (dk_at dksX9_finds_0 10 rfl rfl)
theorem dX9_finds_13 : decode cX9_finds 13 = .ok (.ireturn, 1) := dk_172 (dk_at dksX9_finds_0 13 rfl rfl)
theorem dX9_finds_14 : decode cX9_finds 14 = .ok (.iload_n 1, 1) := dk_27 (dk_at dksX9_finds_0 14 rfl rfl)
theorem dX9_finds_15 : decode cX9_finds 15 = .ok (.ifCond .ne 7, 3) := dk_154 0 7 (dk_at dksX9_finds_0 15 rfl rfl)
theorem dX9_finds_18 : decode cX9_finds 18 = .ok (.iconst 0, 1) := dk_3 (dk_at dksX9_finds_0 18 rfl rfl)
theorem dX9_finds_19 : decode cX9_finds 19 = .ok (.goto 13, 3) := dk_167 0 13 (dk_at dksX9_finds_0 19 rfl rfl)
theorem dX9_finds_22 : decode cX9_finds 22 = .ok (.aload_n 0, 1) := dk_42 (dk_at dksX9_finds_0 22 rfl rfl)
theorem dX9_finds_23 : decode cX9_finds 23 = .ok (.getfield 147, 3) := dk_180 0 147 (dk_at dksX9_finds_1 0 rfl rfl)
theorem dX9_finds_26 : decode cX9_finds 26 = .ok (.iload_n 1, 1) := dk_27 (dk_at dksX9_finds_1 3 rfl rfl)
theorem dX9_finds_27 : decode cX9_finds 27 = .ok (.iconst 1, 1) := dk_4 (dk_at dksX9_finds_1 4 rfl rfl)
theorem dX9_finds_28 : decode cX9_finds 28 = .ok (.isub, 1) := dk_100 (dk_at dksX9_finds_1 5 rfl rfl)
theorem dX9_finds_29 : decode cX9_finds 29 = .ok (.iaload, 1) := dk_46 (dk_at dksX9_finds_1 6 rfl rfl)
theorem dX9_finds_30 : decode cX9_finds 30 = .ok (.iconst 1, 1) := dk_4 (dk_at dksX9_finds_1 7 rfl rfl)
theorem dX9_finds_31 : decode cX9_finds 31 = .ok (.iadd, 1) := dk_96 (dk_at dksX9_finds_1 8 rfl rfl)
theorem dX9_finds_32 : decode cX9_finds 32 = .ok (.istore 6, 2) := dk_54 6 (dk_at dksX9_finds_1 9 rfl rfl)
theorem dX9_finds_34 : decode cX9_finds 34 = .ok (.iload 6, 2) := dk_21 6 (dk_at dksX9_finds_1 11 rfl rfl)
theorem dX9_finds_36 : decode cX9_finds 36 = .ok (.aload_n 0, 1) := dk_42 (dk_at dksX9_finds_1 13 rfl rfl)
theorem dX9_finds_37 : decode cX9_finds 37 = .ok (.getfield 453, 3) := dk_180 1 197 (dk_at dksX9_finds_1 14 rfl rfl)
theorem dX9_finds_40 : decode cX9_finds 40 = .ok (.if_icmp .ge 33, 3) := dk_162 0 33 (dk_at dksX9_finds_1 17 rfl rfl)
theorem dX9_finds_43 : decode cX9_finds 43 = .ok (.aload_n 0, 1) := dk_42 (dk_at dksX9_finds_1 20 rfl rfl)
theorem dX9_finds_44 : decode cX9_finds 44 = .ok (.getfield 147, 3) := dk_180 0 147 (dk_at dksX9_finds_1 21 rfl rfl)
theorem dX9_finds_47 : decode cX9_finds 47 = .ok (.iload_n 1, 1) := dk_27 (dk_at dksX9_finds_2 0 rfl rfl)
theorem dX9_finds_48 : decode cX9_finds 48 = .ok (.iload 6, 2) := dk_21 6 (dk_at dksX9_finds_2 1 rfl rfl)
theorem dX9_finds_50 : decode cX9_finds 50 = .ok (.iastore, 1) := dk_79 (dk_at dksX9_finds_2 3 rfl rfl)
theorem dX9_finds_51 : decode cX9_finds 51 = .ok (.aload_n 0, 1) := dk_42 (dk_at dksX9_finds_2 4 rfl rfl)
theorem dX9_finds_52 : decode cX9_finds 52 = .ok (.iload_n 1, 1) := dk_27 (dk_at dksX9_finds_2 5 rfl rfl)
theorem dX9_finds_53 : decode cX9_finds 53 = .ok (.iconst 1, 1) := dk_4 (dk_at dksX9_finds_2 6 rfl rfl)
theorem dX9_finds_54 : decode cX9_finds 54 = .ok (.iadd, 1) := dk_96 (dk_at dksX9_finds_2 7 rfl rfl)
theorem dX9_finds_55 : decode cX9_finds 55 = .ok (.iload_n 2, 1) := dk_28 (dk_at dksX9_finds_2 8 rfl rfl)
theorem dX9_finds_56 : decode cX9_finds 56 = .ok (.iload_n 3, 1) := dk_29 (dk_at dksX9_finds_2 9 rfl rfl)
theorem dX9_finds_57 : decode cX9_finds 57 = .ok (.lload 4, 2) := dk_22 4 (dk_at dksX9_finds_2 10 rfl rfl)
theorem dX9_finds_59 : decode cX9_finds 59 = .ok (.invokevirtual 463, 3) := dk_182 1 207 (dk_at dksX9_finds_2 12 rfl rfl)
theorem dX9_finds_62 : decode cX9_finds 62 = .ok (.ifCond .eq 5, 3) := dk_153 0 5 (dk_at dksX9_finds_2 15 rfl rfl)
theorem dX9_finds_65 : decode cX9_finds 65 = .ok (.iconst 1, 1) := dk_4 (dk_at dksX9_finds_2 18 rfl rfl)
theorem dX9_finds_66 : decode cX9_finds 66 = .ok (.ireturn, 1) := dk_172 (dk_at dksX9_finds_2 19 rfl rfl)
theorem dX9_finds_67 : decode cX9_finds 67 = .ok (.iinc 6 1, 3) := dk_132 6 1 (dk_at dksX9_finds_2 20 rfl rfl)
theorem dX9_finds_70 : decode cX9_finds 70 = .ok (.goto (-36), 3) := dk_167 255 220 (dk_at dksX9_finds_3 0 rfl rfl)
theorem dX9_finds_73 : decode cX9_finds 73 = .ok (.iconst 0, 1) := dk_3 (dk_at dksX9_finds_3 3 rfl rfl)
theorem dX9_finds_74 : decode cX9_finds 74 = .ok (.ireturn, 1) := dk_172 (dk_at dksX9_finds_3 4 rfl rfl)
abbrev cX9_tells : ByteArray := prog_28_method_94_code
def yX9_tells : MethodName := ⟨RX9, "tells", "(IIJ)Z"⟩
def dkwX9_tells_6 : List UInt8 := [167, 255, 137, 132, 5, 1, 167, 255, 115, 4, 172]
abbrev dktX9_tells_6 : List UInt8 := dkwX9_tells_6 ++ []
def dkwX9_tells_5 : List UInt8 := [167, 0, 4, 3, 54, 7, 132, 8, 1, 167, 255, 196, 21, 7, 153, 0, 5, 3, 172, 132, 6, 1]
abbrev dktX9_tells_5 : List UInt8 := dkwX9_tells_5 ++ dktX9_tells_6
def dkwX9_tells_4 : List UInt8 := [96, 46, 42, 180, 0, 144, 16, 64, 42, 180, 0, 147, 21, 8, 46, 104, 21, 6, 96, 46, 160, 0, 7, 4]
abbrev dktX9_tells_4 : List UInt8 := dkwX9_tells_4 ++ dktX9_tells_5
def dkwX9_tells_3 : List UInt8 := [162, 0, 60, 21, 7, 153, 0, 46, 42, 180, 0, 144, 16, 64, 42, 180, 0, 147, 21, 8, 46, 104, 21, 5]
abbrev dktX9_tells_3 : List UInt8 := dkwX9_tells_3 ++ dktX9_tells_4
def dkwX9_tells_2 : List UInt8 := [21, 6, 130, 28, 122, 4, 126, 154, 0, 6, 167, 0, 79, 4, 54, 7, 3, 54, 8, 21, 8, 27]
abbrev dktX9_tells_2 : List UInt8 := dkwX9_tells_2 ++ dktX9_tells_3
def dkwX9_tells_1 : List UInt8 := [162, 0, 118, 33, 21, 5, 184, 1, 94, 153, 0, 103, 33, 21, 6, 184, 1, 94, 153, 0, 94, 21, 5]
abbrev dktX9_tells_1 : List UInt8 := dkwX9_tells_1 ++ dktX9_tells_2
def dkwX9_tells_0 : List UInt8 := [3, 54, 5, 21, 5, 4, 42, 180, 0, 13, 3, 46, 120, 162, 0, 134, 3, 54, 6, 21, 6, 21, 5]
abbrev dktX9_tells_0 : List UInt8 := dkwX9_tells_0 ++ dktX9_tells_1
theorem dksX9_tells_0 : cX9_tells.data.toList.drop 0 = dktX9_tells_0 := by decide +kernel
theorem dksX9_tells_1 : cX9_tells.data.toList.drop 23 = dktX9_tells_1 := dk_seg dksX9_tells_0 23 rfl rfl
theorem dksX9_tells_2 : cX9_tells.data.toList.drop 46 = dktX9_tells_2 := dk_seg dksX9_tells_1 23 rfl rfl
theorem dksX9_tells_3 : cX9_tells.data.toList.drop 68 = dktX9_tells_3 := dk_seg dksX9_tells_2 22 rfl rfl
theorem dksX9_tells_4 : cX9_tells.data.toList.drop 92 = dktX9_tells_4 := dk_seg dksX9_tells_3 24 rfl rfl
theorem dksX9_tells_5 : cX9_tells.data.toList.drop 116 = dktX9_tells_5 := dk_seg dksX9_tells_4 24 rfl rfl
theorem dksX9_tells_6 : cX9_tells.data.toList.drop 138 = dktX9_tells_6 := dk_seg dksX9_tells_5 22 rfl rfl
theorem dX9_tells_0 : decode cX9_tells 0 = .ok (.iconst 0, 1) := dk_3 (dk_at dksX9_tells_0 0 rfl rfl)
theorem dX9_tells_1 : decode cX9_tells 1 = .ok (.istore 5, 2) := dk_54 5 (dk_at dksX9_tells_0 1 rfl rfl)
theorem dX9_tells_3 : decode cX9_tells 3 = .ok (.iload 5, 2) := dk_21 5 (dk_at dksX9_tells_0 3 rfl rfl)
theorem dX9_tells_5 : decode cX9_tells 5 = .ok (.iconst 1, 1) := dk_4 (dk_at dksX9_tells_0 5 rfl rfl)
theorem dX9_tells_6 : decode cX9_tells 6 = .ok (.aload_n 0, 1) := dk_42 (dk_at dksX9_tells_0 6 rfl rfl)
theorem dX9_tells_7 : decode cX9_tells 7 = .ok (.getfield 13, 3) := dk_180 0 13 (dk_at dksX9_tells_0 7 rfl rfl)
theorem dX9_tells_10 : decode cX9_tells 10 = .ok (.iconst 0, 1) := dk_3 (dk_at dksX9_tells_0 10 rfl rfl)
theorem dX9_tells_11 : decode cX9_tells 11 = .ok (.iaload, 1) := dk_46 (dk_at dksX9_tells_0 11 rfl rfl)
theorem dX9_tells_12 : decode cX9_tells 12 = .ok (.ishl, 1) := dk_120 (dk_at dksX9_tells_0 12 rfl rfl)
theorem dX9_tells_13 : decode cX9_tells 13 = .ok (.if_icmp .ge 134, 3) := dk_162 0 134 (dk_at dksX9_tells_0 13 rfl rfl)
theorem dX9_tells_16 : decode cX9_tells 16 = .ok (.iconst 0, 1) := dk_3 (dk_at dksX9_tells_0 16 rfl rfl)
theorem dX9_tells_17 : decode cX9_tells 17 = .ok (.istore 6, 2) := dk_54 6 (dk_at dksX9_tells_0 17 rfl rfl)
theorem dX9_tells_19 : decode cX9_tells 19 = .ok (.iload 6, 2) := dk_21 6 (dk_at dksX9_tells_0 19 rfl rfl)
theorem dX9_tells_21 : decode cX9_tells 21 = .ok (.iload 5, 2) := dk_21 5 (dk_at dksX9_tells_0 21 rfl rfl)
theorem dX9_tells_23 : decode cX9_tells 23 = .ok (.if_icmp .ge 118, 3) := dk_162 0 118 (dk_at dksX9_tells_1 0 rfl rfl)
theorem dX9_tells_26 : decode cX9_tells 26 = .ok (.lload_n 3, 1) := dk_33 (dk_at dksX9_tells_1 3 rfl rfl)
theorem dX9_tells_27 : decode cX9_tells 27 = .ok (.iload 5, 2) := dk_21 5 (dk_at dksX9_tells_1 4 rfl rfl)
theorem dX9_tells_29 : decode cX9_tells 29 = .ok (.invokestatic 350, 3) := dk_184 1 94 (dk_at dksX9_tells_1 6 rfl rfl)
theorem dX9_tells_32 : decode cX9_tells 32 = .ok (.ifCond .eq 103, 3) := dk_153 0 103 (dk_at dksX9_tells_1 9 rfl rfl)
theorem dX9_tells_35 : decode cX9_tells 35 = .ok (.lload_n 3, 1) := dk_33 (dk_at dksX9_tells_1 12 rfl rfl)
theorem dX9_tells_36 : decode cX9_tells 36 = .ok (.iload 6, 2) := dk_21 6 (dk_at dksX9_tells_1 13 rfl rfl)
theorem dX9_tells_38 : decode cX9_tells 38 = .ok (.invokestatic 350, 3) := dk_184 1 94 (dk_at dksX9_tells_1 15 rfl rfl)
theorem dX9_tells_41 : decode cX9_tells 41 = .ok (.ifCond .eq 94, 3) := dk_153 0 94 (dk_at dksX9_tells_1 18 rfl rfl)
theorem dX9_tells_44 : decode cX9_tells 44 = .ok (.iload 5, 2) := dk_21 5 (dk_at dksX9_tells_1 21 rfl rfl)
theorem dX9_tells_46 : decode cX9_tells 46 = .ok (.iload 6, 2) := dk_21 6 (dk_at dksX9_tells_2 0 rfl rfl)
theorem dX9_tells_48 : decode cX9_tells 48 = .ok (.ixor, 1) := dk_130 (dk_at dksX9_tells_2 2 rfl rfl)
theorem dX9_tells_49 : decode cX9_tells 49 = .ok (.iload_n 2, 1) := dk_28 (dk_at dksX9_tells_2 3 rfl rfl)
theorem dX9_tells_50 : decode cX9_tells 50 = .ok (.ishr, 1) := dk_122 (dk_at dksX9_tells_2 4 rfl rfl)
theorem dX9_tells_51 : decode cX9_tells 51 = .ok (.iconst 1, 1) := dk_4 (dk_at dksX9_tells_2 5 rfl rfl)
theorem dX9_tells_52 : decode cX9_tells 52 = .ok (.iand, 1) := dk_126 (dk_at dksX9_tells_2 6 rfl rfl)
theorem dX9_tells_53 : decode cX9_tells 53 = .ok (.ifCond .ne 6, 3) := dk_154 0 6 (dk_at dksX9_tells_2 7 rfl rfl)
theorem dX9_tells_56 : decode cX9_tells 56 = .ok (.goto 79, 3) := dk_167 0 79 (dk_at dksX9_tells_2 10 rfl rfl)
theorem dX9_tells_59 : decode cX9_tells 59 = .ok (.iconst 1, 1) := dk_4 (dk_at dksX9_tells_2 13 rfl rfl)
theorem dX9_tells_60 : decode cX9_tells 60 = .ok (.istore 7, 2) := dk_54 7 (dk_at dksX9_tells_2 14 rfl rfl)
theorem dX9_tells_62 : decode cX9_tells 62 = .ok (.iconst 0, 1) := dk_3 (dk_at dksX9_tells_2 16 rfl rfl)
theorem dX9_tells_63 : decode cX9_tells 63 = .ok (.istore 8, 2) := dk_54 8 (dk_at dksX9_tells_2 17 rfl rfl)
theorem dX9_tells_65 : decode cX9_tells 65 = .ok (.iload 8, 2) := dk_21 8 (dk_at dksX9_tells_2 19 rfl rfl)
theorem dX9_tells_67 : decode cX9_tells 67 = .ok (.iload_n 1, 1) := dk_27 (dk_at dksX9_tells_2 21 rfl rfl)
theorem dX9_tells_68 : decode cX9_tells 68 = .ok (.if_icmp .ge 60, 3) := dk_162 0 60 (dk_at dksX9_tells_3 0 rfl rfl)
theorem dX9_tells_71 : decode cX9_tells 71 = .ok (.iload 7, 2) := dk_21 7 (dk_at dksX9_tells_3 3 rfl rfl)
theorem dX9_tells_73 : decode cX9_tells 73 = .ok (.ifCond .eq 46, 3) := dk_153 0 46 (dk_at dksX9_tells_3 5 rfl rfl)
theorem dX9_tells_76 : decode cX9_tells 76 = .ok (.aload_n 0, 1) := dk_42 (dk_at dksX9_tells_3 8 rfl rfl)
theorem dX9_tells_77 : decode cX9_tells 77 = .ok (.getfield 144, 3) := dk_180 0 144 (dk_at dksX9_tells_3 9 rfl rfl)
theorem dX9_tells_80 : decode cX9_tells 80 = .ok (.bipush 64, 2) := dk_16 64 (dk_at dksX9_tells_3 12 rfl rfl)
theorem dX9_tells_82 : decode cX9_tells 82 = .ok (.aload_n 0, 1) := dk_42 (dk_at dksX9_tells_3 14 rfl rfl)
theorem dX9_tells_83 : decode cX9_tells 83 = .ok (.getfield 147, 3) := dk_180 0 147 (dk_at dksX9_tells_3 15 rfl rfl)
theorem dX9_tells_86 : decode cX9_tells 86 = .ok (.iload 8, 2) := dk_21 8 (dk_at dksX9_tells_3 18 rfl rfl)
theorem dX9_tells_88 : decode cX9_tells 88 = .ok (.iaload, 1) := dk_46 (dk_at dksX9_tells_3 20 rfl rfl)
theorem dX9_tells_89 : decode cX9_tells 89 = .ok (.imul, 1) := dk_104 (dk_at dksX9_tells_3 21 rfl rfl)
theorem dX9_tells_90 : decode cX9_tells 90 = .ok (.iload 5, 2) := dk_21 5 (dk_at dksX9_tells_3 22 rfl rfl)
theorem dX9_tells_92 : decode cX9_tells 92 = .ok (.iadd, 1) := dk_96 (dk_at dksX9_tells_4 0 rfl rfl)
theorem dX9_tells_93 : decode cX9_tells 93 = .ok (.iaload, 1) := dk_46 (dk_at dksX9_tells_4 1 rfl rfl)
theorem dX9_tells_94 : decode cX9_tells 94 = .ok (.aload_n 0, 1) := dk_42 (dk_at dksX9_tells_4 2 rfl rfl)
theorem dX9_tells_95 : decode cX9_tells 95 = .ok (.getfield 144, 3) := dk_180 0 144 (dk_at dksX9_tells_4 3 rfl rfl)
theorem dX9_tells_98 : decode cX9_tells 98 = .ok (.bipush 64, 2) := dk_16 64 (dk_at dksX9_tells_4 6 rfl rfl)
theorem dX9_tells_100 : decode cX9_tells 100 = .ok (.aload_n 0, 1) := dk_42 (dk_at dksX9_tells_4 8 rfl rfl)
theorem dX9_tells_101 : decode cX9_tells 101 = .ok (.getfield 147, 3) := dk_180 0 147 (dk_at dksX9_tells_4 9 rfl rfl)
theorem dX9_tells_104 : decode cX9_tells 104 = .ok (.iload 8, 2) := dk_21 8 (dk_at dksX9_tells_4 12 rfl rfl)
theorem dX9_tells_106 : decode cX9_tells 106 = .ok (.iaload, 1) := dk_46 (dk_at dksX9_tells_4 14 rfl rfl)
theorem dX9_tells_107 : decode cX9_tells 107 = .ok (.imul, 1) := dk_104 (dk_at dksX9_tells_4 15 rfl rfl)
theorem dX9_tells_108 : decode cX9_tells 108 = .ok (.iload 6, 2) := dk_21 6 (dk_at dksX9_tells_4 16 rfl rfl)
theorem dX9_tells_110 : decode cX9_tells 110 = .ok (.iadd, 1) := dk_96 (dk_at dksX9_tells_4 18 rfl rfl)
theorem dX9_tells_111 : decode cX9_tells 111 = .ok (.iaload, 1) := dk_46 (dk_at dksX9_tells_4 19 rfl rfl)
theorem dX9_tells_112 : decode cX9_tells 112 = .ok (.if_icmp .ne 7, 3) := dk_160 0 7 (dk_at dksX9_tells_4 20 rfl rfl)
theorem dX9_tells_115 : decode cX9_tells 115 = .ok (.iconst 1, 1) := dk_4 (dk_at dksX9_tells_4 23 rfl rfl)
theorem dX9_tells_116 : decode cX9_tells 116 = .ok (.goto 4, 3) := dk_167 0 4 (dk_at dksX9_tells_5 0 rfl rfl)
theorem dX9_tells_119 : decode cX9_tells 119 = .ok (.iconst 0, 1) := dk_3 (dk_at dksX9_tells_5 3 rfl rfl)
theorem dX9_tells_120 : decode cX9_tells 120 = .ok (.istore 7, 2) := dk_54 7 (dk_at dksX9_tells_5 4 rfl rfl)
theorem dX9_tells_122 : decode cX9_tells 122 = .ok (.iinc 8 1, 3) := dk_132 8 1 (dk_at dksX9_tells_5 6 rfl rfl)
theorem dX9_tells_125 : decode cX9_tells 125 = .ok (.goto (-60), 3) := dk_167 255 196 (dk_at dksX9_tells_5 9 rfl rfl)
theorem dX9_tells_128 : decode cX9_tells 128 = .ok (.iload 7, 2) := dk_21 7 (dk_at dksX9_tells_5 12 rfl rfl)
theorem dX9_tells_130 : decode cX9_tells 130 = .ok (.ifCond .eq 5, 3) := dk_153 0 5 (dk_at dksX9_tells_5 14 rfl rfl)
theorem dX9_tells_133 : decode cX9_tells 133 = .ok (.iconst 0, 1) := dk_3 (dk_at dksX9_tells_5 17 rfl rfl)
theorem dX9_tells_134 : decode cX9_tells 134 = .ok (.ireturn, 1) := dk_172 (dk_at dksX9_tells_5 18 rfl rfl)
theorem dX9_tells_135 : decode cX9_tells 135 = .ok (.iinc 6 1, 3) := dk_132 6 1 (dk_at dksX9_tells_5 19 rfl rfl)
theorem dX9_tells_138 : decode cX9_tells 138 = .ok (.goto (-119), 3) := dk_167 255 137 (dk_at dksX9_tells_6 0 rfl rfl)
theorem dX9_tells_141 : decode cX9_tells 141 = .ok (.iinc 5 1, 3) := dk_132 5 1 (dk_at dksX9_tells_6 3 rfl rfl)
theorem dX9_tells_144 : decode cX9_tells 144 = .ok (.goto (-141), 3) := dk_167 255 115 (dk_at dksX9_tells_6 6 rfl rfl)
theorem dX9_tells_147 : decode cX9_tells 147 = .ok (.iconst 1, 1) := dk_4 (dk_at dksX9_tells_6 9 rfl rfl)
theorem dX9_tells_148 : decode cX9_tells 148 = .ok (.ireturn, 1) := dk_172 (dk_at dksX9_tells_6 10 rfl rfl)
abbrev cX9_move : ByteArray := prog_28_method_97_code
def yX9_move : MethodName := ⟨RX9, "move", "(II)I"⟩
def dkwX9_move_6 : List UInt8 := [180, 1, 78, 182, 1, 102, 153, 0, 5, 29, 172, 132, 3, 1, 167, 255, 133, 2, 172]
abbrev dktX9_move_6 : List UInt8 := dkwX9_move_6 ++ []
def dkwX9_move_5 : List UInt8 := [42, 21, 4, 182, 1, 140, 20, 1, 51, 131, 127, 80, 42, 16, 30, 42, 180, 0, 32, 27, 46, 42]
abbrev dktX9_move_5 : List UInt8 := dkwX9_move_5 ++ dktX9_move_6
def dkwX9_move_4 : List UInt8 := [180, 0, 102, 16, 30, 29, 5, 112, 154, 0, 12, 42, 21, 4, 182, 1, 140, 167, 0, 18, 42, 182, 1, 62]
abbrev dktX9_move_4 : List UInt8 := dkwX9_move_4 ++ dktX9_move_5
def dkwX9_move_3 : List UInt8 := [167, 0, 80, 42, 180, 0, 96, 16, 30, 29, 16, 12, 108, 79, 42, 180, 0, 105, 16, 30, 3, 84, 42]
abbrev dktX9_move_3 : List UInt8 := dkwX9_move_3 ++ dktX9_move_4
def dkwX9_move_2 : List UInt8 := [5, 108, 54, 4, 29, 16, 12, 108, 28, 159, 0, 94, 21, 4, 42, 180, 0, 13, 3, 46, 161, 0, 6]
abbrev dktX9_move_2 : List UInt8 := dkwX9_move_2 ++ dktX9_move_3
def dkwX9_move_1 : List UInt8 := [154, 0, 5, 2, 172, 3, 62, 29, 16, 12, 42, 180, 0, 13, 5, 46, 104, 162, 0, 116, 29, 16, 12, 112]
abbrev dktX9_move_1 : List UInt8 := dkwX9_move_1 ++ dktX9_move_2
def dkwX9_move_0 : List UInt8 := [42, 3, 181, 0, 162, 42, 27, 182, 1, 115, 153, 0, 16, 28, 2, 159, 0, 13, 42, 28, 182, 1, 81]
abbrev dktX9_move_0 : List UInt8 := dkwX9_move_0 ++ dktX9_move_1
theorem dksX9_move_0 : cX9_move.data.toList.drop 0 = dktX9_move_0 := by decide +kernel
theorem dksX9_move_1 : cX9_move.data.toList.drop 23 = dktX9_move_1 := dk_seg dksX9_move_0 23 rfl rfl
theorem dksX9_move_2 : cX9_move.data.toList.drop 47 = dktX9_move_2 := dk_seg dksX9_move_1 24 rfl rfl
theorem dksX9_move_3 : cX9_move.data.toList.drop 70 = dktX9_move_3 := dk_seg dksX9_move_2 23 rfl rfl
theorem dksX9_move_4 : cX9_move.data.toList.drop 93 = dktX9_move_4 := dk_seg dksX9_move_3 23 rfl rfl
theorem dksX9_move_5 : cX9_move.data.toList.drop 117 = dktX9_move_5 := dk_seg dksX9_move_4 24 rfl rfl
theorem dksX9_move_6 : cX9_move.data.toList.drop 139 = dktX9_move_6 := dk_seg dksX9_move_5 22 rfl rfl
theorem dX9_move_0 : decode cX9_move 0 = .ok (.aload_n 0, 1) := dk_42 (dk_at dksX9_move_0 0 rfl rfl)
theorem dX9_move_1 : decode cX9_move 1 = .ok (.iconst 0, 1) := dk_3 (dk_at dksX9_move_0 1 rfl rfl)
theorem dX9_move_2 : decode cX9_move 2 = .ok (.putfield 162, 3) := dk_181 0 162 (dk_at dksX9_move_0 2 rfl rfl)
theorem dX9_move_5 : decode cX9_move 5 = .ok (.aload_n 0, 1) := dk_42 (dk_at dksX9_move_0 5 rfl rfl)
theorem dX9_move_6 : decode cX9_move 6 = .ok (.iload_n 1, 1) := dk_27 (dk_at dksX9_move_0 6 rfl rfl)
theorem dX9_move_7 : decode cX9_move 7 = .ok (.invokevirtual 371, 3) := dk_182 1 115 (dk_at dksX9_move_0 7 rfl rfl)
theorem dX9_move_10 : decode cX9_move 10 = .ok (.ifCond .eq 16, 3) := dk_153 0 16 (dk_at dksX9_move_0 10 rfl rfl)
theorem dX9_move_13 : decode cX9_move 13 = .ok (.iload_n 2, 1) := dk_28 (dk_at dksX9_move_0 13 rfl rfl)
theorem dX9_move_14 : decode cX9_move 14 = .ok (.iconst (-1), 1) := dk_2 (dk_at dksX9_move_0 14 rfl rfl)
theorem dX9_move_15 : decode cX9_move 15 = .ok (.if_icmp .eq 13, 3) := dk_159 0 13 (dk_at dksX9_move_0 15 rfl rfl)
theorem dX9_move_18 : decode cX9_move 18 = .ok (.aload_n 0, 1) := dk_42 (dk_at dksX9_move_0 18 rfl rfl)
theorem dX9_move_19 : decode cX9_move 19 = .ok (.iload_n 2, 1) := dk_28 (dk_at dksX9_move_0 19 rfl rfl)
theorem dX9_move_20 : decode cX9_move 20 = .ok (.invokevirtual 337, 3) := dk_182 1 81 (dk_at dksX9_move_0 20 rfl rfl)
theorem dX9_move_23 : decode cX9_move 23 = .ok (.ifCond .ne 5, 3) := dk_154 0 5 (dk_at dksX9_move_1 0 rfl rfl)
theorem dX9_move_26 : decode cX9_move 26 = .ok (.iconst (-1), 1) := dk_2 (dk_at dksX9_move_1 3 rfl rfl)
theorem dX9_move_27 : decode cX9_move 27 = .ok (.ireturn, 1) := dk_172 (dk_at dksX9_move_1 4 rfl rfl)
theorem dX9_move_28 : decode cX9_move 28 = .ok (.iconst 0, 1) := dk_3 (dk_at dksX9_move_1 5 rfl rfl)
theorem dX9_move_29 : decode cX9_move 29 = .ok (.istore_n 3, 1) := dk_62 (dk_at dksX9_move_1 6 rfl rfl)
theorem dX9_move_30 : decode cX9_move 30 = .ok (.iload_n 3, 1) := dk_29 (dk_at dksX9_move_1 7 rfl rfl)
theorem dX9_move_31 : decode cX9_move 31 = .ok (.bipush 12, 2) := dk_16 12 (dk_at dksX9_move_1 8 rfl rfl)
theorem dX9_move_33 : decode cX9_move 33 = .ok (.aload_n 0, 1) := dk_42 (dk_at dksX9_move_1 10 rfl rfl)
theorem dX9_move_34 : decode cX9_move 34 = .ok (.getfield 13, 3) := dk_180 0 13 (dk_at dksX9_move_1 11 rfl rfl)
theorem dX9_move_37 : decode cX9_move 37 = .ok (.iconst 2, 1) := dk_5 (dk_at dksX9_move_1 14 rfl rfl)
theorem dX9_move_38 : decode cX9_move 38 = .ok (.iaload, 1) := dk_46 (dk_at dksX9_move_1 15 rfl rfl)
theorem dX9_move_39 : decode cX9_move 39 = .ok (.imul, 1) := dk_104 (dk_at dksX9_move_1 16 rfl rfl)
theorem dX9_move_40 : decode cX9_move 40 = .ok (.if_icmp .ge 116, 3) := dk_162 0 116 (dk_at dksX9_move_1 17 rfl rfl)
theorem dX9_move_43 : decode cX9_move 43 = .ok (.iload_n 3, 1) := dk_29 (dk_at dksX9_move_1 20 rfl rfl)
theorem dX9_move_44 : decode cX9_move 44 = .ok (.bipush 12, 2) := dk_16 12 (dk_at dksX9_move_1 21 rfl rfl)
theorem dX9_move_46 : decode cX9_move 46 = .ok (.irem, 1) := dk_112 (dk_at dksX9_move_1 23 rfl rfl)
theorem dX9_move_47 : decode cX9_move 47 = .ok (.iconst 2, 1) := dk_5 (dk_at dksX9_move_2 0 rfl rfl)
theorem dX9_move_48 : decode cX9_move 48 = .ok (.idiv, 1) := dk_108 (dk_at dksX9_move_2 1 rfl rfl)
theorem dX9_move_49 : decode cX9_move 49 = .ok (.istore 4, 2) := dk_54 4 (dk_at dksX9_move_2 2 rfl rfl)
theorem dX9_move_51 : decode cX9_move 51 = .ok (.iload_n 3, 1) := dk_29 (dk_at dksX9_move_2 4 rfl rfl)
theorem dX9_move_52 : decode cX9_move 52 = .ok (.bipush 12, 2) := dk_16 12 (dk_at dksX9_move_2 5 rfl rfl)
theorem dX9_move_54 : decode cX9_move 54 = .ok (.idiv, 1) := dk_108 (dk_at dksX9_move_2 7 rfl rfl)
theorem dX9_move_55 : decode cX9_move 55 = .ok (.iload_n 2, 1) := dk_28 (dk_at dksX9_move_2 8 rfl rfl)
theorem dX9_move_56 : decode cX9_move 56 = .ok (.if_icmp .eq 94, 3) := dk_159 0 94 (dk_at dksX9_move_2 9 rfl rfl)
theorem dX9_move_59 : decode cX9_move 59 = .ok (.iload 4, 2) := dk_21 4 (dk_at dksX9_move_2 12 rfl rfl)
theorem dX9_move_61 : decode cX9_move 61 = .ok (.aload_n 0, 1) := dk_42 (dk_at dksX9_move_2 14 rfl rfl)
theorem dX9_move_62 : decode cX9_move 62 = .ok (.getfield 13, 3) := dk_180 0 13 (dk_at dksX9_move_2 15 rfl rfl)
theorem dX9_move_65 : decode cX9_move 65 = .ok (.iconst 0, 1) := dk_3 (dk_at dksX9_move_2 18 rfl rfl)
theorem dX9_move_66 : decode cX9_move 66 = .ok (.iaload, 1) := dk_46 (dk_at dksX9_move_2 19 rfl rfl)
theorem dX9_move_67 : decode cX9_move 67 = .ok (.if_icmp .lt 6, 3) := dk_161 0 6 (dk_at dksX9_move_2 20 rfl rfl)
theorem dX9_move_70 : decode cX9_move 70 = .ok (.goto 80, 3) := dk_167 0 80 (dk_at dksX9_move_3 0 rfl rfl)
theorem dX9_move_73 : decode cX9_move 73 = .ok (.aload_n 0, 1) := dk_42 (dk_at dksX9_move_3 3 rfl rfl)
theorem dX9_move_74 : decode cX9_move 74 = .ok (.getfield 96, 3) := dk_180 0 96 (dk_at dksX9_move_3 4 rfl rfl)
theorem dX9_move_77 : decode cX9_move 77 = .ok (.bipush 30, 2) := dk_16 30 (dk_at dksX9_move_3 7 rfl rfl)
theorem dX9_move_79 : decode cX9_move 79 = .ok (.iload_n 3, 1) := dk_29 (dk_at dksX9_move_3 9 rfl rfl)
theorem dX9_move_80 : decode cX9_move 80 = .ok (.bipush 12, 2) := dk_16 12 (dk_at dksX9_move_3 10 rfl rfl)
theorem dX9_move_82 : decode cX9_move 82 = .ok (.idiv, 1) := dk_108 (dk_at dksX9_move_3 12 rfl rfl)
theorem dX9_move_83 : decode cX9_move 83 = .ok (.iastore, 1) := dk_79 (dk_at dksX9_move_3 13 rfl rfl)
theorem dX9_move_84 : decode cX9_move 84 = .ok (.aload_n 0, 1) := dk_42 (dk_at dksX9_move_3 14 rfl rfl)
theorem dX9_move_85 : decode cX9_move 85 = .ok (.getfield 105, 3) := dk_180 0 105 (dk_at dksX9_move_3 15 rfl rfl)
theorem dX9_move_88 : decode cX9_move 88 = .ok (.bipush 30, 2) := dk_16 30 (dk_at dksX9_move_3 18 rfl rfl)
theorem dX9_move_90 : decode cX9_move 90 = .ok (.iconst 0, 1) := dk_3 (dk_at dksX9_move_3 20 rfl rfl)
theorem dX9_move_91 : decode cX9_move 91 = .ok (.bastore, 1) := dk_84 (dk_at dksX9_move_3 21 rfl rfl)
theorem dX9_move_92 : decode cX9_move 92 = .ok (.aload_n 0, 1) := dk_42 (dk_at dksX9_move_3 22 rfl rfl)
theorem dX9_move_93 : decode cX9_move 93 = .ok (.getfield 102, 3) := dk_180 0 102 (dk_at dksX9_move_4 0 rfl rfl)
theorem dX9_move_96 : decode cX9_move 96 = .ok (.bipush 30, 2) := dk_16 30 (dk_at dksX9_move_4 3 rfl rfl)
theorem dX9_move_98 : decode cX9_move 98 = .ok (.iload_n 3, 1) := dk_29 (dk_at dksX9_move_4 5 rfl rfl)
theorem dX9_move_99 : decode cX9_move 99 = .ok (.iconst 2, 1) := dk_5 (dk_at dksX9_move_4 6 rfl rfl)
theorem dX9_move_100 : decode cX9_move 100 = .ok (.irem, 1) := dk_112 (dk_at dksX9_move_4 7 rfl rfl)
theorem dX9_move_101 : decode cX9_move 101 = .ok (.ifCond .ne 12, 3) := dk_154 0 12 (dk_at dksX9_move_4 8 rfl rfl)
theorem dX9_move_104 : decode cX9_move 104 = .ok (.aload_n 0, 1) := dk_42 (dk_at dksX9_move_4 11 rfl rfl)
theorem dX9_move_105 : decode cX9_move 105 = .ok (.iload 4, 2) := dk_21 4 (dk_at dksX9_move_4 12 rfl rfl)
theorem dX9_move_107 : decode cX9_move 107 = .ok (.invokevirtual 396, 3) := dk_182 1 140 (dk_at dksX9_move_4 14 rfl rfl)
theorem dX9_move_110 : decode cX9_move 110 = .ok (.goto 18, 3) := dk_167 0 18 (dk_at dksX9_move_4 17 rfl rfl)
theorem dX9_move_113 : decode cX9_move 113 = .ok (.aload_n 0, 1) := dk_42 (dk_at dksX9_move_4 20 rfl rfl)
theorem dX9_move_114 : decode cX9_move 114 = .ok (.invokevirtual 318, 3) := dk_182 1 62 (dk_at dksX9_move_4 21 rfl rfl)
theorem dX9_move_117 : decode cX9_move 117 = .ok (.aload_n 0, 1) := dk_42 (dk_at dksX9_move_5 0 rfl rfl)
theorem dX9_move_118 : decode cX9_move 118 = .ok (.iload 4, 2) := dk_21 4 (dk_at dksX9_move_5 1 rfl rfl)
theorem dX9_move_120 : decode cX9_move 120 = .ok (.invokevirtual 396, 3) := dk_182 1 140 (dk_at dksX9_move_5 3 rfl rfl)
theorem dX9_move_123 : decode cX9_move 123 = .ok (.ldc2_w 307, 3) := dk_20 1 51 (dk_at dksX9_move_5 6 rfl rfl)
theorem dX9_move_126 : decode cX9_move 126 = .ok (.lxor, 1) := dk_131 (dk_at dksX9_move_5 9 rfl rfl)
theorem dX9_move_127 : decode cX9_move 127 = .ok (.land, 1) := dk_127 (dk_at dksX9_move_5 10 rfl rfl)
theorem dX9_move_128 : decode cX9_move 128 = .ok (.lastore, 1) := dk_80 (dk_at dksX9_move_5 11 rfl rfl)
theorem dX9_move_129 : decode cX9_move 129 = .ok (.aload_n 0, 1) := dk_42 (dk_at dksX9_move_5 12 rfl rfl)
theorem dX9_move_130 : decode cX9_move 130 = .ok (.bipush 30, 2) := dk_16 30 (dk_at dksX9_move_5 13 rfl rfl)
theorem dX9_move_132 : decode cX9_move 132 = .ok (.aload_n 0, 1) := dk_42 (dk_at dksX9_move_5 15 rfl rfl)
theorem dX9_move_133 : decode cX9_move 133 = .ok (.getfield 32, 3) := dk_180 0 32 (dk_at dksX9_move_5 16 rfl rfl)
theorem dX9_move_136 : decode cX9_move 136 = .ok (.iload_n 1, 1) := dk_27 (dk_at dksX9_move_5 19 rfl rfl)
theorem dX9_move_137 : decode cX9_move 137 = .ok (.iaload, 1) := dk_46 (dk_at dksX9_move_5 20 rfl rfl)
theorem dX9_move_138 : decode cX9_move 138 = .ok (.aload_n 0, 1) := dk_42 (dk_at dksX9_move_5 21 rfl rfl)
theorem dX9_move_139 : decode cX9_move 139 = .ok (.getfield 334, 3) := dk_180 1 78 (dk_at dksX9_move_6 0 rfl rfl)
theorem dX9_move_142 : decode cX9_move 142 = .ok (.invokevirtual 358, 3) := dk_182 1 102 (dk_at dksX9_move_6 3 rfl rfl)
theorem dX9_move_145 : decode cX9_move 145 = .ok (.ifCond .eq 5, 3) := dk_153 0 5 (dk_at dksX9_move_6 6 rfl rfl)
theorem dX9_move_148 : decode cX9_move 148 = .ok (.iload_n 3, 1) := dk_29 (dk_at dksX9_move_6 9 rfl rfl)
theorem dX9_move_149 : decode cX9_move 149 = .ok (.ireturn, 1) := dk_172 (dk_at dksX9_move_6 10 rfl rfl)
theorem dX9_move_150 : decode cX9_move 150 = .ok (.iinc 3 1, 3) := dk_132 3 1 (dk_at dksX9_move_6 11 rfl rfl)
theorem dX9_move_153 : decode cX9_move 153 = .ok (.goto (-123), 3) := dk_167 255 133 (dk_at dksX9_move_6 14 rfl rfl)
theorem dX9_move_156 : decode cX9_move 156 = .ok (.iconst (-1), 1) := dk_2 (dk_at dksX9_move_6 17 rfl rfl)
theorem dX9_move_157 : decode cX9_move 157 = .ok (.ireturn, 1) := dk_172 (dk_at dksX9_move_6 18 rfl rfl)
abbrev cX9_longest : ByteArray := prog_28_method_98_code
def yX9_longest : MethodName := ⟨RX9, "longest", "(IIII)I"⟩
def dkwX9_longest_6 : List UInt8 := [167, 0, 5, 21, 6, 172]
abbrev dktX9_longest_6 : List UInt8 := dkwX9_longest_6 ++ []
def dkwX9_longest_5 : List UInt8 := [132, 9, 1, 167, 255, 186, 21, 5, 154, 0, 7, 2, 167, 0, 15, 21, 4, 154, 0, 8, 21, 5]
abbrev dktX9_longest_5 : List UInt8 := dkwX9_longest_5 ++ dktX9_longest_6
def dkwX9_longest_4 : List UInt8 := [21, 10, 54, 8, 21, 7, 21, 5, 163, 0, 6, 167, 0, 11, 21, 7, 54, 5, 21, 10, 54, 6]
abbrev dktX9_longest_4 : List UInt8 := dkwX9_longest_4 ++ dktX9_longest_5
def dkwX9_longest_3 : List UInt8 := [156, 0, 7, 3, 167, 0, 18, 21, 10, 21, 8, 160, 0, 10, 21, 7, 4, 96, 167, 0, 4, 4, 54, 7]
abbrev dktX9_longest_3 : List UInt8 := dkwX9_longest_3 ++ dktX9_longest_4
def dkwX9_longest_2 : List UInt8 := [54, 9, 21, 9, 29, 163, 0, 70, 42, 27, 21, 9, 42, 180, 1, 78, 182, 1, 112, 54, 10, 21, 10]
abbrev dktX9_longest_2 : List UInt8 := dkwX9_longest_2 ++ dktX9_longest_3
def dkwX9_longest_1 : List UInt8 := [154, 0, 5, 2, 172, 42, 3, 182, 1, 118, 3, 54, 5, 2, 54, 6, 3, 54, 7, 2, 54, 8, 28]
abbrev dktX9_longest_1 : List UInt8 := dkwX9_longest_1 ++ dktX9_longest_2
def dkwX9_longest_0 : List UInt8 := [42, 3, 181, 0, 162, 42, 27, 28, 29, 182, 1, 170, 153, 0, 13, 21, 4, 3, 4, 184, 1, 151]
abbrev dktX9_longest_0 : List UInt8 := dkwX9_longest_0 ++ dktX9_longest_1
theorem dksX9_longest_0 : cX9_longest.data.toList.drop 0 = dktX9_longest_0 := by decide +kernel
theorem dksX9_longest_1 : cX9_longest.data.toList.drop 22 = dktX9_longest_1 := dk_seg dksX9_longest_0 22 rfl rfl
theorem dksX9_longest_2 : cX9_longest.data.toList.drop 45 = dktX9_longest_2 := dk_seg dksX9_longest_1 23 rfl rfl
theorem dksX9_longest_3 : cX9_longest.data.toList.drop 68 = dktX9_longest_3 := dk_seg dksX9_longest_2 23 rfl rfl
theorem dksX9_longest_4 : cX9_longest.data.toList.drop 92 = dktX9_longest_4 := dk_seg dksX9_longest_3 24 rfl rfl
theorem dksX9_longest_5 : cX9_longest.data.toList.drop 114 = dktX9_longest_5 := dk_seg dksX9_longest_4 22 rfl rfl
theorem dksX9_longest_6 : cX9_longest.data.toList.drop 136 = dktX9_longest_6 := dk_seg dksX9_longest_5 22 rfl rfl
theorem dX9_longest_0 : decode cX9_longest 0 = .ok (.aload_n 0, 1) := dk_42 (dk_at dksX9_longest_0 0 rfl rfl)
theorem dX9_longest_1 : decode cX9_longest 1 = .ok (.iconst 0, 1) := dk_3 (dk_at dksX9_longest_0 1 rfl rfl)
theorem dX9_longest_2 : decode cX9_longest 2 = .ok (.putfield 162, 3) := dk_181 0 162 (dk_at dksX9_longest_0 2 rfl rfl)
theorem dX9_longest_5 : decode cX9_longest 5 = .ok (.aload_n 0, 1) := dk_42 (dk_at dksX9_longest_0 5 rfl rfl)
theorem dX9_longest_6 : decode cX9_longest 6 = .ok (.iload_n 1, 1) := dk_27 (dk_at dksX9_longest_0 6 rfl rfl)
theorem dX9_longest_7 : decode cX9_longest 7 = .ok (.iload_n 2, 1) := dk_28 (dk_at dksX9_longest_0 7 rfl rfl)
theorem dX9_longest_8 : decode cX9_longest 8 = .ok (.iload_n 3, 1) := dk_29 (dk_at dksX9_longest_0 8 rfl rfl)
theorem dX9_longest_9 : decode cX9_longest 9 = .ok (.invokevirtual 426, 3) := dk_182 1 170 (dk_at dksX9_longest_0 9 rfl rfl)
theorem dX9_longest_12 : decode cX9_longest 12 = .ok (.ifCond .eq 13, 3) := dk_153 0 13 (dk_at dksX9_longest_0 12 rfl rfl)
theorem dX9_longest_15 : decode cX9_longest 15 = .ok (.iload 4, 2) := dk_21 4 (dk_at dksX9_longest_0 15 rfl rfl)
theorem dX9_longest_17 : decode cX9_longest 17 = .ok (.iconst 0, 1) := dk_3 (dk_at dksX9_longest_0 17 rfl rfl)
theorem dX9_longest_18 : decode cX9_longest 18 = .ok (.iconst 1, 1) := dk_4 (dk_at dksX9_longest_0 18 rfl rfl)
theorem dX9_longest_19 : decode cX9_longest 19 = .ok (.invokestatic 407, 3) := dk_184 1 151 (dk_at dksX9_longest_0 19 rfl rfl)
theorem dX9_longest_22 : decode cX9_longest 22 = .ok (.ifCond .ne 5, 3) := dk_154 0 5 (dk_at dksX9_longest_1 0 rfl rfl)
theorem dX9_longest_25 : decode cX9_longest 25 = .ok (.iconst (-1), 1) := dk_2 (dk_at dksX9_longest_1 3 rfl rfl)
theorem dX9_longest_26 : decode cX9_longest 26 = .ok (.ireturn, 1) := dk_172 (dk_at dksX9_longest_1 4 rfl rfl)
theorem dX9_longest_27 : decode cX9_longest 27 = .ok (.aload_n 0, 1) := dk_42 (dk_at dksX9_longest_1 5 rfl rfl)
theorem dX9_longest_28 : decode cX9_longest 28 = .ok (.iconst 0, 1) := dk_3 (dk_at dksX9_longest_1 6 rfl rfl)
theorem dX9_longest_29 : decode cX9_longest 29 = .ok (.invokevirtual 374, 3) := dk_182 1 118 (dk_at dksX9_longest_1 7 rfl rfl)
theorem dX9_longest_32 : decode cX9_longest 32 = .ok (.iconst 0, 1) := dk_3 (dk_at dksX9_longest_1 10 rfl rfl)
theorem dX9_longest_33 : decode cX9_longest 33 = .ok (.istore 5, 2) := dk_54 5 (dk_at dksX9_longest_1 11 rfl rfl)
theorem dX9_longest_35 : decode cX9_longest 35 = .ok (.iconst (-1), 1) := dk_2 (dk_at dksX9_longest_1 13 rfl rfl)
theorem dX9_longest_36 : decode cX9_longest 36 = .ok (.istore 6, 2) := dk_54 6 (dk_at dksX9_longest_1 14 rfl rfl)
theorem dX9_longest_38 : decode cX9_longest 38 = .ok (.iconst 0, 1) := dk_3 (dk_at dksX9_longest_1 16 rfl rfl)
theorem dX9_longest_39 : decode cX9_longest 39 = .ok (.istore 7, 2) := dk_54 7 (dk_at dksX9_longest_1 17 rfl rfl)
theorem dX9_longest_41 : decode cX9_longest 41 = .ok (.iconst (-1), 1) := dk_2 (dk_at dksX9_longest_1 19 rfl rfl)
theorem dX9_longest_42 : decode cX9_longest 42 = .ok (.istore 8, 2) := dk_54 8 (dk_at dksX9_longest_1 20 rfl rfl)
theorem dX9_longest_44 : decode cX9_longest 44 = .ok (.iload_n 2, 1) := dk_28 (dk_at dksX9_longest_1 22 rfl rfl)
theorem dX9_longest_45 : decode cX9_longest 45 = .ok (.istore 9, 2) := dk_54 9 (dk_at dksX9_longest_2 0 rfl rfl)
theorem dX9_longest_47 : decode cX9_longest 47 = .ok (.iload 9, 2) := dk_21 9 (dk_at dksX9_longest_2 2 rfl rfl)
theorem dX9_longest_49 : decode cX9_longest 49 = .ok (.iload_n 3, 1) := dk_29 (dk_at dksX9_longest_2 4 rfl rfl)
theorem dX9_longest_50 : decode cX9_longest 50 = .ok (.if_icmp .gt 70, 3) := dk_163 0 70 (dk_at dksX9_longest_2 5 rfl rfl)
theorem dX9_longest_53 : decode cX9_longest 53 = .ok (.aload_n 0, 1) := dk_42 (dk_at dksX9_longest_2 8 rfl rfl)
theorem dX9_longest_54 : decode cX9_longest 54 = .ok (.iload_n 1, 1) := dk_27 (dk_at dksX9_longest_2 9 rfl rfl)
theorem dX9_longest_55 : decode cX9_longest 55 = .ok (.iload 9, 2) := dk_21 9 (dk_at dksX9_longest_2 10 rfl rfl)
theorem dX9_longest_57 : decode cX9_longest 57 = .ok (.aload_n 0, 1) := dk_42 (dk_at dksX9_longest_2 12 rfl rfl)
theorem dX9_longest_58 : decode cX9_longest 58 = .ok (.getfield 334, 3) := dk_180 1 78 (dk_at dksX9_longest_2 13 rfl rfl)
theorem dX9_longest_61 : decode cX9_longest 61 = .ok (.invokevirtual 368, 3) := dk_182 1 112 (dk_at dksX9_longest_2 16 rfl rfl)
theorem dX9_longest_64 : decode cX9_longest 64 = .ok (.istore 10, 2) := dk_54 10 (dk_at dksX9_longest_2 19 rfl rfl)
theorem dX9_longest_66 : decode cX9_longest 66 = .ok (.iload 10, 2) := dk_21 10 (dk_at dksX9_longest_2 21 rfl rfl)
theorem dX9_longest_68 : decode cX9_longest 68 = .ok (.ifCond .ge 7, 3) := dk_156 0 7 (dk_at dksX9_longest_3 0 rfl rfl)
theorem dX9_longest_71 : decode cX9_longest 71 = .ok (.iconst 0, 1) := dk_3 (dk_at dksX9_longest_3 3 rfl rfl)
theorem dX9_longest_72 : decode cX9_longest 72 = .ok (.goto 18, 3) := dk_167 0 18 (dk_at dksX9_longest_3 4 rfl rfl)
theorem dX9_longest_75 : decode cX9_longest 75 = .ok (.iload 10, 2) := dk_21 10 (dk_at dksX9_longest_3 7 rfl rfl)
theorem dX9_longest_77 : decode cX9_longest 77 = .ok (.iload 8, 2) := dk_21 8 (dk_at dksX9_longest_3 9 rfl rfl)
theorem dX9_longest_79 : decode cX9_longest 79 = .ok (.if_icmp .ne 10, 3) := dk_160 0 10 (dk_at dksX9_longest_3 11 rfl rfl)
theorem dX9_longest_82 : decode cX9_longest 82 = .ok (.iload 7, 2) := dk_21 7 (dk_at dksX9_longest_3 14 rfl rfl)
theorem dX9_longest_84 : decode cX9_longest 84 = .ok (.iconst 1, 1) := dk_4 (dk_at dksX9_longest_3 16 rfl rfl)
theorem dX9_longest_85 : decode cX9_longest 85 = .ok (.iadd, 1) := dk_96 (dk_at dksX9_longest_3 17 rfl rfl)
theorem dX9_longest_86 : decode cX9_longest 86 = .ok (.goto 4, 3) := dk_167 0 4 (dk_at dksX9_longest_3 18 rfl rfl)
theorem dX9_longest_89 : decode cX9_longest 89 = .ok (.iconst 1, 1) := dk_4 (dk_at dksX9_longest_3 21 rfl rfl)
theorem dX9_longest_90 : decode cX9_longest 90 = .ok (.istore 7, 2) := dk_54 7 (dk_at dksX9_longest_3 22 rfl rfl)
theorem dX9_longest_92 : decode cX9_longest 92 = .ok (.iload 10, 2) := dk_21 10 (dk_at dksX9_longest_4 0 rfl rfl)
theorem dX9_longest_94 : decode cX9_longest 94 = .ok (.istore 8, 2) := dk_54 8 (dk_at dksX9_longest_4 2 rfl rfl)
theorem dX9_longest_96 : decode cX9_longest 96 = .ok (.iload 7, 2) := dk_21 7 (dk_at dksX9_longest_4 4 rfl rfl)
theorem dX9_longest_98 : decode cX9_longest 98 = .ok (.iload 5, 2) := dk_21 5 (dk_at dksX9_longest_4 6 rfl rfl)
theorem dX9_longest_100 : decode cX9_longest 100 = .ok (.if_icmp .gt 6, 3) := dk_163 0 6 (dk_at dksX9_longest_4 8 rfl rfl)
theorem dX9_longest_103 : decode cX9_longest 103 = .ok (.goto 11, 3) := dk_167 0 11 (dk_at dksX9_longest_4 11 rfl rfl)
theorem dX9_longest_106 : decode cX9_longest 106 = .ok (.iload 7, 2) := dk_21 7 (dk_at dksX9_longest_4 14 rfl rfl)
theorem dX9_longest_108 : decode cX9_longest 108 = .ok (.istore 5, 2) := dk_54 5 (dk_at dksX9_longest_4 16 rfl rfl)
theorem dX9_longest_110 : decode cX9_longest 110 = .ok (.iload 10, 2) := dk_21 10 (dk_at dksX9_longest_4 18 rfl rfl)
theorem dX9_longest_112 : decode cX9_longest 112 = .ok (.istore 6, 2) := dk_54 6 (dk_at dksX9_longest_4 20 rfl rfl)
theorem dX9_longest_114 : decode cX9_longest 114 = .ok (.iinc 9 1, 3) := dk_132 9 1 (dk_at dksX9_longest_5 0 rfl rfl)
theorem dX9_longest_117 : decode cX9_longest 117 = .ok (.goto (-70), 3) := dk_167 255 186 (dk_at dksX9_longest_5 3 rfl rfl)
theorem dX9_longest_120 : decode cX9_longest 120 = .ok (.iload 5, 2) := dk_21 5 (dk_at dksX9_longest_5 6 rfl rfl)
theorem dX9_longest_122 : decode cX9_longest 122 = .ok (.ifCond .ne 7, 3) := dk_154 0 7 (dk_at dksX9_longest_5 8 rfl rfl)
theorem dX9_longest_125 : decode cX9_longest 125 = .ok (.iconst (-1), 1) := dk_2 (dk_at dksX9_longest_5 11 rfl rfl)
theorem dX9_longest_126 : decode cX9_longest 126 = .ok (.goto 15, 3) := dk_167 0 15 (dk_at dksX9_longest_5 12 rfl rfl)
theorem dX9_longest_129 : decode cX9_longest 129 = .ok (.iload 4, 2) := dk_21 4 (dk_at dksX9_longest_5 15 rfl rfl)
theorem dX9_longest_131 : decode cX9_longest 131 = .ok (.ifCond .ne 8, 3) := dk_154 0 8 (dk_at dksX9_longest_5 17 rfl rfl)
theorem dX9_longest_134 : decode cX9_longest 134 = .ok (.iload 5, 2) := dk_21 5 (dk_at dksX9_longest_5 20 rfl rfl)
theorem dX9_longest_136 : decode cX9_longest 136 = .ok (.goto 5, 3) := dk_167 0 5 (dk_at dksX9_longest_6 0 rfl rfl)
theorem dX9_longest_139 : decode cX9_longest 139 = .ok (.iload 6, 2) := dk_21 6 (dk_at dksX9_longest_6 3 rfl rfl)
theorem dX9_longest_141 : decode cX9_longest 141 = .ok (.ireturn, 1) := dk_172 (dk_at dksX9_longest_6 5 rfl rfl)
abbrev cX9_differ : ByteArray := prog_28_method_99_code
def yX9_differ : MethodName := ⟨RX9, "differ", "(II)I"⟩
def dkwX9_differ_3 : List UInt8 := [3, 96, 62, 132, 4, 1, 167, 255, 214, 29, 172]
abbrev dktX9_differ_3 : List UInt8 := dkwX9_differ_3 ++ []
def dkwX9_differ_2 : List UInt8 := [180, 1, 78, 182, 1, 112, 42, 4, 21, 4, 42, 180, 1, 78, 182, 1, 112, 159, 0, 7, 4, 167, 0, 4]
abbrev dktX9_differ_2 : List UInt8 := dkwX9_differ_2 ++ dktX9_differ_3
def dkwX9_differ_1 : List UInt8 := [2, 172, 42, 3, 182, 1, 118, 3, 62, 27, 54, 4, 21, 4, 28, 163, 0, 42, 29, 42, 3, 21, 4, 42]
abbrev dktX9_differ_1 : List UInt8 := dkwX9_differ_1 ++ dktX9_differ_2
def dkwX9_differ_0 : List UInt8 := [42, 3, 181, 0, 162, 42, 180, 0, 38, 4, 51, 153, 0, 13, 42, 3, 27, 28, 182, 1, 170, 154, 0, 5]
abbrev dktX9_differ_0 : List UInt8 := dkwX9_differ_0 ++ dktX9_differ_1
theorem dksX9_differ_0 : cX9_differ.data.toList.drop 0 = dktX9_differ_0 := by decide +kernel
theorem dksX9_differ_1 : cX9_differ.data.toList.drop 24 = dktX9_differ_1 := dk_seg dksX9_differ_0 24 rfl rfl
theorem dksX9_differ_2 : cX9_differ.data.toList.drop 48 = dktX9_differ_2 := dk_seg dksX9_differ_1 24 rfl rfl
theorem dksX9_differ_3 : cX9_differ.data.toList.drop 72 = dktX9_differ_3 := dk_seg dksX9_differ_2 24 rfl rfl
theorem dX9_differ_0 : decode cX9_differ 0 = .ok (.aload_n 0, 1) := dk_42 (dk_at dksX9_differ_0 0 rfl rfl)
theorem dX9_differ_1 : decode cX9_differ 1 = .ok (.iconst 0, 1) := dk_3 (dk_at dksX9_differ_0 1 rfl rfl)
theorem dX9_differ_2 : decode cX9_differ 2 = .ok (.putfield 162, 3) := dk_181 0 162 (dk_at dksX9_differ_0 2 rfl rfl)
theorem dX9_differ_5 : decode cX9_differ 5 = .ok (.aload_n 0, 1) := dk_42 (dk_at dksX9_differ_0 5 rfl rfl)
theorem dX9_differ_6 : decode cX9_differ 6 = .ok (.getfield 38, 3) := dk_180 0 38 (dk_at dksX9_differ_0 6 rfl rfl)
theorem dX9_differ_9 : decode cX9_differ 9 = .ok (.iconst 1, 1) := dk_4 (dk_at dksX9_differ_0 9 rfl rfl)
theorem dX9_differ_10 : decode cX9_differ 10 = .ok (.baload, 1) := dk_51 (dk_at dksX9_differ_0 10 rfl rfl)
theorem dX9_differ_11 : decode cX9_differ 11 = .ok (.ifCond .eq 13, 3) := dk_153 0 13 (dk_at dksX9_differ_0 11 rfl rfl)
theorem dX9_differ_14 : decode cX9_differ 14 = .ok (.aload_n 0, 1) := dk_42 (dk_at dksX9_differ_0 14 rfl rfl)
theorem dX9_differ_15 : decode cX9_differ 15 = .ok (.iconst 0, 1) := dk_3 (dk_at dksX9_differ_0 15 rfl rfl)
theorem dX9_differ_16 : decode cX9_differ 16 = .ok (.iload_n 1, 1) := dk_27 (dk_at dksX9_differ_0 16 rfl rfl)
theorem dX9_differ_17 : decode cX9_differ 17 = .ok (.iload_n 2, 1) := dk_28 (dk_at dksX9_differ_0 17 rfl rfl)
theorem dX9_differ_18 : decode cX9_differ 18 = .ok (.invokevirtual 426, 3) := dk_182 1 170 (dk_at dksX9_differ_0 18 rfl rfl)
theorem dX9_differ_21 : decode cX9_differ 21 = .ok (.ifCond .ne 5, 3) := dk_154 0 5 (dk_at dksX9_differ_0 21 rfl rfl)
theorem dX9_differ_24 : decode cX9_differ 24 = .ok (.iconst (-1), 1) := dk_2 (dk_at dksX9_differ_1 0 rfl rfl)
theorem dX9_differ_25 : decode cX9_differ 25 = .ok (.ireturn, 1) := dk_172 (dk_at dksX9_differ_1 1 rfl rfl)
theorem dX9_differ_26 : decode cX9_differ 26 = .ok (.aload_n 0, 1) := dk_42 (dk_at dksX9_differ_1 2 rfl rfl)
theorem dX9_differ_27 : decode cX9_differ 27 = .ok (.iconst 0, 1) := dk_3 (dk_at dksX9_differ_1 3 rfl rfl)
theorem dX9_differ_28 : decode cX9_differ 28 = .ok (.invokevirtual 374, 3) := dk_182 1 118 (dk_at dksX9_differ_1 4 rfl rfl)
theorem dX9_differ_31 : decode cX9_differ 31 = .ok (.iconst 0, 1) := dk_3 (dk_at dksX9_differ_1 7 rfl rfl)
theorem dX9_differ_32 : decode cX9_differ 32 = .ok (.istore_n 3, 1) := dk_62 (dk_at dksX9_differ_1 8 rfl rfl)
theorem dX9_differ_33 : decode cX9_differ 33 = .ok (.iload_n 1, 1) := dk_27 (dk_at dksX9_differ_1 9 rfl rfl)
theorem dX9_differ_34 : decode cX9_differ 34 = .ok (.istore 4, 2) := dk_54 4 (dk_at dksX9_differ_1 10 rfl rfl)
theorem dX9_differ_36 : decode cX9_differ 36 = .ok (.iload 4, 2) := dk_21 4 (dk_at dksX9_differ_1 12 rfl rfl)
theorem dX9_differ_38 : decode cX9_differ 38 = .ok (.iload_n 2, 1) := dk_28 (dk_at dksX9_differ_1 14 rfl rfl)
theorem dX9_differ_39 : decode cX9_differ 39 = .ok (.if_icmp .gt 42, 3) := dk_163 0 42 (dk_at dksX9_differ_1 15 rfl rfl)
theorem dX9_differ_42 : decode cX9_differ 42 = .ok (.iload_n 3, 1) := dk_29 (dk_at dksX9_differ_1 18 rfl rfl)
theorem dX9_differ_43 : decode cX9_differ 43 = .ok (.aload_n 0, 1) := dk_42 (dk_at dksX9_differ_1 19 rfl rfl)
theorem dX9_differ_44 : decode cX9_differ 44 = .ok (.iconst 0, 1) := dk_3 (dk_at dksX9_differ_1 20 rfl rfl)
theorem dX9_differ_45 : decode cX9_differ 45 = .ok (.iload 4, 2) := dk_21 4 (dk_at dksX9_differ_1 21 rfl rfl)
theorem dX9_differ_47 : decode cX9_differ 47 = .ok (.aload_n 0, 1) := dk_42 (dk_at dksX9_differ_1 23 rfl rfl)
theorem dX9_differ_48 : decode cX9_differ 48 = .ok (.getfield 334, 3) := dk_180 1 78 (dk_at dksX9_differ_2 0 rfl rfl)
theorem dX9_differ_51 : decode cX9_differ 51 = .ok (.invokevirtual 368, 3) := dk_182 1 112 (dk_at dksX9_differ_2 3 rfl rfl)
theorem dX9_differ_54 : decode cX9_differ 54 = .ok (.aload_n 0, 1) := dk_42 (dk_at dksX9_differ_2 6 rfl rfl)
theorem dX9_differ_55 : decode cX9_differ 55 = .ok (.iconst 1, 1) := dk_4 (dk_at dksX9_differ_2 7 rfl rfl)
theorem dX9_differ_56 : decode cX9_differ 56 = .ok (.iload 4, 2) := dk_21 4 (dk_at dksX9_differ_2 8 rfl rfl)
theorem dX9_differ_58 : decode cX9_differ 58 = .ok (.aload_n 0, 1) := dk_42 (dk_at dksX9_differ_2 10 rfl rfl)
theorem dX9_differ_59 : decode cX9_differ 59 = .ok (.getfield 334, 3) := dk_180 1 78 (dk_at dksX9_differ_2 11 rfl rfl)
theorem dX9_differ_62 : decode cX9_differ 62 = .ok (.invokevirtual 368, 3) := dk_182 1 112 (dk_at dksX9_differ_2 14 rfl rfl)
theorem dX9_differ_65 : decode cX9_differ 65 = .ok (.if_icmp .eq 7, 3) := dk_159 0 7 (dk_at dksX9_differ_2 17 rfl rfl)
theorem dX9_differ_68 : decode cX9_differ 68 = .ok (.iconst 1, 1) := dk_4 (dk_at dksX9_differ_2 20 rfl rfl)
theorem dX9_differ_69 : decode cX9_differ 69 = .ok (.goto 4, 3) := dk_167 0 4 (dk_at dksX9_differ_2 21 rfl rfl)
theorem dX9_differ_72 : decode cX9_differ 72 = .ok (.iconst 0, 1) := dk_3 (dk_at dksX9_differ_3 0 rfl rfl)
theorem dX9_differ_73 : decode cX9_differ 73 = .ok (.iadd, 1) := dk_96 (dk_at dksX9_differ_3 1 rfl rfl)
theorem dX9_differ_74 : decode cX9_differ 74 = .ok (.istore_n 3, 1) := dk_62 (dk_at dksX9_differ_3 2 rfl rfl)
theorem dX9_differ_75 : decode cX9_differ 75 = .ok (.iinc 4 1, 3) := dk_132 4 1 (dk_at dksX9_differ_3 3 rfl rfl)
theorem dX9_differ_78 : decode cX9_differ 78 = .ok (.goto (-42), 3) := dk_167 255 214 (dk_at dksX9_differ_3 6 rfl rfl)
theorem dX9_differ_81 : decode cX9_differ 81 = .ok (.iload_n 3, 1) := dk_29 (dk_at dksX9_differ_3 9 rfl rfl)
theorem dX9_differ_82 : decode cX9_differ 82 = .ok (.ireturn, 1) := dk_172 (dk_at dksX9_differ_3 10 rfl rfl)
abbrev cX9_mark : ByteArray := prog_28_method_103_code
def yX9_mark : MethodName := ⟨RX9, "mark", "(IZ)Z"⟩
def dkwX9_mark_18 : List UInt8 := [27, 104, 16, 48, 96, 28, 182, 1, 226, 4, 172]
abbrev dktX9_mark_18 : List UInt8 := dkwX9_mark_18 ++ []
def dkwX9_mark_17 : List UInt8 := [180, 0, 102, 16, 30, 16, 100, 27, 104, 16, 18, 96, 28, 182, 1, 226, 42, 42, 180, 0, 42, 4, 16, 100]
abbrev dktX9_mark_17 : List UInt8 := dkwX9_mark_17 ++ dktX9_mark_18
def dkwX9_mark_16 : List UInt8 := [7, 28, 182, 1, 222, 42, 42, 180, 0, 16, 16, 18, 16, 100, 27, 104, 28, 182, 1, 226, 42, 42]
abbrev dktX9_mark_16 : List UInt8 := dkwX9_mark_16 ++ dktX9_mark_17
def dkwX9_mark_15 : List UInt8 := [180, 0, 123, 16, 12, 28, 182, 1, 222, 42, 42, 180, 0, 135, 7, 28, 182, 1, 222, 42, 42, 180, 0, 138]
abbrev dktX9_mark_15 : List UInt8 := dkwX9_mark_15 ++ dktX9_mark_16
def dkwX9_mark_14 : List UInt8 := [180, 0, 117, 16, 12, 28, 182, 1, 222, 42, 42, 180, 0, 120, 16, 12, 28, 182, 1, 222, 42, 42]
abbrev dktX9_mark_14 : List UInt8 := dkwX9_mark_14 ++ dktX9_mark_15
def dkwX9_mark_13 : List UInt8 := [167, 0, 4, 3, 84, 132, 3, 1, 167, 255, 213, 42, 42, 180, 0, 114, 16, 12, 28, 182, 1, 222, 42, 42]
abbrev dktX9_mark_13 : List UInt8 := dkwX9_mark_13 ++ dktX9_mark_14
def dkwX9_mark_12 : List UInt8 := [180, 0, 105, 29, 51, 153, 0, 7, 4, 167, 0, 4, 3, 28, 182, 1, 218, 4, 160, 0, 7, 4]
abbrev dktX9_mark_12 : List UInt8 := dkwX9_mark_12 ++ dktX9_mark_13
def dkwX9_mark_11 : List UInt8 := [180, 0, 99, 16, 30, 28, 182, 1, 222, 3, 62, 29, 16, 30, 162, 0, 43, 42, 180, 0, 105, 29, 42, 42]
abbrev dktX9_mark_11 : List UInt8 := dkwX9_mark_11 ++ dktX9_mark_12
def dkwX9_mark_10 : List UInt8 := [180, 1, 78, 28, 182, 1, 218, 181, 1, 78, 42, 42, 180, 0, 96, 16, 30, 28, 182, 1, 222, 42, 42]
abbrev dktX9_mark_10 : List UInt8 := dkwX9_mark_10 ++ dktX9_mark_11
def dkwX9_mark_9 : List UInt8 := [182, 1, 218, 181, 1, 72, 42, 42, 42, 180, 1, 75, 28, 182, 1, 218, 181, 1, 75, 42, 42, 42]
abbrev dktX9_mark_9 : List UInt8 := dkwX9_mark_9 ++ dktX9_mark_10
def dkwX9_mark_8 : List UInt8 := [181, 1, 66, 42, 42, 42, 180, 1, 69, 28, 182, 1, 218, 181, 1, 69, 42, 42, 42, 180, 1, 72, 28]
abbrev dktX9_mark_8 : List UInt8 := dkwX9_mark_8 ++ dktX9_mark_9
def dkwX9_mark_7 : List UInt8 := [42, 42, 42, 180, 1, 59, 28, 182, 1, 218, 181, 1, 59, 42, 42, 42, 180, 1, 66, 28, 182, 1, 218]
abbrev dktX9_mark_7 : List UInt8 := dkwX9_mark_7 ++ dktX9_mark_8
def dkwX9_mark_6 : List UInt8 := [167, 0, 4, 3, 28, 182, 1, 218, 4, 160, 0, 7, 4, 167, 0, 4, 3, 84, 132, 3, 1, 167, 255, 214]
abbrev dktX9_mark_6 : List UInt8 := dkwX9_mark_6 ++ dktX9_mark_7
def dkwX9_mark_5 : List UInt8 := [3, 62, 29, 5, 162, 0, 43, 42, 180, 0, 38, 29, 42, 42, 180, 0, 38, 29, 51, 153, 0, 7, 4]
abbrev dktX9_mark_5 : List UInt8 := dkwX9_mark_5 ++ dktX9_mark_6
def dkwX9_mark_4 : List UInt8 := [28, 182, 1, 222, 42, 42, 180, 0, 32, 5, 28, 182, 1, 222, 42, 42, 180, 0, 35, 5, 28, 182, 1, 222]
abbrev dktX9_mark_4 : List UInt8 := dkwX9_mark_4 ++ dktX9_mark_5
def dkwX9_mark_3 : List UInt8 := [16, 6, 28, 182, 1, 222, 42, 42, 180, 0, 26, 16, 6, 28, 182, 1, 222, 42, 42, 180, 0, 29, 16, 6]
abbrev dktX9_mark_3 : List UInt8 := dkwX9_mark_3 ++ dktX9_mark_4
def dkwX9_mark_2 : List UInt8 := [180, 0, 13, 6, 28, 182, 1, 222, 42, 42, 180, 0, 20, 16, 6, 28, 182, 1, 222, 42, 42, 180, 0, 23]
abbrev dktX9_mark_2 : List UInt8 := dkwX9_mark_2 ++ dktX9_mark_3
def dkwX9_mark_1 : List UInt8 := [154, 0, 5, 3, 172, 42, 180, 0, 150, 27, 4, 84, 42, 17, 1, 44, 27, 104, 181, 1, 215, 42, 42]
abbrev dktX9_mark_1 : List UInt8 := dkwX9_mark_1 ++ dktX9_mark_2
def dkwX9_mark_0 : List UInt8 := [42, 3, 181, 0, 162, 27, 3, 6, 184, 1, 151, 153, 0, 16, 28, 153, 0, 14, 42, 180, 0, 150, 27, 51]
abbrev dktX9_mark_0 : List UInt8 := dkwX9_mark_0 ++ dktX9_mark_1
theorem dksX9_mark_0 : cX9_mark.data.toList.drop 0 = dktX9_mark_0 := by decide +kernel
theorem dksX9_mark_1 : cX9_mark.data.toList.drop 24 = dktX9_mark_1 := dk_seg dksX9_mark_0 24 rfl rfl
theorem dksX9_mark_2 : cX9_mark.data.toList.drop 47 = dktX9_mark_2 := dk_seg dksX9_mark_1 23 rfl rfl
theorem dksX9_mark_3 : cX9_mark.data.toList.drop 71 = dktX9_mark_3 := dk_seg dksX9_mark_2 24 rfl rfl
theorem dksX9_mark_4 : cX9_mark.data.toList.drop 95 = dktX9_mark_4 := dk_seg dksX9_mark_3 24 rfl rfl
theorem dksX9_mark_5 : cX9_mark.data.toList.drop 119 = dktX9_mark_5 := dk_seg dksX9_mark_4 24 rfl rfl
theorem dksX9_mark_6 : cX9_mark.data.toList.drop 142 = dktX9_mark_6 := dk_seg dksX9_mark_5 23 rfl rfl
theorem dksX9_mark_7 : cX9_mark.data.toList.drop 166 = dktX9_mark_7 := dk_seg dksX9_mark_6 24 rfl rfl
theorem dksX9_mark_8 : cX9_mark.data.toList.drop 189 = dktX9_mark_8 := dk_seg dksX9_mark_7 23 rfl rfl
theorem dksX9_mark_9 : cX9_mark.data.toList.drop 212 = dktX9_mark_9 := dk_seg dksX9_mark_8 23 rfl rfl
theorem dksX9_mark_10 : cX9_mark.data.toList.drop 234 = dktX9_mark_10 := dk_seg dksX9_mark_9 22 rfl rfl
theorem dksX9_mark_11 : cX9_mark.data.toList.drop 257 = dktX9_mark_11 := dk_seg dksX9_mark_10 23 rfl rfl
theorem dksX9_mark_12 : cX9_mark.data.toList.drop 281 = dktX9_mark_12 := dk_seg dksX9_mark_11 24 rfl rfl
theorem dksX9_mark_13 : cX9_mark.data.toList.drop 303 = dktX9_mark_13 := dk_seg dksX9_mark_12 22 rfl rfl
theorem dksX9_mark_14 : cX9_mark.data.toList.drop 327 = dktX9_mark_14 := dk_seg dksX9_mark_13 24 rfl rfl
theorem dksX9_mark_15 : cX9_mark.data.toList.drop 349 = dktX9_mark_15 := dk_seg dksX9_mark_14 22 rfl rfl
theorem dksX9_mark_16 : cX9_mark.data.toList.drop 373 = dktX9_mark_16 := dk_seg dksX9_mark_15 24 rfl rfl
theorem dksX9_mark_17 : cX9_mark.data.toList.drop 395 = dktX9_mark_17 := dk_seg dksX9_mark_16 22 rfl rfl
theorem dksX9_mark_18 : cX9_mark.data.toList.drop 419 = dktX9_mark_18 := dk_seg dksX9_mark_17 24 rfl rfl
theorem dX9_mark_0 : decode cX9_mark 0 = .ok (.aload_n 0, 1) := dk_42 (dk_at dksX9_mark_0 0 rfl rfl)
theorem dX9_mark_1 : decode cX9_mark 1 = .ok (.iconst 0, 1) := dk_3 (dk_at dksX9_mark_0 1 rfl rfl)
theorem dX9_mark_2 : decode cX9_mark 2 = .ok (.putfield 162, 3) := dk_181 0 162 (dk_at dksX9_mark_0 2 rfl rfl)
theorem dX9_mark_5 : decode cX9_mark 5 = .ok (.iload_n 1, 1) := dk_27 (dk_at dksX9_mark_0 5 rfl rfl)
theorem dX9_mark_6 : decode cX9_mark 6 = .ok (.iconst 0, 1) := dk_3 (dk_at dksX9_mark_0 6 rfl rfl)
theorem dX9_mark_7 : decode cX9_mark 7 = .ok (.iconst 3, 1) := dk_6 (dk_at dksX9_mark_0 7 rfl rfl)
theorem dX9_mark_8 : decode cX9_mark 8 = .ok (.invokestatic 407, 3) := dk_184 1 151 (dk_at dksX9_mark_0 8 rfl rfl)
theorem dX9_mark_11 : decode cX9_mark 11 = .ok (.ifCond .eq 16, 3) := dk_153 0 16 (dk_at dksX9_mark_0 11 rfl rfl)
theorem dX9_mark_14 : decode cX9_mark 14 = .ok (.iload_n 2, 1) := dk_28 (dk_at dksX9_mark_0 14 rfl rfl)
theorem dX9_mark_15 : decode cX9_mark 15 = .ok (.ifCond .eq 14, 3) := dk_153 0 14 (dk_at dksX9_mark_0 15 rfl rfl)
theorem dX9_mark_18 : decode cX9_mark 18 = .ok (.aload_n 0, 1) := dk_42 (dk_at dksX9_mark_0 18 rfl rfl)
theorem dX9_mark_19 : decode cX9_mark 19 = .ok (.getfield 150, 3) := dk_180 0 150 (dk_at dksX9_mark_0 19 rfl rfl)
theorem dX9_mark_22 : decode cX9_mark 22 = .ok (.iload_n 1, 1) := dk_27 (dk_at dksX9_mark_0 22 rfl rfl)
theorem dX9_mark_23 : decode cX9_mark 23 = .ok (.baload, 1) := dk_51 (dk_at dksX9_mark_0 23 rfl rfl)
theorem dX9_mark_24 : decode cX9_mark 24 = .ok (.ifCond .ne 5, 3) := dk_154 0 5 (dk_at dksX9_mark_1 0 rfl rfl)
theorem dX9_mark_27 : decode cX9_mark 27 = .ok (.iconst 0, 1) := dk_3 (dk_at dksX9_mark_1 3 rfl rfl)
theorem dX9_mark_28 : decode cX9_mark 28 = .ok (.ireturn, 1) := dk_172 (dk_at dksX9_mark_1 4 rfl rfl)
theorem dX9_mark_29 : decode cX9_mark 29 = .ok (.aload_n 0, 1) := dk_42 (dk_at dksX9_mark_1 5 rfl rfl)
theorem dX9_mark_30 : decode cX9_mark 30 = .ok (.getfield 150, 3) := dk_180 0 150 (dk_at dksX9_mark_1 6 rfl rfl)
theorem dX9_mark_33 : decode cX9_mark 33 = .ok (.iload_n 1, 1) := dk_27 (dk_at dksX9_mark_1 9 rfl rfl)
theorem dX9_mark_34 : decode cX9_mark 34 = .ok (.iconst 1, 1) := dk_4 (dk_at dksX9_mark_1 10 rfl rfl)
theorem dX9_mark_35 : decode cX9_mark 35 = .ok (.bastore, 1) := dk_84 (dk_at dksX9_mark_1 11 rfl rfl)
theorem dX9_mark_36 : decode cX9_mark 36 = .ok (.aload_n 0, 1) := dk_42 (dk_at dksX9_mark_1 12 rfl rfl)
theorem dX9_mark_37 : decode cX9_mark 37 = .ok (.sipush 300, 3) := dk_17 1 44 (dk_at dksX9_mark_1 13 rfl rfl)
theorem dX9_mark_40 : decode cX9_mark 40 = .ok (.iload_n 1, 1) := dk_27 (dk_at dksX9_mark_1 16 rfl rfl)
theorem dX9_mark_41 : decode cX9_mark 41 = .ok (.imul, 1) := dk_104 (dk_at dksX9_mark_1 17 rfl rfl)
theorem dX9_mark_42 : decode cX9_mark 42 = .ok (.putfield 471, 3) := dk_181 1 215 (dk_at dksX9_mark_1 18 rfl rfl)
theorem dX9_mark_45 : decode cX9_mark 45 = .ok (.aload_n 0, 1) := dk_42 (dk_at dksX9_mark_1 21 rfl rfl)
theorem dX9_mark_46 : decode cX9_mark 46 = .ok (.aload_n 0, 1) := dk_42 (dk_at dksX9_mark_1 22 rfl rfl)
theorem dX9_mark_47 : decode cX9_mark 47 = .ok (.getfield 13, 3) := dk_180 0 13 (dk_at dksX9_mark_2 0 rfl rfl)
theorem dX9_mark_50 : decode cX9_mark 50 = .ok (.iconst 3, 1) := dk_6 (dk_at dksX9_mark_2 3 rfl rfl)
theorem dX9_mark_51 : decode cX9_mark 51 = .ok (.iload_n 2, 1) := dk_28 (dk_at dksX9_mark_2 4 rfl rfl)
theorem dX9_mark_52 : decode cX9_mark 52 = .ok (.invokevirtual 478, 3) := dk_182 1 222 (dk_at dksX9_mark_2 5 rfl rfl)
theorem dX9_mark_55 : decode cX9_mark 55 = .ok (.aload_n 0, 1) := dk_42 (dk_at dksX9_mark_2 8 rfl rfl)
theorem dX9_mark_56 : decode cX9_mark 56 = .ok (.aload_n 0, 1) := dk_42 (dk_at dksX9_mark_2 9 rfl rfl)
theorem dX9_mark_57 : decode cX9_mark 57 = .ok (.getfield 20, 3) := dk_180 0 20 (dk_at dksX9_mark_2 10 rfl rfl)
theorem dX9_mark_60 : decode cX9_mark 60 = .ok (.bipush 6, 2) := dk_16 6 (dk_at dksX9_mark_2 13 rfl rfl)
theorem dX9_mark_62 : decode cX9_mark 62 = .ok (.iload_n 2, 1) := dk_28 (dk_at dksX9_mark_2 15 rfl rfl)
theorem dX9_mark_63 : decode cX9_mark 63 = .ok (.invokevirtual 478, 3) := dk_182 1 222 (dk_at dksX9_mark_2 16 rfl rfl)
theorem dX9_mark_66 : decode cX9_mark 66 = .ok (.aload_n 0, 1) := dk_42 (dk_at dksX9_mark_2 19 rfl rfl)
theorem dX9_mark_67 : decode cX9_mark 67 = .ok (.aload_n 0, 1) := dk_42 (dk_at dksX9_mark_2 20 rfl rfl)
theorem dX9_mark_68 : decode cX9_mark 68 = .ok (.getfield 23, 3) := dk_180 0 23 (dk_at dksX9_mark_2 21 rfl rfl)
theorem dX9_mark_71 : decode cX9_mark 71 = .ok (.bipush 6, 2) := dk_16 6 (dk_at dksX9_mark_3 0 rfl rfl)
theorem dX9_mark_73 : decode cX9_mark 73 = .ok (.iload_n 2, 1) := dk_28 (dk_at dksX9_mark_3 2 rfl rfl)
theorem dX9_mark_74 : decode cX9_mark 74 = .ok (.invokevirtual 478, 3) := dk_182 1 222 (dk_at dksX9_mark_3 3 rfl rfl)
theorem dX9_mark_77 : decode cX9_mark 77 = .ok (.aload_n 0, 1) := dk_42 (dk_at dksX9_mark_3 6 rfl rfl)
theorem dX9_mark_78 : decode cX9_mark 78 = .ok (.aload_n 0, 1) := dk_42 (dk_at dksX9_mark_3 7 rfl rfl)
theorem dX9_mark_79 : decode cX9_mark 79 = .ok (.getfield 26, 3) := dk_180 0 26 (dk_at dksX9_mark_3 8 rfl rfl)
theorem dX9_mark_82 : decode cX9_mark 82 = .ok (.bipush 6, 2) := dk_16 6 (dk_at dksX9_mark_3 11 rfl rfl)
theorem dX9_mark_84 : decode cX9_mark 84 = .ok (.iload_n 2, 1) := dk_28 (dk_at dksX9_mark_3 13 rfl rfl)
theorem dX9_mark_85 : decode cX9_mark 85 = .ok (.invokevirtual 478, 3) := dk_182 1 222 (dk_at dksX9_mark_3 14 rfl rfl)
theorem dX9_mark_88 : decode cX9_mark 88 = .ok (.aload_n 0, 1) := dk_42 (dk_at dksX9_mark_3 17 rfl rfl)
theorem dX9_mark_89 : decode cX9_mark 89 = .ok (.aload_n 0, 1) := dk_42 (dk_at dksX9_mark_3 18 rfl rfl)
theorem dX9_mark_90 : decode cX9_mark 90 = .ok (.getfield 29, 3) := dk_180 0 29 (dk_at dksX9_mark_3 19 rfl rfl)
theorem dX9_mark_93 : decode cX9_mark 93 = .ok (.bipush 6, 2) := dk_16 6 (dk_at dksX9_mark_3 22 rfl rfl)
theorem dX9_mark_95 : decode cX9_mark 95 = .ok (.iload_n 2, 1) := dk_28 (dk_at dksX9_mark_4 0 rfl rfl)
theorem dX9_mark_96 : decode cX9_mark 96 = .ok (.invokevirtual 478, 3) := dk_182 1 222 (dk_at dksX9_mark_4 1 rfl rfl)
theorem dX9_mark_99 : decode cX9_mark 99 = .ok (.aload_n 0, 1) := dk_42 (dk_at dksX9_mark_4 4 rfl rfl)
theorem dX9_mark_100 : decode cX9_mark 100 = .ok (.aload_n 0, 1) := dk_42 (dk_at dksX9_mark_4 5 rfl rfl)
theorem dX9_mark_101 : decode cX9_mark 101 = .ok (.getfield 32, 3) := dk_180 0 32 (dk_at dksX9_mark_4 6 rfl rfl)
theorem dX9_mark_104 : decode cX9_mark 104 = .ok (.iconst 2, 1) := dk_5 (dk_at dksX9_mark_4 9 rfl rfl)
theorem dX9_mark_105 : decode cX9_mark 105 = .ok (.iload_n 2, 1) := dk_28 (dk_at dksX9_mark_4 10 rfl rfl)
theorem dX9_mark_106 : decode cX9_mark 106 = .ok (.invokevirtual 478, 3) := dk_182 1 222 (dk_at dksX9_mark_4 11 rfl rfl)
theorem dX9_mark_109 : decode cX9_mark 109 = .ok (.aload_n 0, 1) := dk_42 (dk_at dksX9_mark_4 14 rfl rfl)
theorem dX9_mark_110 : decode cX9_mark 110 = .ok (.aload_n 0, 1) := dk_42 (dk_at dksX9_mark_4 15 rfl rfl)
theorem dX9_mark_111 : decode cX9_mark 111 = .ok (.getfield 35, 3) := dk_180 0 35 (dk_at dksX9_mark_4 16 rfl rfl)
theorem dX9_mark_114 : decode cX9_mark 114 = .ok (.iconst 2, 1) := dk_5 (dk_at dksX9_mark_4 19 rfl rfl)
theorem dX9_mark_115 : decode cX9_mark 115 = .ok (.iload_n 2, 1) := dk_28 (dk_at dksX9_mark_4 20 rfl rfl)
theorem dX9_mark_116 : decode cX9_mark 116 = .ok (.invokevirtual 478, 3) := dk_182 1 222 (dk_at dksX9_mark_4 21 rfl rfl)
theorem dX9_mark_119 : decode cX9_mark 119 = .ok (.iconst 0, 1) := dk_3 (dk_at dksX9_mark_5 0 rfl rfl)
theorem dX9_mark_120 : decode cX9_mark 120 = .ok (.istore_n 3, 1) := dk_62 (dk_at dksX9_mark_5 1 rfl rfl)
theorem dX9_mark_121 : decode cX9_mark 121 = .ok (.iload_n 3, 1) := dk_29 (dk_at dksX9_mark_5 2 rfl rfl)
theorem dX9_mark_122 : decode cX9_mark 122 = .ok (.iconst 2, 1) := dk_5 (dk_at dksX9_mark_5 3 rfl rfl)
theorem dX9_mark_123 : decode cX9_mark 123 = .ok (.if_icmp .ge 43, 3) := dk_162 0 43 (dk_at dksX9_mark_5 4 rfl rfl)
theorem dX9_mark_126 : decode cX9_mark 126 = .ok (.aload_n 0, 1) := dk_42 (dk_at dksX9_mark_5 7 rfl rfl)
theorem dX9_mark_127 : decode cX9_mark 127 = .ok (.getfield 38, 3) := dk_180 0 38 (dk_at dksX9_mark_5 8 rfl rfl)
theorem dX9_mark_130 : decode cX9_mark 130 = .ok (.iload_n 3, 1) := dk_29 (dk_at dksX9_mark_5 11 rfl rfl)
theorem dX9_mark_131 : decode cX9_mark 131 = .ok (.aload_n 0, 1) := dk_42 (dk_at dksX9_mark_5 12 rfl rfl)
theorem dX9_mark_132 : decode cX9_mark 132 = .ok (.aload_n 0, 1) := dk_42 (dk_at dksX9_mark_5 13 rfl rfl)
theorem dX9_mark_133 : decode cX9_mark 133 = .ok (.getfield 38, 3) := dk_180 0 38 (dk_at dksX9_mark_5 14 rfl rfl)
theorem dX9_mark_136 : decode cX9_mark 136 = .ok (.iload_n 3, 1) := dk_29 (dk_at dksX9_mark_5 17 rfl rfl)
theorem dX9_mark_137 : decode cX9_mark 137 = .ok (.baload, 1) := dk_51 (dk_at dksX9_mark_5 18 rfl rfl)
theorem dX9_mark_138 : decode cX9_mark 138 = .ok (.ifCond .eq 7, 3) := dk_153 0 7 (dk_at dksX9_mark_5 19 rfl rfl)
theorem dX9_mark_141 : decode cX9_mark 141 = .ok (.iconst 1, 1) := dk_4 (dk_at dksX9_mark_5 22 rfl rfl)
theorem dX9_mark_142 : decode cX9_mark 142 = .ok (.goto 4, 3) := dk_167 0 4 (dk_at dksX9_mark_6 0 rfl rfl)
theorem dX9_mark_145 : decode cX9_mark 145 = .ok (.iconst 0, 1) := dk_3 (dk_at dksX9_mark_6 3 rfl rfl)
theorem dX9_mark_146 : decode cX9_mark 146 = .ok (.iload_n 2, 1) := dk_28 (dk_at dksX9_mark_6 4 rfl rfl)
theorem dX9_mark_147 : decode cX9_mark 147 = .ok (.invokevirtual 474, 3) := dk_182 1 218 (dk_at dksX9_mark_6 5 rfl rfl)
theorem dX9_mark_150 : decode cX9_mark 150 = .ok (.iconst 1, 1) := dk_4 (dk_at dksX9_mark_6 8 rfl rfl)
theorem dX9_mark_151 : decode cX9_mark 151 = .ok (.if_icmp .ne 7, 3) := dk_160 0 7 (dk_at dksX9_mark_6 9 rfl rfl)
theorem dX9_mark_154 : decode cX9_mark 154 = .ok (.iconst 1, 1) := dk_4 (dk_at dksX9_mark_6 12 rfl rfl)
theorem dX9_mark_155 : decode cX9_mark 155 = .ok (.goto 4, 3) := dk_167 0 4 (dk_at dksX9_mark_6 13 rfl rfl)
theorem dX9_mark_158 : decode cX9_mark 158 = .ok (.iconst 0, 1) := dk_3 (dk_at dksX9_mark_6 16 rfl rfl)
theorem dX9_mark_159 : decode cX9_mark 159 = .ok (.bastore, 1) := dk_84 (dk_at dksX9_mark_6 17 rfl rfl)
theorem dX9_mark_160 : decode cX9_mark 160 = .ok (.iinc 3 1, 3) := dk_132 3 1 (dk_at dksX9_mark_6 18 rfl rfl)
theorem dX9_mark_163 : decode cX9_mark 163 = .ok (.goto (-42), 3) := dk_167 255 214 (dk_at dksX9_mark_6 21 rfl rfl)
theorem dX9_mark_166 : decode cX9_mark 166 = .ok (.aload_n 0, 1) := dk_42 (dk_at dksX9_mark_7 0 rfl rfl)
theorem dX9_mark_167 : decode cX9_mark 167 = .ok (.aload_n 0, 1) := dk_42 (dk_at dksX9_mark_7 1 rfl rfl)
theorem dX9_mark_168 : decode cX9_mark 168 = .ok (.aload_n 0, 1) := dk_42 (dk_at dksX9_mark_7 2 rfl rfl)
theorem dX9_mark_169 : decode cX9_mark 169 = .ok (.getfield 315, 3) := dk_180 1 59 (dk_at dksX9_mark_7 3 rfl rfl)
theorem dX9_mark_172 : decode cX9_mark 172 = .ok (.iload_n 2, 1) := dk_28 (dk_at dksX9_mark_7 6 rfl rfl)
theorem dX9_mark_173 : decode cX9_mark 173 = .ok (.invokevirtual 474, 3) := dk_182 1 218 (dk_at dksX9_mark_7 7 rfl rfl)
theorem dX9_mark_176 : decode cX9_mark 176 = .ok (.putfield 315, 3) := dk_181 1 59 (dk_at dksX9_mark_7 10 rfl rfl)
theorem dX9_mark_179 : decode cX9_mark 179 = .ok (.aload_n 0, 1) := dk_42 (dk_at dksX9_mark_7 13 rfl rfl)
theorem dX9_mark_180 : decode cX9_mark 180 = .ok (.aload_n 0, 1) := dk_42 (dk_at dksX9_mark_7 14 rfl rfl)
theorem dX9_mark_181 : decode cX9_mark 181 = .ok (.aload_n 0, 1) := dk_42 (dk_at dksX9_mark_7 15 rfl rfl)
theorem dX9_mark_182 : decode cX9_mark 182 = .ok (.getfield 322, 3) := dk_180 1 66 (dk_at dksX9_mark_7 16 rfl rfl)
theorem dX9_mark_185 : decode cX9_mark 185 = .ok (.iload_n 2, 1) := dk_28 (dk_at dksX9_mark_7 19 rfl rfl)
theorem dX9_mark_186 : decode cX9_mark 186 = .ok (.invokevirtual 474, 3) := dk_182 1 218 (dk_at dksX9_mark_7 20 rfl rfl)
theorem dX9_mark_189 : decode cX9_mark 189 = .ok (.putfield 322, 3) := dk_181 1 66 (dk_at dksX9_mark_8 0 rfl rfl)
theorem dX9_mark_192 : decode cX9_mark 192 = .ok (.aload_n 0, 1) := dk_42 (dk_at dksX9_mark_8 3 rfl rfl)
theorem dX9_mark_193 : decode cX9_mark 193 = .ok (.aload_n 0, 1) := dk_42 (dk_at dksX9_mark_8 4 rfl rfl)
theorem dX9_mark_194 : decode cX9_mark 194 = .ok (.aload_n 0, 1) := dk_42 (dk_at dksX9_mark_8 5 rfl rfl)
theorem dX9_mark_195 : decode cX9_mark 195 = .ok (.getfield 325, 3) := dk_180 1 69 (dk_at dksX9_mark_8 6 rfl rfl)
theorem dX9_mark_198 : decode cX9_mark 198 = .ok (.iload_n 2, 1) := dk_28 (dk_at dksX9_mark_8 9 rfl rfl)
theorem dX9_mark_199 : decode cX9_mark 199 = .ok (.invokevirtual 474, 3) := dk_182 1 218 (dk_at dksX9_mark_8 10 rfl rfl)
theorem dX9_mark_202 : decode cX9_mark 202 = .ok (.putfield 325, 3) := dk_181 1 69 (dk_at dksX9_mark_8 13 rfl rfl)
theorem dX9_mark_205 : decode cX9_mark 205 = .ok (.aload_n 0, 1) := dk_42 (dk_at dksX9_mark_8 16 rfl rfl)
theorem dX9_mark_206 : decode cX9_mark 206 = .ok (.aload_n 0, 1) := dk_42 (dk_at dksX9_mark_8 17 rfl rfl)
theorem dX9_mark_207 : decode cX9_mark 207 = .ok (.aload_n 0, 1) := dk_42 (dk_at dksX9_mark_8 18 rfl rfl)
theorem dX9_mark_208 : decode cX9_mark 208 = .ok (.getfield 328, 3) := dk_180 1 72 (dk_at dksX9_mark_8 19 rfl rfl)
theorem dX9_mark_211 : decode cX9_mark 211 = .ok (.iload_n 2, 1) := dk_28 (dk_at dksX9_mark_8 22 rfl rfl)
theorem dX9_mark_212 : decode cX9_mark 212 = .ok (.invokevirtual 474, 3) := dk_182 1 218 (dk_at dksX9_mark_9 0 rfl rfl)
theorem dX9_mark_215 : decode cX9_mark 215 = .ok (.putfield 328, 3) := dk_181 1 72 (dk_at dksX9_mark_9 3 rfl rfl)
theorem dX9_mark_218 : decode cX9_mark 218 = .ok (.aload_n 0, 1) := dk_42 (dk_at dksX9_mark_9 6 rfl rfl)
theorem dX9_mark_219 : decode cX9_mark 219 = .ok (.aload_n 0, 1) := dk_42 (dk_at dksX9_mark_9 7 rfl rfl)
theorem dX9_mark_220 : decode cX9_mark 220 = .ok (.aload_n 0, 1) := dk_42 (dk_at dksX9_mark_9 8 rfl rfl)
theorem dX9_mark_221 : decode cX9_mark 221 = .ok (.getfield 331, 3) := dk_180 1 75 (dk_at dksX9_mark_9 9 rfl rfl)
theorem dX9_mark_224 : decode cX9_mark 224 = .ok (.iload_n 2, 1) := dk_28 (dk_at dksX9_mark_9 12 rfl rfl)
theorem dX9_mark_225 : decode cX9_mark 225 = .ok (.invokevirtual 474, 3) := dk_182 1 218 (dk_at dksX9_mark_9 13 rfl rfl)
theorem dX9_mark_228 : decode cX9_mark 228 = .ok (.putfield 331, 3) := dk_181 1 75 (dk_at dksX9_mark_9 16 rfl rfl)
theorem dX9_mark_231 : decode cX9_mark 231 = .ok (.aload_n 0, 1) := dk_42 (dk_at dksX9_mark_9 19 rfl rfl)
theorem dX9_mark_232 : decode cX9_mark 232 = .ok (.aload_n 0, 1) := dk_42 (dk_at dksX9_mark_9 20 rfl rfl)
theorem dX9_mark_233 : decode cX9_mark 233 = .ok (.aload_n 0, 1) := dk_42 (dk_at dksX9_mark_9 21 rfl rfl)
theorem dX9_mark_234 : decode cX9_mark 234 = .ok (.getfield 334, 3) := dk_180 1 78 (dk_at dksX9_mark_10 0 rfl rfl)
theorem dX9_mark_237 : decode cX9_mark 237 = .ok (.iload_n 2, 1) := dk_28 (dk_at dksX9_mark_10 3 rfl rfl)
theorem dX9_mark_238 : decode cX9_mark 238 = .ok (.invokevirtual 474, 3) := dk_182 1 218 (dk_at dksX9_mark_10 4 rfl rfl)
theorem dX9_mark_241 : decode cX9_mark 241 = .ok (.putfield 334, 3) := dk_181 1 78 (dk_at dksX9_mark_10 7 rfl rfl)
theorem dX9_mark_244 : decode cX9_mark 244 = .ok (.aload_n 0, 1) := dk_42 (dk_at dksX9_mark_10 10 rfl rfl)
theorem dX9_mark_245 : decode cX9_mark 245 = .ok (.aload_n 0, 1) := dk_42 (dk_at dksX9_mark_10 11 rfl rfl)
theorem dX9_mark_246 : decode cX9_mark 246 = .ok (.getfield 96, 3) := dk_180 0 96 (dk_at dksX9_mark_10 12 rfl rfl)
theorem dX9_mark_249 : decode cX9_mark 249 = .ok (.bipush 30, 2) := dk_16 30 (dk_at dksX9_mark_10 15 rfl rfl)
theorem dX9_mark_251 : decode cX9_mark 251 = .ok (.iload_n 2, 1) := dk_28 (dk_at dksX9_mark_10 17 rfl rfl)
theorem dX9_mark_252 : decode cX9_mark 252 = .ok (.invokevirtual 478, 3) := dk_182 1 222 (dk_at dksX9_mark_10 18 rfl rfl)
theorem dX9_mark_255 : decode cX9_mark 255 = .ok (.aload_n 0, 1) := dk_42 (dk_at dksX9_mark_10 21 rfl rfl)
theorem dX9_mark_256 : decode cX9_mark 256 = .ok (.aload_n 0, 1) := dk_42 (dk_at dksX9_mark_10 22 rfl rfl)
theorem dX9_mark_257 : decode cX9_mark 257 = .ok (.getfield 99, 3) := dk_180 0 99 (dk_at dksX9_mark_11 0 rfl rfl)
theorem dX9_mark_260 : decode cX9_mark 260 = .ok (.bipush 30, 2) := dk_16 30 (dk_at dksX9_mark_11 3 rfl rfl)
theorem dX9_mark_262 : decode cX9_mark 262 = .ok (.iload_n 2, 1) := dk_28 (dk_at dksX9_mark_11 5 rfl rfl)
theorem dX9_mark_263 : decode cX9_mark 263 = .ok (.invokevirtual 478, 3) := dk_182 1 222 (dk_at dksX9_mark_11 6 rfl rfl)
theorem dX9_mark_266 : decode cX9_mark 266 = .ok (.iconst 0, 1) := dk_3 (dk_at dksX9_mark_11 9 rfl rfl)
theorem dX9_mark_267 : decode cX9_mark 267 = .ok (.istore_n 3, 1) := dk_62 (dk_at dksX9_mark_11 10 rfl rfl)
theorem dX9_mark_268 : decode cX9_mark 268 = .ok (.iload_n 3, 1) := dk_29 (dk_at dksX9_mark_11 11 rfl rfl)
theorem dX9_mark_269 : decode cX9_mark 269 = .ok (.bipush 30, 2) := dk_16 30 (dk_at dksX9_mark_11 12 rfl rfl)
theorem dX9_mark_271 : decode cX9_mark 271 = .ok (.if_icmp .ge 43, 3) := dk_162 0 43 (dk_at dksX9_mark_11 14 rfl rfl)
theorem dX9_mark_274 : decode cX9_mark 274 = .ok (.aload_n 0, 1) := dk_42 (dk_at dksX9_mark_11 17 rfl rfl)
theorem dX9_mark_275 : decode cX9_mark 275 = .ok (.getfield 105, 3) := dk_180 0 105 (dk_at dksX9_mark_11 18 rfl rfl)
theorem dX9_mark_278 : decode cX9_mark 278 = .ok (.iload_n 3, 1) := dk_29 (dk_at dksX9_mark_11 21 rfl rfl)
theorem dX9_mark_279 : decode cX9_mark 279 = .ok (.aload_n 0, 1) := dk_42 (dk_at dksX9_mark_11 22 rfl rfl)
theorem dX9_mark_280 : decode cX9_mark 280 = .ok (.aload_n 0, 1) := dk_42 (dk_at dksX9_mark_11 23 rfl rfl)
theorem dX9_mark_281 : decode cX9_mark 281 = .ok (.getfield 105, 3) := dk_180 0 105 (dk_at dksX9_mark_12 0 rfl rfl)
theorem dX9_mark_284 : decode cX9_mark 284 = .ok (.iload_n 3, 1) := dk_29 (dk_at dksX9_mark_12 3 rfl rfl)
theorem dX9_mark_285 : decode cX9_mark 285 = .ok (.baload, 1) := dk_51 (dk_at dksX9_mark_12 4 rfl rfl)
theorem dX9_mark_286 : decode cX9_mark 286 = .ok (.ifCond .eq 7, 3) := dk_153 0 7 (dk_at dksX9_mark_12 5 rfl rfl)
theorem dX9_mark_289 : decode cX9_mark 289 = .ok (.iconst 1, 1) := dk_4 (dk_at dksX9_mark_12 8 rfl rfl)
theorem dX9_mark_290 : decode cX9_mark 290 = .ok (.goto 4, 3) := dk_167 0 4 (dk_at dksX9_mark_12 9 rfl rfl)
theorem dX9_mark_293 : decode cX9_mark 293 = .ok (.iconst 0, 1) := dk_3 (dk_at dksX9_mark_12 12 rfl rfl)
theorem dX9_mark_294 : decode cX9_mark 294 = .ok (.iload_n 2, 1) := dk_28 (dk_at dksX9_mark_12 13 rfl rfl)
theorem dX9_mark_295 : decode cX9_mark 295 = .ok (.invokevirtual 474, 3) := dk_182 1 218 (dk_at dksX9_mark_12 14 rfl rfl)
theorem dX9_mark_298 : decode cX9_mark 298 = .ok (.iconst 1, 1) := dk_4 (dk_at dksX9_mark_12 17 rfl rfl)
theorem dX9_mark_299 : decode cX9_mark 299 = .ok (.if_icmp .ne 7, 3) := dk_160 0 7 (dk_at dksX9_mark_12 18 rfl rfl)
theorem dX9_mark_302 : decode cX9_mark 302 = .ok (.iconst 1, 1) := dk_4 (dk_at dksX9_mark_12 21 rfl rfl)
theorem dX9_mark_303 : decode cX9_mark 303 = .ok (.goto 4, 3) := dk_167 0 4 (dk_at dksX9_mark_13 0 rfl rfl)
theorem dX9_mark_306 : decode cX9_mark 306 = .ok (.iconst 0, 1) := dk_3 (dk_at dksX9_mark_13 3 rfl rfl)
theorem dX9_mark_307 : decode cX9_mark 307 = .ok (.bastore, 1) := dk_84 (dk_at dksX9_mark_13 4 rfl rfl)
theorem dX9_mark_308 : decode cX9_mark 308 = .ok (.iinc 3 1, 3) := dk_132 3 1 (dk_at dksX9_mark_13 5 rfl rfl)
theorem dX9_mark_311 : decode cX9_mark 311 = .ok (.goto (-43), 3) := dk_167 255 213 (dk_at dksX9_mark_13 8 rfl rfl)
theorem dX9_mark_314 : decode cX9_mark 314 = .ok (.aload_n 0, 1) := dk_42 (dk_at dksX9_mark_13 11 rfl rfl)
theorem dX9_mark_315 : decode cX9_mark 315 = .ok (.aload_n 0, 1) := dk_42 (dk_at dksX9_mark_13 12 rfl rfl)
theorem dX9_mark_316 : decode cX9_mark 316 = .ok (.getfield 114, 3) := dk_180 0 114 (dk_at dksX9_mark_13 13 rfl rfl)
theorem dX9_mark_319 : decode cX9_mark 319 = .ok (.bipush 12, 2) := dk_16 12 (dk_at dksX9_mark_13 16 rfl rfl)
theorem dX9_mark_321 : decode cX9_mark 321 = .ok (.iload_n 2, 1) := dk_28 (dk_at dksX9_mark_13 18 rfl rfl)
theorem dX9_mark_322 : decode cX9_mark 322 = .ok (.invokevirtual 478, 3) := dk_182 1 222 (dk_at dksX9_mark_13 19 rfl rfl)
theorem dX9_mark_325 : decode cX9_mark 325 = .ok (.aload_n 0, 1) := dk_42 (dk_at dksX9_mark_13 22 rfl rfl)
theorem dX9_mark_326 : decode cX9_mark 326 = .ok (.aload_n 0, 1) := dk_42 (dk_at dksX9_mark_13 23 rfl rfl)
theorem dX9_mark_327 : decode cX9_mark 327 = .ok (.getfield 117, 3) := dk_180 0 117 (dk_at dksX9_mark_14 0 rfl rfl)
theorem dX9_mark_330 : decode cX9_mark 330 = .ok (.bipush 12, 2) := dk_16 12 (dk_at dksX9_mark_14 3 rfl rfl)
theorem dX9_mark_332 : decode cX9_mark 332 = .ok (.iload_n 2, 1) := dk_28 (dk_at dksX9_mark_14 5 rfl rfl)
theorem dX9_mark_333 : decode cX9_mark 333 = .ok (.invokevirtual 478, 3) := dk_182 1 222 (dk_at dksX9_mark_14 6 rfl rfl)
theorem dX9_mark_336 : decode cX9_mark 336 = .ok (.aload_n 0, 1) := dk_42 (dk_at dksX9_mark_14 9 rfl rfl)
theorem dX9_mark_337 : decode cX9_mark 337 = .ok (.aload_n 0, 1) := dk_42 (dk_at dksX9_mark_14 10 rfl rfl)
theorem dX9_mark_338 : decode cX9_mark 338 = .ok (.getfield 120, 3) := dk_180 0 120 (dk_at dksX9_mark_14 11 rfl rfl)
theorem dX9_mark_341 : decode cX9_mark 341 = .ok (.bipush 12, 2) := dk_16 12 (dk_at dksX9_mark_14 14 rfl rfl)
theorem dX9_mark_343 : decode cX9_mark 343 = .ok (.iload_n 2, 1) := dk_28 (dk_at dksX9_mark_14 16 rfl rfl)
theorem dX9_mark_344 : decode cX9_mark 344 = .ok (.invokevirtual 478, 3) := dk_182 1 222 (dk_at dksX9_mark_14 17 rfl rfl)
theorem dX9_mark_347 : decode cX9_mark 347 = .ok (.aload_n 0, 1) := dk_42 (dk_at dksX9_mark_14 20 rfl rfl)
theorem dX9_mark_348 : decode cX9_mark 348 = .ok (.aload_n 0, 1) := dk_42 (dk_at dksX9_mark_14 21 rfl rfl)
theorem dX9_mark_349 : decode cX9_mark 349 = .ok (.getfield 123, 3) := dk_180 0 123 (dk_at dksX9_mark_15 0 rfl rfl)
theorem dX9_mark_352 : decode cX9_mark 352 = .ok (.bipush 12, 2) := dk_16 12 (dk_at dksX9_mark_15 3 rfl rfl)
theorem dX9_mark_354 : decode cX9_mark 354 = .ok (.iload_n 2, 1) := dk_28 (dk_at dksX9_mark_15 5 rfl rfl)
theorem dX9_mark_355 : decode cX9_mark 355 = .ok (.invokevirtual 478, 3) := dk_182 1 222 (dk_at dksX9_mark_15 6 rfl rfl)
theorem dX9_mark_358 : decode cX9_mark 358 = .ok (.aload_n 0, 1) := dk_42 (dk_at dksX9_mark_15 9 rfl rfl)
theorem dX9_mark_359 : decode cX9_mark 359 = .ok (.aload_n 0, 1) := dk_42 (dk_at dksX9_mark_15 10 rfl rfl)
theorem dX9_mark_360 : decode cX9_mark 360 = .ok (.getfield 135, 3) := dk_180 0 135 (dk_at dksX9_mark_15 11 rfl rfl)
theorem dX9_mark_363 : decode cX9_mark 363 = .ok (.iconst 4, 1) := dk_7 (dk_at dksX9_mark_15 14 rfl rfl)
theorem dX9_mark_364 : decode cX9_mark 364 = .ok (.iload_n 2, 1) := dk_28 (dk_at dksX9_mark_15 15 rfl rfl)
theorem dX9_mark_365 : decode cX9_mark 365 = .ok (.invokevirtual 478, 3) := dk_182 1 222 (dk_at dksX9_mark_15 16 rfl rfl)
theorem dX9_mark_368 : decode cX9_mark 368 = .ok (.aload_n 0, 1) := dk_42 (dk_at dksX9_mark_15 19 rfl rfl)
theorem dX9_mark_369 : decode cX9_mark 369 = .ok (.aload_n 0, 1) := dk_42 (dk_at dksX9_mark_15 20 rfl rfl)
theorem dX9_mark_370 : decode cX9_mark 370 = .ok (.getfield 138, 3) := dk_180 0 138 (dk_at dksX9_mark_15 21 rfl rfl)
theorem dX9_mark_373 : decode cX9_mark 373 = .ok (.iconst 4, 1) := dk_7 (dk_at dksX9_mark_16 0 rfl rfl)
theorem dX9_mark_374 : decode cX9_mark 374 = .ok (.iload_n 2, 1) := dk_28 (dk_at dksX9_mark_16 1 rfl rfl)
theorem dX9_mark_375 : decode cX9_mark 375 = .ok (.invokevirtual 478, 3) := dk_182 1 222 (dk_at dksX9_mark_16 2 rfl rfl)
theorem dX9_mark_378 : decode cX9_mark 378 = .ok (.aload_n 0, 1) := dk_42 (dk_at dksX9_mark_16 5 rfl rfl)
theorem dX9_mark_379 : decode cX9_mark 379 = .ok (.aload_n 0, 1) := dk_42 (dk_at dksX9_mark_16 6 rfl rfl)
theorem dX9_mark_380 : decode cX9_mark 380 = .ok (.getfield 16, 3) := dk_180 0 16 (dk_at dksX9_mark_16 7 rfl rfl)
theorem dX9_mark_383 : decode cX9_mark 383 = .ok (.bipush 18, 2) := dk_16 18 (dk_at dksX9_mark_16 10 rfl rfl)
theorem dX9_mark_385 : decode cX9_mark 385 = .ok (.bipush 100, 2) := dk_16 100 (dk_at dksX9_mark_16 12 rfl rfl)
theorem dX9_mark_387 : decode cX9_mark 387 = .ok (.iload_n 1, 1) := dk_27 (dk_at dksX9_mark_16 14 rfl rfl)
theorem dX9_mark_388 : decode cX9_mark 388 = .ok (.imul, 1) := dk_104 (dk_at dksX9_mark_16 15 rfl rfl)
theorem dX9_mark_389 : decode cX9_mark 389 = .ok (.iload_n 2, 1) := dk_28 (dk_at dksX9_mark_16 16 rfl rfl)
theorem dX9_mark_390 : decode cX9_mark 390 = .ok (.invokevirtual 482, 3) := dk_182 1 226 (dk_at dksX9_mark_16 17 rfl rfl)
theorem dX9_mark_393 : decode cX9_mark 393 = .ok (.aload_n 0, 1) := dk_42 (dk_at dksX9_mark_16 20 rfl rfl)
theorem dX9_mark_394 : decode cX9_mark 394 = .ok (.aload_n 0, 1) := dk_42 (dk_at dksX9_mark_16 21 rfl rfl)
theorem dX9_mark_395 : decode cX9_mark 395 = .ok (.getfield 102, 3) := dk_180 0 102 (dk_at dksX9_mark_17 0 rfl rfl)
theorem dX9_mark_398 : decode cX9_mark 398 = .ok (.bipush 30, 2) := dk_16 30 (dk_at dksX9_mark_17 3 rfl rfl)
theorem dX9_mark_400 : decode cX9_mark 400 = .ok (.bipush 100, 2) := dk_16 100 (dk_at dksX9_mark_17 5 rfl rfl)
theorem dX9_mark_402 : decode cX9_mark 402 = .ok (.iload_n 1, 1) := dk_27 (dk_at dksX9_mark_17 7 rfl rfl)
theorem dX9_mark_403 : decode cX9_mark 403 = .ok (.imul, 1) := dk_104 (dk_at dksX9_mark_17 8 rfl rfl)
theorem dX9_mark_404 : decode cX9_mark 404 = .ok (.bipush 18, 2) := dk_16 18 (dk_at dksX9_mark_17 9 rfl rfl)
theorem dX9_mark_406 : decode cX9_mark 406 = .ok (.iadd, 1) := dk_96 (dk_at dksX9_mark_17 11 rfl rfl)
theorem dX9_mark_407 : decode cX9_mark 407 = .ok (.iload_n 2, 1) := dk_28 (dk_at dksX9_mark_17 12 rfl rfl)
theorem dX9_mark_408 : decode cX9_mark 408 = .ok (.invokevirtual 482, 3) := dk_182 1 226 (dk_at dksX9_mark_17 13 rfl rfl)
theorem dX9_mark_411 : decode cX9_mark 411 = .ok (.aload_n 0, 1) := dk_42 (dk_at dksX9_mark_17 16 rfl rfl)
theorem dX9_mark_412 : decode cX9_mark 412 = .ok (.aload_n 0, 1) := dk_42 (dk_at dksX9_mark_17 17 rfl rfl)
theorem dX9_mark_413 : decode cX9_mark 413 = .ok (.getfield 42, 3) := dk_180 0 42 (dk_at dksX9_mark_17 18 rfl rfl)
theorem dX9_mark_416 : decode cX9_mark 416 = .ok (.iconst 1, 1) := dk_4 (dk_at dksX9_mark_17 21 rfl rfl)
theorem dX9_mark_417 : decode cX9_mark 417 = .ok (.bipush 100, 2) := dk_16 100 (dk_at dksX9_mark_17 22 rfl rfl)
theorem dX9_mark_419 : decode cX9_mark 419 = .ok (.iload_n 1, 1) := dk_27 (dk_at dksX9_mark_18 0 rfl rfl)
theorem dX9_mark_420 : decode cX9_mark 420 = .ok (.imul, 1) := dk_104 (dk_at dksX9_mark_18 1 rfl rfl)
theorem dX9_mark_421 : decode cX9_mark 421 = .ok (.bipush 48, 2) := dk_16 48 (dk_at dksX9_mark_18 2 rfl rfl)
theorem dX9_mark_423 : decode cX9_mark 423 = .ok (.iadd, 1) := dk_96 (dk_at dksX9_mark_18 4 rfl rfl)
theorem dX9_mark_424 : decode cX9_mark 424 = .ok (.iload_n 2, 1) := dk_28 (dk_at dksX9_mark_18 5 rfl rfl)
theorem dX9_mark_425 : decode cX9_mark 425 = .ok (.invokevirtual 482, 3) := dk_182 1 226 (dk_at dksX9_mark_18 6 rfl rfl)
theorem dX9_mark_428 : decode cX9_mark 428 = .ok (.iconst 1, 1) := dk_4 (dk_at dksX9_mark_18 9 rfl rfl)
theorem dX9_mark_429 : decode cX9_mark 429 = .ok (.ireturn, 1) := dk_172 (dk_at dksX9_mark_18 10 rfl rfl)
abbrev cX9_keepsRow : ByteArray := prog_28_method_101_code
def yX9_keepsRow : MethodName := ⟨RX9, "keepsRow", "([IIZ)V"⟩
def dkwX9_keepsRow_1 : List UInt8 := [132, 4, 1, 167, 255, 234, 177]
abbrev dktX9_keepsRow_1 : List UInt8 := dkwX9_keepsRow_1 ++ []
def dkwX9_keepsRow_0 : List UInt8 := [3, 54, 4, 21, 4, 28, 162, 0, 22, 43, 21, 4, 42, 43, 21, 4, 46, 29, 182, 1, 218, 79]
abbrev dktX9_keepsRow_0 : List UInt8 := dkwX9_keepsRow_0 ++ dktX9_keepsRow_1
theorem dksX9_keepsRow_0 : cX9_keepsRow.data.toList.drop 0 = dktX9_keepsRow_0 := by decide +kernel
theorem dksX9_keepsRow_1 : cX9_keepsRow.data.toList.drop 22 = dktX9_keepsRow_1 := dk_seg dksX9_keepsRow_0 22 rfl rfl
theorem dX9_keepsRow_0 : decode cX9_keepsRow 0 = .ok (.iconst 0, 1) := dk_3 (dk_at dksX9_keepsRow_0 0 rfl rfl)
theorem dX9_keepsRow_1 : decode cX9_keepsRow 1 = .ok (.istore 4, 2) := dk_54 4 (dk_at dksX9_keepsRow_0 1 rfl rfl)
theorem dX9_keepsRow_3 : decode cX9_keepsRow 3 = .ok (.iload 4, 2) := dk_21 4 (dk_at dksX9_keepsRow_0 3 rfl rfl)
theorem dX9_keepsRow_5 : decode cX9_keepsRow 5 = .ok (.iload_n 2, 1) := dk_28 (dk_at dksX9_keepsRow_0 5 rfl rfl)
theorem dX9_keepsRow_6 : decode cX9_keepsRow 6 = .ok (.if_icmp .ge 22, 3) := dk_162 0 22 (dk_at dksX9_keepsRow_0 6 rfl rfl)
theorem dX9_keepsRow_9 : decode cX9_keepsRow 9 = .ok (.aload_n 1, 1) := dk_43 (dk_at dksX9_keepsRow_0 9 rfl rfl)
theorem dX9_keepsRow_10 : decode cX9_keepsRow 10 = .ok (.iload 4, 2) := dk_21 4 (dk_at dksX9_keepsRow_0 10 rfl rfl)
theorem dX9_keepsRow_12 : decode cX9_keepsRow 12 = .ok (.aload_n 0, 1) := dk_42 (dk_at dksX9_keepsRow_0 12 rfl rfl)
theorem dX9_keepsRow_13 : decode cX9_keepsRow 13 = .ok (.aload_n 1, 1) := dk_43 (dk_at dksX9_keepsRow_0 13 rfl rfl)
theorem dX9_keepsRow_14 : decode cX9_keepsRow 14 = .ok (.iload 4, 2) := dk_21 4 (dk_at dksX9_keepsRow_0 14 rfl rfl)
theorem dX9_keepsRow_16 : decode cX9_keepsRow 16 = .ok (.iaload, 1) := dk_46 (dk_at dksX9_keepsRow_0 16 rfl rfl)
theorem dX9_keepsRow_17 : decode cX9_keepsRow 17 = .ok (.iload_n 3, 1) := dk_29 (dk_at dksX9_keepsRow_0 17 rfl rfl)
theorem dX9_keepsRow_18 : decode cX9_keepsRow 18 = .ok (.invokevirtual 474, 3) := dk_182 1 218 (dk_at dksX9_keepsRow_0 18 rfl rfl)
theorem dX9_keepsRow_21 : decode cX9_keepsRow 21 = .ok (.iastore, 1) := dk_79 (dk_at dksX9_keepsRow_0 21 rfl rfl)
theorem dX9_keepsRow_22 : decode cX9_keepsRow 22 = .ok (.iinc 4 1, 3) := dk_132 4 1 (dk_at dksX9_keepsRow_1 0 rfl rfl)
theorem dX9_keepsRow_25 : decode cX9_keepsRow 25 = .ok (.goto (-22), 3) := dk_167 255 234 (dk_at dksX9_keepsRow_1 3 rfl rfl)
theorem dX9_keepsRow_28 : decode cX9_keepsRow 28 = .ok (.return_, 1) := dk_177 (dk_at dksX9_keepsRow_1 6 rfl rfl)
abbrev cX9_keeps : ByteArray := prog_28_method_100_code
def yX9_keeps : MethodName := ⟨RX9, "keeps", "(IZ)I"⟩
def dkwX9_keeps_1 : List UInt8 := [46, 172, 42, 180, 0, 153, 29, 27, 79, 27, 172]
abbrev dktX9_keeps_1 : List UInt8 := dkwX9_keeps_1 ++ []
def dkwX9_keeps_0 : List UInt8 := [42, 180, 1, 215, 62, 42, 89, 180, 1, 215, 4, 96, 181, 1, 215, 28, 153, 0, 10, 42, 180, 0, 153, 29]
abbrev dktX9_keeps_0 : List UInt8 := dkwX9_keeps_0 ++ dktX9_keeps_1
theorem dksX9_keeps_0 : cX9_keeps.data.toList.drop 0 = dktX9_keeps_0 := by decide +kernel
theorem dksX9_keeps_1 : cX9_keeps.data.toList.drop 24 = dktX9_keeps_1 := dk_seg dksX9_keeps_0 24 rfl rfl
theorem dX9_keeps_0 : decode cX9_keeps 0 = .ok (.aload_n 0, 1) := dk_42 (dk_at dksX9_keeps_0 0 rfl rfl)
theorem dX9_keeps_1 : decode cX9_keeps 1 = .ok (.getfield 471, 3) := dk_180 1 215 (dk_at dksX9_keeps_0 1 rfl rfl)
theorem dX9_keeps_4 : decode cX9_keeps 4 = .ok (.istore_n 3, 1) := dk_62 (dk_at dksX9_keeps_0 4 rfl rfl)
theorem dX9_keeps_5 : decode cX9_keeps 5 = .ok (.aload_n 0, 1) := dk_42 (dk_at dksX9_keeps_0 5 rfl rfl)
theorem dX9_keeps_6 : decode cX9_keeps 6 = .ok (.dup, 1) := dk_89 (dk_at dksX9_keeps_0 6 rfl rfl)
theorem dX9_keeps_7 : decode cX9_keeps 7 = .ok (.getfield 471, 3) := dk_180 1 215 (dk_at dksX9_keeps_0 7 rfl rfl)
theorem dX9_keeps_10 : decode cX9_keeps 10 = .ok (.iconst 1, 1) := dk_4 (dk_at dksX9_keeps_0 10 rfl rfl)
theorem dX9_keeps_11 : decode cX9_keeps 11 = .ok (.iadd, 1) := dk_96 (dk_at dksX9_keeps_0 11 rfl rfl)
theorem dX9_keeps_12 : decode cX9_keeps 12 = .ok (.putfield 471, 3) := dk_181 1 215 (dk_at dksX9_keeps_0 12 rfl rfl)
theorem dX9_keeps_15 : decode cX9_keeps 15 = .ok (.iload_n 2, 1) := dk_28 (dk_at dksX9_keeps_0 15 rfl rfl)
theorem dX9_keeps_16 : decode cX9_keeps 16 = .ok (.ifCond .eq 10, 3) := dk_153 0 10 (dk_at dksX9_keeps_0 16 rfl rfl)
theorem dX9_keeps_19 : decode cX9_keeps 19 = .ok (.aload_n 0, 1) := dk_42 (dk_at dksX9_keeps_0 19 rfl rfl)
theorem dX9_keeps_20 : decode cX9_keeps 20 = .ok (.getfield 153, 3) := dk_180 0 153 (dk_at dksX9_keeps_0 20 rfl rfl)
theorem dX9_keeps_23 : decode cX9_keeps 23 = .ok (.iload_n 3, 1) := dk_29 (dk_at dksX9_keeps_0 23 rfl rfl)
theorem dX9_keeps_24 : decode cX9_keeps 24 = .ok (.iaload, 1) := dk_46 (dk_at dksX9_keeps_1 0 rfl rfl)
theorem dX9_keeps_25 : decode cX9_keeps 25 = .ok (.ireturn, 1) := dk_172 (dk_at dksX9_keeps_1 1 rfl rfl)
theorem dX9_keeps_26 : decode cX9_keeps 26 = .ok (.aload_n 0, 1) := dk_42 (dk_at dksX9_keeps_1 2 rfl rfl)
theorem dX9_keeps_27 : decode cX9_keeps 27 = .ok (.getfield 153, 3) := dk_180 0 153 (dk_at dksX9_keeps_1 3 rfl rfl)
theorem dX9_keeps_30 : decode cX9_keeps 30 = .ok (.iload_n 3, 1) := dk_29 (dk_at dksX9_keeps_1 6 rfl rfl)
theorem dX9_keeps_31 : decode cX9_keeps 31 = .ok (.iload_n 1, 1) := dk_27 (dk_at dksX9_keeps_1 7 rfl rfl)
theorem dX9_keeps_32 : decode cX9_keeps 32 = .ok (.iastore, 1) := dk_79 (dk_at dksX9_keeps_1 8 rfl rfl)
theorem dX9_keeps_33 : decode cX9_keeps 33 = .ok (.iload_n 1, 1) := dk_27 (dk_at dksX9_keeps_1 9 rfl rfl)
theorem dX9_keeps_34 : decode cX9_keeps 34 = .ok (.ireturn, 1) := dk_172 (dk_at dksX9_keeps_1 10 rfl rfl)
abbrev cX9_keepsLongs : ByteArray := prog_28_method_102_code
def yX9_keepsLongs : MethodName := ⟨RX9, "keepsLongs", "([JIIZ)V"⟩
def dkwX9_keepsLongs_2 : List UInt8 := [167, 255, 213, 177]
abbrev dktX9_keepsLongs_2 : List UInt8 := dkwX9_keepsLongs_2 ++ []
def dkwX9_keepsLongs_1 : List UInt8 := [96, 47, 80, 167, 0, 16, 42, 180, 0, 156, 29, 21, 5, 96, 43, 21, 5, 47, 80, 132, 5, 1]
abbrev dktX9_keepsLongs_1 : List UInt8 := dkwX9_keepsLongs_1 ++ dktX9_keepsLongs_2
def dkwX9_keepsLongs_0 : List UInt8 := [3, 54, 5, 21, 5, 28, 162, 0, 43, 21, 4, 153, 0, 19, 43, 21, 5, 42, 180, 0, 156, 29, 21, 5]
abbrev dktX9_keepsLongs_0 : List UInt8 := dkwX9_keepsLongs_0 ++ dktX9_keepsLongs_1
theorem dksX9_keepsLongs_0 : cX9_keepsLongs.data.toList.drop 0 = dktX9_keepsLongs_0 := by decide +kernel
theorem dksX9_keepsLongs_1 : cX9_keepsLongs.data.toList.drop 24 = dktX9_keepsLongs_1 := dk_seg dksX9_keepsLongs_0 24 rfl rfl
theorem dksX9_keepsLongs_2 : cX9_keepsLongs.data.toList.drop 46 = dktX9_keepsLongs_2 := dk_seg dksX9_keepsLongs_1 22 rfl rfl
theorem dX9_keepsLongs_0 : decode cX9_keepsLongs 0 = .ok (.iconst 0, 1) := dk_3 (dk_at dksX9_keepsLongs_0 0 rfl rfl)
theorem dX9_keepsLongs_1 : decode cX9_keepsLongs 1 = .ok (.istore 5, 2) := dk_54 5 (dk_at dksX9_keepsLongs_0 1 rfl rfl)
theorem dX9_keepsLongs_3 : decode cX9_keepsLongs 3 = .ok (.iload 5, 2) := dk_21 5 (dk_at dksX9_keepsLongs_0 3 rfl rfl)
theorem dX9_keepsLongs_5 : decode cX9_keepsLongs 5 = .ok (.iload_n 2, 1) := dk_28 (dk_at dksX9_keepsLongs_0 5 rfl rfl)
theorem dX9_keepsLongs_6 : decode cX9_keepsLongs 6 = .ok (.if_icmp .ge 43, 3) := dk_162 0 43 (dk_at dksX9_keepsLongs_0 6 rfl rfl)
theorem dX9_keepsLongs_9 : decode cX9_keepsLongs 9 = .ok (.iload 4, 2) := dk_21 4 (dk_at dksX9_keepsLongs_0 9 rfl rfl)
theorem dX9_keepsLongs_11 : decode cX9_keepsLongs 11 = .ok (.ifCond .eq 19, 3) := dk_153 0 19 (dk_at dksX9_keepsLongs_0 11 rfl rfl)
theorem dX9_keepsLongs_14 : decode cX9_keepsLongs 14 = .ok (.aload_n 1, 1) := dk_43 (dk_at dksX9_keepsLongs_0 14 rfl rfl)
theorem dX9_keepsLongs_15 : decode cX9_keepsLongs 15 = .ok (.iload 5, 2) := dk_21 5 (dk_at dksX9_keepsLongs_0 15 rfl rfl)
theorem dX9_keepsLongs_17 : decode cX9_keepsLongs 17 = .ok (.aload_n 0, 1) := dk_42 (dk_at dksX9_keepsLongs_0 17 rfl rfl)
theorem dX9_keepsLongs_18 : decode cX9_keepsLongs 18 = .ok (.getfield 156, 3) := dk_180 0 156 (dk_at dksX9_keepsLongs_0 18 rfl rfl)
theorem dX9_keepsLongs_21 : decode cX9_keepsLongs 21 = .ok (.iload_n 3, 1) := dk_29 (dk_at dksX9_keepsLongs_0 21 rfl rfl)
theorem dX9_keepsLongs_22 : decode cX9_keepsLongs 22 = .ok (.iload 5, 2) := dk_21 5 (dk_at dksX9_keepsLongs_0 22 rfl rfl)
theorem dX9_keepsLongs_24 : decode cX9_keepsLongs 24 = .ok (.iadd, 1) := dk_96 (dk_at dksX9_keepsLongs_1 0 rfl rfl)
theorem dX9_keepsLongs_25 : decode cX9_keepsLongs 25 = .ok (.laload, 1) := dk_47 (dk_at dksX9_keepsLongs_1 1 rfl rfl)
theorem dX9_keepsLongs_26 : decode cX9_keepsLongs 26 = .ok (.lastore, 1) := dk_80 (dk_at dksX9_keepsLongs_1 2 rfl rfl)
theorem dX9_keepsLongs_27 : decode cX9_keepsLongs 27 = .ok (.goto 16, 3) := dk_167 0 16 (dk_at dksX9_keepsLongs_1 3 rfl rfl)
theorem dX9_keepsLongs_30 : decode cX9_keepsLongs 30 = .ok (.aload_n 0, 1) := dk_42 (dk_at dksX9_keepsLongs_1 6 rfl rfl)
theorem dX9_keepsLongs_31 : decode cX9_keepsLongs 31 = .ok (.getfield 156, 3) := dk_180 0 156 (dk_at dksX9_keepsLongs_1 7 rfl rfl)
theorem dX9_keepsLongs_34 : decode cX9_keepsLongs 34 = .ok (.iload_n 3, 1) := dk_29 (dk_at dksX9_keepsLongs_1 10 rfl rfl)
theorem dX9_keepsLongs_35 : decode cX9_keepsLongs 35 = .ok (.iload 5, 2) := dk_21 5 (dk_at dksX9_keepsLongs_1 11 rfl rfl)
theorem dX9_keepsLongs_37 : decode cX9_keepsLongs 37 = .ok (.iadd, 1) := dk_96 (dk_at dksX9_keepsLongs_1 13 rfl rfl)
theorem dX9_keepsLongs_38 : decode cX9_keepsLongs 38 = .ok (.aload_n 1, 1) := dk_43 (dk_at dksX9_keepsLongs_1 14 rfl rfl)
theorem dX9_keepsLongs_39 : decode cX9_keepsLongs 39 = .ok (.iload 5, 2) := dk_21 5 (dk_at dksX9_keepsLongs_1 15 rfl rfl)
theorem dX9_keepsLongs_41 : decode cX9_keepsLongs 41 = .ok (.laload, 1) := dk_47 (dk_at dksX9_keepsLongs_1 17 rfl rfl)
theorem dX9_keepsLongs_42 : decode cX9_keepsLongs 42 = .ok (.lastore, 1) := dk_80 (dk_at dksX9_keepsLongs_1 18 rfl rfl)
theorem dX9_keepsLongs_43 : decode cX9_keepsLongs 43 = .ok (.iinc 5 1, 3) := dk_132 5 1 (dk_at dksX9_keepsLongs_1 19 rfl rfl)
theorem dX9_keepsLongs_46 : decode cX9_keepsLongs 46 = .ok (.goto (-43), 3) := dk_167 255 213 (dk_at dksX9_keepsLongs_2 0 rfl rfl)
theorem dX9_keepsLongs_49 : decode cX9_keepsLongs 49 = .ok (.return_, 1) := dk_177 (dk_at dksX9_keepsLongs_2 3 rfl rfl)
abbrev cX9_count : ByteArray := prog_28_method_104_code
def yX9_count : MethodName := ⟨RX9, "count", "(I)I"⟩
def dkwX9_count_6 : List UInt8 := [167, 0, 12, 42, 180, 0, 42, 3, 47, 184, 1, 143, 172]
abbrev dktX9_count_6 : List UInt8 := dkwX9_count_6 ++ []
def dkwX9_count_5 : List UInt8 := [16, 9, 160, 0, 10, 42, 180, 1, 78, 167, 0, 25, 27, 16, 10, 160, 0, 10, 42, 180, 0, 168]
abbrev dktX9_count_5 : List UInt8 := dkwX9_count_5 ++ dktX9_count_6
def dkwX9_count_4 : List UInt8 := [160, 0, 10, 42, 180, 1, 69, 167, 0, 51, 27, 16, 8, 160, 0, 10, 42, 180, 1, 75, 167, 0, 38, 27]
abbrev dktX9_count_4 : List UInt8 := dkwX9_count_4 ++ dktX9_count_5
def dkwX9_count_3 : List UInt8 := [180, 1, 66, 167, 0, 77, 27, 16, 6, 160, 0, 10, 42, 180, 1, 72, 167, 0, 64, 27, 16, 7]
abbrev dktX9_count_3 : List UInt8 := dkwX9_count_3 ++ dktX9_count_4
def dkwX9_count_2 : List UInt8 := [180, 0, 38, 4, 51, 153, 0, 7, 5, 167, 0, 93, 4, 167, 0, 89, 27, 8, 160, 0, 10, 42]
abbrev dktX9_count_2 : List UInt8 := dkwX9_count_2 ++ dktX9_count_3
def dkwX9_count_1 : List UInt8 := [180, 0, 13, 27, 46, 172, 27, 6, 160, 0, 10, 42, 180, 1, 59, 167, 0, 111, 27, 7, 160, 0, 20, 42]
abbrev dktX9_count_1 : List UInt8 := dkwX9_count_1 ++ dktX9_count_2
def dkwX9_count_0 : List UInt8 := [42, 3, 181, 0, 162, 27, 3, 16, 11, 184, 1, 151, 154, 0, 5, 2, 172, 27, 6, 162, 0, 10, 42]
abbrev dktX9_count_0 : List UInt8 := dkwX9_count_0 ++ dktX9_count_1
theorem dksX9_count_0 : cX9_count.data.toList.drop 0 = dktX9_count_0 := by decide +kernel
theorem dksX9_count_1 : cX9_count.data.toList.drop 23 = dktX9_count_1 := dk_seg dksX9_count_0 23 rfl rfl
theorem dksX9_count_2 : cX9_count.data.toList.drop 47 = dktX9_count_2 := dk_seg dksX9_count_1 24 rfl rfl
theorem dksX9_count_3 : cX9_count.data.toList.drop 69 = dktX9_count_3 := dk_seg dksX9_count_2 22 rfl rfl
theorem dksX9_count_4 : cX9_count.data.toList.drop 91 = dktX9_count_4 := dk_seg dksX9_count_3 22 rfl rfl
theorem dksX9_count_5 : cX9_count.data.toList.drop 115 = dktX9_count_5 := dk_seg dksX9_count_4 24 rfl rfl
theorem dksX9_count_6 : cX9_count.data.toList.drop 137 = dktX9_count_6 := dk_seg dksX9_count_5 22 rfl rfl
theorem dX9_count_0 : decode cX9_count 0 = .ok (.aload_n 0, 1) := dk_42 (dk_at dksX9_count_0 0 rfl rfl)
theorem dX9_count_1 : decode cX9_count 1 = .ok (.iconst 0, 1) := dk_3 (dk_at dksX9_count_0 1 rfl rfl)
theorem dX9_count_2 : decode cX9_count 2 = .ok (.putfield 162, 3) := dk_181 0 162 (dk_at dksX9_count_0 2 rfl rfl)
theorem dX9_count_5 : decode cX9_count 5 = .ok (.iload_n 1, 1) := dk_27 (dk_at dksX9_count_0 5 rfl rfl)
theorem dX9_count_6 : decode cX9_count 6 = .ok (.iconst 0, 1) := dk_3 (dk_at dksX9_count_0 6 rfl rfl)
theorem dX9_count_7 : decode cX9_count 7 = .ok (.bipush 11, 2) := dk_16 11 (dk_at dksX9_count_0 7 rfl rfl)
theorem dX9_count_9 : decode cX9_count 9 = .ok (.invokestatic 407, 3) := dk_184 1 151 (dk_at dksX9_count_0 9 rfl rfl)
theorem dX9_count_12 : decode cX9_count 12 = .ok (.ifCond .ne 5, 3) := dk_154 0 5 (dk_at dksX9_count_0 12 rfl rfl)
theorem dX9_count_15 : decode cX9_count 15 = .ok (.iconst (-1), 1) := dk_2 (dk_at dksX9_count_0 15 rfl rfl)
theorem dX9_count_16 : decode cX9_count 16 = .ok (.ireturn, 1) := dk_172 (dk_at dksX9_count_0 16 rfl rfl)
theorem dX9_count_17 : decode cX9_count 17 = .ok (.iload_n 1, 1) := dk_27 (dk_at dksX9_count_0 17 rfl rfl)
theorem dX9_count_18 : decode cX9_count 18 = .ok (.iconst 3, 1) := dk_6 (dk_at dksX9_count_0 18 rfl rfl)
theorem dX9_count_19 : decode cX9_count 19 = .ok (.if_icmp .ge 10, 3) := dk_162 0 10 (dk_at dksX9_count_0 19 rfl rfl)
theorem dX9_count_22 : decode cX9_count 22 = .ok (.aload_n 0, 1) := dk_42 (dk_at dksX9_count_0 22 rfl rfl)
theorem dX9_count_23 : decode cX9_count 23 = .ok (.getfield 13, 3) := dk_180 0 13 (dk_at dksX9_count_1 0 rfl rfl)
theorem dX9_count_26 : decode cX9_count 26 = .ok (.iload_n 1, 1) := dk_27 (dk_at dksX9_count_1 3 rfl rfl)
theorem dX9_count_27 : decode cX9_count 27 = .ok (.iaload, 1) := dk_46 (dk_at dksX9_count_1 4 rfl rfl)
theorem dX9_count_28 : decode cX9_count 28 = .ok (.ireturn, 1) := dk_172 (dk_at dksX9_count_1 5 rfl rfl)
theorem dX9_count_29 : decode cX9_count 29 = .ok (.iload_n 1, 1) := dk_27 (dk_at dksX9_count_1 6 rfl rfl)
theorem dX9_count_30 : decode cX9_count 30 = .ok (.iconst 3, 1) := dk_6 (dk_at dksX9_count_1 7 rfl rfl)
theorem dX9_count_31 : decode cX9_count 31 = .ok (.if_icmp .ne 10, 3) := dk_160 0 10 (dk_at dksX9_count_1 8 rfl rfl)
theorem dX9_count_34 : decode cX9_count 34 = .ok (.aload_n 0, 1) := dk_42 (dk_at dksX9_count_1 11 rfl rfl)
theorem dX9_count_35 : decode cX9_count 35 = .ok (.getfield 315, 3) := dk_180 1 59 (dk_at dksX9_count_1 12 rfl rfl)
theorem dX9_count_38 : decode cX9_count 38 = .ok (.goto 111, 3) := dk_167 0 111 (dk_at dksX9_count_1 15 rfl rfl)
theorem dX9_count_41 : decode cX9_count 41 = .ok (.iload_n 1, 1) := dk_27 (dk_at dksX9_count_1 18 rfl rfl)
theorem dX9_count_42 : decode cX9_count 42 = .ok (.iconst 4, 1) := dk_7 (dk_at dksX9_count_1 19 rfl rfl)
theorem dX9_count_43 : decode cX9_count 43 = .ok (.if_icmp .ne 20, 3) := dk_160 0 20 (dk_at dksX9_count_1 20 rfl rfl)
theorem dX9_count_46 : decode cX9_count 46 = .ok (.aload_n 0, 1) := dk_42 (dk_at dksX9_count_1 23 rfl rfl)
theorem dX9_count_47 : decode cX9_count 47 = .ok (.getfield 38, 3) := dk_180 0 38 (dk_at dksX9_count_2 0 rfl rfl)
theorem dX9_count_50 : decode cX9_count 50 = .ok (.iconst 1, 1) := dk_4 (dk_at dksX9_count_2 3 rfl rfl)
theorem dX9_count_51 : decode cX9_count 51 = .ok (.baload, 1) := dk_51 (dk_at dksX9_count_2 4 rfl rfl)
theorem dX9_count_52 : decode cX9_count 52 = .ok (.ifCond .eq 7, 3) := dk_153 0 7 (dk_at dksX9_count_2 5 rfl rfl)
theorem dX9_count_55 : decode cX9_count 55 = .ok (.iconst 2, 1) := dk_5 (dk_at dksX9_count_2 8 rfl rfl)
theorem dX9_count_56 : decode cX9_count 56 = .ok (.goto 93, 3) := dk_167 0 93 (dk_at dksX9_count_2 9 rfl rfl)
theorem dX9_count_59 : decode cX9_count 59 = .ok (.iconst 1, 1) := dk_4 (dk_at dksX9_count_2 12 rfl rfl)
theorem dX9_count_60 : decode cX9_count 60 = .ok (.goto 89, 3) := dk_167 0 89 (dk_at dksX9_count_2 13 rfl rfl)
theorem dX9_count_63 : decode cX9_count 63 = .ok (.iload_n 1, 1) := dk_27 (dk_at dksX9_count_2 16 rfl rfl)
theorem dX9_count_64 : decode cX9_count 64 = .ok (.iconst 5, 1) := dk_8 (dk_at dksX9_count_2 17 rfl rfl)
theorem dX9_count_65 : decode cX9_count 65 = .ok (.if_icmp .ne 10, 3) := dk_160 0 10 (dk_at dksX9_count_2 18 rfl rfl)
theorem dX9_count_68 : decode cX9_count 68 = .ok (.aload_n 0, 1) := dk_42 (dk_at dksX9_count_2 21 rfl rfl)
theorem dX9_count_69 : decode cX9_count 69 = .ok (.getfield 322, 3) := dk_180 1 66 (dk_at dksX9_count_3 0 rfl rfl)
theorem dX9_count_72 : decode cX9_count 72 = .ok (.goto 77, 3) := dk_167 0 77 (dk_at dksX9_count_3 3 rfl rfl)
theorem dX9_count_75 : decode cX9_count 75 = .ok (.iload_n 1, 1) := dk_27 (dk_at dksX9_count_3 6 rfl rfl)
theorem dX9_count_76 : decode cX9_count 76 = .ok (.bipush 6, 2) := dk_16 6 (dk_at dksX9_count_3 7 rfl rfl)
theorem dX9_count_78 : decode cX9_count 78 = .ok (.if_icmp .ne 10, 3) := dk_160 0 10 (dk_at dksX9_count_3 9 rfl rfl)
theorem dX9_count_81 : decode cX9_count 81 = .ok (.aload_n 0, 1) := dk_42 (dk_at dksX9_count_3 12 rfl rfl)
theorem dX9_count_82 : decode cX9_count 82 = .ok (.getfield 328, 3) := dk_180 1 72 (dk_at dksX9_count_3 13 rfl rfl)
theorem dX9_count_85 : decode cX9_count 85 = .ok (.goto 64, 3) := dk_167 0 64 (dk_at dksX9_count_3 16 rfl rfl)
theorem dX9_count_88 : decode cX9_count 88 = .ok (.iload_n 1, 1) := dk_27 (dk_at dksX9_count_3 19 rfl rfl)
theorem dX9_count_89 : decode cX9_count 89 = .ok (.bipush 7, 2) := dk_16 7 (dk_at dksX9_count_3 20 rfl rfl)
theorem dX9_count_91 : decode cX9_count 91 = .ok (.if_icmp .ne 10, 3) := dk_160 0 10 (dk_at dksX9_count_4 0 rfl rfl)
theorem dX9_count_94 : decode cX9_count 94 = .ok (.aload_n 0, 1) := dk_42 (dk_at dksX9_count_4 3 rfl rfl)
theorem dX9_count_95 : decode cX9_count 95 = .ok (.getfield 325, 3) := dk_180 1 69 (dk_at dksX9_count_4 4 rfl rfl)
theorem dX9_count_98 : decode cX9_count 98 = .ok (.goto 51, 3) := dk_167 0 51 (dk_at dksX9_count_4 7 rfl rfl)
theorem dX9_count_101 : decode cX9_count 101 = .ok (.iload_n 1, 1) := dk_27 (dk_at dksX9_count_4 10 rfl rfl)
theorem dX9_count_102 : decode cX9_count 102 = .ok (.bipush 8, 2) := dk_16 8 (dk_at dksX9_count_4 11 rfl rfl)
theorem dX9_count_104 : decode cX9_count 104 = .ok (.if_icmp .ne 10, 3) := dk_160 0 10 (dk_at dksX9_count_4 13 rfl rfl)
theorem dX9_count_107 : decode cX9_count 107 = .ok (.aload_n 0, 1) := dk_42 (dk_at dksX9_count_4 16 rfl rfl)
theorem dX9_count_108 : decode cX9_count 108 = .ok (.getfield 331, 3) := dk_180 1 75 (dk_at dksX9_count_4 17 rfl rfl)
theorem dX9_count_111 : decode cX9_count 111 = .ok (.goto 38, 3) := dk_167 0 38 (dk_at dksX9_count_4 20 rfl rfl)
theorem dX9_count_114 : decode cX9_count 114 = .ok (.iload_n 1, 1) := dk_27 (dk_at dksX9_count_4 23 rfl rfl)
theorem dX9_count_115 : decode cX9_count 115 = .ok (.bipush 9, 2) := dk_16 9 (dk_at dksX9_count_5 0 rfl rfl)
theorem dX9_count_117 : decode cX9_count 117 = .ok (.if_icmp .ne 10, 3) := dk_160 0 10 (dk_at dksX9_count_5 2 rfl rfl)
theorem dX9_count_120 : decode cX9_count 120 = .ok (.aload_n 0, 1) := dk_42 (dk_at dksX9_count_5 5 rfl rfl)
theorem dX9_count_121 : decode cX9_count 121 = .ok (.getfield 334, 3) := dk_180 1 78 (dk_at dksX9_count_5 6 rfl rfl)
theorem dX9_count_124 : decode cX9_count 124 = .ok (.goto 25, 3) := dk_167 0 25 (dk_at dksX9_count_5 9 rfl rfl)
theorem dX9_count_127 : decode cX9_count 127 = .ok (.iload_n 1, 1) := dk_27 (dk_at dksX9_count_5 12 rfl rfl)
theorem dX9_count_128 : decode cX9_count 128 = .ok (.bipush 10, 2) := dk_16 10 (dk_at dksX9_count_5 13 rfl rfl)
theorem dX9_count_130 : decode cX9_count 130 = .ok (.if_icmp .ne 10, 3) := dk_160 0 10 (dk_at dksX9_count_5 15 rfl rfl)
theorem dX9_count_133 : decode cX9_count 133 = .ok (.aload_n 0, 1) := dk_42 (dk_at dksX9_count_5 18 rfl rfl)
theorem dX9_count_134 : decode cX9_count 134 = .ok (.getfield 168, 3) := dk_180 0 168 (dk_at dksX9_count_5 19 rfl rfl)
theorem dX9_count_137 : decode cX9_count 137 = .ok (.goto 12, 3) := dk_167 0 12 (dk_at dksX9_count_6 0 rfl rfl)
theorem dX9_count_140 : decode cX9_count 140 = .ok (.aload_n 0, 1) := dk_42 (dk_at dksX9_count_6 3 rfl rfl)
theorem dX9_count_141 : decode cX9_count 141 = .ok (.getfield 42, 3) := dk_180 0 42 (dk_at dksX9_count_6 4 rfl rfl)
theorem dX9_count_144 : decode cX9_count 144 = .ok (.iconst 0, 1) := dk_3 (dk_at dksX9_count_6 7 rfl rfl)
theorem dX9_count_145 : decode cX9_count 145 = .ok (.laload, 1) := dk_47 (dk_at dksX9_count_6 8 rfl rfl)
theorem dX9_count_146 : decode cX9_count 146 = .ok (.invokestatic 399, 3) := dk_184 1 143 (dk_at dksX9_count_6 9 rfl rfl)
theorem dX9_count_149 : decode cX9_count 149 = .ok (.ireturn, 1) := dk_172 (dk_at dksX9_count_6 12 rfl rfl)
theorem q130 : (Jvm.Cond.initialized "LiarsCockModel") ∈ lw_all := lw_g (lw_at lw_m1 12 rfl) rfl
theorem q801 : (Jvm.Cond.selects "LiarsCockModel" ({ cls := "java/lang/Object", name := "getClass", desc := "()Ljava/lang/Class;" } : Jvm.MethodName) ({ cls := "java/lang/Object", name := "getClass", desc := "()Ljava/lang/Class;" } : Jvm.MethodName)) ∈ lw_all := lw_g (lw_at lw_m3 203 rfl) rfl
theorem q1605 : (Jvm.Cond.instantiable "LiarsCockModel" (69 : Nat)) ∈ lw_all := lw_g (lw_at lw_m7 47 rfl) rfl
theorem q1607 : (Jvm.Cond.instanceMethod ({ cls := "LiarsCockModel", name := "<init>", desc := "()V" } : Jvm.MethodName)) ∈ lw_all := lw_g (lw_at lw_m7 49 rfl) rfl
theorem q1608 : (Jvm.Cond.code ({ cls := "LiarsCockModel", name := "<init>", desc := "()V" } : Jvm.MethodName) prog_28_method_1_code (1 : Nat) (Option.none : Option Jvm.ClassFile.FieldType)) ∈ lw_all := lw_g (lw_at lw_m7 50 rfl) rfl
theorem q1609 : (Jvm.Cond.methodLink "LiarsCockModel" (1 : Nat) ({ cls := "java/lang/Object", name := "<init>", desc := "()V" } : Jvm.MethodName)) ∈ lw_all := lw_g (lw_at lw_m7 51 rfl) rfl
theorem q1610 : (Jvm.Cond.methodLink "LiarsCockModel" (159 : Nat) ({ cls := "LiarsCockModel", name := "forgets", desc := "()V" } : Jvm.MethodName)) ∈ lw_all := lw_g (lw_at lw_m7 52 rfl) rfl
theorem q1611 : (Jvm.Cond.privateMethod ({ cls := "LiarsCockModel", name := "forgets", desc := "()V" } : Jvm.MethodName)) ∈ lw_tbl := lw_at lw_m7 53 rfl
theorem q1612 : (Jvm.Cond.instanceMethod ({ cls := "LiarsCockModel", name := "forgets", desc := "()V" } : Jvm.MethodName)) ∈ lw_all := lw_g (lw_at lw_m7 54 rfl) rfl
theorem q1613 : (Jvm.Cond.code ({ cls := "LiarsCockModel", name := "forgets", desc := "()V" } : Jvm.MethodName) prog_28_method_34_code (2 : Nat) (Option.none : Option Jvm.ClassFile.FieldType)) ∈ lw_all := lw_g (lw_at lw_m7 55 rfl) rfl
theorem q1614 : (Jvm.Cond.fieldLink "LiarsCockModel" (162 : Nat) "LiarsCockModel" "thrown" "I") ∈ lw_all := lw_g (lw_at lw_m7 56 rfl) rfl
theorem q1615 : (Jvm.Cond.fieldLink "LiarsCockModel" (168 : Nat) "LiarsCockModel" "taped" "I") ∈ lw_all := lw_g (lw_at lw_m7 57 rfl) rfl
theorem q1616 : (Jvm.Cond.fieldLink "LiarsCockModel" (7 : Nat) "LiarsCockModel" "tape" "[I") ∈ lw_all := lw_g (lw_at lw_m7 58 rfl) rfl
theorem q1617 : (Jvm.Cond.fieldLink "LiarsCockModel" (171 : Nat) "LiarsCockModel" "size" "I") ∈ lw_all := lw_g (lw_at lw_m7 59 rfl) rfl
theorem q1618 : (Jvm.Cond.fieldLink "LiarsCockModel" (174 : Nat) "LiarsCockModel" "place" "I") ∈ lw_all := lw_g (lw_at lw_m7 60 rfl) rfl
theorem q1619 : (Jvm.Cond.fieldLink "LiarsCockModel" (177 : Nat) "LiarsCockModel" "begin" "I") ∈ lw_all := lw_g (lw_at lw_m7 61 rfl) rfl
theorem q1620 : (Jvm.Cond.fieldLink "LiarsCockModel" (187 : Nat) "LiarsCockModel" "token" "I") ∈ lw_all := lw_g (lw_at lw_m7 62 rfl) rfl
theorem q1621 : (Jvm.Cond.fieldLink "LiarsCockModel" (180 : Nat) "LiarsCockModel" "word" "J") ∈ lw_all := lw_g (lw_at lw_m7 63 rfl) rfl
theorem q1622 : (Jvm.Cond.fieldLink "LiarsCockModel" (184 : Nat) "LiarsCockModel" "told" "I") ∈ lw_all := lw_g (lw_at lw_m7 64 rfl) rfl
theorem q1623 : (Jvm.Cond.fieldLink "LiarsCockModel" (198 : Nat) "LiarsCockModel" "wrong" "I") ∈ lw_all := lw_g (lw_at lw_m7 65 rfl) rfl
theorem q1624 : (Jvm.Cond.fieldLink "LiarsCockModel" (13 : Nat) "LiarsCockModel" "many" "[I") ∈ lw_all := lw_g (lw_at lw_m7 66 rfl) rfl
theorem q1625 : (Jvm.Cond.fieldLink "LiarsCockModel" (16 : Nat) "LiarsCockModel" "names" "[J") ∈ lw_all := lw_g (lw_at lw_m7 67 rfl) rfl
theorem q1626 : (Jvm.Cond.fieldLink "LiarsCockModel" (20 : Nat) "LiarsCockModel" "chances" "[I") ∈ lw_all := lw_g (lw_at lw_m7 68 rfl) rfl
theorem q1627 : (Jvm.Cond.fieldLink "LiarsCockModel" (23 : Nat) "LiarsCockModel" "bearings" "[I") ∈ lw_all := lw_g (lw_at lw_m7 69 rfl) rfl
theorem q1628 : (Jvm.Cond.fieldLink "LiarsCockModel" (26 : Nat) "LiarsCockModel" "home" "[I") ∈ lw_all := lw_g (lw_at lw_m7 70 rfl) rfl
theorem q1629 : (Jvm.Cond.fieldLink "LiarsCockModel" (29 : Nat) "LiarsCockModel" "known" "[I") ∈ lw_all := lw_g (lw_at lw_m7 71 rfl) rfl
theorem q1630 : (Jvm.Cond.fieldLink "LiarsCockModel" (32 : Nat) "LiarsCockModel" "law" "[I") ∈ lw_all := lw_g (lw_at lw_m7 72 rfl) rfl
theorem q1631 : (Jvm.Cond.fieldLink "LiarsCockModel" (35 : Nat) "LiarsCockModel" "late" "[I") ∈ lw_all := lw_g (lw_at lw_m7 73 rfl) rfl
theorem q1632 : (Jvm.Cond.fieldLink "LiarsCockModel" (38 : Nat) "LiarsCockModel" "isCock" "[Z") ∈ lw_all := lw_g (lw_at lw_m7 74 rfl) rfl
theorem q1633 : (Jvm.Cond.fieldLink "LiarsCockModel" (42 : Nat) "LiarsCockModel" "common" "[J") ∈ lw_all := lw_g (lw_at lw_m7 75 rfl) rfl
theorem q1634 : (Jvm.Cond.fieldLink "LiarsCockModel" (45 : Nat) "LiarsCockModel" "codes" "[I") ∈ lw_all := lw_g (lw_at lw_m7 76 rfl) rfl
theorem q1635 : (Jvm.Cond.fieldLink "LiarsCockModel" (48 : Nat) "LiarsCockModel" "lineFrom" "[I") ∈ lw_all := lw_g (lw_at lw_m7 77 rfl) rfl
theorem q1636 : (Jvm.Cond.fieldLink "LiarsCockModel" (51 : Nat) "LiarsCockModel" "lineTo" "[I") ∈ lw_all := lw_g (lw_at lw_m7 78 rfl) rfl
theorem q1637 : (Jvm.Cond.fieldLink "LiarsCockModel" (201 : Nat) "LiarsCockModel" "code" "I") ∈ lw_all := lw_g (lw_at lw_m7 79 rfl) rfl
theorem q1638 : (Jvm.Cond.fieldLink "LiarsCockModel" (54 : Nat) "LiarsCockModel" "opened" "[I") ∈ lw_all := lw_g (lw_at lw_m7 80 rfl) rfl
theorem q1639 : (Jvm.Cond.fieldLink "LiarsCockModel" (57 : Nat) "LiarsCockModel" "compared" "[Z") ∈ lw_all := lw_g (lw_at lw_m7 81 rfl) rfl
theorem q1640 : (Jvm.Cond.fieldLink "LiarsCockModel" (60 : Nat) "LiarsCockModel" "kept" "[I") ∈ lw_all := lw_g (lw_at lw_m7 82 rfl) rfl
theorem q1641 : (Jvm.Cond.fieldLink "LiarsCockModel" (63 : Nat) "LiarsCockModel" "keptBy" "[I") ∈ lw_all := lw_g (lw_at lw_m7 83 rfl) rfl
theorem q1642 : (Jvm.Cond.fieldLink "LiarsCockModel" (66 : Nat) "LiarsCockModel" "ahead" "[I") ∈ lw_all := lw_g (lw_at lw_m7 84 rfl) rfl
theorem q1643 : (Jvm.Cond.fieldLink "LiarsCockModel" (69 : Nat) "LiarsCockModel" "against" "[I") ∈ lw_all := lw_g (lw_at lw_m7 85 rfl) rfl
theorem q1644 : (Jvm.Cond.fieldLink "LiarsCockModel" (72 : Nat) "LiarsCockModel" "sum" "[I") ∈ lw_all := lw_g (lw_at lw_m7 86 rfl) rfl
theorem q1645 : (Jvm.Cond.fieldLink "LiarsCockModel" (75 : Nat) "LiarsCockModel" "sumBy" "[I") ∈ lw_all := lw_g (lw_at lw_m7 87 rfl) rfl
theorem q1646 : (Jvm.Cond.fieldLink "LiarsCockModel" (78 : Nat) "LiarsCockModel" "term" "[I") ∈ lw_all := lw_g (lw_at lw_m7 88 rfl) rfl
theorem q1647 : (Jvm.Cond.fieldLink "LiarsCockModel" (81 : Nat) "LiarsCockModel" "termBy" "[I") ∈ lw_all := lw_g (lw_at lw_m7 89 rfl) rfl
theorem q1648 : (Jvm.Cond.fieldLink "LiarsCockModel" (84 : Nat) "LiarsCockModel" "byNot" "[I") ∈ lw_all := lw_g (lw_at lw_m7 90 rfl) rfl
theorem q1649 : (Jvm.Cond.fieldLink "LiarsCockModel" (87 : Nat) "LiarsCockModel" "valueOf" "[I") ∈ lw_all := lw_g (lw_at lw_m7 91 rfl) rfl
theorem q1650 : (Jvm.Cond.fieldLink "LiarsCockModel" (90 : Nat) "LiarsCockModel" "isToldCock" "[Z") ∈ lw_all := lw_g (lw_at lw_m7 92 rfl) rfl
theorem q1651 : (Jvm.Cond.fieldLink "LiarsCockModel" (315 : Nat) "LiarsCockModel" "commons" "I") ∈ lw_all := lw_g (lw_at lw_m7 93 rfl) rfl
theorem q1652 : (Jvm.Cond.fieldLink "LiarsCockModel" (281 : Nat) "LiarsCockModel" "newCommons" "I") ∈ lw_all := lw_g (lw_at lw_m7 94 rfl) rfl
theorem q1653 : (Jvm.Cond.fieldLink "LiarsCockModel" (93 : Nat) "LiarsCockModel" "commonSet" "[J") ∈ lw_all := lw_g (lw_at lw_m7 95 rfl) rfl
theorem q1654 : (Jvm.Cond.fieldLink "LiarsCockModel" (322 : Nat) "LiarsCockModel" "sayings" "I") ∈ lw_all := lw_g (lw_at lw_m7 96 rfl) rfl
theorem q1655 : (Jvm.Cond.fieldLink "LiarsCockModel" (325 : Nat) "LiarsCockModel" "offers" "I") ∈ lw_all := lw_g (lw_at lw_m7 97 rfl) rfl
theorem q1656 : (Jvm.Cond.fieldLink "LiarsCockModel" (328 : Nat) "LiarsCockModel" "looks" "I") ∈ lw_all := lw_g (lw_at lw_m7 98 rfl) rfl
theorem q1657 : (Jvm.Cond.fieldLink "LiarsCockModel" (331 : Nat) "LiarsCockModel" "watches" "I") ∈ lw_all := lw_g (lw_at lw_m7 99 rfl) rfl
theorem q1658 : (Jvm.Cond.fieldLink "LiarsCockModel" (334 : Nat) "LiarsCockModel" "truth" "I") ∈ lw_all := lw_g (lw_at lw_m7 100 rfl) rfl
theorem q1659 : (Jvm.Cond.fieldLink "LiarsCockModel" (96 : Nat) "LiarsCockModel" "who" "[I") ∈ lw_all := lw_g (lw_at lw_m7 101 rfl) rfl
theorem q1660 : (Jvm.Cond.fieldLink "LiarsCockModel" (99 : Nat) "LiarsCockModel" "when" "[I") ∈ lw_all := lw_g (lw_at lw_m7 102 rfl) rfl
theorem q1661 : (Jvm.Cond.fieldLink "LiarsCockModel" (102 : Nat) "LiarsCockModel" "so" "[J") ∈ lw_all := lw_g (lw_at lw_m7 103 rfl) rfl
theorem q1662 : (Jvm.Cond.fieldLink "LiarsCockModel" (105 : Nat) "LiarsCockModel" "isQuestion" "[Z") ∈ lw_all := lw_g (lw_at lw_m7 104 rfl) rfl
theorem q1663 : (Jvm.Cond.fieldLink "LiarsCockModel" (108 : Nat) "LiarsCockModel" "row" "[I") ∈ lw_all := lw_g (lw_at lw_m7 105 rfl) rfl
theorem q1664 : (Jvm.Cond.fieldLink "LiarsCockModel" (362 : Nat) "LiarsCockModel" "rowed" "I") ∈ lw_all := lw_g (lw_at lw_m7 106 rfl) rfl
theorem q1665 : (Jvm.Cond.fieldLink "LiarsCockModel" (111 : Nat) "LiarsCockModel" "lies" "[J") ∈ lw_all := lw_g (lw_at lw_m7 107 rfl) rfl
theorem q1666 : (Jvm.Cond.fieldLink "LiarsCockModel" (114 : Nat) "LiarsCockModel" "lookCock" "[I") ∈ lw_all := lw_g (lw_at lw_m7 108 rfl) rfl
theorem q1667 : (Jvm.Cond.fieldLink "LiarsCockModel" (117 : Nat) "LiarsCockModel" "lookMinute" "[I") ∈ lw_all := lw_g (lw_at lw_m7 109 rfl) rfl
theorem q1668 : (Jvm.Cond.fieldLink "LiarsCockModel" (120 : Nat) "LiarsCockModel" "lookFrom" "[I") ∈ lw_all := lw_g (lw_at lw_m7 110 rfl) rfl
theorem q1669 : (Jvm.Cond.fieldLink "LiarsCockModel" (123 : Nat) "LiarsCockModel" "lookTo" "[I") ∈ lw_all := lw_g (lw_at lw_m7 111 rfl) rfl
theorem q1670 : (Jvm.Cond.fieldLink "LiarsCockModel" (126 : Nat) "LiarsCockModel" "fits" "[J") ∈ lw_all := lw_g (lw_at lw_m7 112 rfl) rfl
theorem q1671 : (Jvm.Cond.fieldLink "LiarsCockModel" (129 : Nat) "LiarsCockModel" "byBearing" "[I") ∈ lw_all := lw_g (lw_at lw_m7 113 rfl) rfl
theorem q1672 : (Jvm.Cond.fieldLink "LiarsCockModel" (132 : Nat) "LiarsCockModel" "seen" "[I") ∈ lw_all := lw_g (lw_at lw_m7 114 rfl) rfl
theorem q1673 : (Jvm.Cond.fieldLink "LiarsCockModel" (135 : Nat) "LiarsCockModel" "watchCock" "[I") ∈ lw_all := lw_g (lw_at lw_m7 115 rfl) rfl
theorem q1674 : (Jvm.Cond.fieldLink "LiarsCockModel" (138 : Nat) "LiarsCockModel" "watchMinute" "[I") ∈ lw_all := lw_g (lw_at lw_m7 116 rfl) rfl
theorem q1675 : (Jvm.Cond.fieldLink "LiarsCockModel" (453 : Nat) "LiarsCockModel" "turns0" "I") ∈ lw_all := lw_g (lw_at lw_m7 117 rfl) rfl
theorem q1676 : (Jvm.Cond.fieldLink "LiarsCockModel" (141 : Nat) "LiarsCockModel" "turnMinute" "[I") ∈ lw_all := lw_g (lw_at lw_m7 118 rfl) rfl
theorem q1677 : (Jvm.Cond.fieldLink "LiarsCockModel" (144 : Nat) "LiarsCockModel" "turnBearing" "[I") ∈ lw_all := lw_g (lw_at lw_m7 119 rfl) rfl
theorem q1678 : (Jvm.Cond.fieldLink "LiarsCockModel" (147 : Nat) "LiarsCockModel" "lookout" "[I") ∈ lw_all := lw_g (lw_at lw_m7 120 rfl) rfl
theorem q1679 : (Jvm.Cond.fieldLink "LiarsCockModel" (150 : Nat) "LiarsCockModel" "isLaid" "[Z") ∈ lw_all := lw_g (lw_at lw_m7 121 rfl) rfl
theorem q1680 : (Jvm.Cond.fieldLink "LiarsCockModel" (153 : Nat) "LiarsCockModel" "marked" "[I") ∈ lw_all := lw_g (lw_at lw_m7 122 rfl) rfl
theorem q1681 : (Jvm.Cond.fieldLink "LiarsCockModel" (156 : Nat) "LiarsCockModel" "markedLongs" "[J") ∈ lw_all := lw_g (lw_at lw_m7 123 rfl) rfl
theorem q1682 : (Jvm.Cond.fieldLink "LiarsCockModel" (471 : Nat) "LiarsCockModel" "markAt" "I") ∈ lw_all := lw_g (lw_at lw_m7 124 rfl) rfl
theorem q1683 : (Jvm.Cond.lays "LiarsCockModel" "LiarsCockModel" "thrown" "I") ∈ lw_all := lw_g (lw_at lw_m7 125 rfl) rfl
theorem q1684 : (Jvm.Cond.soleField "LiarsCockModel" "thrown") ∈ lw_all := lw_g (lw_at lw_m7 126 rfl) rfl
theorem q1685 : (Jvm.Cond.lays "LiarsCockModel" "LiarsCockModel" "taped" "I") ∈ lw_all := lw_g (lw_at lw_m7 127 rfl) rfl
theorem q1686 : (Jvm.Cond.soleField "LiarsCockModel" "taped") ∈ lw_all := lw_g (lw_at lw_m7 128 rfl) rfl
theorem q1687 : (Jvm.Cond.laysFinal "LiarsCockModel" "LiarsCockModel" "tape" "[I") ∈ lw_all := lw_g (lw_at lw_m7 129 rfl) rfl
theorem q1688 : (Jvm.Cond.soleField "LiarsCockModel" "tape") ∈ lw_all := lw_g (lw_at lw_m7 130 rfl) rfl
theorem q1689 : (Jvm.Cond.lays "LiarsCockModel" "LiarsCockModel" "size" "I") ∈ lw_all := lw_g (lw_at lw_m7 131 rfl) rfl
theorem q1690 : (Jvm.Cond.soleField "LiarsCockModel" "size") ∈ lw_all := lw_g (lw_at lw_m7 132 rfl) rfl
theorem q1691 : (Jvm.Cond.lays "LiarsCockModel" "LiarsCockModel" "place" "I") ∈ lw_all := lw_g (lw_at lw_m7 133 rfl) rfl
theorem q1692 : (Jvm.Cond.soleField "LiarsCockModel" "place") ∈ lw_all := lw_g (lw_at lw_m7 134 rfl) rfl
theorem q1693 : (Jvm.Cond.lays "LiarsCockModel" "LiarsCockModel" "begin" "I") ∈ lw_all := lw_g (lw_at lw_m7 135 rfl) rfl
theorem q1694 : (Jvm.Cond.soleField "LiarsCockModel" "begin") ∈ lw_all := lw_g (lw_at lw_m7 136 rfl) rfl
theorem q1695 : (Jvm.Cond.lays "LiarsCockModel" "LiarsCockModel" "token" "I") ∈ lw_all := lw_g (lw_at lw_m7 137 rfl) rfl
theorem q1696 : (Jvm.Cond.soleField "LiarsCockModel" "token") ∈ lw_all := lw_g (lw_at lw_m7 138 rfl) rfl
theorem q1697 : (Jvm.Cond.lays "LiarsCockModel" "LiarsCockModel" "word" "J") ∈ lw_all := lw_g (lw_at lw_m7 139 rfl) rfl
theorem q1698 : (Jvm.Cond.soleField "LiarsCockModel" "word") ∈ lw_all := lw_g (lw_at lw_m7 140 rfl) rfl
theorem q1699 : (Jvm.Cond.lays "LiarsCockModel" "LiarsCockModel" "told" "I") ∈ lw_all := lw_g (lw_at lw_m7 141 rfl) rfl
theorem q1700 : (Jvm.Cond.soleField "LiarsCockModel" "told") ∈ lw_all := lw_g (lw_at lw_m7 142 rfl) rfl
theorem q1701 : (Jvm.Cond.lays "LiarsCockModel" "LiarsCockModel" "wrong" "I") ∈ lw_all := lw_g (lw_at lw_m7 143 rfl) rfl
theorem q1702 : (Jvm.Cond.soleField "LiarsCockModel" "wrong") ∈ lw_all := lw_g (lw_at lw_m7 144 rfl) rfl
theorem q1703 : (Jvm.Cond.laysFinal "LiarsCockModel" "LiarsCockModel" "many" "[I") ∈ lw_all := lw_g (lw_at lw_m7 145 rfl) rfl
theorem q1704 : (Jvm.Cond.soleField "LiarsCockModel" "many") ∈ lw_all := lw_g (lw_at lw_m7 146 rfl) rfl
theorem q1705 : (Jvm.Cond.laysFinal "LiarsCockModel" "LiarsCockModel" "names" "[J") ∈ lw_all := lw_g (lw_at lw_m7 147 rfl) rfl
theorem q1706 : (Jvm.Cond.soleField "LiarsCockModel" "names") ∈ lw_all := lw_g (lw_at lw_m7 148 rfl) rfl
theorem q1707 : (Jvm.Cond.laysFinal "LiarsCockModel" "LiarsCockModel" "chances" "[I") ∈ lw_all := lw_g (lw_at lw_m7 149 rfl) rfl
theorem q1708 : (Jvm.Cond.soleField "LiarsCockModel" "chances") ∈ lw_all := lw_g (lw_at lw_m7 150 rfl) rfl
theorem q1709 : (Jvm.Cond.laysFinal "LiarsCockModel" "LiarsCockModel" "bearings" "[I") ∈ lw_all := lw_g (lw_at lw_m7 151 rfl) rfl
theorem q1710 : (Jvm.Cond.soleField "LiarsCockModel" "bearings") ∈ lw_all := lw_g (lw_at lw_m7 152 rfl) rfl
theorem q1711 : (Jvm.Cond.laysFinal "LiarsCockModel" "LiarsCockModel" "home" "[I") ∈ lw_all := lw_g (lw_at lw_m7 153 rfl) rfl
theorem q1712 : (Jvm.Cond.soleField "LiarsCockModel" "home") ∈ lw_all := lw_g (lw_at lw_m7 154 rfl) rfl
theorem q1713 : (Jvm.Cond.laysFinal "LiarsCockModel" "LiarsCockModel" "known" "[I") ∈ lw_all := lw_g (lw_at lw_m7 155 rfl) rfl
theorem q1714 : (Jvm.Cond.soleField "LiarsCockModel" "known") ∈ lw_all := lw_g (lw_at lw_m7 156 rfl) rfl
theorem q1715 : (Jvm.Cond.laysFinal "LiarsCockModel" "LiarsCockModel" "law" "[I") ∈ lw_all := lw_g (lw_at lw_m7 157 rfl) rfl
theorem q1716 : (Jvm.Cond.soleField "LiarsCockModel" "law") ∈ lw_all := lw_g (lw_at lw_m7 158 rfl) rfl
theorem q1717 : (Jvm.Cond.laysFinal "LiarsCockModel" "LiarsCockModel" "late" "[I") ∈ lw_all := lw_g (lw_at lw_m7 159 rfl) rfl
theorem q1718 : (Jvm.Cond.soleField "LiarsCockModel" "late") ∈ lw_all := lw_g (lw_at lw_m7 160 rfl) rfl
theorem q1719 : (Jvm.Cond.laysFinal "LiarsCockModel" "LiarsCockModel" "isCock" "[Z") ∈ lw_all := lw_g (lw_at lw_m7 161 rfl) rfl
theorem q1720 : (Jvm.Cond.soleField "LiarsCockModel" "isCock") ∈ lw_all := lw_g (lw_at lw_m7 162 rfl) rfl
theorem q1721 : (Jvm.Cond.laysFinal "LiarsCockModel" "LiarsCockModel" "common" "[J") ∈ lw_all := lw_g (lw_at lw_m7 163 rfl) rfl
theorem q1722 : (Jvm.Cond.soleField "LiarsCockModel" "common") ∈ lw_all := lw_g (lw_at lw_m7 164 rfl) rfl
theorem q1723 : (Jvm.Cond.laysFinal "LiarsCockModel" "LiarsCockModel" "codes" "[I") ∈ lw_all := lw_g (lw_at lw_m7 165 rfl) rfl
theorem q1724 : (Jvm.Cond.soleField "LiarsCockModel" "codes") ∈ lw_all := lw_g (lw_at lw_m7 166 rfl) rfl
theorem q1725 : (Jvm.Cond.laysFinal "LiarsCockModel" "LiarsCockModel" "lineFrom" "[I") ∈ lw_all := lw_g (lw_at lw_m7 167 rfl) rfl
theorem q1726 : (Jvm.Cond.soleField "LiarsCockModel" "lineFrom") ∈ lw_all := lw_g (lw_at lw_m7 168 rfl) rfl
theorem q1727 : (Jvm.Cond.laysFinal "LiarsCockModel" "LiarsCockModel" "lineTo" "[I") ∈ lw_all := lw_g (lw_at lw_m7 169 rfl) rfl
theorem q1728 : (Jvm.Cond.soleField "LiarsCockModel" "lineTo") ∈ lw_all := lw_g (lw_at lw_m7 170 rfl) rfl
theorem q1729 : (Jvm.Cond.lays "LiarsCockModel" "LiarsCockModel" "code" "I") ∈ lw_all := lw_g (lw_at lw_m7 171 rfl) rfl
theorem q1730 : (Jvm.Cond.soleField "LiarsCockModel" "code") ∈ lw_all := lw_g (lw_at lw_m7 172 rfl) rfl
theorem q1731 : (Jvm.Cond.laysFinal "LiarsCockModel" "LiarsCockModel" "opened" "[I") ∈ lw_all := lw_g (lw_at lw_m7 173 rfl) rfl
theorem q1732 : (Jvm.Cond.soleField "LiarsCockModel" "opened") ∈ lw_all := lw_g (lw_at lw_m7 174 rfl) rfl
theorem q1733 : (Jvm.Cond.laysFinal "LiarsCockModel" "LiarsCockModel" "compared" "[Z") ∈ lw_all := lw_g (lw_at lw_m7 175 rfl) rfl
theorem q1734 : (Jvm.Cond.soleField "LiarsCockModel" "compared") ∈ lw_all := lw_g (lw_at lw_m7 176 rfl) rfl
theorem q1735 : (Jvm.Cond.laysFinal "LiarsCockModel" "LiarsCockModel" "kept" "[I") ∈ lw_all := lw_g (lw_at lw_m7 177 rfl) rfl
theorem q1736 : (Jvm.Cond.soleField "LiarsCockModel" "kept") ∈ lw_all := lw_g (lw_at lw_m7 178 rfl) rfl
theorem q1737 : (Jvm.Cond.laysFinal "LiarsCockModel" "LiarsCockModel" "keptBy" "[I") ∈ lw_all := lw_g (lw_at lw_m7 179 rfl) rfl
theorem q1738 : (Jvm.Cond.soleField "LiarsCockModel" "keptBy") ∈ lw_all := lw_g (lw_at lw_m7 180 rfl) rfl
theorem q1739 : (Jvm.Cond.laysFinal "LiarsCockModel" "LiarsCockModel" "ahead" "[I") ∈ lw_all := lw_g (lw_at lw_m7 181 rfl) rfl
theorem q1740 : (Jvm.Cond.soleField "LiarsCockModel" "ahead") ∈ lw_all := lw_g (lw_at lw_m7 182 rfl) rfl
theorem q1741 : (Jvm.Cond.laysFinal "LiarsCockModel" "LiarsCockModel" "against" "[I") ∈ lw_all := lw_g (lw_at lw_m7 183 rfl) rfl
theorem q1742 : (Jvm.Cond.soleField "LiarsCockModel" "against") ∈ lw_all := lw_g (lw_at lw_m7 184 rfl) rfl
theorem q1743 : (Jvm.Cond.laysFinal "LiarsCockModel" "LiarsCockModel" "sum" "[I") ∈ lw_all := lw_g (lw_at lw_m7 185 rfl) rfl
theorem q1744 : (Jvm.Cond.soleField "LiarsCockModel" "sum") ∈ lw_all := lw_g (lw_at lw_m7 186 rfl) rfl
theorem q1745 : (Jvm.Cond.laysFinal "LiarsCockModel" "LiarsCockModel" "sumBy" "[I") ∈ lw_all := lw_g (lw_at lw_m7 187 rfl) rfl
theorem q1746 : (Jvm.Cond.soleField "LiarsCockModel" "sumBy") ∈ lw_all := lw_g (lw_at lw_m7 188 rfl) rfl
theorem q1747 : (Jvm.Cond.laysFinal "LiarsCockModel" "LiarsCockModel" "term" "[I") ∈ lw_all := lw_g (lw_at lw_m7 189 rfl) rfl
theorem q1748 : (Jvm.Cond.soleField "LiarsCockModel" "term") ∈ lw_all := lw_g (lw_at lw_m7 190 rfl) rfl
theorem q1749 : (Jvm.Cond.laysFinal "LiarsCockModel" "LiarsCockModel" "termBy" "[I") ∈ lw_all := lw_g (lw_at lw_m7 191 rfl) rfl
theorem q1750 : (Jvm.Cond.soleField "LiarsCockModel" "termBy") ∈ lw_all := lw_g (lw_at lw_m7 192 rfl) rfl
theorem q1751 : (Jvm.Cond.laysFinal "LiarsCockModel" "LiarsCockModel" "byNot" "[I") ∈ lw_all := lw_g (lw_at lw_m7 193 rfl) rfl
theorem q1752 : (Jvm.Cond.soleField "LiarsCockModel" "byNot") ∈ lw_all := lw_g (lw_at lw_m7 194 rfl) rfl
theorem q1753 : (Jvm.Cond.laysFinal "LiarsCockModel" "LiarsCockModel" "valueOf" "[I") ∈ lw_all := lw_g (lw_at lw_m7 195 rfl) rfl
theorem q1754 : (Jvm.Cond.soleField "LiarsCockModel" "valueOf") ∈ lw_all := lw_g (lw_at lw_m7 196 rfl) rfl
theorem q1755 : (Jvm.Cond.laysFinal "LiarsCockModel" "LiarsCockModel" "isToldCock" "[Z") ∈ lw_all := lw_g (lw_at lw_m7 197 rfl) rfl
theorem q1756 : (Jvm.Cond.soleField "LiarsCockModel" "isToldCock") ∈ lw_all := lw_g (lw_at lw_m7 198 rfl) rfl
theorem q1757 : (Jvm.Cond.lays "LiarsCockModel" "LiarsCockModel" "commons" "I") ∈ lw_all := lw_g (lw_at lw_m7 199 rfl) rfl
theorem q1758 : (Jvm.Cond.soleField "LiarsCockModel" "commons") ∈ lw_all := lw_g (lw_at lw_m7 200 rfl) rfl
theorem q1759 : (Jvm.Cond.lays "LiarsCockModel" "LiarsCockModel" "newCommons" "I") ∈ lw_all := lw_g (lw_at lw_m7 201 rfl) rfl
theorem q1760 : (Jvm.Cond.soleField "LiarsCockModel" "newCommons") ∈ lw_all := lw_g (lw_at lw_m7 202 rfl) rfl
theorem q1761 : (Jvm.Cond.laysFinal "LiarsCockModel" "LiarsCockModel" "commonSet" "[J") ∈ lw_all := lw_g (lw_at lw_m7 203 rfl) rfl
theorem q1762 : (Jvm.Cond.soleField "LiarsCockModel" "commonSet") ∈ lw_all := lw_g (lw_at lw_m7 204 rfl) rfl
theorem q1763 : (Jvm.Cond.lays "LiarsCockModel" "LiarsCockModel" "sayings" "I") ∈ lw_all := lw_g (lw_at lw_m7 205 rfl) rfl
theorem q1764 : (Jvm.Cond.soleField "LiarsCockModel" "sayings") ∈ lw_all := lw_g (lw_at lw_m7 206 rfl) rfl
theorem q1765 : (Jvm.Cond.lays "LiarsCockModel" "LiarsCockModel" "offers" "I") ∈ lw_all := lw_g (lw_at lw_m7 207 rfl) rfl
theorem q1766 : (Jvm.Cond.soleField "LiarsCockModel" "offers") ∈ lw_all := lw_g (lw_at lw_m7 208 rfl) rfl
theorem q1767 : (Jvm.Cond.lays "LiarsCockModel" "LiarsCockModel" "looks" "I") ∈ lw_all := lw_g (lw_at lw_m7 209 rfl) rfl
theorem q1768 : (Jvm.Cond.soleField "LiarsCockModel" "looks") ∈ lw_all := lw_g (lw_at lw_m7 210 rfl) rfl
theorem q1769 : (Jvm.Cond.lays "LiarsCockModel" "LiarsCockModel" "watches" "I") ∈ lw_all := lw_g (lw_at lw_m7 211 rfl) rfl
theorem q1770 : (Jvm.Cond.soleField "LiarsCockModel" "watches") ∈ lw_all := lw_g (lw_at lw_m7 212 rfl) rfl
theorem q1771 : (Jvm.Cond.lays "LiarsCockModel" "LiarsCockModel" "truth" "I") ∈ lw_all := lw_g (lw_at lw_m7 213 rfl) rfl
theorem q1772 : (Jvm.Cond.soleField "LiarsCockModel" "truth") ∈ lw_all := lw_g (lw_at lw_m7 214 rfl) rfl
theorem q1773 : (Jvm.Cond.laysFinal "LiarsCockModel" "LiarsCockModel" "who" "[I") ∈ lw_all := lw_g (lw_at lw_m7 215 rfl) rfl
theorem q1774 : (Jvm.Cond.soleField "LiarsCockModel" "who") ∈ lw_all := lw_g (lw_at lw_m7 216 rfl) rfl
theorem q1775 : (Jvm.Cond.laysFinal "LiarsCockModel" "LiarsCockModel" "when" "[I") ∈ lw_all := lw_g (lw_at lw_m7 217 rfl) rfl
theorem q1776 : (Jvm.Cond.soleField "LiarsCockModel" "when") ∈ lw_all := lw_g (lw_at lw_m7 218 rfl) rfl
theorem q1777 : (Jvm.Cond.laysFinal "LiarsCockModel" "LiarsCockModel" "so" "[J") ∈ lw_all := lw_g (lw_at lw_m7 219 rfl) rfl
theorem q1778 : (Jvm.Cond.soleField "LiarsCockModel" "so") ∈ lw_all := lw_g (lw_at lw_m7 220 rfl) rfl
theorem q1779 : (Jvm.Cond.laysFinal "LiarsCockModel" "LiarsCockModel" "isQuestion" "[Z") ∈ lw_all := lw_g (lw_at lw_m7 221 rfl) rfl
theorem q1780 : (Jvm.Cond.soleField "LiarsCockModel" "isQuestion") ∈ lw_all := lw_g (lw_at lw_m7 222 rfl) rfl
theorem q1781 : (Jvm.Cond.laysFinal "LiarsCockModel" "LiarsCockModel" "row" "[I") ∈ lw_all := lw_g (lw_at lw_m7 223 rfl) rfl
theorem q1782 : (Jvm.Cond.soleField "LiarsCockModel" "row") ∈ lw_all := lw_g (lw_at lw_m7 224 rfl) rfl
theorem q1783 : (Jvm.Cond.lays "LiarsCockModel" "LiarsCockModel" "rowed" "I") ∈ lw_all := lw_g (lw_at lw_m7 225 rfl) rfl
theorem q1784 : (Jvm.Cond.soleField "LiarsCockModel" "rowed") ∈ lw_all := lw_g (lw_at lw_m7 226 rfl) rfl
theorem q1785 : (Jvm.Cond.laysFinal "LiarsCockModel" "LiarsCockModel" "lies" "[J") ∈ lw_all := lw_g (lw_at lw_m7 227 rfl) rfl
theorem q1786 : (Jvm.Cond.soleField "LiarsCockModel" "lies") ∈ lw_all := lw_g (lw_at lw_m7 228 rfl) rfl
theorem q1787 : (Jvm.Cond.laysFinal "LiarsCockModel" "LiarsCockModel" "lookCock" "[I") ∈ lw_all := lw_g (lw_at lw_m7 229 rfl) rfl
theorem q1788 : (Jvm.Cond.soleField "LiarsCockModel" "lookCock") ∈ lw_all := lw_g (lw_at lw_m7 230 rfl) rfl
theorem q1789 : (Jvm.Cond.laysFinal "LiarsCockModel" "LiarsCockModel" "lookMinute" "[I") ∈ lw_all := lw_g (lw_at lw_m7 231 rfl) rfl
theorem q1790 : (Jvm.Cond.soleField "LiarsCockModel" "lookMinute") ∈ lw_all := lw_g (lw_at lw_m7 232 rfl) rfl
theorem q1791 : (Jvm.Cond.laysFinal "LiarsCockModel" "LiarsCockModel" "lookFrom" "[I") ∈ lw_all := lw_g (lw_at lw_m7 233 rfl) rfl
theorem q1792 : (Jvm.Cond.soleField "LiarsCockModel" "lookFrom") ∈ lw_all := lw_g (lw_at lw_m7 234 rfl) rfl
theorem q1793 : (Jvm.Cond.laysFinal "LiarsCockModel" "LiarsCockModel" "lookTo" "[I") ∈ lw_all := lw_g (lw_at lw_m7 235 rfl) rfl
theorem q1794 : (Jvm.Cond.soleField "LiarsCockModel" "lookTo") ∈ lw_all := lw_g (lw_at lw_m7 236 rfl) rfl
theorem q1795 : (Jvm.Cond.laysFinal "LiarsCockModel" "LiarsCockModel" "fits" "[J") ∈ lw_all := lw_g (lw_at lw_m7 237 rfl) rfl
theorem q1796 : (Jvm.Cond.soleField "LiarsCockModel" "fits") ∈ lw_all := lw_g (lw_at lw_m7 238 rfl) rfl
theorem q1797 : (Jvm.Cond.laysFinal "LiarsCockModel" "LiarsCockModel" "byBearing" "[I") ∈ lw_all := lw_g (lw_at lw_m7 239 rfl) rfl
theorem q1798 : (Jvm.Cond.soleField "LiarsCockModel" "byBearing") ∈ lw_all := lw_g (lw_at lw_m8 0 rfl) rfl
theorem q1799 : (Jvm.Cond.laysFinal "LiarsCockModel" "LiarsCockModel" "seen" "[I") ∈ lw_all := lw_g (lw_at lw_m8 1 rfl) rfl
theorem q1800 : (Jvm.Cond.soleField "LiarsCockModel" "seen") ∈ lw_all := lw_g (lw_at lw_m8 2 rfl) rfl
theorem q1801 : (Jvm.Cond.laysFinal "LiarsCockModel" "LiarsCockModel" "watchCock" "[I") ∈ lw_all := lw_g (lw_at lw_m8 3 rfl) rfl
theorem q1802 : (Jvm.Cond.soleField "LiarsCockModel" "watchCock") ∈ lw_all := lw_g (lw_at lw_m8 4 rfl) rfl
theorem q1803 : (Jvm.Cond.laysFinal "LiarsCockModel" "LiarsCockModel" "watchMinute" "[I") ∈ lw_all := lw_g (lw_at lw_m8 5 rfl) rfl
theorem q1804 : (Jvm.Cond.soleField "LiarsCockModel" "watchMinute") ∈ lw_all := lw_g (lw_at lw_m8 6 rfl) rfl
theorem q1805 : (Jvm.Cond.lays "LiarsCockModel" "LiarsCockModel" "turns0" "I") ∈ lw_all := lw_g (lw_at lw_m8 7 rfl) rfl
theorem q1806 : (Jvm.Cond.soleField "LiarsCockModel" "turns0") ∈ lw_all := lw_g (lw_at lw_m8 8 rfl) rfl
theorem q1807 : (Jvm.Cond.laysFinal "LiarsCockModel" "LiarsCockModel" "turnMinute" "[I") ∈ lw_all := lw_g (lw_at lw_m8 9 rfl) rfl
theorem q1808 : (Jvm.Cond.soleField "LiarsCockModel" "turnMinute") ∈ lw_all := lw_g (lw_at lw_m8 10 rfl) rfl
theorem q1809 : (Jvm.Cond.laysFinal "LiarsCockModel" "LiarsCockModel" "turnBearing" "[I") ∈ lw_all := lw_g (lw_at lw_m8 11 rfl) rfl
theorem q1810 : (Jvm.Cond.soleField "LiarsCockModel" "turnBearing") ∈ lw_all := lw_g (lw_at lw_m8 12 rfl) rfl
theorem q1811 : (Jvm.Cond.laysFinal "LiarsCockModel" "LiarsCockModel" "lookout" "[I") ∈ lw_all := lw_g (lw_at lw_m8 13 rfl) rfl
theorem q1812 : (Jvm.Cond.soleField "LiarsCockModel" "lookout") ∈ lw_all := lw_g (lw_at lw_m8 14 rfl) rfl
theorem q1813 : (Jvm.Cond.laysFinal "LiarsCockModel" "LiarsCockModel" "isLaid" "[Z") ∈ lw_all := lw_g (lw_at lw_m8 15 rfl) rfl
theorem q1814 : (Jvm.Cond.soleField "LiarsCockModel" "isLaid") ∈ lw_all := lw_g (lw_at lw_m8 16 rfl) rfl
theorem q1815 : (Jvm.Cond.laysFinal "LiarsCockModel" "LiarsCockModel" "marked" "[I") ∈ lw_all := lw_g (lw_at lw_m8 17 rfl) rfl
theorem q1816 : (Jvm.Cond.soleField "LiarsCockModel" "marked") ∈ lw_all := lw_g (lw_at lw_m8 18 rfl) rfl
theorem q1817 : (Jvm.Cond.laysFinal "LiarsCockModel" "LiarsCockModel" "markedLongs" "[J") ∈ lw_all := lw_g (lw_at lw_m8 19 rfl) rfl
theorem q1818 : (Jvm.Cond.soleField "LiarsCockModel" "markedLongs") ∈ lw_all := lw_g (lw_at lw_m8 20 rfl) rfl
theorem q1819 : (Jvm.Cond.lays "LiarsCockModel" "LiarsCockModel" "markAt" "I") ∈ lw_all := lw_g (lw_at lw_m8 21 rfl) rfl
theorem q1820 : (Jvm.Cond.soleField "LiarsCockModel" "markAt") ∈ lw_all := lw_g (lw_at lw_m8 22 rfl) rfl
theorem q1821 : (Jvm.Cond.superclass "LiarsCockModel" "java/lang/Object") ∈ lw_all := lw_g (lw_at lw_m8 23 rfl) rfl
theorem q1824 : (Jvm.Cond.instanceMethod ({ cls := "LiarsCockModel", name := "thrown", desc := "()I" } : Jvm.MethodName)) ∈ lw_all := lw_g (lw_at lw_m8 26 rfl) rfl
theorem q1825 : (Jvm.Cond.selects "LiarsCockModel" ({ cls := "LiarsCockModel", name := "thrown", desc := "()I" } : Jvm.MethodName) ({ cls := "LiarsCockModel", name := "thrown", desc := "()I" } : Jvm.MethodName)) ∈ lw_all := lw_g (lw_at lw_m8 27 rfl) rfl
theorem q1826 : (Jvm.Cond.code ({ cls := "LiarsCockModel", name := "thrown", desc := "()I" } : Jvm.MethodName) prog_28_method_2_code (1 : Nat) (Option.some Jvm.ClassFile.FieldType.int)) ∈ lw_all := lw_g (lw_at lw_m8 28 rfl) rfl
theorem q1828 : (Jvm.Cond.instanceMethod ({ cls := "LiarsCockModel", name := "feed", desc := "(JJJ)I" } : Jvm.MethodName)) ∈ lw_all := lw_g (lw_at lw_m8 30 rfl) rfl
theorem q1829 : (Jvm.Cond.selects "LiarsCockModel" ({ cls := "LiarsCockModel", name := "feed", desc := "(JJJ)I" } : Jvm.MethodName) ({ cls := "LiarsCockModel", name := "feed", desc := "(JJJ)I" } : Jvm.MethodName)) ∈ lw_all := lw_g (lw_at lw_m8 31 rfl) rfl
theorem q1830 : (Jvm.Cond.code ({ cls := "LiarsCockModel", name := "feed", desc := "(JJJ)I" } : Jvm.MethodName) prog_28_method_7_code (11 : Nat) (Option.some Jvm.ClassFile.FieldType.int)) ∈ lw_all := lw_g (lw_at lw_m8 32 rfl) rfl
theorem q1831 : (Jvm.Cond.constantLong "LiarsCockModel" (166 : Nat) (255 : Int64)) ∈ lw_all := lw_g (lw_at lw_m8 33 rfl) rfl
theorem q1833 : (Jvm.Cond.instanceMethod ({ cls := "LiarsCockModel", name := "parish", desc := "()I" } : Jvm.MethodName)) ∈ lw_all := lw_g (lw_at lw_m8 35 rfl) rfl
theorem q1834 : (Jvm.Cond.selects "LiarsCockModel" ({ cls := "LiarsCockModel", name := "parish", desc := "()I" } : Jvm.MethodName) ({ cls := "LiarsCockModel", name := "parish", desc := "()I" } : Jvm.MethodName)) ∈ lw_all := lw_g (lw_at lw_m8 36 rfl) rfl
theorem q1835 : (Jvm.Cond.code ({ cls := "LiarsCockModel", name := "parish", desc := "()I" } : Jvm.MethodName) prog_28_method_35_code (2 : Nat) (Option.some Jvm.ClassFile.FieldType.int)) ∈ lw_all := lw_g (lw_at lw_m8 37 rfl) rfl
theorem q1836 : (Jvm.Cond.methodLink "LiarsCockModel" (309 : Nat) ({ cls := "LiarsCockModel", name := "starts", desc := "()V" } : Jvm.MethodName)) ∈ lw_all := lw_g (lw_at lw_m8 38 rfl) rfl
theorem q1837 : (Jvm.Cond.privateMethod ({ cls := "LiarsCockModel", name := "starts", desc := "()V" } : Jvm.MethodName)) ∈ lw_tbl := lw_at lw_m8 39 rfl
theorem q1838 : (Jvm.Cond.instanceMethod ({ cls := "LiarsCockModel", name := "starts", desc := "()V" } : Jvm.MethodName)) ∈ lw_all := lw_g (lw_at lw_m8 40 rfl) rfl
theorem q1839 : (Jvm.Cond.code ({ cls := "LiarsCockModel", name := "starts", desc := "()V" } : Jvm.MethodName) prog_28_method_32_code (1 : Nat) (Option.none : Option Jvm.ClassFile.FieldType)) ∈ lw_all := lw_g (lw_at lw_m8 41 rfl) rfl
theorem q1840 : (Jvm.Cond.methodLink "LiarsCockModel" (254 : Nat) ({ cls := "LiarsCockModel", name := "nextToken", desc := "()V" } : Jvm.MethodName)) ∈ lw_all := lw_g (lw_at lw_m8 42 rfl) rfl
theorem q1841 : (Jvm.Cond.privateMethod ({ cls := "LiarsCockModel", name := "nextToken", desc := "()V" } : Jvm.MethodName)) ∈ lw_tbl := lw_at lw_m8 43 rfl
theorem q1842 : (Jvm.Cond.instanceMethod ({ cls := "LiarsCockModel", name := "nextToken", desc := "()V" } : Jvm.MethodName)) ∈ lw_all := lw_g (lw_at lw_m8 44 rfl) rfl
theorem q1843 : (Jvm.Cond.code ({ cls := "LiarsCockModel", name := "nextToken", desc := "()V" } : Jvm.MethodName) prog_28_method_9_code (2 : Nat) (Option.none : Option Jvm.ClassFile.FieldType)) ∈ lw_all := lw_g (lw_at lw_m8 45 rfl) rfl
theorem q1844 : (Jvm.Cond.methodLink "LiarsCockModel" (190 : Nat) ({ cls := "LiarsCockModel", name := "signAt", desc := "(I)I" } : Jvm.MethodName)) ∈ lw_all := lw_g (lw_at lw_m8 46 rfl) rfl
theorem q1845 : (Jvm.Cond.privateMethod ({ cls := "LiarsCockModel", name := "signAt", desc := "(I)I" } : Jvm.MethodName)) ∈ lw_tbl := lw_at lw_m8 47 rfl
theorem q1846 : (Jvm.Cond.instanceMethod ({ cls := "LiarsCockModel", name := "signAt", desc := "(I)I" } : Jvm.MethodName)) ∈ lw_all := lw_g (lw_at lw_m8 48 rfl) rfl
theorem q1847 : (Jvm.Cond.code ({ cls := "LiarsCockModel", name := "signAt", desc := "(I)I" } : Jvm.MethodName) prog_28_method_8_code (2 : Nat) (Option.some Jvm.ClassFile.FieldType.int)) ∈ lw_all := lw_g (lw_at lw_m8 49 rfl) rfl
theorem q1848 : (Jvm.Cond.constantLong "LiarsCockModel" (194 : Nat) (27 : Int64)) ∈ lw_all := lw_g (lw_at lw_m8 50 rfl) rfl
theorem q1849 : (Jvm.Cond.constantLong "LiarsCockModel" (196 : Nat) (96 : Int64)) ∈ lw_all := lw_g (lw_at lw_m8 51 rfl) rfl
theorem q1850 : (Jvm.Cond.methodLink "LiarsCockModel" (312 : Nat) ({ cls := "LiarsCockModel", name := "readsParish", desc := "()Z" } : Jvm.MethodName)) ∈ lw_all := lw_g (lw_at lw_m8 52 rfl) rfl
theorem q1851 : (Jvm.Cond.privateMethod ({ cls := "LiarsCockModel", name := "readsParish", desc := "()Z" } : Jvm.MethodName)) ∈ lw_tbl := lw_at lw_m8 53 rfl
theorem q1852 : (Jvm.Cond.instanceMethod ({ cls := "LiarsCockModel", name := "readsParish", desc := "()Z" } : Jvm.MethodName)) ∈ lw_all := lw_g (lw_at lw_m8 54 rfl) rfl
theorem q1853 : (Jvm.Cond.code ({ cls := "LiarsCockModel", name := "readsParish", desc := "()Z" } : Jvm.MethodName) prog_28_method_31_code (2 : Nat) (Option.some Jvm.ClassFile.FieldType.boolean)) ∈ lw_all := lw_g (lw_at lw_m8 55 rfl) rfl
theorem q1854 : (Jvm.Cond.constantLong "LiarsCockModel" (204 : Nat) (118928 : Int64)) ∈ lw_all := lw_g (lw_at lw_m8 56 rfl) rfl
theorem q1855 : (Jvm.Cond.methodLink "LiarsCockModel" (239 : Nat) ({ cls := "LiarsCockModel", name := "isWord", desc := "(J)Z" } : Jvm.MethodName)) ∈ lw_all := lw_g (lw_at lw_m8 57 rfl) rfl
theorem q1856 : (Jvm.Cond.privateMethod ({ cls := "LiarsCockModel", name := "isWord", desc := "(J)Z" } : Jvm.MethodName)) ∈ lw_tbl := lw_at lw_m8 58 rfl
theorem q1857 : (Jvm.Cond.instanceMethod ({ cls := "LiarsCockModel", name := "isWord", desc := "(J)Z" } : Jvm.MethodName)) ∈ lw_all := lw_g (lw_at lw_m8 59 rfl) rfl
theorem q1858 : (Jvm.Cond.code ({ cls := "LiarsCockModel", name := "isWord", desc := "(J)Z" } : Jvm.MethodName) prog_28_method_10_code (3 : Nat) (Option.some Jvm.ClassFile.FieldType.boolean)) ∈ lw_all := lw_g (lw_at lw_m8 60 rfl) rfl
theorem q1859 : (Jvm.Cond.methodLink "LiarsCockModel" (292 : Nat) ({ cls := "LiarsCockModel", name := "readsFact", desc := "()Z" } : Jvm.MethodName)) ∈ lw_all := lw_g (lw_at lw_m8 61 rfl) rfl
theorem q1860 : (Jvm.Cond.privateMethod ({ cls := "LiarsCockModel", name := "readsFact", desc := "()Z" } : Jvm.MethodName)) ∈ lw_tbl := lw_at lw_m8 62 rfl
theorem q1861 : (Jvm.Cond.instanceMethod ({ cls := "LiarsCockModel", name := "readsFact", desc := "()Z" } : Jvm.MethodName)) ∈ lw_all := lw_g (lw_at lw_m8 63 rfl) rfl
theorem q1862 : (Jvm.Cond.code ({ cls := "LiarsCockModel", name := "readsFact", desc := "()Z" } : Jvm.MethodName) prog_28_method_26_code (2 : Nat) (Option.some Jvm.ClassFile.FieldType.boolean)) ∈ lw_all := lw_g (lw_at lw_m8 64 rfl) rfl
theorem q1863 : (Jvm.Cond.methodLink "LiarsCockModel" (247 : Nat) ({ cls := "LiarsCockModel", name := "fails", desc := "(I)Z" } : Jvm.MethodName)) ∈ lw_all := lw_g (lw_at lw_m8 65 rfl) rfl
theorem q1864 : (Jvm.Cond.privateMethod ({ cls := "LiarsCockModel", name := "fails", desc := "(I)Z" } : Jvm.MethodName)) ∈ lw_tbl := lw_at lw_m8 66 rfl
theorem q1865 : (Jvm.Cond.instanceMethod ({ cls := "LiarsCockModel", name := "fails", desc := "(I)Z" } : Jvm.MethodName)) ∈ lw_all := lw_g (lw_at lw_m8 67 rfl) rfl
theorem q1866 : (Jvm.Cond.code ({ cls := "LiarsCockModel", name := "fails", desc := "(I)Z" } : Jvm.MethodName) prog_28_method_12_code (2 : Nat) (Option.some Jvm.ClassFile.FieldType.boolean)) ∈ lw_all := lw_g (lw_at lw_m8 68 rfl) rfl
theorem q1867 : (Jvm.Cond.methodLink "LiarsCockModel" (269 : Nat) ({ cls := "LiarsCockModel", name := "needsNew", desc := "(I)Z" } : Jvm.MethodName)) ∈ lw_all := lw_g (lw_at lw_m8 69 rfl) rfl
theorem q1868 : (Jvm.Cond.privateMethod ({ cls := "LiarsCockModel", name := "needsNew", desc := "(I)Z" } : Jvm.MethodName)) ∈ lw_tbl := lw_at lw_m8 70 rfl
theorem q1869 : (Jvm.Cond.instanceMethod ({ cls := "LiarsCockModel", name := "needsNew", desc := "(I)Z" } : Jvm.MethodName)) ∈ lw_all := lw_g (lw_at lw_m8 71 rfl) rfl
theorem q1870 : (Jvm.Cond.code ({ cls := "LiarsCockModel", name := "needsNew", desc := "(I)Z" } : Jvm.MethodName) prog_28_method_25_code (2 : Nat) (Option.some Jvm.ClassFile.FieldType.boolean)) ∈ lw_all := lw_g (lw_at lw_m8 72 rfl) rfl
theorem q1871 : (Jvm.Cond.methodLink "LiarsCockModel" (232 : Nat) ({ cls := "LiarsCockModel", name := "isKept", desc := "()Z" } : Jvm.MethodName)) ∈ lw_all := lw_g (lw_at lw_m8 73 rfl) rfl
theorem q1872 : (Jvm.Cond.privateMethod ({ cls := "LiarsCockModel", name := "isKept", desc := "()Z" } : Jvm.MethodName)) ∈ lw_tbl := lw_at lw_m8 74 rfl
theorem q1873 : (Jvm.Cond.instanceMethod ({ cls := "LiarsCockModel", name := "isKept", desc := "()Z" } : Jvm.MethodName)) ∈ lw_all := lw_g (lw_at lw_m8 75 rfl) rfl
theorem q1874 : (Jvm.Cond.code ({ cls := "LiarsCockModel", name := "isKept", desc := "()Z" } : Jvm.MethodName) prog_28_method_14_code (1 : Nat) (Option.some Jvm.ClassFile.FieldType.boolean)) ∈ lw_all := lw_g (lw_at lw_m8 76 rfl) rfl
theorem q1875 : (Jvm.Cond.constantLong "LiarsCockModel" (206 : Nat) (47328224 : Int64)) ∈ lw_all := lw_g (lw_at lw_m8 77 rfl) rfl
theorem q1876 : (Jvm.Cond.constantLong "LiarsCockModel" (208 : Nat) (8740067 : Int64)) ∈ lw_all := lw_g (lw_at lw_m8 78 rfl) rfl
theorem q1877 : (Jvm.Cond.constantLong "LiarsCockModel" (210 : Nat) (847478194 : Int64)) ∈ lw_all := lw_g (lw_at lw_m8 79 rfl) rfl
theorem q1878 : (Jvm.Cond.constantLong "LiarsCockModel" (212 : Nat) (232608281 : Int64)) ∈ lw_all := lw_g (lw_at lw_m8 80 rfl) rfl
theorem q1879 : (Jvm.Cond.constantLong "LiarsCockModel" (214 : Nat) (47 : Int64)) ∈ lw_all := lw_g (lw_at lw_m8 81 rfl) rfl
theorem q1880 : (Jvm.Cond.constantLong "LiarsCockModel" (216 : Nat) (6132988 : Int64)) ∈ lw_all := lw_g (lw_at lw_m8 82 rfl) rfl
theorem q1881 : (Jvm.Cond.constantLong "LiarsCockModel" (218 : Nat) (51284111 : Int64)) ∈ lw_all := lw_g (lw_at lw_m8 83 rfl) rfl
theorem q1882 : (Jvm.Cond.constantLong "LiarsCockModel" (220 : Nat) (70076 : Int64)) ∈ lw_all := lw_g (lw_at lw_m8 84 rfl) rfl
theorem q1883 : (Jvm.Cond.constantLong "LiarsCockModel" (222 : Nat) (8798 : Int64)) ∈ lw_all := lw_g (lw_at lw_m8 85 rfl) rfl
theorem q1884 : (Jvm.Cond.constantLong "LiarsCockModel" (224 : Nat) (237470 : Int64)) ∈ lw_all := lw_g (lw_at lw_m8 86 rfl) rfl
theorem q1885 : (Jvm.Cond.constantLong "LiarsCockModel" (226 : Nat) (10631 : Int64)) ∈ lw_all := lw_g (lw_at lw_m8 87 rfl) rfl
theorem q1886 : (Jvm.Cond.constantLong "LiarsCockModel" (228 : Nat) (1111 : Int64)) ∈ lw_all := lw_g (lw_at lw_m8 88 rfl) rfl
theorem q1887 : (Jvm.Cond.constantLong "LiarsCockModel" (230 : Nat) (423 : Int64)) ∈ lw_all := lw_g (lw_at lw_m8 89 rfl) rfl
theorem q1888 : (Jvm.Cond.methodLink "LiarsCockModel" (236 : Nat) ({ cls := "LiarsCockModel", name := "whichOf", desc := "(I)I" } : Jvm.MethodName)) ∈ lw_all := lw_g (lw_at lw_m8 90 rfl) rfl
theorem q1889 : (Jvm.Cond.privateMethod ({ cls := "LiarsCockModel", name := "whichOf", desc := "(I)I" } : Jvm.MethodName)) ∈ lw_tbl := lw_at lw_m8 91 rfl
theorem q1890 : (Jvm.Cond.instanceMethod ({ cls := "LiarsCockModel", name := "whichOf", desc := "(I)I" } : Jvm.MethodName)) ∈ lw_all := lw_g (lw_at lw_m8 92 rfl) rfl
theorem q1891 : (Jvm.Cond.code ({ cls := "LiarsCockModel", name := "whichOf", desc := "(I)I" } : Jvm.MethodName) prog_28_method_15_code (3 : Nat) (Option.some Jvm.ClassFile.FieldType.int)) ∈ lw_all := lw_g (lw_at lw_m8 93 rfl) rfl
theorem q1892 : (Jvm.Cond.methodLink "LiarsCockModel" (272 : Nat) ({ cls := "LiarsCockModel", name := "needsNumber", desc := "(I)Z" } : Jvm.MethodName)) ∈ lw_all := lw_g (lw_at lw_m8 94 rfl) rfl
theorem q1893 : (Jvm.Cond.privateMethod ({ cls := "LiarsCockModel", name := "needsNumber", desc := "(I)Z" } : Jvm.MethodName)) ∈ lw_tbl := lw_at lw_m8 95 rfl
theorem q1894 : (Jvm.Cond.instanceMethod ({ cls := "LiarsCockModel", name := "needsNumber", desc := "(I)Z" } : Jvm.MethodName)) ∈ lw_all := lw_g (lw_at lw_m8 96 rfl) rfl
theorem q1895 : (Jvm.Cond.code ({ cls := "LiarsCockModel", name := "needsNumber", desc := "(I)Z" } : Jvm.MethodName) prog_28_method_24_code (2 : Nat) (Option.some Jvm.ClassFile.FieldType.boolean)) ∈ lw_all := lw_g (lw_at lw_m8 97 rfl) rfl
theorem q1896 : (Jvm.Cond.methodLink "LiarsCockModel" (275 : Nat) ({ cls := "LiarsCockModel", name := "ends", desc := "()Z" } : Jvm.MethodName)) ∈ lw_all := lw_g (lw_at lw_m8 98 rfl) rfl
theorem q1897 : (Jvm.Cond.privateMethod ({ cls := "LiarsCockModel", name := "ends", desc := "()Z" } : Jvm.MethodName)) ∈ lw_tbl := lw_at lw_m8 99 rfl
theorem q1898 : (Jvm.Cond.instanceMethod ({ cls := "LiarsCockModel", name := "ends", desc := "()Z" } : Jvm.MethodName)) ∈ lw_all := lw_g (lw_at lw_m8 100 rfl) rfl
theorem q1899 : (Jvm.Cond.code ({ cls := "LiarsCockModel", name := "ends", desc := "()Z" } : Jvm.MethodName) prog_28_method_22_code (1 : Nat) (Option.some Jvm.ClassFile.FieldType.boolean)) ∈ lw_all := lw_g (lw_at lw_m8 101 rfl) rfl
theorem q1900 : (Jvm.Cond.methodLink "LiarsCockModel" (243 : Nat) ({ cls := "LiarsCockModel", name := "isSign", desc := "(I)Z" } : Jvm.MethodName)) ∈ lw_all := lw_g (lw_at lw_m8 102 rfl) rfl
theorem q1901 : (Jvm.Cond.privateMethod ({ cls := "LiarsCockModel", name := "isSign", desc := "(I)Z" } : Jvm.MethodName)) ∈ lw_tbl := lw_at lw_m8 103 rfl
theorem q1902 : (Jvm.Cond.instanceMethod ({ cls := "LiarsCockModel", name := "isSign", desc := "(I)Z" } : Jvm.MethodName)) ∈ lw_all := lw_g (lw_at lw_m8 104 rfl) rfl
theorem q1903 : (Jvm.Cond.code ({ cls := "LiarsCockModel", name := "isSign", desc := "(I)Z" } : Jvm.MethodName) prog_28_method_11_code (2 : Nat) (Option.some Jvm.ClassFile.FieldType.boolean)) ∈ lw_all := lw_g (lw_at lw_m8 105 rfl) rfl
theorem q1904 : (Jvm.Cond.methodLink "LiarsCockModel" (295 : Nat) ({ cls := "LiarsCockModel", name := "readsPlace", desc := "()Z" } : Jvm.MethodName)) ∈ lw_all := lw_g (lw_at lw_m8 106 rfl) rfl
theorem q1905 : (Jvm.Cond.privateMethod ({ cls := "LiarsCockModel", name := "readsPlace", desc := "()Z" } : Jvm.MethodName)) ∈ lw_tbl := lw_at lw_m8 107 rfl
theorem q1906 : (Jvm.Cond.instanceMethod ({ cls := "LiarsCockModel", name := "readsPlace", desc := "()Z" } : Jvm.MethodName)) ∈ lw_all := lw_g (lw_at lw_m8 108 rfl) rfl
theorem q1907 : (Jvm.Cond.code ({ cls := "LiarsCockModel", name := "readsPlace", desc := "()Z" } : Jvm.MethodName) prog_28_method_27_code (1 : Nat) (Option.some Jvm.ClassFile.FieldType.boolean)) ∈ lw_all := lw_g (lw_at lw_m8 109 rfl) rfl
theorem q1908 : (Jvm.Cond.methodLink "LiarsCockModel" (278 : Nat) ({ cls := "LiarsCockModel", name := "needsWord", desc := "(J)Z" } : Jvm.MethodName)) ∈ lw_all := lw_g (lw_at lw_m8 110 rfl) rfl
theorem q1909 : (Jvm.Cond.privateMethod ({ cls := "LiarsCockModel", name := "needsWord", desc := "(J)Z" } : Jvm.MethodName)) ∈ lw_tbl := lw_at lw_m8 111 rfl
theorem q1910 : (Jvm.Cond.instanceMethod ({ cls := "LiarsCockModel", name := "needsWord", desc := "(J)Z" } : Jvm.MethodName)) ∈ lw_all := lw_g (lw_at lw_m8 112 rfl) rfl
theorem q1911 : (Jvm.Cond.code ({ cls := "LiarsCockModel", name := "needsWord", desc := "(J)Z" } : Jvm.MethodName) prog_28_method_23_code (3 : Nat) (Option.some Jvm.ClassFile.FieldType.boolean)) ∈ lw_all := lw_g (lw_at lw_m8 113 rfl) rfl
theorem q1912 : (Jvm.Cond.methodLink "LiarsCockModel" (298 : Nat) ({ cls := "LiarsCockModel", name := "readsPerson", desc := "()Z" } : Jvm.MethodName)) ∈ lw_all := lw_g (lw_at lw_m8 114 rfl) rfl
theorem q1913 : (Jvm.Cond.privateMethod ({ cls := "LiarsCockModel", name := "readsPerson", desc := "()Z" } : Jvm.MethodName)) ∈ lw_tbl := lw_at lw_m8 115 rfl
theorem q1914 : (Jvm.Cond.instanceMethod ({ cls := "LiarsCockModel", name := "readsPerson", desc := "()Z" } : Jvm.MethodName)) ∈ lw_all := lw_g (lw_at lw_m8 116 rfl) rfl
theorem q1915 : (Jvm.Cond.code ({ cls := "LiarsCockModel", name := "readsPerson", desc := "()Z" } : Jvm.MethodName) prog_28_method_28_code (3 : Nat) (Option.some Jvm.ClassFile.FieldType.boolean)) ∈ lw_all := lw_g (lw_at lw_m8 117 rfl) rfl
theorem q1916 : (Jvm.Cond.methodLink "LiarsCockModel" (301 : Nat) ({ cls := "LiarsCockModel", name := "readsCock", desc := "()Z" } : Jvm.MethodName)) ∈ lw_all := lw_g (lw_at lw_m8 118 rfl) rfl
theorem q1917 : (Jvm.Cond.privateMethod ({ cls := "LiarsCockModel", name := "readsCock", desc := "()Z" } : Jvm.MethodName)) ∈ lw_tbl := lw_at lw_m8 119 rfl
theorem q1918 : (Jvm.Cond.instanceMethod ({ cls := "LiarsCockModel", name := "readsCock", desc := "()Z" } : Jvm.MethodName)) ∈ lw_all := lw_g (lw_at lw_m8 120 rfl) rfl
theorem q1919 : (Jvm.Cond.code ({ cls := "LiarsCockModel", name := "readsCock", desc := "()Z" } : Jvm.MethodName) prog_28_method_29_code (2 : Nat) (Option.some Jvm.ClassFile.FieldType.boolean)) ∈ lw_all := lw_g (lw_at lw_m8 121 rfl) rfl
theorem q1920 : (Jvm.Cond.methodLink "LiarsCockModel" (304 : Nat) ({ cls := "LiarsCockModel", name := "readsCommon", desc := "()Z" } : Jvm.MethodName)) ∈ lw_all := lw_g (lw_at lw_m8 122 rfl) rfl
theorem q1921 : (Jvm.Cond.privateMethod ({ cls := "LiarsCockModel", name := "readsCommon", desc := "()Z" } : Jvm.MethodName)) ∈ lw_tbl := lw_at lw_m8 123 rfl
theorem q1922 : (Jvm.Cond.instanceMethod ({ cls := "LiarsCockModel", name := "readsCommon", desc := "()Z" } : Jvm.MethodName)) ∈ lw_all := lw_g (lw_at lw_m8 124 rfl) rfl
theorem q1923 : (Jvm.Cond.code ({ cls := "LiarsCockModel", name := "readsCommon", desc := "()Z" } : Jvm.MethodName) prog_28_method_30_code (1 : Nat) (Option.some Jvm.ClassFile.FieldType.boolean)) ∈ lw_all := lw_g (lw_at lw_m8 125 rfl) rfl
theorem q1924 : (Jvm.Cond.methodLink "LiarsCockModel" (284 : Nat) ({ cls := "LiarsCockModel", name := "reads", desc := "(Z)Z" } : Jvm.MethodName)) ∈ lw_all := lw_g (lw_at lw_m8 126 rfl) rfl
theorem q1925 : (Jvm.Cond.privateMethod ({ cls := "LiarsCockModel", name := "reads", desc := "(Z)Z" } : Jvm.MethodName)) ∈ lw_tbl := lw_at lw_m8 127 rfl
theorem q1926 : (Jvm.Cond.instanceMethod ({ cls := "LiarsCockModel", name := "reads", desc := "(Z)Z" } : Jvm.MethodName)) ∈ lw_all := lw_g (lw_at lw_m8 128 rfl) rfl
theorem q1927 : (Jvm.Cond.code ({ cls := "LiarsCockModel", name := "reads", desc := "(Z)Z" } : Jvm.MethodName) prog_28_method_16_code (8 : Nat) (Option.some Jvm.ClassFile.FieldType.boolean)) ∈ lw_all := lw_g (lw_at lw_m8 129 rfl) rfl
theorem q1928 : (Jvm.Cond.methodLink "LiarsCockModel" (250 : Nat) ({ cls := "LiarsCockModel", name := "puts", desc := "(I)V" } : Jvm.MethodName)) ∈ lw_all := lw_g (lw_at lw_m8 130 rfl) rfl
theorem q1929 : (Jvm.Cond.privateMethod ({ cls := "LiarsCockModel", name := "puts", desc := "(I)V" } : Jvm.MethodName)) ∈ lw_tbl := lw_at lw_m8 131 rfl
theorem q1930 : (Jvm.Cond.instanceMethod ({ cls := "LiarsCockModel", name := "puts", desc := "(I)V" } : Jvm.MethodName)) ∈ lw_all := lw_g (lw_at lw_m8 132 rfl) rfl
theorem q1931 : (Jvm.Cond.code ({ cls := "LiarsCockModel", name := "puts", desc := "(I)V" } : Jvm.MethodName) prog_28_method_13_code (2 : Nat) (Option.none : Option Jvm.ClassFile.FieldType)) ∈ lw_all := lw_g (lw_at lw_m8 133 rfl) rfl
theorem q1932 : (Jvm.Cond.methodLink "LiarsCockModel" (288 : Nat) ({ cls := "LiarsCockModel", name := "soIn", desc := "(I)J" } : Jvm.MethodName)) ∈ lw_all := lw_g (lw_at lw_m8 134 rfl) rfl
theorem q1933 : (Jvm.Cond.privateMethod ({ cls := "LiarsCockModel", name := "soIn", desc := "(I)J" } : Jvm.MethodName)) ∈ lw_tbl := lw_at lw_m8 135 rfl
theorem q1934 : (Jvm.Cond.instanceMethod ({ cls := "LiarsCockModel", name := "soIn", desc := "(I)J" } : Jvm.MethodName)) ∈ lw_all := lw_g (lw_at lw_m8 136 rfl) rfl
theorem q1935 : (Jvm.Cond.code ({ cls := "LiarsCockModel", name := "soIn", desc := "(I)J" } : Jvm.MethodName) prog_28_method_21_code (6 : Nat) (Option.some Jvm.ClassFile.FieldType.long)) ∈ lw_all := lw_g (lw_at lw_m8 137 rfl) rfl
theorem q1936 : (Jvm.Cond.methodLink "LiarsCockModel" (266 : Nat) ({ cls := "LiarsCockModel", name := "worked", desc := "(I)I" } : Jvm.MethodName)) ∈ lw_all := lw_g (lw_at lw_m8 138 rfl) rfl
theorem q1937 : (Jvm.Cond.privateMethod ({ cls := "LiarsCockModel", name := "worked", desc := "(I)I" } : Jvm.MethodName)) ∈ lw_tbl := lw_at lw_m8 139 rfl
theorem q1938 : (Jvm.Cond.instanceMethod ({ cls := "LiarsCockModel", name := "worked", desc := "(I)I" } : Jvm.MethodName)) ∈ lw_all := lw_g (lw_at lw_m8 140 rfl) rfl
theorem q1939 : (Jvm.Cond.code ({ cls := "LiarsCockModel", name := "worked", desc := "(I)I" } : Jvm.MethodName) prog_28_method_20_code (6 : Nat) (Option.some Jvm.ClassFile.FieldType.int)) ∈ lw_all := lw_g (lw_at lw_m8 141 rfl) rfl
theorem q1940 : (Jvm.Cond.methodLink "LiarsCockModel" (260 : Nat) ({ cls := "LiarsCockModel", name := "opens", desc := "(I)V" } : Jvm.MethodName)) ∈ lw_all := lw_g (lw_at lw_m8 142 rfl) rfl
theorem q1941 : (Jvm.Cond.privateMethod ({ cls := "LiarsCockModel", name := "opens", desc := "(I)V" } : Jvm.MethodName)) ∈ lw_tbl := lw_at lw_m8 143 rfl
theorem q1942 : (Jvm.Cond.instanceMethod ({ cls := "LiarsCockModel", name := "opens", desc := "(I)V" } : Jvm.MethodName)) ∈ lw_all := lw_g (lw_at lw_m8 144 rfl) rfl
theorem q1943 : (Jvm.Cond.code ({ cls := "LiarsCockModel", name := "opens", desc := "(I)V" } : Jvm.MethodName) prog_28_method_17_code (2 : Nat) (Option.none : Option Jvm.ClassFile.FieldType)) ∈ lw_all := lw_g (lw_at lw_m8 145 rfl) rfl
theorem q1944 : (Jvm.Cond.methodLink "LiarsCockModel" (257 : Nat) ({ cls := "LiarsCockModel", name := "sums", desc := "(I)V" } : Jvm.MethodName)) ∈ lw_all := lw_g (lw_at lw_m8 146 rfl) rfl
theorem q1945 : (Jvm.Cond.privateMethod ({ cls := "LiarsCockModel", name := "sums", desc := "(I)V" } : Jvm.MethodName)) ∈ lw_tbl := lw_at lw_m8 147 rfl
theorem q1946 : (Jvm.Cond.instanceMethod ({ cls := "LiarsCockModel", name := "sums", desc := "(I)V" } : Jvm.MethodName)) ∈ lw_all := lw_g (lw_at lw_m8 148 rfl) rfl
theorem q1947 : (Jvm.Cond.code ({ cls := "LiarsCockModel", name := "sums", desc := "(I)V" } : Jvm.MethodName) prog_28_method_18_code (2 : Nat) (Option.none : Option Jvm.ClassFile.FieldType)) ∈ lw_all := lw_g (lw_at lw_m8 149 rfl) rfl
theorem q1948 : (Jvm.Cond.methodLink "LiarsCockModel" (263 : Nat) ({ cls := "LiarsCockModel", name := "tests", desc := "(I)V" } : Jvm.MethodName)) ∈ lw_all := lw_g (lw_at lw_m8 150 rfl) rfl
theorem q1949 : (Jvm.Cond.privateMethod ({ cls := "LiarsCockModel", name := "tests", desc := "(I)V" } : Jvm.MethodName)) ∈ lw_tbl := lw_at lw_m8 151 rfl
theorem q1950 : (Jvm.Cond.instanceMethod ({ cls := "LiarsCockModel", name := "tests", desc := "(I)V" } : Jvm.MethodName)) ∈ lw_all := lw_g (lw_at lw_m8 152 rfl) rfl
theorem q1951 : (Jvm.Cond.code ({ cls := "LiarsCockModel", name := "tests", desc := "(I)V" } : Jvm.MethodName) prog_28_method_19_code (3 : Nat) (Option.none : Option Jvm.ClassFile.FieldType)) ∈ lw_all := lw_g (lw_at lw_m8 153 rfl) rfl
theorem q1952 : (Jvm.Cond.methodLink "LiarsCockModel" (318 : Nat) ({ cls := "LiarsCockModel", name := "allWorlds", desc := "()J" } : Jvm.MethodName)) ∈ lw_all := lw_g (lw_at lw_m8 154 rfl) rfl
theorem q1953 : (Jvm.Cond.privateMethod ({ cls := "LiarsCockModel", name := "allWorlds", desc := "()J" } : Jvm.MethodName)) ∈ lw_tbl := lw_at lw_m8 155 rfl
theorem q1954 : (Jvm.Cond.instanceMethod ({ cls := "LiarsCockModel", name := "allWorlds", desc := "()J" } : Jvm.MethodName)) ∈ lw_all := lw_g (lw_at lw_m8 156 rfl) rfl
theorem q1955 : (Jvm.Cond.code ({ cls := "LiarsCockModel", name := "allWorlds", desc := "()J" } : Jvm.MethodName) prog_28_method_33_code (1 : Nat) (Option.some Jvm.ClassFile.FieldType.long)) ∈ lw_all := lw_g (lw_at lw_m8 157 rfl) rfl
theorem q1956 : (Jvm.Cond.constantLong "LiarsCockModel" (307 : Nat) (-1 : Int64)) ∈ lw_all := lw_g (lw_at lw_m8 158 rfl) rfl
theorem q1958 : (Jvm.Cond.instanceMethod ({ cls := "LiarsCockModel", name := "say", desc := "(II)I" } : Jvm.MethodName)) ∈ lw_all := lw_g (lw_at lw_m8 160 rfl) rfl
theorem q1959 : (Jvm.Cond.selects "LiarsCockModel" ({ cls := "LiarsCockModel", name := "say", desc := "(II)I" } : Jvm.MethodName) ({ cls := "LiarsCockModel", name := "say", desc := "(II)I" } : Jvm.MethodName)) ∈ lw_all := lw_g (lw_at lw_m8 161 rfl) rfl
theorem q1960 : (Jvm.Cond.code ({ cls := "LiarsCockModel", name := "say", desc := "(II)I" } : Jvm.MethodName) prog_28_method_42_code (4 : Nat) (Option.some Jvm.ClassFile.FieldType.int)) ∈ lw_all := lw_g (lw_at lw_m8 162 rfl) rfl
theorem q1961 : (Jvm.Cond.methodLink "LiarsCockModel" (337 : Nat) ({ cls := "LiarsCockModel", name := "isPerson", desc := "(I)Z" } : Jvm.MethodName)) ∈ lw_all := lw_g (lw_at lw_m8 163 rfl) rfl
theorem q1962 : (Jvm.Cond.privateMethod ({ cls := "LiarsCockModel", name := "isPerson", desc := "(I)Z" } : Jvm.MethodName)) ∈ lw_tbl := lw_at lw_m8 164 rfl
theorem q1963 : (Jvm.Cond.instanceMethod ({ cls := "LiarsCockModel", name := "isPerson", desc := "(I)Z" } : Jvm.MethodName)) ∈ lw_all := lw_g (lw_at lw_m8 165 rfl) rfl
theorem q1964 : (Jvm.Cond.code ({ cls := "LiarsCockModel", name := "isPerson", desc := "(I)Z" } : Jvm.MethodName) prog_28_method_36_code (2 : Nat) (Option.some Jvm.ClassFile.FieldType.boolean)) ∈ lw_all := lw_g (lw_at lw_m8 166 rfl) rfl
theorem q1965 : (Jvm.Cond.methodLink "LiarsCockModel" (340 : Nat) ({ cls := "LiarsCockModel", name := "isMinute", desc := "(I)Z" } : Jvm.MethodName)) ∈ lw_all := lw_g (lw_at lw_m8 167 rfl) rfl
theorem q1966 : (Jvm.Cond.static ({ cls := "LiarsCockModel", name := "isMinute", desc := "(I)Z" } : Jvm.MethodName)) ∈ lw_all := lw_g (lw_at lw_m8 168 rfl) rfl
theorem q1967 : (Jvm.Cond.code ({ cls := "LiarsCockModel", name := "isMinute", desc := "(I)Z" } : Jvm.MethodName) prog_28_method_40_code (1 : Nat) (Option.some Jvm.ClassFile.FieldType.boolean)) ∈ lw_all := lw_g (lw_at lw_m8 169 rfl) rfl
theorem q1968 : (Jvm.Cond.methodLink "LiarsCockModel" (343 : Nat) ({ cls := "LiarsCockModel", name := "lays", desc := "(III)I" } : Jvm.MethodName)) ∈ lw_all := lw_g (lw_at lw_m8 170 rfl) rfl
theorem q1969 : (Jvm.Cond.privateMethod ({ cls := "LiarsCockModel", name := "lays", desc := "(III)I" } : Jvm.MethodName)) ∈ lw_tbl := lw_at lw_m8 171 rfl
theorem q1970 : (Jvm.Cond.instanceMethod ({ cls := "LiarsCockModel", name := "lays", desc := "(III)I" } : Jvm.MethodName)) ∈ lw_all := lw_g (lw_at lw_m8 172 rfl) rfl
theorem q1971 : (Jvm.Cond.code ({ cls := "LiarsCockModel", name := "lays", desc := "(III)I" } : Jvm.MethodName) prog_28_method_41_code (5 : Nat) (Option.some Jvm.ClassFile.FieldType.int)) ∈ lw_all := lw_g (lw_at lw_m8 173 rfl) rfl
theorem q1973 : (Jvm.Cond.instanceMethod ({ cls := "LiarsCockModel", name := "offer", desc := "(II)I" } : Jvm.MethodName)) ∈ lw_all := lw_g (lw_at lw_m8 175 rfl) rfl
theorem q1974 : (Jvm.Cond.selects "LiarsCockModel" ({ cls := "LiarsCockModel", name := "offer", desc := "(II)I" } : Jvm.MethodName) ({ cls := "LiarsCockModel", name := "offer", desc := "(II)I" } : Jvm.MethodName)) ∈ lw_all := lw_g (lw_at lw_m8 176 rfl) rfl
theorem q1975 : (Jvm.Cond.code ({ cls := "LiarsCockModel", name := "offer", desc := "(II)I" } : Jvm.MethodName) prog_28_method_43_code (4 : Nat) (Option.some Jvm.ClassFile.FieldType.int)) ∈ lw_all := lw_g (lw_at lw_m8 177 rfl) rfl
theorem q1977 : (Jvm.Cond.instanceMethod ({ cls := "LiarsCockModel", name := "truth", desc := "(I)Z" } : Jvm.MethodName)) ∈ lw_all := lw_g (lw_at lw_m8 179 rfl) rfl
theorem q1978 : (Jvm.Cond.selects "LiarsCockModel" ({ cls := "LiarsCockModel", name := "truth", desc := "(I)Z" } : Jvm.MethodName) ({ cls := "LiarsCockModel", name := "truth", desc := "(I)Z" } : Jvm.MethodName)) ∈ lw_all := lw_g (lw_at lw_m8 180 rfl) rfl
theorem q1979 : (Jvm.Cond.code ({ cls := "LiarsCockModel", name := "truth", desc := "(I)Z" } : Jvm.MethodName) prog_28_method_44_code (2 : Nat) (Option.some Jvm.ClassFile.FieldType.boolean)) ∈ lw_all := lw_g (lw_at lw_m8 181 rfl) rfl
theorem q1980 : (Jvm.Cond.methodLink "LiarsCockModel" (347 : Nat) ({ cls := "LiarsCockModel", name := "isWorld", desc := "(I)Z" } : Jvm.MethodName)) ∈ lw_all := lw_g (lw_at lw_m8 182 rfl) rfl
theorem q1981 : (Jvm.Cond.privateMethod ({ cls := "LiarsCockModel", name := "isWorld", desc := "(I)Z" } : Jvm.MethodName)) ∈ lw_tbl := lw_at lw_m8 183 rfl
theorem q1982 : (Jvm.Cond.instanceMethod ({ cls := "LiarsCockModel", name := "isWorld", desc := "(I)Z" } : Jvm.MethodName)) ∈ lw_all := lw_g (lw_at lw_m8 184 rfl) rfl
theorem q1983 : (Jvm.Cond.code ({ cls := "LiarsCockModel", name := "isWorld", desc := "(I)Z" } : Jvm.MethodName) prog_28_method_38_code (2 : Nat) (Option.some Jvm.ClassFile.FieldType.boolean)) ∈ lw_all := lw_g (lw_at lw_m8 185 rfl) rfl
theorem q1985 : (Jvm.Cond.instanceMethod ({ cls := "LiarsCockModel", name := "lie", desc := "(II)I" } : Jvm.MethodName)) ∈ lw_all := lw_g (lw_at lw_m8 187 rfl) rfl
theorem q1986 : (Jvm.Cond.selects "LiarsCockModel" ({ cls := "LiarsCockModel", name := "lie", desc := "(II)I" } : Jvm.MethodName) ({ cls := "LiarsCockModel", name := "lie", desc := "(II)I" } : Jvm.MethodName)) ∈ lw_all := lw_g (lw_at lw_m8 188 rfl) rfl
theorem q1987 : (Jvm.Cond.code ({ cls := "LiarsCockModel", name := "lie", desc := "(II)I" } : Jvm.MethodName) prog_28_method_47_code (3 : Nat) (Option.some Jvm.ClassFile.FieldType.int)) ∈ lw_all := lw_g (lw_at lw_m8 189 rfl) rfl
theorem q1988 : (Jvm.Cond.methodLink "LiarsCockModel" (350 : Nat) ({ cls := "LiarsCockModel", name := "isIn", desc := "(JI)Z" } : Jvm.MethodName)) ∈ lw_all := lw_g (lw_at lw_m8 190 rfl) rfl
theorem q1989 : (Jvm.Cond.static ({ cls := "LiarsCockModel", name := "isIn", desc := "(JI)Z" } : Jvm.MethodName)) ∈ lw_all := lw_g (lw_at lw_m8 191 rfl) rfl
theorem q1990 : (Jvm.Cond.code ({ cls := "LiarsCockModel", name := "isIn", desc := "(JI)Z" } : Jvm.MethodName) prog_28_method_5_code (3 : Nat) (Option.some Jvm.ClassFile.FieldType.boolean)) ∈ lw_all := lw_g (lw_at lw_m8 192 rfl) rfl
theorem q1991 : (Jvm.Cond.methodLink "LiarsCockModel" (358 : Nat) ({ cls := "LiarsCockModel", name := "isLie", desc := "(III)Z" } : Jvm.MethodName)) ∈ lw_all := lw_g (lw_at lw_m8 193 rfl) rfl
theorem q1992 : (Jvm.Cond.privateMethod ({ cls := "LiarsCockModel", name := "isLie", desc := "(III)Z" } : Jvm.MethodName)) ∈ lw_tbl := lw_at lw_m8 194 rfl
theorem q1993 : (Jvm.Cond.instanceMethod ({ cls := "LiarsCockModel", name := "isLie", desc := "(III)Z" } : Jvm.MethodName)) ∈ lw_all := lw_g (lw_at lw_m8 195 rfl) rfl
theorem q1994 : (Jvm.Cond.code ({ cls := "LiarsCockModel", name := "isLie", desc := "(III)Z" } : Jvm.MethodName) prog_28_method_46_code (4 : Nat) (Option.some Jvm.ClassFile.FieldType.boolean)) ∈ lw_all := lw_g (lw_at lw_m8 196 rfl) rfl
theorem q1995 : (Jvm.Cond.methodLink "LiarsCockModel" (354 : Nat) ({ cls := "LiarsCockModel", name := "likeFor", desc := "(II)J" } : Jvm.MethodName)) ∈ lw_all := lw_g (lw_at lw_m8 197 rfl) rfl
theorem q1996 : (Jvm.Cond.privateMethod ({ cls := "LiarsCockModel", name := "likeFor", desc := "(II)J" } : Jvm.MethodName)) ∈ lw_tbl := lw_at lw_m8 198 rfl
theorem q1997 : (Jvm.Cond.instanceMethod ({ cls := "LiarsCockModel", name := "likeFor", desc := "(II)J" } : Jvm.MethodName)) ∈ lw_all := lw_g (lw_at lw_m8 199 rfl) rfl
theorem q1998 : (Jvm.Cond.code ({ cls := "LiarsCockModel", name := "likeFor", desc := "(II)J" } : Jvm.MethodName) prog_28_method_45_code (6 : Nat) (Option.some Jvm.ClassFile.FieldType.long)) ∈ lw_all := lw_g (lw_at lw_m8 200 rfl) rfl
theorem q2000 : (Jvm.Cond.instanceMethod ({ cls := "LiarsCockModel", name := "points", desc := "(III)I" } : Jvm.MethodName)) ∈ lw_all := lw_g (lw_at lw_m8 202 rfl) rfl
theorem q2001 : (Jvm.Cond.selects "LiarsCockModel" ({ cls := "LiarsCockModel", name := "points", desc := "(III)I" } : Jvm.MethodName) ({ cls := "LiarsCockModel", name := "points", desc := "(III)I" } : Jvm.MethodName)) ∈ lw_all := lw_g (lw_at lw_m8 203 rfl) rfl
theorem q2002 : (Jvm.Cond.code ({ cls := "LiarsCockModel", name := "points", desc := "(III)I" } : Jvm.MethodName) prog_28_method_52_code (4 : Nat) (Option.some Jvm.ClassFile.FieldType.int)) ∈ lw_all := lw_g (lw_at lw_m8 204 rfl) rfl
theorem q2003 : (Jvm.Cond.methodLink "LiarsCockModel" (371 : Nat) ({ cls := "LiarsCockModel", name := "isThere", desc := "(I)Z" } : Jvm.MethodName)) ∈ lw_all := lw_g (lw_at lw_m8 205 rfl) rfl
theorem q2004 : (Jvm.Cond.privateMethod ({ cls := "LiarsCockModel", name := "isThere", desc := "(I)Z" } : Jvm.MethodName)) ∈ lw_tbl := lw_at lw_m8 206 rfl
theorem q2005 : (Jvm.Cond.instanceMethod ({ cls := "LiarsCockModel", name := "isThere", desc := "(I)Z" } : Jvm.MethodName)) ∈ lw_all := lw_g (lw_at lw_m8 207 rfl) rfl
theorem q2006 : (Jvm.Cond.code ({ cls := "LiarsCockModel", name := "isThere", desc := "(I)Z" } : Jvm.MethodName) prog_28_method_39_code (2 : Nat) (Option.some Jvm.ClassFile.FieldType.boolean)) ∈ lw_all := lw_g (lw_at lw_m8 208 rfl) rfl
theorem q2007 : (Jvm.Cond.methodLink "LiarsCockModel" (374 : Nat) ({ cls := "LiarsCockModel", name := "rows", desc := "(I)V" } : Jvm.MethodName)) ∈ lw_all := lw_g (lw_at lw_m8 209 rfl) rfl
theorem q2008 : (Jvm.Cond.privateMethod ({ cls := "LiarsCockModel", name := "rows", desc := "(I)V" } : Jvm.MethodName)) ∈ lw_tbl := lw_at lw_m8 210 rfl
theorem q2009 : (Jvm.Cond.instanceMethod ({ cls := "LiarsCockModel", name := "rows", desc := "(I)V" } : Jvm.MethodName)) ∈ lw_all := lw_g (lw_at lw_m8 211 rfl) rfl
theorem q2010 : (Jvm.Cond.code ({ cls := "LiarsCockModel", name := "rows", desc := "(I)V" } : Jvm.MethodName) prog_28_method_49_code (4 : Nat) (Option.none : Option Jvm.ClassFile.FieldType)) ∈ lw_all := lw_g (lw_at lw_m8 212 rfl) rfl
theorem q2011 : (Jvm.Cond.methodLink "LiarsCockModel" (365 : Nat) ({ cls := "LiarsCockModel", name := "liesOf", desc := "(I)V" } : Jvm.MethodName)) ∈ lw_all := lw_g (lw_at lw_m8 213 rfl) rfl
theorem q2012 : (Jvm.Cond.privateMethod ({ cls := "LiarsCockModel", name := "liesOf", desc := "(I)V" } : Jvm.MethodName)) ∈ lw_tbl := lw_at lw_m8 214 rfl
theorem q2013 : (Jvm.Cond.instanceMethod ({ cls := "LiarsCockModel", name := "liesOf", desc := "(I)V" } : Jvm.MethodName)) ∈ lw_all := lw_g (lw_at lw_m8 215 rfl) rfl
theorem q2014 : (Jvm.Cond.code ({ cls := "LiarsCockModel", name := "liesOf", desc := "(I)V" } : Jvm.MethodName) prog_28_method_48_code (4 : Nat) (Option.none : Option Jvm.ClassFile.FieldType)) ∈ lw_all := lw_g (lw_at lw_m8 216 rfl) rfl
theorem q2015 : (Jvm.Cond.methodLink "LiarsCockModel" (368 : Nat) ({ cls := "LiarsCockModel", name := "pointsTo", desc := "(III)I" } : Jvm.MethodName)) ∈ lw_all := lw_g (lw_at lw_m8 217 rfl) rfl
theorem q2016 : (Jvm.Cond.privateMethod ({ cls := "LiarsCockModel", name := "pointsTo", desc := "(III)I" } : Jvm.MethodName)) ∈ lw_tbl := lw_at lw_m8 218 rfl
theorem q2017 : (Jvm.Cond.instanceMethod ({ cls := "LiarsCockModel", name := "pointsTo", desc := "(III)I" } : Jvm.MethodName)) ∈ lw_all := lw_g (lw_at lw_m8 219 rfl) rfl
theorem q2018 : (Jvm.Cond.code ({ cls := "LiarsCockModel", name := "pointsTo", desc := "(III)I" } : Jvm.MethodName) prog_28_method_50_code (5 : Nat) (Option.some Jvm.ClassFile.FieldType.int)) ∈ lw_all := lw_g (lw_at lw_m8 220 rfl) rfl
theorem q2020 : (Jvm.Cond.instanceMethod ({ cls := "LiarsCockModel", name := "look", desc := "(IIII)I" } : Jvm.MethodName)) ∈ lw_all := lw_g (lw_at lw_m8 222 rfl) rfl
theorem q2021 : (Jvm.Cond.selects "LiarsCockModel" ({ cls := "LiarsCockModel", name := "look", desc := "(IIII)I" } : Jvm.MethodName) ({ cls := "LiarsCockModel", name := "look", desc := "(IIII)I" } : Jvm.MethodName)) ∈ lw_all := lw_g (lw_at lw_m8 223 rfl) rfl
theorem q2022 : (Jvm.Cond.code ({ cls := "LiarsCockModel", name := "look", desc := "(IIII)I" } : Jvm.MethodName) prog_28_method_55_code (5 : Nat) (Option.some Jvm.ClassFile.FieldType.int)) ∈ lw_all := lw_g (lw_at lw_m8 224 rfl) rfl
theorem q2023 : (Jvm.Cond.methodLink "LiarsCockModel" (377 : Nat) ({ cls := "LiarsCockModel", name := "isBearing", desc := "(I)Z" } : Jvm.MethodName)) ∈ lw_all := lw_g (lw_at lw_m8 225 rfl) rfl
theorem q2024 : (Jvm.Cond.static ({ cls := "LiarsCockModel", name := "isBearing", desc := "(I)Z" } : Jvm.MethodName)) ∈ lw_all := lw_g (lw_at lw_m8 226 rfl) rfl
theorem q2025 : (Jvm.Cond.code ({ cls := "LiarsCockModel", name := "isBearing", desc := "(I)Z" } : Jvm.MethodName) prog_28_method_53_code (1 : Nat) (Option.some Jvm.ClassFile.FieldType.boolean)) ∈ lw_all := lw_g (lw_at lw_m8 227 rfl) rfl
theorem q2027 : (Jvm.Cond.instanceMethod ({ cls := "LiarsCockModel", name := "world", desc := "(I)I" } : Jvm.MethodName)) ∈ lw_all := lw_g (lw_at lw_m8 229 rfl) rfl
theorem q2028 : (Jvm.Cond.selects "LiarsCockModel" ({ cls := "LiarsCockModel", name := "world", desc := "(I)I" } : Jvm.MethodName) ({ cls := "LiarsCockModel", name := "world", desc := "(I)I" } : Jvm.MethodName)) ∈ lw_all := lw_g (lw_at lw_m8 230 rfl) rfl
theorem q2029 : (Jvm.Cond.code ({ cls := "LiarsCockModel", name := "world", desc := "(I)I" } : Jvm.MethodName) prog_28_method_58_code (2 : Nat) (Option.some Jvm.ClassFile.FieldType.int)) ∈ lw_all := lw_g (lw_at lw_m8 231 rfl) rfl
theorem q2030 : (Jvm.Cond.methodLink "LiarsCockModel" (390 : Nat) ({ cls := "LiarsCockModel", name := "canBe", desc := "()J" } : Jvm.MethodName)) ∈ lw_all := lw_g (lw_at lw_m8 232 rfl) rfl
theorem q2031 : (Jvm.Cond.privateMethod ({ cls := "LiarsCockModel", name := "canBe", desc := "()J" } : Jvm.MethodName)) ∈ lw_tbl := lw_at lw_m8 233 rfl
theorem q2032 : (Jvm.Cond.instanceMethod ({ cls := "LiarsCockModel", name := "canBe", desc := "()J" } : Jvm.MethodName)) ∈ lw_all := lw_g (lw_at lw_m8 234 rfl) rfl
theorem q2033 : (Jvm.Cond.code ({ cls := "LiarsCockModel", name := "canBe", desc := "()J" } : Jvm.MethodName) prog_28_method_57_code (5 : Nat) (Option.some Jvm.ClassFile.FieldType.long)) ∈ lw_all := lw_g (lw_at lw_m8 235 rfl) rfl
theorem q2034 : (Jvm.Cond.methodLink "LiarsCockModel" (386 : Nat) ({ cls := "LiarsCockModel", name := "fitsIn", desc := "(II)Z" } : Jvm.MethodName)) ∈ lw_all := lw_g (lw_at lw_m8 236 rfl) rfl
theorem q2035 : (Jvm.Cond.privateMethod ({ cls := "LiarsCockModel", name := "fitsIn", desc := "(II)Z" } : Jvm.MethodName)) ∈ lw_tbl := lw_at lw_m8 237 rfl
theorem q2036 : (Jvm.Cond.instanceMethod ({ cls := "LiarsCockModel", name := "fitsIn", desc := "(II)Z" } : Jvm.MethodName)) ∈ lw_all := lw_g (lw_at lw_m8 238 rfl) rfl
theorem q2037 : (Jvm.Cond.code ({ cls := "LiarsCockModel", name := "fitsIn", desc := "(II)Z" } : Jvm.MethodName) prog_28_method_56_code (3 : Nat) (Option.some Jvm.ClassFile.FieldType.boolean)) ∈ lw_all := lw_g (lw_at lw_m8 239 rfl) rfl
theorem q2038 : (Jvm.Cond.methodLink "LiarsCockModel" (380 : Nat) ({ cls := "LiarsCockModel", name := "bearingAt", desc := "(III)I" } : Jvm.MethodName)) ∈ lw_all := lw_g (lw_at lw_m9 0 rfl) rfl
theorem q2039 : (Jvm.Cond.privateMethod ({ cls := "LiarsCockModel", name := "bearingAt", desc := "(III)I" } : Jvm.MethodName)) ∈ lw_tbl := lw_at lw_m9 1 rfl
theorem q2040 : (Jvm.Cond.instanceMethod ({ cls := "LiarsCockModel", name := "bearingAt", desc := "(III)I" } : Jvm.MethodName)) ∈ lw_all := lw_g (lw_at lw_m9 2 rfl) rfl
theorem q2041 : (Jvm.Cond.code ({ cls := "LiarsCockModel", name := "bearingAt", desc := "(III)I" } : Jvm.MethodName) prog_28_method_51_code (5 : Nat) (Option.some Jvm.ClassFile.FieldType.int)) ∈ lw_all := lw_g (lw_at lw_m9 3 rfl) rfl
theorem q2042 : (Jvm.Cond.methodLink "LiarsCockModel" (383 : Nat) ({ cls := "LiarsCockModel", name := "isWithin", desc := "(III)Z" } : Jvm.MethodName)) ∈ lw_all := lw_g (lw_at lw_m9 4 rfl) rfl
theorem q2043 : (Jvm.Cond.static ({ cls := "LiarsCockModel", name := "isWithin", desc := "(III)Z" } : Jvm.MethodName)) ∈ lw_all := lw_g (lw_at lw_m9 5 rfl) rfl
theorem q2044 : (Jvm.Cond.code ({ cls := "LiarsCockModel", name := "isWithin", desc := "(III)Z" } : Jvm.MethodName) prog_28_method_54_code (3 : Nat) (Option.some Jvm.ClassFile.FieldType.boolean)) ∈ lw_all := lw_g (lw_at lw_m9 6 rfl) rfl
theorem q2046 : (Jvm.Cond.instanceMethod ({ cls := "LiarsCockModel", name := "worlds", desc := "(I)I" } : Jvm.MethodName)) ∈ lw_all := lw_g (lw_at lw_m9 8 rfl) rfl
theorem q2047 : (Jvm.Cond.selects "LiarsCockModel" ({ cls := "LiarsCockModel", name := "worlds", desc := "(I)I" } : Jvm.MethodName) ({ cls := "LiarsCockModel", name := "worlds", desc := "(I)I" } : Jvm.MethodName)) ∈ lw_all := lw_g (lw_at lw_m9 9 rfl) rfl
theorem q2048 : (Jvm.Cond.code ({ cls := "LiarsCockModel", name := "worlds", desc := "(I)I" } : Jvm.MethodName) prog_28_method_60_code (4 : Nat) (Option.some Jvm.ClassFile.FieldType.int)) ∈ lw_all := lw_g (lw_at lw_m9 10 rfl) rfl
theorem q2049 : (Jvm.Cond.methodLink "LiarsCockModel" (393 : Nat) ({ cls := "LiarsCockModel", name := "isFact", desc := "(I)Z" } : Jvm.MethodName)) ∈ lw_all := lw_g (lw_at lw_m9 11 rfl) rfl
theorem q2050 : (Jvm.Cond.privateMethod ({ cls := "LiarsCockModel", name := "isFact", desc := "(I)Z" } : Jvm.MethodName)) ∈ lw_tbl := lw_at lw_m9 12 rfl
theorem q2051 : (Jvm.Cond.instanceMethod ({ cls := "LiarsCockModel", name := "isFact", desc := "(I)Z" } : Jvm.MethodName)) ∈ lw_all := lw_g (lw_at lw_m9 13 rfl) rfl
theorem q2052 : (Jvm.Cond.code ({ cls := "LiarsCockModel", name := "isFact", desc := "(I)Z" } : Jvm.MethodName) prog_28_method_37_code (2 : Nat) (Option.some Jvm.ClassFile.FieldType.boolean)) ∈ lw_all := lw_g (lw_at lw_m9 14 rfl) rfl
theorem q2053 : (Jvm.Cond.methodLink "LiarsCockModel" (396 : Nat) ({ cls := "LiarsCockModel", name := "factSet", desc := "(I)J" } : Jvm.MethodName)) ∈ lw_all := lw_g (lw_at lw_m9 15 rfl) rfl
theorem q2054 : (Jvm.Cond.privateMethod ({ cls := "LiarsCockModel", name := "factSet", desc := "(I)J" } : Jvm.MethodName)) ∈ lw_tbl := lw_at lw_m9 16 rfl
theorem q2055 : (Jvm.Cond.instanceMethod ({ cls := "LiarsCockModel", name := "factSet", desc := "(I)J" } : Jvm.MethodName)) ∈ lw_all := lw_g (lw_at lw_m9 17 rfl) rfl
theorem q2056 : (Jvm.Cond.code ({ cls := "LiarsCockModel", name := "factSet", desc := "(I)J" } : Jvm.MethodName) prog_28_method_59_code (5 : Nat) (Option.some Jvm.ClassFile.FieldType.long)) ∈ lw_all := lw_g (lw_at lw_m9 18 rfl) rfl
theorem q2057 : (Jvm.Cond.methodLink "LiarsCockModel" (399 : Nat) ({ cls := "LiarsCockModel", name := "bits", desc := "(J)I" } : Jvm.MethodName)) ∈ lw_all := lw_g (lw_at lw_m9 19 rfl) rfl
theorem q2058 : (Jvm.Cond.static ({ cls := "LiarsCockModel", name := "bits", desc := "(J)I" } : Jvm.MethodName)) ∈ lw_all := lw_g (lw_at lw_m9 20 rfl) rfl
theorem q2059 : (Jvm.Cond.code ({ cls := "LiarsCockModel", name := "bits", desc := "(J)I" } : Jvm.MethodName) prog_28_method_4_code (4 : Nat) (Option.some Jvm.ClassFile.FieldType.int)) ∈ lw_all := lw_g (lw_at lw_m9 21 rfl) rfl
theorem q2061 : (Jvm.Cond.instanceMethod ({ cls := "LiarsCockModel", name := "sureFact", desc := "(I)I" } : Jvm.MethodName)) ∈ lw_all := lw_g (lw_at lw_m9 23 rfl) rfl
theorem q2062 : (Jvm.Cond.selects "LiarsCockModel" ({ cls := "LiarsCockModel", name := "sureFact", desc := "(I)I" } : Jvm.MethodName) ({ cls := "LiarsCockModel", name := "sureFact", desc := "(I)I" } : Jvm.MethodName)) ∈ lw_all := lw_g (lw_at lw_m9 24 rfl) rfl
theorem q2063 : (Jvm.Cond.code ({ cls := "LiarsCockModel", name := "sureFact", desc := "(I)I" } : Jvm.MethodName) prog_28_method_62_code (2 : Nat) (Option.some Jvm.ClassFile.FieldType.int)) ∈ lw_all := lw_g (lw_at lw_m9 25 rfl) rfl
theorem q2064 : (Jvm.Cond.methodLink "LiarsCockModel" (403 : Nat) ({ cls := "LiarsCockModel", name := "sureOf", desc := "(JJ)I" } : Jvm.MethodName)) ∈ lw_all := lw_g (lw_at lw_m9 26 rfl) rfl
theorem q2065 : (Jvm.Cond.static ({ cls := "LiarsCockModel", name := "sureOf", desc := "(JJ)I" } : Jvm.MethodName)) ∈ lw_all := lw_g (lw_at lw_m9 27 rfl) rfl
theorem q2066 : (Jvm.Cond.code ({ cls := "LiarsCockModel", name := "sureOf", desc := "(JJ)I" } : Jvm.MethodName) prog_28_method_61_code (4 : Nat) (Option.some Jvm.ClassFile.FieldType.int)) ∈ lw_all := lw_g (lw_at lw_m9 28 rfl) rfl
theorem q2068 : (Jvm.Cond.instanceMethod ({ cls := "LiarsCockModel", name := "sure", desc := "(I)I" } : Jvm.MethodName)) ∈ lw_all := lw_g (lw_at lw_m9 30 rfl) rfl
theorem q2069 : (Jvm.Cond.selects "LiarsCockModel" ({ cls := "LiarsCockModel", name := "sure", desc := "(I)I" } : Jvm.MethodName) ({ cls := "LiarsCockModel", name := "sure", desc := "(I)I" } : Jvm.MethodName)) ∈ lw_all := lw_g (lw_at lw_m9 31 rfl) rfl
theorem q2070 : (Jvm.Cond.code ({ cls := "LiarsCockModel", name := "sure", desc := "(I)I" } : Jvm.MethodName) prog_28_method_63_code (2 : Nat) (Option.some Jvm.ClassFile.FieldType.int)) ∈ lw_all := lw_g (lw_at lw_m9 32 rfl) rfl
theorem q2072 : (Jvm.Cond.instanceMethod ({ cls := "LiarsCockModel", name := "odds", desc := "(II)J" } : Jvm.MethodName)) ∈ lw_all := lw_g (lw_at lw_m9 34 rfl) rfl
theorem q2073 : (Jvm.Cond.selects "LiarsCockModel" ({ cls := "LiarsCockModel", name := "odds", desc := "(II)J" } : Jvm.MethodName) ({ cls := "LiarsCockModel", name := "odds", desc := "(II)J" } : Jvm.MethodName)) ∈ lw_all := lw_g (lw_at lw_m9 35 rfl) rfl
theorem q2074 : (Jvm.Cond.code ({ cls := "LiarsCockModel", name := "odds", desc := "(II)J" } : Jvm.MethodName) prog_28_method_65_code (10 : Nat) (Option.some Jvm.ClassFile.FieldType.long)) ∈ lw_all := lw_g (lw_at lw_m9 36 rfl) rfl
theorem q2075 : (Jvm.Cond.methodLink "LiarsCockModel" (407 : Nat) ({ cls := "LiarsCockModel", name := "within", desc := "(III)Z" } : Jvm.MethodName)) ∈ lw_all := lw_g (lw_at lw_m9 37 rfl) rfl
theorem q2076 : (Jvm.Cond.static ({ cls := "LiarsCockModel", name := "within", desc := "(III)Z" } : Jvm.MethodName)) ∈ lw_all := lw_g (lw_at lw_m9 38 rfl) rfl
theorem q2077 : (Jvm.Cond.code ({ cls := "LiarsCockModel", name := "within", desc := "(III)Z" } : Jvm.MethodName) prog_28_method_3_code (3 : Nat) (Option.some Jvm.ClassFile.FieldType.boolean)) ∈ lw_all := lw_g (lw_at lw_m9 39 rfl) rfl
theorem q2078 : (Jvm.Cond.methodLink "LiarsCockModel" (410 : Nat) ({ cls := "LiarsCockModel", name := "weight", desc := "(I)J" } : Jvm.MethodName)) ∈ lw_all := lw_g (lw_at lw_m9 40 rfl) rfl
theorem q2079 : (Jvm.Cond.privateMethod ({ cls := "LiarsCockModel", name := "weight", desc := "(I)J" } : Jvm.MethodName)) ∈ lw_tbl := lw_at lw_m9 41 rfl
theorem q2080 : (Jvm.Cond.instanceMethod ({ cls := "LiarsCockModel", name := "weight", desc := "(I)J" } : Jvm.MethodName)) ∈ lw_all := lw_g (lw_at lw_m9 42 rfl) rfl
theorem q2081 : (Jvm.Cond.code ({ cls := "LiarsCockModel", name := "weight", desc := "(I)J" } : Jvm.MethodName) prog_28_method_64_code (5 : Nat) (Option.some Jvm.ClassFile.FieldType.long)) ∈ lw_all := lw_g (lw_at lw_m9 43 rfl) rfl
theorem q2082 : (Jvm.Cond.methodLink "LiarsCockModel" (413 : Nat) ({ cls := "LiarsCockModel", name := "lowest", desc := "(JJI)J" } : Jvm.MethodName)) ∈ lw_all := lw_g (lw_at lw_m9 44 rfl) rfl
theorem q2083 : (Jvm.Cond.static ({ cls := "LiarsCockModel", name := "lowest", desc := "(JJI)J" } : Jvm.MethodName)) ∈ lw_all := lw_g (lw_at lw_m9 45 rfl) rfl
theorem q2084 : (Jvm.Cond.code ({ cls := "LiarsCockModel", name := "lowest", desc := "(JJI)J" } : Jvm.MethodName) prog_28_method_6_code (11 : Nat) (Option.some Jvm.ClassFile.FieldType.long)) ∈ lw_all := lw_g (lw_at lw_m9 46 rfl) rfl
theorem q2086 : (Jvm.Cond.instanceMethod ({ cls := "LiarsCockModel", name := "proof", desc := "(II)I" } : Jvm.MethodName)) ∈ lw_all := lw_g (lw_at lw_m9 48 rfl) rfl
theorem q2087 : (Jvm.Cond.selects "LiarsCockModel" ({ cls := "LiarsCockModel", name := "proof", desc := "(II)I" } : Jvm.MethodName) ({ cls := "LiarsCockModel", name := "proof", desc := "(II)I" } : Jvm.MethodName)) ∈ lw_all := lw_g (lw_at lw_m9 49 rfl) rfl
theorem q2088 : (Jvm.Cond.code ({ cls := "LiarsCockModel", name := "proof", desc := "(II)I" } : Jvm.MethodName) prog_28_method_67_code (6 : Nat) (Option.some Jvm.ClassFile.FieldType.int)) ∈ lw_all := lw_g (lw_at lw_m9 50 rfl) rfl
theorem q2089 : (Jvm.Cond.methodLink "LiarsCockModel" (417 : Nat) ({ cls := "LiarsCockModel", name := "withLooks", desc := "(I)J" } : Jvm.MethodName)) ∈ lw_all := lw_g (lw_at lw_m9 51 rfl) rfl
theorem q2090 : (Jvm.Cond.privateMethod ({ cls := "LiarsCockModel", name := "withLooks", desc := "(I)J" } : Jvm.MethodName)) ∈ lw_tbl := lw_at lw_m9 52 rfl
theorem q2091 : (Jvm.Cond.instanceMethod ({ cls := "LiarsCockModel", name := "withLooks", desc := "(I)J" } : Jvm.MethodName)) ∈ lw_all := lw_g (lw_at lw_m9 53 rfl) rfl
theorem q2092 : (Jvm.Cond.code ({ cls := "LiarsCockModel", name := "withLooks", desc := "(I)J" } : Jvm.MethodName) prog_28_method_66_code (5 : Nat) (Option.some Jvm.ClassFile.FieldType.long)) ∈ lw_all := lw_g (lw_at lw_m9 54 rfl) rfl
theorem q2094 : (Jvm.Cond.instanceMethod ({ cls := "LiarsCockModel", name := "clash", desc := "(I)I" } : Jvm.MethodName)) ∈ lw_all := lw_g (lw_at lw_m9 56 rfl) rfl
theorem q2095 : (Jvm.Cond.selects "LiarsCockModel" ({ cls := "LiarsCockModel", name := "clash", desc := "(I)I" } : Jvm.MethodName) ({ cls := "LiarsCockModel", name := "clash", desc := "(I)I" } : Jvm.MethodName)) ∈ lw_all := lw_g (lw_at lw_m9 57 rfl) rfl
theorem q2096 : (Jvm.Cond.code ({ cls := "LiarsCockModel", name := "clash", desc := "(I)I" } : Jvm.MethodName) prog_28_method_68_code (4 : Nat) (Option.some Jvm.ClassFile.FieldType.int)) ∈ lw_all := lw_g (lw_at lw_m9 58 rfl) rfl
theorem q2098 : (Jvm.Cond.instanceMethod ({ cls := "LiarsCockModel", name := "next", desc := "(IIII)I" } : Jvm.MethodName)) ∈ lw_all := lw_g (lw_at lw_m9 60 rfl) rfl
theorem q2099 : (Jvm.Cond.selects "LiarsCockModel" ({ cls := "LiarsCockModel", name := "next", desc := "(IIII)I" } : Jvm.MethodName) ({ cls := "LiarsCockModel", name := "next", desc := "(IIII)I" } : Jvm.MethodName)) ∈ lw_all := lw_g (lw_at lw_m9 61 rfl) rfl
theorem q2100 : (Jvm.Cond.code ({ cls := "LiarsCockModel", name := "next", desc := "(IIII)I" } : Jvm.MethodName) prog_28_method_72_code (11 : Nat) (Option.some Jvm.ClassFile.FieldType.int)) ∈ lw_all := lw_g (lw_at lw_m9 62 rfl) rfl
theorem q2101 : (Jvm.Cond.methodLink "LiarsCockModel" (426 : Nat) ({ cls := "LiarsCockModel", name := "isSpan", desc := "(III)Z" } : Jvm.MethodName)) ∈ lw_all := lw_g (lw_at lw_m9 63 rfl) rfl
theorem q2102 : (Jvm.Cond.privateMethod ({ cls := "LiarsCockModel", name := "isSpan", desc := "(III)Z" } : Jvm.MethodName)) ∈ lw_tbl := lw_at lw_m9 64 rfl
theorem q2103 : (Jvm.Cond.instanceMethod ({ cls := "LiarsCockModel", name := "isSpan", desc := "(III)Z" } : Jvm.MethodName)) ∈ lw_all := lw_g (lw_at lw_m9 65 rfl) rfl
theorem q2104 : (Jvm.Cond.code ({ cls := "LiarsCockModel", name := "isSpan", desc := "(III)Z" } : Jvm.MethodName) prog_28_method_70_code (4 : Nat) (Option.some Jvm.ClassFile.FieldType.boolean)) ∈ lw_all := lw_g (lw_at lw_m9 66 rfl) rfl
theorem q2105 : (Jvm.Cond.methodLink "LiarsCockModel" (429 : Nat) ({ cls := "LiarsCockModel", name := "isAsBefore", desc := "(III)Z" } : Jvm.MethodName)) ∈ lw_all := lw_g (lw_at lw_m9 67 rfl) rfl
theorem q2106 : (Jvm.Cond.privateMethod ({ cls := "LiarsCockModel", name := "isAsBefore", desc := "(III)Z" } : Jvm.MethodName)) ∈ lw_tbl := lw_at lw_m9 68 rfl
theorem q2107 : (Jvm.Cond.instanceMethod ({ cls := "LiarsCockModel", name := "isAsBefore", desc := "(III)Z" } : Jvm.MethodName)) ∈ lw_all := lw_g (lw_at lw_m9 69 rfl) rfl
theorem q2108 : (Jvm.Cond.code ({ cls := "LiarsCockModel", name := "isAsBefore", desc := "(III)Z" } : Jvm.MethodName) prog_28_method_71_code (5 : Nat) (Option.some Jvm.ClassFile.FieldType.boolean)) ∈ lw_all := lw_g (lw_at lw_m9 70 rfl) rfl
theorem q2109 : (Jvm.Cond.methodLink "LiarsCockModel" (432 : Nat) ({ cls := "LiarsCockModel", name := "classes", desc := "(IIJZ)I" } : Jvm.MethodName)) ∈ lw_all := lw_g (lw_at lw_m9 71 rfl) rfl
theorem q2110 : (Jvm.Cond.privateMethod ({ cls := "LiarsCockModel", name := "classes", desc := "(IIJZ)I" } : Jvm.MethodName)) ∈ lw_tbl := lw_at lw_m9 72 rfl
theorem q2111 : (Jvm.Cond.instanceMethod ({ cls := "LiarsCockModel", name := "classes", desc := "(IIJZ)I" } : Jvm.MethodName)) ∈ lw_all := lw_g (lw_at lw_m9 73 rfl) rfl
theorem q2112 : (Jvm.Cond.code ({ cls := "LiarsCockModel", name := "classes", desc := "(IIJZ)I" } : Jvm.MethodName) prog_28_method_69_code (10 : Nat) (Option.some Jvm.ClassFile.FieldType.int)) ∈ lw_all := lw_g (lw_at lw_m9 74 rfl) rfl
theorem q2113 : (Jvm.Cond.methodLink "LiarsCockModel" (420 : Nat) ({ cls := "java/lang/Math", name := "max", desc := "(II)I" } : Jvm.MethodName)) ∈ lw_all := lw_g (lw_at lw_m9 75 rfl) rfl
theorem q2115 : (Jvm.Cond.instanceMethod ({ cls := "LiarsCockModel", name := "fog", desc := "(IIII)I" } : Jvm.MethodName)) ∈ lw_all := lw_g (lw_at lw_m9 77 rfl) rfl
theorem q2116 : (Jvm.Cond.selects "LiarsCockModel" ({ cls := "LiarsCockModel", name := "fog", desc := "(IIII)I" } : Jvm.MethodName) ({ cls := "LiarsCockModel", name := "fog", desc := "(IIII)I" } : Jvm.MethodName)) ∈ lw_all := lw_g (lw_at lw_m9 78 rfl) rfl
theorem q2117 : (Jvm.Cond.code ({ cls := "LiarsCockModel", name := "fog", desc := "(IIII)I" } : Jvm.MethodName) prog_28_method_73_code (11 : Nat) (Option.some Jvm.ClassFile.FieldType.int)) ∈ lw_all := lw_g (lw_at lw_m9 79 rfl) rfl
theorem q2119 : (Jvm.Cond.instanceMethod ({ cls := "LiarsCockModel", name := "learns", desc := "(IIZII)I" } : Jvm.MethodName)) ∈ lw_all := lw_g (lw_at lw_m9 81 rfl) rfl
theorem q2120 : (Jvm.Cond.selects "LiarsCockModel" ({ cls := "LiarsCockModel", name := "learns", desc := "(IIZII)I" } : Jvm.MethodName) ({ cls := "LiarsCockModel", name := "learns", desc := "(IIZII)I" } : Jvm.MethodName)) ∈ lw_all := lw_g (lw_at lw_m9 82 rfl) rfl
theorem q2121 : (Jvm.Cond.code ({ cls := "LiarsCockModel", name := "learns", desc := "(IIZII)I" } : Jvm.MethodName) prog_28_method_74_code (11 : Nat) (Option.some Jvm.ClassFile.FieldType.int)) ∈ lw_all := lw_g (lw_at lw_m9 83 rfl) rfl
theorem q2123 : (Jvm.Cond.instanceMethod ({ cls := "LiarsCockModel", name := "judged", desc := "()I" } : Jvm.MethodName)) ∈ lw_all := lw_g (lw_at lw_m9 85 rfl) rfl
theorem q2124 : (Jvm.Cond.selects "LiarsCockModel" ({ cls := "LiarsCockModel", name := "judged", desc := "()I" } : Jvm.MethodName) ({ cls := "LiarsCockModel", name := "judged", desc := "()I" } : Jvm.MethodName)) ∈ lw_all := lw_g (lw_at lw_m9 86 rfl) rfl
theorem q2125 : (Jvm.Cond.code ({ cls := "LiarsCockModel", name := "judged", desc := "()I" } : Jvm.MethodName) prog_28_method_75_code (2 : Nat) (Option.some Jvm.ClassFile.FieldType.int)) ∈ lw_all := lw_g (lw_at lw_m9 87 rfl) rfl
theorem q2127 : (Jvm.Cond.instanceMethod ({ cls := "LiarsCockModel", name := "turned", desc := "(II)I" } : Jvm.MethodName)) ∈ lw_all := lw_g (lw_at lw_m9 89 rfl) rfl
theorem q2128 : (Jvm.Cond.selects "LiarsCockModel" ({ cls := "LiarsCockModel", name := "turned", desc := "(II)I" } : Jvm.MethodName) ({ cls := "LiarsCockModel", name := "turned", desc := "(II)I" } : Jvm.MethodName)) ∈ lw_all := lw_g (lw_at lw_m9 90 rfl) rfl
theorem q2129 : (Jvm.Cond.code ({ cls := "LiarsCockModel", name := "turned", desc := "(II)I" } : Jvm.MethodName) prog_28_method_76_code (7 : Nat) (Option.some Jvm.ClassFile.FieldType.int)) ∈ lw_all := lw_g (lw_at lw_m9 91 rfl) rfl
theorem q2131 : (Jvm.Cond.instanceMethod ({ cls := "LiarsCockModel", name := "pointed", desc := "(IIII)I" } : Jvm.MethodName)) ∈ lw_all := lw_g (lw_at lw_m9 93 rfl) rfl
theorem q2132 : (Jvm.Cond.selects "LiarsCockModel" ({ cls := "LiarsCockModel", name := "pointed", desc := "(IIII)I" } : Jvm.MethodName) ({ cls := "LiarsCockModel", name := "pointed", desc := "(IIII)I" } : Jvm.MethodName)) ∈ lw_all := lw_g (lw_at lw_m9 94 rfl) rfl
theorem q2133 : (Jvm.Cond.code ({ cls := "LiarsCockModel", name := "pointed", desc := "(IIII)I" } : Jvm.MethodName) prog_28_method_77_code (7 : Nat) (Option.some Jvm.ClassFile.FieldType.int)) ∈ lw_all := lw_g (lw_at lw_m9 95 rfl) rfl
theorem q2135 : (Jvm.Cond.instanceMethod ({ cls := "LiarsCockModel", name := "round", desc := "(II)I" } : Jvm.MethodName)) ∈ lw_all := lw_g (lw_at lw_m9 97 rfl) rfl
theorem q2136 : (Jvm.Cond.selects "LiarsCockModel" ({ cls := "LiarsCockModel", name := "round", desc := "(II)I" } : Jvm.MethodName) ({ cls := "LiarsCockModel", name := "round", desc := "(II)I" } : Jvm.MethodName)) ∈ lw_all := lw_g (lw_at lw_m9 98 rfl) rfl
theorem q2137 : (Jvm.Cond.code ({ cls := "LiarsCockModel", name := "round", desc := "(II)I" } : Jvm.MethodName) prog_28_method_79_code (7 : Nat) (Option.some Jvm.ClassFile.FieldType.int)) ∈ lw_all := lw_g (lw_at lw_m9 99 rfl) rfl
theorem q2138 : (Jvm.Cond.methodLink "LiarsCockModel" (439 : Nat) ({ cls := "LiarsCockModel", name := "apart", desc := "(II)I" } : Jvm.MethodName)) ∈ lw_all := lw_g (lw_at lw_m9 100 rfl) rfl
theorem q2139 : (Jvm.Cond.static ({ cls := "LiarsCockModel", name := "apart", desc := "(II)I" } : Jvm.MethodName)) ∈ lw_all := lw_g (lw_at lw_m9 101 rfl) rfl
theorem q2140 : (Jvm.Cond.code ({ cls := "LiarsCockModel", name := "apart", desc := "(II)I" } : Jvm.MethodName) prog_28_method_78_code (3 : Nat) (Option.some Jvm.ClassFile.FieldType.int)) ∈ lw_all := lw_g (lw_at lw_m9 102 rfl) rfl
theorem q2141 : (Jvm.Cond.methodLink "LiarsCockModel" (436 : Nat) ({ cls := "java/lang/Math", name := "min", desc := "(II)I" } : Jvm.MethodName)) ∈ lw_all := lw_g (lw_at lw_m9 103 rfl) rfl
theorem q2143 : (Jvm.Cond.instanceMethod ({ cls := "LiarsCockModel", name := "watch", desc := "(II)I" } : Jvm.MethodName)) ∈ lw_all := lw_g (lw_at lw_m9 105 rfl) rfl
theorem q2144 : (Jvm.Cond.selects "LiarsCockModel" ({ cls := "LiarsCockModel", name := "watch", desc := "(II)I" } : Jvm.MethodName) ({ cls := "LiarsCockModel", name := "watch", desc := "(II)I" } : Jvm.MethodName)) ∈ lw_all := lw_g (lw_at lw_m9 106 rfl) rfl
theorem q2145 : (Jvm.Cond.code ({ cls := "LiarsCockModel", name := "watch", desc := "(II)I" } : Jvm.MethodName) prog_28_method_80_code (3 : Nat) (Option.some Jvm.ClassFile.FieldType.int)) ∈ lw_all := lw_g (lw_at lw_m9 107 rfl) rfl
theorem q2147 : (Jvm.Cond.instanceMethod ({ cls := "LiarsCockModel", name := "hidden", desc := "(II)I" } : Jvm.MethodName)) ∈ lw_all := lw_g (lw_at lw_m9 109 rfl) rfl
theorem q2148 : (Jvm.Cond.selects "LiarsCockModel" ({ cls := "LiarsCockModel", name := "hidden", desc := "(II)I" } : Jvm.MethodName) ({ cls := "LiarsCockModel", name := "hidden", desc := "(II)I" } : Jvm.MethodName)) ∈ lw_all := lw_g (lw_at lw_m9 110 rfl) rfl
theorem q2149 : (Jvm.Cond.code ({ cls := "LiarsCockModel", name := "hidden", desc := "(II)I" } : Jvm.MethodName) prog_28_method_83_code (3 : Nat) (Option.some Jvm.ClassFile.FieldType.int)) ∈ lw_all := lw_g (lw_at lw_m9 111 rfl) rfl
theorem q2150 : (Jvm.Cond.methodLink "LiarsCockModel" (442 : Nat) ({ cls := "LiarsCockModel", name := "isToldLie", desc := "(II)Z" } : Jvm.MethodName)) ∈ lw_all := lw_g (lw_at lw_m9 112 rfl) rfl
theorem q2151 : (Jvm.Cond.privateMethod ({ cls := "LiarsCockModel", name := "isToldLie", desc := "(II)Z" } : Jvm.MethodName)) ∈ lw_tbl := lw_at lw_m9 113 rfl
theorem q2152 : (Jvm.Cond.instanceMethod ({ cls := "LiarsCockModel", name := "isToldLie", desc := "(II)Z" } : Jvm.MethodName)) ∈ lw_all := lw_g (lw_at lw_m9 114 rfl) rfl
theorem q2153 : (Jvm.Cond.code ({ cls := "LiarsCockModel", name := "isToldLie", desc := "(II)Z" } : Jvm.MethodName) prog_28_method_82_code (3 : Nat) (Option.some Jvm.ClassFile.FieldType.boolean)) ∈ lw_all := lw_g (lw_at lw_m9 115 rfl) rfl
theorem q2154 : (Jvm.Cond.methodLink "LiarsCockModel" (445 : Nat) ({ cls := "LiarsCockModel", name := "isHidden", desc := "(II)Z" } : Jvm.MethodName)) ∈ lw_all := lw_g (lw_at lw_m9 116 rfl) rfl
theorem q2155 : (Jvm.Cond.privateMethod ({ cls := "LiarsCockModel", name := "isHidden", desc := "(II)Z" } : Jvm.MethodName)) ∈ lw_tbl := lw_at lw_m9 117 rfl
theorem q2156 : (Jvm.Cond.instanceMethod ({ cls := "LiarsCockModel", name := "isHidden", desc := "(II)Z" } : Jvm.MethodName)) ∈ lw_all := lw_g (lw_at lw_m9 118 rfl) rfl
theorem q2157 : (Jvm.Cond.code ({ cls := "LiarsCockModel", name := "isHidden", desc := "(II)Z" } : Jvm.MethodName) prog_28_method_81_code (7 : Nat) (Option.some Jvm.ClassFile.FieldType.boolean)) ∈ lw_all := lw_g (lw_at lw_m9 119 rfl) rfl
theorem q2159 : (Jvm.Cond.instanceMethod ({ cls := "LiarsCockModel", name := "hide", desc := "(II)I" } : Jvm.MethodName)) ∈ lw_all := lw_g (lw_at lw_m9 121 rfl) rfl
theorem q2160 : (Jvm.Cond.selects "LiarsCockModel" ({ cls := "LiarsCockModel", name := "hide", desc := "(II)I" } : Jvm.MethodName) ({ cls := "LiarsCockModel", name := "hide", desc := "(II)I" } : Jvm.MethodName)) ∈ lw_all := lw_g (lw_at lw_m9 122 rfl) rfl
theorem q2161 : (Jvm.Cond.code ({ cls := "LiarsCockModel", name := "hide", desc := "(II)I" } : Jvm.MethodName) prog_28_method_84_code (5 : Nat) (Option.some Jvm.ClassFile.FieldType.int)) ∈ lw_all := lw_g (lw_at lw_m9 123 rfl) rfl
theorem q2163 : (Jvm.Cond.instanceMethod ({ cls := "LiarsCockModel", name := "secret", desc := "(IIIII)J" } : Jvm.MethodName)) ∈ lw_all := lw_g (lw_at lw_m9 125 rfl) rfl
theorem q2164 : (Jvm.Cond.selects "LiarsCockModel" ({ cls := "LiarsCockModel", name := "secret", desc := "(IIIII)J" } : Jvm.MethodName) ({ cls := "LiarsCockModel", name := "secret", desc := "(IIIII)J" } : Jvm.MethodName)) ∈ lw_all := lw_g (lw_at lw_m9 126 rfl) rfl
theorem q2165 : (Jvm.Cond.code ({ cls := "LiarsCockModel", name := "secret", desc := "(IIIII)J" } : Jvm.MethodName) prog_28_method_85_code (11 : Nat) (Option.some Jvm.ClassFile.FieldType.long)) ∈ lw_all := lw_g (lw_at lw_m9 127 rfl) rfl
theorem q2166 : (Jvm.Cond.constantLong "LiarsCockModel" (448 : Nat) (10 : Int64)) ∈ lw_all := lw_g (lw_at lw_m9 128 rfl) rfl
theorem q2168 : (Jvm.Cond.instanceMethod ({ cls := "LiarsCockModel", name := "sector", desc := "(II)I" } : Jvm.MethodName)) ∈ lw_all := lw_g (lw_at lw_m9 130 rfl) rfl
theorem q2169 : (Jvm.Cond.selects "LiarsCockModel" ({ cls := "LiarsCockModel", name := "sector", desc := "(II)I" } : Jvm.MethodName) ({ cls := "LiarsCockModel", name := "sector", desc := "(II)I" } : Jvm.MethodName)) ∈ lw_all := lw_g (lw_at lw_m9 131 rfl) rfl
theorem q2170 : (Jvm.Cond.code ({ cls := "LiarsCockModel", name := "sector", desc := "(II)I" } : Jvm.MethodName) prog_28_method_86_code (5 : Nat) (Option.some Jvm.ClassFile.FieldType.int)) ∈ lw_all := lw_g (lw_at lw_m9 132 rfl) rfl
theorem q2172 : (Jvm.Cond.instanceMethod ({ cls := "LiarsCockModel", name := "blind", desc := "(II)I" } : Jvm.MethodName)) ∈ lw_all := lw_g (lw_at lw_m9 134 rfl) rfl
theorem q2173 : (Jvm.Cond.selects "LiarsCockModel" ({ cls := "LiarsCockModel", name := "blind", desc := "(II)I" } : Jvm.MethodName) ({ cls := "LiarsCockModel", name := "blind", desc := "(II)I" } : Jvm.MethodName)) ∈ lw_all := lw_g (lw_at lw_m9 135 rfl) rfl
theorem q2174 : (Jvm.Cond.code ({ cls := "LiarsCockModel", name := "blind", desc := "(II)I" } : Jvm.MethodName) prog_28_method_87_code (10 : Nat) (Option.some Jvm.ClassFile.FieldType.int)) ∈ lw_all := lw_g (lw_at lw_m9 136 rfl) rfl
theorem q2176 : (Jvm.Cond.instanceMethod ({ cls := "LiarsCockModel", name := "told", desc := "(I)I" } : Jvm.MethodName)) ∈ lw_all := lw_g (lw_at lw_m9 138 rfl) rfl
theorem q2177 : (Jvm.Cond.selects "LiarsCockModel" ({ cls := "LiarsCockModel", name := "told", desc := "(I)I" } : Jvm.MethodName) ({ cls := "LiarsCockModel", name := "told", desc := "(I)I" } : Jvm.MethodName)) ∈ lw_all := lw_g (lw_at lw_m9 139 rfl) rfl
theorem q2178 : (Jvm.Cond.code ({ cls := "LiarsCockModel", name := "told", desc := "(I)I" } : Jvm.MethodName) prog_28_method_89_code (2 : Nat) (Option.some Jvm.ClassFile.FieldType.int)) ∈ lw_all := lw_g (lw_at lw_m9 140 rfl) rfl
theorem q2179 : (Jvm.Cond.methodLink "LiarsCockModel" (450 : Nat) ({ cls := "LiarsCockModel", name := "toldBy", desc := "(I)I" } : Jvm.MethodName)) ∈ lw_all := lw_g (lw_at lw_m9 141 rfl) rfl
theorem q2180 : (Jvm.Cond.privateMethod ({ cls := "LiarsCockModel", name := "toldBy", desc := "(I)I" } : Jvm.MethodName)) ∈ lw_tbl := lw_at lw_m9 142 rfl
theorem q2181 : (Jvm.Cond.instanceMethod ({ cls := "LiarsCockModel", name := "toldBy", desc := "(I)I" } : Jvm.MethodName)) ∈ lw_all := lw_g (lw_at lw_m9 143 rfl) rfl
theorem q2182 : (Jvm.Cond.code ({ cls := "LiarsCockModel", name := "toldBy", desc := "(I)I" } : Jvm.MethodName) prog_28_method_88_code (7 : Nat) (Option.some Jvm.ClassFile.FieldType.int)) ∈ lw_all := lw_g (lw_at lw_m9 144 rfl) rfl
theorem q2184 : (Jvm.Cond.instanceMethod ({ cls := "LiarsCockModel", name := "fewest", desc := "(II)I" } : Jvm.MethodName)) ∈ lw_all := lw_g (lw_at lw_m9 146 rfl) rfl
theorem q2185 : (Jvm.Cond.selects "LiarsCockModel" ({ cls := "LiarsCockModel", name := "fewest", desc := "(II)I" } : Jvm.MethodName) ({ cls := "LiarsCockModel", name := "fewest", desc := "(II)I" } : Jvm.MethodName)) ∈ lw_all := lw_g (lw_at lw_m9 147 rfl) rfl
theorem q2186 : (Jvm.Cond.code ({ cls := "LiarsCockModel", name := "fewest", desc := "(II)I" } : Jvm.MethodName) prog_28_method_90_code (5 : Nat) (Option.some Jvm.ClassFile.FieldType.int)) ∈ lw_all := lw_g (lw_at lw_m9 148 rfl) rfl
theorem q2188 : (Jvm.Cond.instanceMethod ({ cls := "LiarsCockModel", name := "person", desc := "(II)I" } : Jvm.MethodName)) ∈ lw_all := lw_g (lw_at lw_m9 150 rfl) rfl
theorem q2189 : (Jvm.Cond.selects "LiarsCockModel" ({ cls := "LiarsCockModel", name := "person", desc := "(II)I" } : Jvm.MethodName) ({ cls := "LiarsCockModel", name := "person", desc := "(II)I" } : Jvm.MethodName)) ∈ lw_all := lw_g (lw_at lw_m9 151 rfl) rfl
theorem q2190 : (Jvm.Cond.code ({ cls := "LiarsCockModel", name := "person", desc := "(II)I" } : Jvm.MethodName) prog_28_method_91_code (3 : Nat) (Option.some Jvm.ClassFile.FieldType.int)) ∈ lw_all := lw_g (lw_at lw_m9 152 rfl) rfl
theorem q2192 : (Jvm.Cond.instanceMethod ({ cls := "LiarsCockModel", name := "lookout", desc := "(III)I" } : Jvm.MethodName)) ∈ lw_all := lw_g (lw_at lw_m9 154 rfl) rfl
theorem q2193 : (Jvm.Cond.selects "LiarsCockModel" ({ cls := "LiarsCockModel", name := "lookout", desc := "(III)I" } : Jvm.MethodName) ({ cls := "LiarsCockModel", name := "lookout", desc := "(III)I" } : Jvm.MethodName)) ∈ lw_all := lw_g (lw_at lw_m9 155 rfl) rfl
theorem q2194 : (Jvm.Cond.code ({ cls := "LiarsCockModel", name := "lookout", desc := "(III)I" } : Jvm.MethodName) prog_28_method_96_code (7 : Nat) (Option.some Jvm.ClassFile.FieldType.int)) ∈ lw_all := lw_g (lw_at lw_m9 156 rfl) rfl
theorem q2195 : (Jvm.Cond.methodLink "LiarsCockModel" (467 : Nat) ({ cls := "LiarsCockModel", name := "turnsOut", desc := "(IJ)V" } : Jvm.MethodName)) ∈ lw_all := lw_g (lw_at lw_m9 157 rfl) rfl
theorem q2196 : (Jvm.Cond.privateMethod ({ cls := "LiarsCockModel", name := "turnsOut", desc := "(IJ)V" } : Jvm.MethodName)) ∈ lw_tbl := lw_at lw_m9 158 rfl
theorem q2197 : (Jvm.Cond.instanceMethod ({ cls := "LiarsCockModel", name := "turnsOut", desc := "(IJ)V" } : Jvm.MethodName)) ∈ lw_all := lw_g (lw_at lw_m9 159 rfl) rfl
theorem q2198 : (Jvm.Cond.code ({ cls := "LiarsCockModel", name := "turnsOut", desc := "(IJ)V" } : Jvm.MethodName) prog_28_method_93_code (7 : Nat) (Option.none : Option Jvm.ClassFile.FieldType)) ∈ lw_all := lw_g (lw_at lw_m9 160 rfl) rfl
theorem q2199 : (Jvm.Cond.methodLink "LiarsCockModel" (456 : Nat) ({ cls := "LiarsCockModel", name := "turnsIn", desc := "(IIJ)Z" } : Jvm.MethodName)) ∈ lw_all := lw_g (lw_at lw_m9 161 rfl) rfl
theorem q2200 : (Jvm.Cond.privateMethod ({ cls := "LiarsCockModel", name := "turnsIn", desc := "(IIJ)Z" } : Jvm.MethodName)) ∈ lw_tbl := lw_at lw_m9 162 rfl
theorem q2201 : (Jvm.Cond.instanceMethod ({ cls := "LiarsCockModel", name := "turnsIn", desc := "(IIJ)Z" } : Jvm.MethodName)) ∈ lw_all := lw_g (lw_at lw_m9 163 rfl) rfl
theorem q2202 : (Jvm.Cond.code ({ cls := "LiarsCockModel", name := "turnsIn", desc := "(IIJ)Z" } : Jvm.MethodName) prog_28_method_92_code (6 : Nat) (Option.some Jvm.ClassFile.FieldType.boolean)) ∈ lw_all := lw_g (lw_at lw_m9 164 rfl) rfl
theorem q2203 : (Jvm.Cond.methodLink "LiarsCockModel" (463 : Nat) ({ cls := "LiarsCockModel", name := "finds", desc := "(IIIJ)Z" } : Jvm.MethodName)) ∈ lw_all := lw_g (lw_at lw_m9 165 rfl) rfl
theorem q2204 : (Jvm.Cond.privateMethod ({ cls := "LiarsCockModel", name := "finds", desc := "(IIIJ)Z" } : Jvm.MethodName)) ∈ lw_tbl := lw_at lw_m9 166 rfl
theorem q2205 : (Jvm.Cond.instanceMethod ({ cls := "LiarsCockModel", name := "finds", desc := "(IIIJ)Z" } : Jvm.MethodName)) ∈ lw_all := lw_g (lw_at lw_m9 167 rfl) rfl
theorem q2206 : (Jvm.Cond.code ({ cls := "LiarsCockModel", name := "finds", desc := "(IIIJ)Z" } : Jvm.MethodName) prog_28_method_95_code (7 : Nat) (Option.some Jvm.ClassFile.FieldType.boolean)) ∈ lw_all := lw_g (lw_at lw_m9 168 rfl) rfl
theorem q2207 : (Jvm.Cond.methodLink "LiarsCockModel" (460 : Nat) ({ cls := "LiarsCockModel", name := "tells", desc := "(IIJ)Z" } : Jvm.MethodName)) ∈ lw_all := lw_g (lw_at lw_m9 169 rfl) rfl
theorem q2208 : (Jvm.Cond.privateMethod ({ cls := "LiarsCockModel", name := "tells", desc := "(IIJ)Z" } : Jvm.MethodName)) ∈ lw_tbl := lw_at lw_m9 170 rfl
theorem q2209 : (Jvm.Cond.instanceMethod ({ cls := "LiarsCockModel", name := "tells", desc := "(IIJ)Z" } : Jvm.MethodName)) ∈ lw_all := lw_g (lw_at lw_m9 171 rfl) rfl
theorem q2210 : (Jvm.Cond.code ({ cls := "LiarsCockModel", name := "tells", desc := "(IIJ)Z" } : Jvm.MethodName) prog_28_method_94_code (9 : Nat) (Option.some Jvm.ClassFile.FieldType.boolean)) ∈ lw_all := lw_g (lw_at lw_m9 172 rfl) rfl
theorem q2212 : (Jvm.Cond.instanceMethod ({ cls := "LiarsCockModel", name := "move", desc := "(II)I" } : Jvm.MethodName)) ∈ lw_all := lw_g (lw_at lw_m9 174 rfl) rfl
theorem q2213 : (Jvm.Cond.selects "LiarsCockModel" ({ cls := "LiarsCockModel", name := "move", desc := "(II)I" } : Jvm.MethodName) ({ cls := "LiarsCockModel", name := "move", desc := "(II)I" } : Jvm.MethodName)) ∈ lw_all := lw_g (lw_at lw_m9 175 rfl) rfl
theorem q2214 : (Jvm.Cond.code ({ cls := "LiarsCockModel", name := "move", desc := "(II)I" } : Jvm.MethodName) prog_28_method_97_code (5 : Nat) (Option.some Jvm.ClassFile.FieldType.int)) ∈ lw_all := lw_g (lw_at lw_m9 176 rfl) rfl
theorem q2216 : (Jvm.Cond.instanceMethod ({ cls := "LiarsCockModel", name := "longest", desc := "(IIII)I" } : Jvm.MethodName)) ∈ lw_all := lw_g (lw_at lw_m9 178 rfl) rfl
theorem q2217 : (Jvm.Cond.selects "LiarsCockModel" ({ cls := "LiarsCockModel", name := "longest", desc := "(IIII)I" } : Jvm.MethodName) ({ cls := "LiarsCockModel", name := "longest", desc := "(IIII)I" } : Jvm.MethodName)) ∈ lw_all := lw_g (lw_at lw_m9 179 rfl) rfl
theorem q2218 : (Jvm.Cond.code ({ cls := "LiarsCockModel", name := "longest", desc := "(IIII)I" } : Jvm.MethodName) prog_28_method_98_code (11 : Nat) (Option.some Jvm.ClassFile.FieldType.int)) ∈ lw_all := lw_g (lw_at lw_m9 180 rfl) rfl
theorem q2220 : (Jvm.Cond.instanceMethod ({ cls := "LiarsCockModel", name := "differ", desc := "(II)I" } : Jvm.MethodName)) ∈ lw_all := lw_g (lw_at lw_m9 182 rfl) rfl
theorem q2221 : (Jvm.Cond.selects "LiarsCockModel" ({ cls := "LiarsCockModel", name := "differ", desc := "(II)I" } : Jvm.MethodName) ({ cls := "LiarsCockModel", name := "differ", desc := "(II)I" } : Jvm.MethodName)) ∈ lw_all := lw_g (lw_at lw_m9 183 rfl) rfl
theorem q2222 : (Jvm.Cond.code ({ cls := "LiarsCockModel", name := "differ", desc := "(II)I" } : Jvm.MethodName) prog_28_method_99_code (5 : Nat) (Option.some Jvm.ClassFile.FieldType.int)) ∈ lw_all := lw_g (lw_at lw_m9 184 rfl) rfl
theorem q2224 : (Jvm.Cond.instanceMethod ({ cls := "LiarsCockModel", name := "mark", desc := "(IZ)Z" } : Jvm.MethodName)) ∈ lw_all := lw_g (lw_at lw_m9 186 rfl) rfl
theorem q2225 : (Jvm.Cond.selects "LiarsCockModel" ({ cls := "LiarsCockModel", name := "mark", desc := "(IZ)Z" } : Jvm.MethodName) ({ cls := "LiarsCockModel", name := "mark", desc := "(IZ)Z" } : Jvm.MethodName)) ∈ lw_all := lw_g (lw_at lw_m9 187 rfl) rfl
theorem q2226 : (Jvm.Cond.code ({ cls := "LiarsCockModel", name := "mark", desc := "(IZ)Z" } : Jvm.MethodName) prog_28_method_103_code (4 : Nat) (Option.some Jvm.ClassFile.FieldType.boolean)) ∈ lw_all := lw_g (lw_at lw_m9 188 rfl) rfl
theorem q2227 : (Jvm.Cond.methodLink "LiarsCockModel" (478 : Nat) ({ cls := "LiarsCockModel", name := "keepsRow", desc := "([IIZ)V" } : Jvm.MethodName)) ∈ lw_all := lw_g (lw_at lw_m9 189 rfl) rfl
theorem q2228 : (Jvm.Cond.privateMethod ({ cls := "LiarsCockModel", name := "keepsRow", desc := "([IIZ)V" } : Jvm.MethodName)) ∈ lw_tbl := lw_at lw_m9 190 rfl
theorem q2229 : (Jvm.Cond.instanceMethod ({ cls := "LiarsCockModel", name := "keepsRow", desc := "([IIZ)V" } : Jvm.MethodName)) ∈ lw_all := lw_g (lw_at lw_m9 191 rfl) rfl
theorem q2230 : (Jvm.Cond.code ({ cls := "LiarsCockModel", name := "keepsRow", desc := "([IIZ)V" } : Jvm.MethodName) prog_28_method_101_code (5 : Nat) (Option.none : Option Jvm.ClassFile.FieldType)) ∈ lw_all := lw_g (lw_at lw_m9 192 rfl) rfl
theorem q2231 : (Jvm.Cond.methodLink "LiarsCockModel" (474 : Nat) ({ cls := "LiarsCockModel", name := "keeps", desc := "(IZ)I" } : Jvm.MethodName)) ∈ lw_all := lw_g (lw_at lw_m9 193 rfl) rfl
theorem q2232 : (Jvm.Cond.privateMethod ({ cls := "LiarsCockModel", name := "keeps", desc := "(IZ)I" } : Jvm.MethodName)) ∈ lw_tbl := lw_at lw_m9 194 rfl
theorem q2233 : (Jvm.Cond.instanceMethod ({ cls := "LiarsCockModel", name := "keeps", desc := "(IZ)I" } : Jvm.MethodName)) ∈ lw_all := lw_g (lw_at lw_m9 195 rfl) rfl
theorem q2234 : (Jvm.Cond.code ({ cls := "LiarsCockModel", name := "keeps", desc := "(IZ)I" } : Jvm.MethodName) prog_28_method_100_code (4 : Nat) (Option.some Jvm.ClassFile.FieldType.int)) ∈ lw_all := lw_g (lw_at lw_m9 196 rfl) rfl
theorem q2235 : (Jvm.Cond.methodLink "LiarsCockModel" (482 : Nat) ({ cls := "LiarsCockModel", name := "keepsLongs", desc := "([JIIZ)V" } : Jvm.MethodName)) ∈ lw_all := lw_g (lw_at lw_m9 197 rfl) rfl
theorem q2236 : (Jvm.Cond.privateMethod ({ cls := "LiarsCockModel", name := "keepsLongs", desc := "([JIIZ)V" } : Jvm.MethodName)) ∈ lw_tbl := lw_at lw_m9 198 rfl
theorem q2237 : (Jvm.Cond.instanceMethod ({ cls := "LiarsCockModel", name := "keepsLongs", desc := "([JIIZ)V" } : Jvm.MethodName)) ∈ lw_all := lw_g (lw_at lw_m9 199 rfl) rfl
theorem q2238 : (Jvm.Cond.code ({ cls := "LiarsCockModel", name := "keepsLongs", desc := "([JIIZ)V" } : Jvm.MethodName) prog_28_method_102_code (6 : Nat) (Option.none : Option Jvm.ClassFile.FieldType)) ∈ lw_all := lw_g (lw_at lw_m9 200 rfl) rfl
theorem q2240 : (Jvm.Cond.instanceMethod ({ cls := "LiarsCockModel", name := "count", desc := "(I)I" } : Jvm.MethodName)) ∈ lw_all := lw_g (lw_at lw_m9 202 rfl) rfl
theorem q2241 : (Jvm.Cond.selects "LiarsCockModel" ({ cls := "LiarsCockModel", name := "count", desc := "(I)I" } : Jvm.MethodName) ({ cls := "LiarsCockModel", name := "count", desc := "(I)I" } : Jvm.MethodName)) ∈ lw_all := lw_g (lw_at lw_m9 203 rfl) rfl
theorem q2242 : (Jvm.Cond.code ({ cls := "LiarsCockModel", name := "count", desc := "(I)I" } : Jvm.MethodName) prog_28_method_104_code (2 : Nat) (Option.some Jvm.ClassFile.FieldType.int)) ∈ lw_all := lw_g (lw_at lw_m9 204 rfl) rfl
theorem q2267 : (Jvm.Cond.castable "LiarsCockModel" "java/lang/Object") ∈ lw_tbl := lw_at lw_m9 229 rfl
theorem in_X9 : ∀ w ∈ wsX90, w ∈ lw_all := lw_in wsX90 [1683, 1685, 1687, 1689, 1691, 1693, 1695, 1697, 1699, 1701, 1703, 1705, 1707, 1709, 1711, 1713, 1715, 1717, 1719, 1721, 1723, 1725, 1727, 1729, 1731, 1733, 1735, 1737, 1739, 1741, 1743, 1745, 1747, 1749, 1751, 1753, 1755, 1757, 1759, 1761, 1763, 1765, 1767, 1769, 1771, 1773, 1775, 1777, 1779, 1781, 1783, 1785, 1787, 1789, 1791, 1793, 1795, 1797, 1799, 1801, 1803, 1805, 1807, 1809, 1811, 1813, 1815, 1817, 1819] (by decide +kernel) (by decide +kernel)
