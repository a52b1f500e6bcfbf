/-! LiarsCock -/
set_option maxRecDepth 100000
def RX1 : String := "LiarsCock"
def TX1 : u_T := fun k => match k with
  | 0 => ("LiarsCock", "reader", "LLiarsCock$Reader;", true)
  | 1 => ("LiarsCock", "parish", "LLiarsCock$Parish;", false)
  | 2 => ("LiarsCock", "truth", "I", false)
  | 3 => ("LiarsCock", "sayings", "Ljava/util/ArrayList;", true)
  | 4 => ("LiarsCock", "offers", "Ljava/util/ArrayList;", true)
  | 5 => ("LiarsCock", "looks", "Ljava/util/ArrayList;", true)
  | 6 => ("LiarsCock", "watches", "Ljava/util/ArrayList;", true)
  | 7 => ("LiarsCock", "sets", "LLiarsCock$Sets;", true)
  | 8 => ("LiarsCock", "bearings", "LLiarsCock$Bearings;", true)
  | 9 => ("LiarsCock", "lookout", "LLiarsCock$Lookout;", true)
  | _ => ("LiarsCock", "marks", "[LLiarsCock$Mark;", true)
def tyX1 : Nat → FieldType := fun k => match k with
  | 0 => .object "LiarsCock$Reader"
  | 1 => .object "LiarsCock$Parish"
  | 2 => .int
  | 3 => .object "java/util/ArrayList"
  | 4 => .object "java/util/ArrayList"
  | 5 => .object "java/util/ArrayList"
  | 6 => .object "java/util/ArrayList"
  | 7 => .object "LiarsCock$Sets"
  | 8 => .object "LiarsCock$Bearings"
  | 9 => .object "LiarsCock$Lookout"
  | _ => .array (.object "LiarsCock$Mark")
abbrev wsX10 : List Cond := u_ws RX1 TX1 11
theorem nmX1 : ∀ a, a < 11 → ∀ b, b < 11 → a ≠ b → (TX1 a).2.1 ≠ (TX1 b).2.1 := by decide +kernel
theorem tyX1_ok : ∀ k, k < 11 → parseFieldDescriptor (TX1 k).2.2.1 = some (tyX1 k) := by decide +kernel
abbrev cX1_init : ByteArray := prog_1_method_1_code
def yX1_init : MethodName := ⟨RX1, "<init>", "()V"⟩
def dkwX1_init_4 : List UInt8 := [187, 0, 56, 89, 42, 183, 0, 58, 181, 0, 59, 42, 7, 189, 0, 63, 181, 0, 65, 177]
abbrev dktX1_init_4 : List UInt8 := dkwX1_init_4 ++ []
def dkwX1_init_3 : List UInt8 := [187, 0, 40, 89, 42, 183, 0, 42, 181, 0, 45, 42, 187, 0, 49, 89, 42, 183, 0, 51, 181, 0, 52, 42]
abbrev dktX1_init_3 : List UInt8 := dkwX1_init_3 ++ dktX1_init_4
def dkwX1_init_2 : List UInt8 := [187, 0, 24, 89, 183, 0, 26, 181, 0, 34, 42, 187, 0, 24, 89, 183, 0, 26, 181, 0, 37, 42]
abbrev dktX1_init_2 : List UInt8 := dkwX1_init_2 ++ dktX1_init_3
def dkwX1_init_1 : List UInt8 := [187, 0, 24, 89, 183, 0, 26, 181, 0, 27, 42, 187, 0, 24, 89, 183, 0, 26, 181, 0, 31, 42]
abbrev dktX1_init_1 : List UInt8 := dkwX1_init_1 ++ dktX1_init_2
def dkwX1_init_0 : List UInt8 := [42, 183, 0, 1, 42, 187, 0, 7, 89, 183, 0, 9, 181, 0, 10, 42, 184, 0, 16, 181, 0, 20, 42]
abbrev dktX1_init_0 : List UInt8 := dkwX1_init_0 ++ dktX1_init_1
theorem dksX1_init_0 : cX1_init.data.toList.drop 0 = dktX1_init_0 := by decide +kernel
theorem dksX1_init_1 : cX1_init.data.toList.drop 23 = dktX1_init_1 := dk_seg dksX1_init_0 23 rfl rfl
theorem dksX1_init_2 : cX1_init.data.toList.drop 45 = dktX1_init_2 := dk_seg dksX1_init_1 22 rfl rfl
theorem dksX1_init_3 : cX1_init.data.toList.drop 67 = dktX1_init_3 := dk_seg dksX1_init_2 22 rfl rfl
theorem dksX1_init_4 : cX1_init.data.toList.drop 91 = dktX1_init_4 := dk_seg dksX1_init_3 24 rfl rfl
theorem dX1_init_0 : decode cX1_init 0 = .ok (.aload_n 0, 1) := dk_42 (dk_at dksX1_init_0 0 rfl rfl)
theorem dX1_init_1 : decode cX1_init 1 = .ok (.invokespecial 1, 3) := dk_183 0 1 (dk_at dksX1_init_0 1 rfl rfl)
theorem dX1_init_4 : decode cX1_init 4 = .ok (.aload_n 0, 1) := dk_42 (dk_at dksX1_init_0 4 rfl rfl)
theorem dX1_init_5 : decode cX1_init 5 = .ok (.new 7, 3) := dk_187 0 7 (dk_at dksX1_init_0 5 rfl rfl)
theorem dX1_init_8 : decode cX1_init 8 = .ok (.dup, 1) := dk_89 (dk_at dksX1_init_0 8 rfl rfl)
theorem dX1_init_9 : decode cX1_init 9 = .ok (.invokespecial 9, 3) := dk_183 0 9 (dk_at dksX1_init_0 9 rfl rfl)
theorem dX1_init_12 : decode cX1_init 12 = .ok (.putfield 10, 3) := dk_181 0 10 (dk_at dksX1_init_0 12 rfl rfl)
theorem dX1_init_15 : decode cX1_init 15 = .ok (.aload_n 0, 1) := dk_42 (dk_at dksX1_init_0 15 rfl rfl)
theorem dX1_init_16 : decode cX1_init 16 = .ok (.invokestatic 16, 3) := dk_184 0 16 (dk_at dksX1_init_0 16 rfl rfl)
theorem dX1_init_19 : decode cX1_init 19 = .ok (.putfield 20, 3) := dk_181 0 20 (dk_at dksX1_init_0 19 rfl rfl)
theorem dX1_init_22 : decode cX1_init 22 = .ok (.aload_n 0, 1) := dk_42 (dk_at dksX1_init_0 22 rfl rfl)
theorem dX1_init_23 : decode cX1_init 23 = .ok (.new 24, 3) := dk_187 0 24 (dk_at dksX1_init_1 0 rfl rfl)
theorem dX1_init_26 : decode cX1_init 26 = .ok (.dup, 1) := dk_89 (dk_at dksX1_init_1 3 rfl rfl)
theorem dX1_init_27 : decode cX1_init 27 = .ok (.invokespecial 26, 3) := dk_183 0 26 (dk_at dksX1_init_1 4 rfl rfl)
theorem dX1_init_30 : decode cX1_init 30 = .ok (.putfield 27, 3) := dk_181 0 27 (dk_at dksX1_init_1 7 rfl rfl)
theorem dX1_init_33 : decode cX1_init 33 = .ok (.aload_n 0, 1) := dk_42 (dk_at dksX1_init_1 10 rfl rfl)
theorem dX1_init_34 : decode cX1_init 34 = .ok (.new 24, 3) := dk_187 0 24 (dk_at dksX1_init_1 11 rfl rfl)
theorem dX1_init_37 : decode cX1_init 37 = .ok (.dup, 1) := dk_89 (dk_at dksX1_init_1 14 rfl rfl)
theorem dX1_init_38 : decode cX1_init 38 = .ok (.invokespecial 26, 3) := dk_183 0 26 (dk_at dksX1_init_1 15 rfl rfl)
theorem dX1_init_41 : decode cX1_init 41 = .ok (.putfield 31, 3) := dk_181 0 31 (dk_at dksX1_init_1 18 rfl rfl)
theorem dX1_init_44 : decode cX1_init 44 = .ok (.aload_n 0, 1) := dk_42 (dk_at dksX1_init_1 21 rfl rfl)
theorem dX1_init_45 : decode cX1_init 45 = .ok (.new 24, 3) := dk_187 0 24 (dk_at dksX1_init_2 0 rfl rfl)
theorem dX1_init_48 : decode cX1_init 48 = .ok (.dup, 1) := dk_89 (dk_at dksX1_init_2 3 rfl rfl)
theorem dX1_init_49 : decode cX1_init 49 = .ok (.invokespecial 26, 3) := dk_183 0 26 (dk_at dksX1_init_2 4 rfl rfl)
theorem dX1_init_52 : decode cX1_init 52 = .ok (.putfield 34, 3) := dk_181 0 34 (dk_at dksX1_init_2 7 rfl rfl)
theorem dX1_init_55 : decode cX1_init 55 = .ok (.aload_n 0, 1) := dk_42 (dk_at dksX1_init_2 10 rfl rfl)
theorem dX1_init_56 : decode cX1_init 56 = .ok (.new 24, 3) := dk_187 0 24 (dk_at dksX1_init_2 11 rfl rfl)
theorem dX1_init_59 : decode cX1_init 59 = .ok (.dup, 1) := dk_89 (dk_at dksX1_init_2 14 rfl rfl)
theorem dX1_init_60 : decode cX1_init 60 = .ok (.invokespecial 26, 3) := dk_183 0 26 (dk_at dksX1_init_2 15 rfl rfl)
theorem dX1_init_63 : decode cX1_init 63 = .ok (.putfield 37, 3) := dk_181 0 37 (dk_at dksX1_init_2 18 rfl rfl)
theorem dX1_init_66 : decode cX1_init 66 = .ok (.aload_n 0, 1) := dk_42 (dk_at dksX1_init_2 21 rfl rfl)
theorem dX1_init_67 : decode cX1_init 67 = .ok (.new 40, 3) := dk_187 0 40 (dk_at dksX1_init_3 0 rfl rfl)
theorem dX1_init_70 : decode cX1_init 70 = .ok (.dup, 1) := dk_89 (dk_at dksX1_init_3 3 rfl rfl)
theorem dX1_init_71 : decode cX1_init 71 = .ok (.aload_n 0, 1) := dk_42 (dk_at dksX1_init_3 4 rfl rfl)
theorem dX1_init_72 : decode cX1_init 72 = .ok (.invokespecial 42, 3) := dk_183 0 42 (dk_at dksX1_init_3 5 rfl rfl)
theorem dX1_init_75 : decode cX1_init 75 = .ok (.putfield 45, 3) := dk_181 0 45 (dk_at dksX1_init_3 8 rfl rfl)
theorem dX1_init_78 : decode cX1_init 78 = .ok (.aload_n 0, 1) := dk_42 (dk_at dksX1_init_3 11 rfl rfl)
theorem dX1_init_79 : decode cX1_init 79 = .ok (.new 49, 3) := dk_187 0 49 (dk_at dksX1_init_3 12 rfl rfl)
theorem dX1_init_82 : decode cX1_init 82 = .ok (.dup, 1) := dk_89 (dk_at dksX1_init_3 15 rfl rfl)
theorem dX1_init_83 : decode cX1_init 83 = .ok (.aload_n 0, 1) := dk_42 (dk_at dksX1_init_3 16 rfl rfl)
theorem dX1_init_84 : decode cX1_init 84 = .ok (.invokespecial 51, 3) := dk_183 0 51 (dk_at dksX1_init_3 17 rfl rfl)
theorem dX1_init_87 : decode cX1_init 87 = .ok (.putfield 52, 3) := dk_181 0 52 (dk_at dksX1_init_3 20 rfl rfl)
theorem dX1_init_90 : decode cX1_init 90 = .ok (.aload_n 0, 1) := dk_42 (dk_at dksX1_init_3 23 rfl rfl)
theorem dX1_init_91 : decode cX1_init 91 = .ok (.new 56, 3) := dk_187 0 56 (dk_at dksX1_init_4 0 rfl rfl)
theorem dX1_init_94 : decode cX1_init 94 = .ok (.dup, 1) := dk_89 (dk_at dksX1_init_4 3 rfl rfl)
theorem dX1_init_95 : decode cX1_init 95 = .ok (.aload_n 0, 1) := dk_42 (dk_at dksX1_init_4 4 rfl rfl)
theorem dX1_init_96 : decode cX1_init 96 = .ok (.invokespecial 58, 3) := dk_183 0 58 (dk_at dksX1_init_4 5 rfl rfl)
theorem dX1_init_99 : decode cX1_init 99 = .ok (.putfield 59, 3) := dk_181 0 59 (dk_at dksX1_init_4 8 rfl rfl)
theorem dX1_init_102 : decode cX1_init 102 = .ok (.aload_n 0, 1) := dk_42 (dk_at dksX1_init_4 11 rfl rfl)
theorem dX1_init_103 : decode cX1_init 103 = .ok (.iconst 4, 1) := dk_7 (dk_at dksX1_init_4 12 rfl rfl)
theorem dX1_init_104 : decode cX1_init 104 = .ok (.anewarray 63, 3) := dk_189 0 63 (dk_at dksX1_init_4 13 rfl rfl)
theorem dX1_init_107 : decode cX1_init 107 = .ok (.putfield 65, 3) := dk_181 0 65 (dk_at dksX1_init_4 16 rfl rfl)
theorem dX1_init_110 : decode cX1_init 110 = .ok (.return_, 1) := dk_177 (dk_at dksX1_init_4 19 rfl rfl)
abbrev cX1_none : ByteArray := prog_1_method_5_code
def yX1_none : MethodName := ⟨RX1, "none", "()LLiarsCock$Parish;"⟩
def dkwX1_none_1 : List UInt8 := [10, 181, 0, 81, 42, 176]
abbrev dktX1_none_1 : List UInt8 := dkwX1_none_1 ++ []
def dkwX1_none_0 : List UInt8 := [187, 0, 69, 89, 183, 0, 71, 75, 42, 180, 0, 72, 3, 187, 0, 76, 89, 3, 3, 183, 0, 78, 83, 42]
abbrev dktX1_none_0 : List UInt8 := dkwX1_none_0 ++ dktX1_none_1
theorem dksX1_none_0 : cX1_none.data.toList.drop 0 = dktX1_none_0 := by decide +kernel
theorem dksX1_none_1 : cX1_none.data.toList.drop 24 = dktX1_none_1 := dk_seg dksX1_none_0 24 rfl rfl
theorem dX1_none_0 : decode cX1_none 0 = .ok (.new 69, 3) := dk_187 0 69 (dk_at dksX1_none_0 0 rfl rfl)
theorem dX1_none_3 : decode cX1_none 3 = .ok (.dup, 1) := dk_89 (dk_at dksX1_none_0 3 rfl rfl)
theorem dX1_none_4 : decode cX1_none 4 = .ok (.invokespecial 71, 3) := dk_183 0 71 (dk_at dksX1_none_0 4 rfl rfl)
theorem dX1_none_7 : decode cX1_none 7 = .ok (.astore_n 0, 1) := dk_75 (dk_at dksX1_none_0 7 rfl rfl)
theorem dX1_none_8 : decode cX1_none 8 = .ok (.aload_n 0, 1) := dk_42 (dk_at dksX1_none_0 8 rfl rfl)
theorem dX1_none_9 : decode cX1_none 9 = .ok (.getfield 72, 3) := dk_180 0 72 (dk_at dksX1_none_0 9 rfl rfl)
theorem dX1_none_12 : decode cX1_none 12 = .ok (.iconst 0, 1) := dk_3 (dk_at dksX1_none_0 12 rfl rfl)
theorem dX1_none_13 : decode cX1_none 13 = .ok (.new 76, 3) := dk_187 0 76 (dk_at dksX1_none_0 13 rfl rfl)
theorem dX1_none_16 : decode cX1_none 16 = .ok (.dup, 1) := dk_89 (dk_at dksX1_none_0 16 rfl rfl)
theorem dX1_none_17 : decode cX1_none 17 = .ok (.iconst 0, 1) := dk_3 (dk_at dksX1_none_0 17 rfl rfl)
theorem dX1_none_18 : decode cX1_none 18 = .ok (.iconst 0, 1) := dk_3 (dk_at dksX1_none_0 18 rfl rfl)
theorem dX1_none_19 : decode cX1_none 19 = .ok (.invokespecial 78, 3) := dk_183 0 78 (dk_at dksX1_none_0 19 rfl rfl)
theorem dX1_none_22 : decode cX1_none 22 = .ok (.aastore, 1) := dk_83 (dk_at dksX1_none_0 22 rfl rfl)
theorem dX1_none_23 : decode cX1_none 23 = .ok (.aload_n 0, 1) := dk_42 (dk_at dksX1_none_0 23 rfl rfl)
theorem dX1_none_24 : decode cX1_none 24 = .ok (.lconst 1, 1) := dk_10 (dk_at dksX1_none_1 0 rfl rfl)
theorem dX1_none_25 : decode cX1_none 25 = .ok (.putfield 81, 3) := dk_181 0 81 (dk_at dksX1_none_1 1 rfl rfl)
theorem dX1_none_28 : decode cX1_none 28 = .ok (.aload_n 0, 1) := dk_42 (dk_at dksX1_none_1 4 rfl rfl)
theorem dX1_none_29 : decode cX1_none 29 = .ok (.areturn, 1) := dk_176 (dk_at dksX1_none_1 5 rfl rfl)
abbrev cX1_feed : ByteArray := prog_1_method_6_code
def yX1_feed : MethodName := ⟨RX1, "feed", "(JJJ)I"⟩
def dkwX1_feed_1 : List UInt8 := [182, 0, 85, 42, 180, 0, 10, 180, 0, 89, 172]
abbrev dktX1_feed_1 : List UInt8 := dkwX1_feed_1 ++ []
def dkwX1_feed_0 : List UInt8 := [42, 180, 0, 10, 31, 182, 0, 85, 42, 180, 0, 10, 33, 182, 0, 85, 42, 180, 0, 10, 22, 5]
abbrev dktX1_feed_0 : List UInt8 := dkwX1_feed_0 ++ dktX1_feed_1
theorem dksX1_feed_0 : cX1_feed.data.toList.drop 0 = dktX1_feed_0 := by decide +kernel
theorem dksX1_feed_1 : cX1_feed.data.toList.drop 22 = dktX1_feed_1 := dk_seg dksX1_feed_0 22 rfl rfl
theorem dX1_feed_0 : decode cX1_feed 0 = .ok (.aload_n 0, 1) := dk_42 (dk_at dksX1_feed_0 0 rfl rfl)
theorem dX1_feed_1 : decode cX1_feed 1 = .ok (.getfield 10, 3) := dk_180 0 10 (dk_at dksX1_feed_0 1 rfl rfl)
theorem dX1_feed_4 : decode cX1_feed 4 = .ok (.lload_n 1, 1) := dk_31 (dk_at dksX1_feed_0 4 rfl rfl)
theorem dX1_feed_5 : decode cX1_feed 5 = .ok (.invokevirtual 85, 3) := dk_182 0 85 (dk_at dksX1_feed_0 5 rfl rfl)
theorem dX1_feed_8 : decode cX1_feed 8 = .ok (.aload_n 0, 1) := dk_42 (dk_at dksX1_feed_0 8 rfl rfl)
theorem dX1_feed_9 : decode cX1_feed 9 = .ok (.getfield 10, 3) := dk_180 0 10 (dk_at dksX1_feed_0 9 rfl rfl)
theorem dX1_feed_12 : decode cX1_feed 12 = .ok (.lload_n 3, 1) := dk_33 (dk_at dksX1_feed_0 12 rfl rfl)
theorem dX1_feed_13 : decode cX1_feed 13 = .ok (.invokevirtual 85, 3) := dk_182 0 85 (dk_at dksX1_feed_0 13 rfl rfl)
theorem dX1_feed_16 : decode cX1_feed 16 = .ok (.aload_n 0, 1) := dk_42 (dk_at dksX1_feed_0 16 rfl rfl)
theorem dX1_feed_17 : decode cX1_feed 17 = .ok (.getfield 10, 3) := dk_180 0 10 (dk_at dksX1_feed_0 17 rfl rfl)
theorem dX1_feed_20 : decode cX1_feed 20 = .ok (.lload 5, 2) := dk_22 5 (dk_at dksX1_feed_0 20 rfl rfl)
theorem dX1_feed_22 : decode cX1_feed 22 = .ok (.invokevirtual 85, 3) := dk_182 0 85 (dk_at dksX1_feed_1 0 rfl rfl)
theorem dX1_feed_25 : decode cX1_feed 25 = .ok (.aload_n 0, 1) := dk_42 (dk_at dksX1_feed_1 3 rfl rfl)
theorem dX1_feed_26 : decode cX1_feed 26 = .ok (.getfield 10, 3) := dk_180 0 10 (dk_at dksX1_feed_1 4 rfl rfl)
theorem dX1_feed_29 : decode cX1_feed 29 = .ok (.getfield 89, 3) := dk_180 0 89 (dk_at dksX1_feed_1 7 rfl rfl)
theorem dX1_feed_32 : decode cX1_feed 32 = .ok (.ireturn, 1) := dk_172 (dk_at dksX1_feed_1 10 rfl rfl)
abbrev cX1_within : ByteArray := prog_1_method_2_code
def yX1_within : MethodName := ⟨RX1, "within", "(III)Z"⟩
def dkwX1_within_0 : List UInt8 := [26, 27, 161, 0, 12, 26, 28, 163, 0, 7, 4, 167, 0, 4, 3, 172]
abbrev dktX1_within_0 : List UInt8 := dkwX1_within_0 ++ []
theorem dksX1_within_0 : cX1_within.data.toList.drop 0 = dktX1_within_0 := by decide +kernel
theorem dX1_within_0 : decode cX1_within 0 = .ok (.iload_n 0, 1) := dk_26 (dk_at dksX1_within_0 0 rfl rfl)
theorem dX1_within_1 : decode cX1_within 1 = .ok (.iload_n 1, 1) := dk_27 (dk_at dksX1_within_0 1 rfl rfl)
theorem dX1_within_2 : decode cX1_within 2 = .ok (.if_icmp .lt 12, 3) := dk_161 0 12 (dk_at dksX1_within_0 2 rfl rfl)
theorem dX1_within_5 : decode cX1_within 5 = .ok (.iload_n 0, 1) := dk_26 (dk_at dksX1_within_0 5 rfl rfl)
theorem dX1_within_6 : decode cX1_within 6 = .ok (.iload_n 2, 1) := dk_28 (dk_at dksX1_within_0 6 rfl rfl)
theorem dX1_within_7 : decode cX1_within 7 = .ok (.if_icmp .gt 7, 3) := dk_163 0 7 (dk_at dksX1_within_0 7 rfl rfl)
theorem dX1_within_10 : decode cX1_within 10 = .ok (.iconst 1, 1) := dk_4 (dk_at dksX1_within_0 10 rfl rfl)
theorem dX1_within_11 : decode cX1_within 11 = .ok (.goto 4, 3) := dk_167 0 4 (dk_at dksX1_within_0 11 rfl rfl)
theorem dX1_within_14 : decode cX1_within 14 = .ok (.iconst 0, 1) := dk_3 (dk_at dksX1_within_0 14 rfl rfl)
theorem dX1_within_15 : decode cX1_within 15 = .ok (.ireturn, 1) := dk_172 (dk_at dksX1_within_0 15 rfl rfl)
abbrev cX1_parish : ByteArray := prog_1_method_7_code
def yX1_parish : MethodName := ⟨RX1, "parish", "()I"⟩
def dkwX1_parish_2 : List UInt8 := [180, 0, 103, 172]
abbrev dktX1_parish_2 : List UInt8 := dkwX1_parish_2 ++ []
def dkwX1_parish_1 : List UInt8 := [180, 0, 34, 182, 0, 98, 42, 180, 0, 31, 182, 0, 98, 42, 180, 0, 37, 182, 0, 98, 3, 172, 76, 43]
abbrev dktX1_parish_1 : List UInt8 := dkwX1_parish_1 ++ dktX1_parish_2
def dkwX1_parish_0 : List UInt8 := [42, 42, 180, 0, 10, 182, 0, 93, 181, 0, 20, 42, 3, 181, 0, 95, 42, 180, 0, 27, 182, 0, 98, 42]
abbrev dktX1_parish_0 : List UInt8 := dkwX1_parish_0 ++ dktX1_parish_1
theorem dksX1_parish_0 : cX1_parish.data.toList.drop 0 = dktX1_parish_0 := by decide +kernel
theorem dksX1_parish_1 : cX1_parish.data.toList.drop 24 = dktX1_parish_1 := dk_seg dksX1_parish_0 24 rfl rfl
theorem dksX1_parish_2 : cX1_parish.data.toList.drop 48 = dktX1_parish_2 := dk_seg dksX1_parish_1 24 rfl rfl
theorem dX1_parish_0 : decode cX1_parish 0 = .ok (.aload_n 0, 1) := dk_42 (dk_at dksX1_parish_0 0 rfl rfl)
theorem dX1_parish_1 : decode cX1_parish 1 = .ok (.aload_n 0, 1) := dk_42 (dk_at dksX1_parish_0 1 rfl rfl)
theorem dX1_parish_2 : decode cX1_parish 2 = .ok (.getfield 10, 3) := dk_180 0 10 (dk_at dksX1_parish_0 2 rfl rfl)
theorem dX1_parish_5 : decode cX1_parish 5 = .ok (.invokevirtual 93, 3) := dk_182 0 93 (dk_at dksX1_parish_0 5 rfl rfl)
theorem dX1_parish_8 : decode cX1_parish 8 = .ok (.putfield 20, 3) := dk_181 0 20 (dk_at dksX1_parish_0 8 rfl rfl)
theorem dX1_parish_11 : decode cX1_parish 11 = .ok (.aload_n 0, 1) := dk_42 (dk_at dksX1_parish_0 11 rfl rfl)
theorem dX1_parish_12 : decode cX1_parish 12 = .ok (.iconst 0, 1) := dk_3 (dk_at dksX1_parish_0 12 rfl rfl)
theorem dX1_parish_13 : decode cX1_parish 13 = .ok (.putfield 95, 3) := dk_181 0 95 (dk_at dksX1_parish_0 13 rfl rfl)
theorem dX1_parish_16 : decode cX1_parish 16 = .ok (.aload_n 0, 1) := dk_42 (dk_at dksX1_parish_0 16 rfl rfl)
theorem dX1_parish_17 : decode cX1_parish 17 = .ok (.getfield 27, 3) := dk_180 0 27 (dk_at dksX1_parish_0 17 rfl rfl)
theorem dX1_parish_20 : decode cX1_parish 20 = .ok (.invokevirtual 98, 3) := dk_182 0 98 (dk_at dksX1_parish_0 20 rfl rfl)
theorem dX1_parish_23 : decode cX1_parish 23 = .ok (.aload_n 0, 1) := dk_42 (dk_at dksX1_parish_0 23 rfl rfl)
theorem dX1_parish_24 : decode cX1_parish 24 = .ok (.getfield 34, 3) := dk_180 0 34 (dk_at dksX1_parish_1 0 rfl rfl)
theorem dX1_parish_27 : decode cX1_parish 27 = .ok (.invokevirtual 98, 3) := dk_182 0 98 (dk_at dksX1_parish_1 3 rfl rfl)
theorem dX1_parish_30 : decode cX1_parish 30 = .ok (.aload_n 0, 1) := dk_42 (dk_at dksX1_parish_1 6 rfl rfl)
theorem dX1_parish_31 : decode cX1_parish 31 = .ok (.getfield 31, 3) := dk_180 0 31 (dk_at dksX1_parish_1 7 rfl rfl)
theorem dX1_parish_34 : decode cX1_parish 34 = .ok (.invokevirtual 98, 3) := dk_182 0 98 (dk_at dksX1_parish_1 10 rfl rfl)
theorem dX1_parish_37 : decode cX1_parish 37 = .ok (.aload_n 0, 1) := dk_42 (dk_at dksX1_parish_1 13 rfl rfl)
theorem dX1_parish_38 : decode cX1_parish 38 = .ok (.getfield 37, 3) := dk_180 0 37 (dk_at dksX1_parish_1 14 rfl rfl)
theorem dX1_parish_41 : decode cX1_parish 41 = .ok (.invokevirtual 98, 3) := dk_182 0 98 (dk_at dksX1_parish_1 17 rfl rfl)
theorem dX1_parish_44 : decode cX1_parish 44 = .ok (.iconst 0, 1) := dk_3 (dk_at dksX1_parish_1 20 rfl rfl)
theorem dX1_parish_45 : decode cX1_parish 45 = .ok (.ireturn, 1) := dk_172 (dk_at dksX1_parish_1 21 rfl rfl)
theorem dX1_parish_46 : decode cX1_parish 46 = .ok (.astore_n 1, 1) := dk_76 (dk_at dksX1_parish_1 22 rfl rfl)
theorem dX1_parish_47 : decode cX1_parish 47 = .ok (.aload_n 1, 1) := dk_43 (dk_at dksX1_parish_1 23 rfl rfl)
theorem dX1_parish_48 : decode cX1_parish 48 = .ok (.getfield 103, 3) := dk_180 0 103 (dk_at dksX1_parish_2 0 rfl rfl)
theorem dX1_parish_51 : decode cX1_parish 51 = .ok (.ireturn, 1) := dk_172 (dk_at dksX1_parish_2 3 rfl rfl)
abbrev cX1_has : ByteArray := prog_1_method_3_code
def yX1_has : MethodName := ⟨RX1, "has", "(JI)Z"⟩
def dkwX1_has_0 : List UInt8 := [30, 28, 123, 10, 127, 10, 148, 154, 0, 7, 4, 167, 0, 4, 3, 172]
abbrev dktX1_has_0 : List UInt8 := dkwX1_has_0 ++ []
theorem dksX1_has_0 : cX1_has.data.toList.drop 0 = dktX1_has_0 := by decide +kernel
theorem dX1_has_0 : decode cX1_has 0 = .ok (.lload_n 0, 1) := dk_30 (dk_at dksX1_has_0 0 rfl rfl)
theorem dX1_has_1 : decode cX1_has 1 = .ok (.iload_n 2, 1) := dk_28 (dk_at dksX1_has_0 1 rfl rfl)
theorem dX1_has_2 : decode cX1_has 2 = .ok (.lshr, 1) := dk_123 (dk_at dksX1_has_0 2 rfl rfl)
theorem dX1_has_3 : decode cX1_has 3 = .ok (.lconst 1, 1) := dk_10 (dk_at dksX1_has_0 3 rfl rfl)
theorem dX1_has_4 : decode cX1_has 4 = .ok (.land, 1) := dk_127 (dk_at dksX1_has_0 4 rfl rfl)
theorem dX1_has_5 : decode cX1_has 5 = .ok (.lconst 1, 1) := dk_10 (dk_at dksX1_has_0 5 rfl rfl)
theorem dX1_has_6 : decode cX1_has 6 = .ok (.lcmp, 1) := dk_148 (dk_at dksX1_has_0 6 rfl rfl)
theorem dX1_has_7 : decode cX1_has 7 = .ok (.ifCond .ne 7, 3) := dk_154 0 7 (dk_at dksX1_has_0 7 rfl rfl)
theorem dX1_has_10 : decode cX1_has 10 = .ok (.iconst 1, 1) := dk_4 (dk_at dksX1_has_0 10 rfl rfl)
theorem dX1_has_11 : decode cX1_has 11 = .ok (.goto 4, 3) := dk_167 0 4 (dk_at dksX1_has_0 11 rfl rfl)
theorem dX1_has_14 : decode cX1_has 14 = .ok (.iconst 0, 1) := dk_3 (dk_at dksX1_has_0 14 rfl rfl)
theorem dX1_has_15 : decode cX1_has 15 = .ok (.ireturn, 1) := dk_172 (dk_at dksX1_has_0 15 rfl rfl)
abbrev cX1_truth : ByteArray := prog_1_method_16_code
def yX1_truth : MethodName := ⟨RX1, "truth", "(I)Z"⟩
def dkwX1_truth_0 : List UInt8 := [42, 27, 182, 0, 127, 154, 0, 5, 3, 172, 42, 27, 181, 0, 95, 4, 172]
abbrev dktX1_truth_0 : List UInt8 := dkwX1_truth_0 ++ []
theorem dksX1_truth_0 : cX1_truth.data.toList.drop 0 = dktX1_truth_0 := by decide +kernel
theorem dX1_truth_0 : decode cX1_truth 0 = .ok (.aload_n 0, 1) := dk_42 (dk_at dksX1_truth_0 0 rfl rfl)
theorem dX1_truth_1 : decode cX1_truth 1 = .ok (.iload_n 1, 1) := dk_27 (dk_at dksX1_truth_0 1 rfl rfl)
theorem dX1_truth_2 : decode cX1_truth 2 = .ok (.invokevirtual 127, 3) := dk_182 0 127 (dk_at dksX1_truth_0 2 rfl rfl)
theorem dX1_truth_5 : decode cX1_truth 5 = .ok (.ifCond .ne 5, 3) := dk_154 0 5 (dk_at dksX1_truth_0 5 rfl rfl)
theorem dX1_truth_8 : decode cX1_truth 8 = .ok (.iconst 0, 1) := dk_3 (dk_at dksX1_truth_0 8 rfl rfl)
theorem dX1_truth_9 : decode cX1_truth 9 = .ok (.ireturn, 1) := dk_172 (dk_at dksX1_truth_0 9 rfl rfl)
theorem dX1_truth_10 : decode cX1_truth 10 = .ok (.aload_n 0, 1) := dk_42 (dk_at dksX1_truth_0 10 rfl rfl)
theorem dX1_truth_11 : decode cX1_truth 11 = .ok (.iload_n 1, 1) := dk_27 (dk_at dksX1_truth_0 11 rfl rfl)
theorem dX1_truth_12 : decode cX1_truth 12 = .ok (.putfield 95, 3) := dk_181 0 95 (dk_at dksX1_truth_0 12 rfl rfl)
theorem dX1_truth_15 : decode cX1_truth 15 = .ok (.iconst 1, 1) := dk_4 (dk_at dksX1_truth_0 15 rfl rfl)
theorem dX1_truth_16 : decode cX1_truth 16 = .ok (.ireturn, 1) := dk_172 (dk_at dksX1_truth_0 16 rfl rfl)
abbrev cX1_isWorld : ByteArray := prog_1_method_11_code
def yX1_isWorld : MethodName := ⟨RX1, "isWorld", "(I)Z"⟩
def dkwX1_isWorld_0 : List UInt8 := [27, 3, 42, 180, 0, 20, 182, 0, 120, 4, 100, 184, 0, 113, 172]
abbrev dktX1_isWorld_0 : List UInt8 := dkwX1_isWorld_0 ++ []
theorem dksX1_isWorld_0 : cX1_isWorld.data.toList.drop 0 = dktX1_isWorld_0 := by decide +kernel
theorem dX1_isWorld_0 : decode cX1_isWorld 0 = .ok (.iload_n 1, 1) := dk_27 (dk_at dksX1_isWorld_0 0 rfl rfl)
theorem dX1_isWorld_1 : decode cX1_isWorld 1 = .ok (.iconst 0, 1) := dk_3 (dk_at dksX1_isWorld_0 1 rfl rfl)
theorem dX1_isWorld_2 : decode cX1_isWorld 2 = .ok (.aload_n 0, 1) := dk_42 (dk_at dksX1_isWorld_0 2 rfl rfl)
theorem dX1_isWorld_3 : decode cX1_isWorld 3 = .ok (.getfield 20, 3) := dk_180 0 20 (dk_at dksX1_isWorld_0 3 rfl rfl)
theorem dX1_isWorld_6 : decode cX1_isWorld 6 = .ok (.invokevirtual 120, 3) := dk_182 0 120 (dk_at dksX1_isWorld_0 6 rfl rfl)
theorem dX1_isWorld_9 : decode cX1_isWorld 9 = .ok (.iconst 1, 1) := dk_4 (dk_at dksX1_isWorld_0 9 rfl rfl)
theorem dX1_isWorld_10 : decode cX1_isWorld 10 = .ok (.isub, 1) := dk_100 (dk_at dksX1_isWorld_0 10 rfl rfl)
theorem dX1_isWorld_11 : decode cX1_isWorld 11 = .ok (.invokestatic 113, 3) := dk_184 0 113 (dk_at dksX1_isWorld_0 11 rfl rfl)
theorem dX1_isWorld_14 : decode cX1_isWorld 14 = .ok (.ireturn, 1) := dk_172 (dk_at dksX1_isWorld_0 14 rfl rfl)
abbrev cX1_say : ByteArray := prog_1_method_19_code
def yX1_say : MethodName := ⟨RX1, "say", "(II)I"⟩
def dkwX1_say_2 : List UInt8 := [28, 182, 0, 160, 172]
abbrev dktX1_say_2 : List UInt8 := dkwX1_say_2 ++ []
def dkwX1_say_1 : List UInt8 := [182, 0, 157, 161, 0, 19, 42, 180, 0, 27, 182, 0, 109, 16, 24, 162, 0, 7, 4, 167, 0, 4, 3, 27]
abbrev dktX1_say_1 : List UInt8 := dkwX1_say_1 ++ dktX1_say_2
def dkwX1_say_0 : List UInt8 := [42, 42, 180, 0, 27, 42, 27, 182, 0, 154, 153, 0, 34, 28, 184, 0, 123, 153, 0, 27, 28, 42]
abbrev dktX1_say_0 : List UInt8 := dkwX1_say_0 ++ dktX1_say_1
theorem dksX1_say_0 : cX1_say.data.toList.drop 0 = dktX1_say_0 := by decide +kernel
theorem dksX1_say_1 : cX1_say.data.toList.drop 22 = dktX1_say_1 := dk_seg dksX1_say_0 22 rfl rfl
theorem dksX1_say_2 : cX1_say.data.toList.drop 46 = dktX1_say_2 := dk_seg dksX1_say_1 24 rfl rfl
theorem dX1_say_0 : decode cX1_say 0 = .ok (.aload_n 0, 1) := dk_42 (dk_at dksX1_say_0 0 rfl rfl)
theorem dX1_say_1 : decode cX1_say 1 = .ok (.aload_n 0, 1) := dk_42 (dk_at dksX1_say_0 1 rfl rfl)
theorem dX1_say_2 : decode cX1_say 2 = .ok (.getfield 27, 3) := dk_180 0 27 (dk_at dksX1_say_0 2 rfl rfl)
theorem dX1_say_5 : decode cX1_say 5 = .ok (.aload_n 0, 1) := dk_42 (dk_at dksX1_say_0 5 rfl rfl)
theorem dX1_say_6 : decode cX1_say 6 = .ok (.iload_n 1, 1) := dk_27 (dk_at dksX1_say_0 6 rfl rfl)
theorem dX1_say_7 : decode cX1_say 7 = .ok (.invokevirtual 154, 3) := dk_182 0 154 (dk_at dksX1_say_0 7 rfl rfl)
theorem dX1_say_10 : decode cX1_say 10 = .ok (.ifCond .eq 34, 3) := dk_153 0 34 (dk_at dksX1_say_0 10 rfl rfl)
theorem dX1_say_13 : decode cX1_say 13 = .ok (.iload_n 2, 1) := dk_28 (dk_at dksX1_say_0 13 rfl rfl)
theorem dX1_say_14 : decode cX1_say 14 = .ok (.invokestatic 123, 3) := dk_184 0 123 (dk_at dksX1_say_0 14 rfl rfl)
theorem dX1_say_17 : decode cX1_say 17 = .ok (.ifCond .eq 27, 3) := dk_153 0 27 (dk_at dksX1_say_0 17 rfl rfl)
theorem dX1_say_20 : decode cX1_say 20 = .ok (.iload_n 2, 1) := dk_28 (dk_at dksX1_say_0 20 rfl rfl)
theorem dX1_say_21 : decode cX1_say 21 = .ok (.aload_n 0, 1) := dk_42 (dk_at dksX1_say_0 21 rfl rfl)
theorem dX1_say_22 : decode cX1_say 22 = .ok (.invokevirtual 157, 3) := dk_182 0 157 (dk_at dksX1_say_1 0 rfl rfl)
theorem dX1_say_25 : decode cX1_say 25 = .ok (.if_icmp .lt 19, 3) := dk_161 0 19 (dk_at dksX1_say_1 3 rfl rfl)
theorem dX1_say_28 : decode cX1_say 28 = .ok (.aload_n 0, 1) := dk_42 (dk_at dksX1_say_1 6 rfl rfl)
theorem dX1_say_29 : decode cX1_say 29 = .ok (.getfield 27, 3) := dk_180 0 27 (dk_at dksX1_say_1 7 rfl rfl)
theorem dX1_say_32 : decode cX1_say 32 = .ok (.invokevirtual 109, 3) := dk_182 0 109 (dk_at dksX1_say_1 10 rfl rfl)
theorem dX1_say_35 : decode cX1_say 35 = .ok (.bipush 24, 2) := dk_16 24 (dk_at dksX1_say_1 13 rfl rfl)
theorem dX1_say_37 : decode cX1_say 37 = .ok (.if_icmp .ge 7, 3) := dk_162 0 7 (dk_at dksX1_say_1 15 rfl rfl)
theorem dX1_say_40 : decode cX1_say 40 = .ok (.iconst 1, 1) := dk_4 (dk_at dksX1_say_1 18 rfl rfl)
theorem dX1_say_41 : decode cX1_say 41 = .ok (.goto 4, 3) := dk_167 0 4 (dk_at dksX1_say_1 19 rfl rfl)
theorem dX1_say_44 : decode cX1_say 44 = .ok (.iconst 0, 1) := dk_3 (dk_at dksX1_say_1 22 rfl rfl)
theorem dX1_say_45 : decode cX1_say 45 = .ok (.iload_n 1, 1) := dk_27 (dk_at dksX1_say_1 23 rfl rfl)
theorem dX1_say_46 : decode cX1_say 46 = .ok (.iload_n 2, 1) := dk_28 (dk_at dksX1_say_2 0 rfl rfl)
theorem dX1_say_47 : decode cX1_say 47 = .ok (.invokevirtual 160, 3) := dk_182 0 160 (dk_at dksX1_say_2 1 rfl rfl)
theorem dX1_say_50 : decode cX1_say 50 = .ok (.ireturn, 1) := dk_172 (dk_at dksX1_say_2 4 rfl rfl)
abbrev cX1_isPerson : ByteArray := prog_1_method_9_code
def yX1_isPerson : MethodName := ⟨RX1, "isPerson", "(I)Z"⟩
def dkwX1_isPerson_0 : List UInt8 := [27, 3, 42, 180, 0, 20, 180, 0, 117, 182, 0, 109, 4, 100, 184, 0, 113, 172]
abbrev dktX1_isPerson_0 : List UInt8 := dkwX1_isPerson_0 ++ []
theorem dksX1_isPerson_0 : cX1_isPerson.data.toList.drop 0 = dktX1_isPerson_0 := by decide +kernel
theorem dX1_isPerson_0 : decode cX1_isPerson 0 = .ok (.iload_n 1, 1) := dk_27 (dk_at dksX1_isPerson_0 0 rfl rfl)
theorem dX1_isPerson_1 : decode cX1_isPerson 1 = .ok (.iconst 0, 1) := dk_3 (dk_at dksX1_isPerson_0 1 rfl rfl)
theorem dX1_isPerson_2 : decode cX1_isPerson 2 = .ok (.aload_n 0, 1) := dk_42 (dk_at dksX1_isPerson_0 2 rfl rfl)
theorem dX1_isPerson_3 : decode cX1_isPerson 3 = .ok (.getfield 20, 3) := dk_180 0 20 (dk_at dksX1_isPerson_0 3 rfl rfl)
theorem dX1_isPerson_6 : decode cX1_isPerson 6 = .ok (.getfield 117, 3) := dk_180 0 117 (dk_at dksX1_isPerson_0 6 rfl rfl)
theorem dX1_isPerson_9 : decode cX1_isPerson 9 = .ok (.invokevirtual 109, 3) := dk_182 0 109 (dk_at dksX1_isPerson_0 9 rfl rfl)
theorem dX1_isPerson_12 : decode cX1_isPerson 12 = .ok (.iconst 1, 1) := dk_4 (dk_at dksX1_isPerson_0 12 rfl rfl)
theorem dX1_isPerson_13 : decode cX1_isPerson 13 = .ok (.isub, 1) := dk_100 (dk_at dksX1_isPerson_0 13 rfl rfl)
theorem dX1_isPerson_14 : decode cX1_isPerson 14 = .ok (.invokestatic 113, 3) := dk_184 0 113 (dk_at dksX1_isPerson_0 14 rfl rfl)
theorem dX1_isPerson_17 : decode cX1_isPerson 17 = .ok (.ireturn, 1) := dk_172 (dk_at dksX1_isPerson_0 17 rfl rfl)
abbrev cX1_isMinute : ByteArray := prog_1_method_12_code
def yX1_isMinute : MethodName := ⟨RX1, "isMinute", "(I)Z"⟩
def dkwX1_isMinute_0 : List UInt8 := [26, 3, 17, 5, 159, 184, 0, 113, 172]
abbrev dktX1_isMinute_0 : List UInt8 := dkwX1_isMinute_0 ++ []
theorem dksX1_isMinute_0 : cX1_isMinute.data.toList.drop 0 = dktX1_isMinute_0 := by decide +kernel
theorem dX1_isMinute_0 : decode cX1_isMinute 0 = .ok (.iload_n 0, 1) := dk_26 (dk_at dksX1_isMinute_0 0 rfl rfl)
theorem dX1_isMinute_1 : decode cX1_isMinute 1 = .ok (.iconst 0, 1) := dk_3 (dk_at dksX1_isMinute_0 1 rfl rfl)
theorem dX1_isMinute_2 : decode cX1_isMinute 2 = .ok (.sipush 1439, 3) := dk_17 5 159 (dk_at dksX1_isMinute_0 2 rfl rfl)
theorem dX1_isMinute_5 : decode cX1_isMinute 5 = .ok (.invokestatic 113, 3) := dk_184 0 113 (dk_at dksX1_isMinute_0 5 rfl rfl)
theorem dX1_isMinute_8 : decode cX1_isMinute 8 = .ok (.ireturn, 1) := dk_172 (dk_at dksX1_isMinute_0 8 rfl rfl)
abbrev cX1_last : ByteArray := prog_1_method_17_code
def yX1_last : MethodName := ⟨RX1, "last", "()I"⟩
def dkwX1_last_1 : List UInt8 := [182, 0, 109, 4, 100, 182, 0, 134, 192, 0, 138, 180, 0, 140, 172]
abbrev dktX1_last_1 : List UInt8 := dkwX1_last_1 ++ []
def dkwX1_last_0 : List UInt8 := [42, 180, 0, 27, 182, 0, 130, 153, 0, 7, 3, 167, 0, 25, 42, 180, 0, 27, 42, 180, 0, 27]
abbrev dktX1_last_0 : List UInt8 := dkwX1_last_0 ++ dktX1_last_1
theorem dksX1_last_0 : cX1_last.data.toList.drop 0 = dktX1_last_0 := by decide +kernel
theorem dksX1_last_1 : cX1_last.data.toList.drop 22 = dktX1_last_1 := dk_seg dksX1_last_0 22 rfl rfl
theorem dX1_last_0 : decode cX1_last 0 = .ok (.aload_n 0, 1) := dk_42 (dk_at dksX1_last_0 0 rfl rfl)
theorem dX1_last_1 : decode cX1_last 1 = .ok (.getfield 27, 3) := dk_180 0 27 (dk_at dksX1_last_0 1 rfl rfl)
theorem dX1_last_4 : decode cX1_last 4 = .ok (.invokevirtual 130, 3) := dk_182 0 130 (dk_at dksX1_last_0 4 rfl rfl)
theorem dX1_last_7 : decode cX1_last 7 = .ok (.ifCond .eq 7, 3) := dk_153 0 7 (dk_at dksX1_last_0 7 rfl rfl)
theorem dX1_last_10 : decode cX1_last 10 = .ok (.iconst 0, 1) := dk_3 (dk_at dksX1_last_0 10 rfl rfl)
theorem dX1_last_11 : decode cX1_last 11 = .ok (.goto 25, 3) := dk_167 0 25 (dk_at dksX1_last_0 11 rfl rfl)
theorem dX1_last_14 : decode cX1_last 14 = .ok (.aload_n 0, 1) := dk_42 (dk_at dksX1_last_0 14 rfl rfl)
theorem dX1_last_15 : decode cX1_last 15 = .ok (.getfield 27, 3) := dk_180 0 27 (dk_at dksX1_last_0 15 rfl rfl)
theorem dX1_last_18 : decode cX1_last 18 = .ok (.aload_n 0, 1) := dk_42 (dk_at dksX1_last_0 18 rfl rfl)
theorem dX1_last_19 : decode cX1_last 19 = .ok (.getfield 27, 3) := dk_180 0 27 (dk_at dksX1_last_0 19 rfl rfl)
theorem dX1_last_22 : decode cX1_last 22 = .ok (.invokevirtual 109, 3) := dk_182 0 109 (dk_at dksX1_last_1 0 rfl rfl)
theorem dX1_last_25 : decode cX1_last 25 = .ok (.iconst 1, 1) := dk_4 (dk_at dksX1_last_1 3 rfl rfl)
theorem dX1_last_26 : decode cX1_last 26 = .ok (.isub, 1) := dk_100 (dk_at dksX1_last_1 4 rfl rfl)
theorem dX1_last_27 : decode cX1_last 27 = .ok (.invokevirtual 134, 3) := dk_182 0 134 (dk_at dksX1_last_1 5 rfl rfl)
theorem dX1_last_30 : decode cX1_last 30 = .ok (.checkcast 138, 3) := dk_192 0 138 (dk_at dksX1_last_1 8 rfl rfl)
theorem dX1_last_33 : decode cX1_last 33 = .ok (.getfield 140, 3) := dk_180 0 140 (dk_at dksX1_last_1 11 rfl rfl)
theorem dX1_last_36 : decode cX1_last 36 = .ok (.ireturn, 1) := dk_172 (dk_at dksX1_last_1 14 rfl rfl)
abbrev cX1_told : ByteArray := prog_1_method_18_code
def yX1_told : MethodName := ⟨RX1, "told", "(Ljava/util/ArrayList;ZII)I"⟩
def dkwX1_told_2 : List UInt8 := [25, 5, 180, 0, 103, 172]
abbrev dktX1_told_2 : List UInt8 := dkwX1_told_2 ++ []
def dkwX1_told_1 : List UInt8 := [21, 4, 42, 180, 0, 10, 42, 180, 0, 20, 182, 0, 143, 183, 0, 147, 182, 0, 150, 87, 3, 172, 58, 5]
abbrev dktX1_told_1 : List UInt8 := dkwX1_told_1 ++ dktX1_told_2
def dkwX1_told_0 : List UInt8 := [28, 154, 0, 13, 42, 180, 0, 10, 3, 181, 0, 89, 2, 172, 43, 187, 0, 138, 89, 42, 180, 0, 20, 29]
abbrev dktX1_told_0 : List UInt8 := dkwX1_told_0 ++ dktX1_told_1
theorem dksX1_told_0 : cX1_told.data.toList.drop 0 = dktX1_told_0 := by decide +kernel
theorem dksX1_told_1 : cX1_told.data.toList.drop 24 = dktX1_told_1 := dk_seg dksX1_told_0 24 rfl rfl
theorem dksX1_told_2 : cX1_told.data.toList.drop 48 = dktX1_told_2 := dk_seg dksX1_told_1 24 rfl rfl
theorem dX1_told_0 : decode cX1_told 0 = .ok (.iload_n 2, 1) := dk_28 (dk_at dksX1_told_0 0 rfl rfl)
theorem dX1_told_1 : decode cX1_told 1 = .ok (.ifCond .ne 13, 3) := dk_154 0 13 (dk_at dksX1_told_0 1 rfl rfl)
theorem dX1_told_4 : decode cX1_told 4 = .ok (.aload_n 0, 1) := dk_42 (dk_at dksX1_told_0 4 rfl rfl)
theorem dX1_told_5 : decode cX1_told 5 = .ok (.getfield 10, 3) := dk_180 0 10 (dk_at dksX1_told_0 5 rfl rfl)
theorem dX1_told_8 : decode cX1_told 8 = .ok (.iconst 0, 1) := dk_3 (dk_at dksX1_told_0 8 rfl rfl)
theorem dX1_told_9 : decode cX1_told 9 = .ok (.putfield 89, 3) := dk_181 0 89 (dk_at dksX1_told_0 9 rfl rfl)
theorem dX1_told_12 : decode cX1_told 12 = .ok (.iconst (-1), 1) := dk_2 (dk_at dksX1_told_0 12 rfl rfl)
theorem dX1_told_13 : decode cX1_told 13 = .ok (.ireturn, 1) := dk_172 (dk_at dksX1_told_0 13 rfl rfl)
theorem dX1_told_14 : decode cX1_told 14 = .ok (.aload_n 1, 1) := dk_43 (dk_at dksX1_told_0 14 rfl rfl)
theorem dX1_told_15 : decode cX1_told 15 = .ok (.new 138, 3) := dk_187 0 138 (dk_at dksX1_told_0 15 rfl rfl)
theorem dX1_told_18 : decode cX1_told 18 = .ok (.dup, 1) := dk_89 (dk_at dksX1_told_0 18 rfl rfl)
theorem dX1_told_19 : decode cX1_told 19 = .ok (.aload_n 0, 1) := dk_42 (dk_at dksX1_told_0 19 rfl rfl)
theorem dX1_told_20 : decode cX1_told 20 = .ok (.getfield 20, 3) := dk_180 0 20 (dk_at dksX1_told_0 20 rfl rfl)
theorem dX1_told_23 : decode cX1_told 23 = .ok (.iload_n 3, 1) := dk_29 (dk_at dksX1_told_0 23 rfl rfl)
theorem dX1_told_24 : decode cX1_told 24 = .ok (.iload 4, 2) := dk_21 4 (dk_at dksX1_told_1 0 rfl rfl)
theorem dX1_told_26 : decode cX1_told 26 = .ok (.aload_n 0, 1) := dk_42 (dk_at dksX1_told_1 2 rfl rfl)
theorem dX1_told_27 : decode cX1_told 27 = .ok (.getfield 10, 3) := dk_180 0 10 (dk_at dksX1_told_1 3 rfl rfl)
theorem dX1_told_30 : decode cX1_told 30 = .ok (.aload_n 0, 1) := dk_42 (dk_at dksX1_told_1 6 rfl rfl)
theorem dX1_told_31 : decode cX1_told 31 = .ok (.getfield 20, 3) := dk_180 0 20 (dk_at dksX1_told_1 7 rfl rfl)
theorem dX1_told_34 : decode cX1_told 34 = .ok (.invokevirtual 143, 3) := dk_182 0 143 (dk_at dksX1_told_1 10 rfl rfl)
theorem dX1_told_37 : decode cX1_told 37 = .ok (.invokespecial 147, 3) := dk_183 0 147 (dk_at dksX1_told_1 13 rfl rfl)
theorem dX1_told_40 : decode cX1_told 40 = .ok (.invokevirtual 150, 3) := dk_182 0 150 (dk_at dksX1_told_1 16 rfl rfl)
theorem dX1_told_43 : decode cX1_told 43 = .ok (.pop, 1) := dk_87 (dk_at dksX1_told_1 19 rfl rfl)
theorem dX1_told_44 : decode cX1_told 44 = .ok (.iconst 0, 1) := dk_3 (dk_at dksX1_told_1 20 rfl rfl)
theorem dX1_told_45 : decode cX1_told 45 = .ok (.ireturn, 1) := dk_172 (dk_at dksX1_told_1 21 rfl rfl)
theorem dX1_told_46 : decode cX1_told 46 = .ok (.astore 5, 2) := dk_58 5 (dk_at dksX1_told_1 22 rfl rfl)
theorem dX1_told_48 : decode cX1_told 48 = .ok (.aload 5, 2) := dk_25 5 (dk_at dksX1_told_2 0 rfl rfl)
theorem dX1_told_50 : decode cX1_told 50 = .ok (.getfield 103, 3) := dk_180 0 103 (dk_at dksX1_told_2 2 rfl rfl)
theorem dX1_told_53 : decode cX1_told 53 = .ok (.ireturn, 1) := dk_172 (dk_at dksX1_told_2 5 rfl rfl)
abbrev cX1_offer : ByteArray := prog_1_method_20_code
def yX1_offer : MethodName := ⟨RX1, "offer", "(II)I"⟩
def dkwX1_offer_1 : List UInt8 := [182, 0, 109, 16, 6, 162, 0, 7, 4, 167, 0, 4, 3, 27, 28, 182, 0, 160, 172]
abbrev dktX1_offer_1 : List UInt8 := dkwX1_offer_1 ++ []
def dkwX1_offer_0 : List UInt8 := [42, 42, 180, 0, 31, 42, 27, 182, 0, 154, 153, 0, 26, 28, 184, 0, 123, 153, 0, 19, 42, 180, 0, 31]
abbrev dktX1_offer_0 : List UInt8 := dkwX1_offer_0 ++ dktX1_offer_1
theorem dksX1_offer_0 : cX1_offer.data.toList.drop 0 = dktX1_offer_0 := by decide +kernel
theorem dksX1_offer_1 : cX1_offer.data.toList.drop 24 = dktX1_offer_1 := dk_seg dksX1_offer_0 24 rfl rfl
theorem dX1_offer_0 : decode cX1_offer 0 = .ok (.aload_n 0, 1) := dk_42 (dk_at dksX1_offer_0 0 rfl rfl)
theorem dX1_offer_1 : decode cX1_offer 1 = .ok (.aload_n 0, 1) := dk_42 (dk_at dksX1_offer_0 1 rfl rfl)
theorem dX1_offer_2 : decode cX1_offer 2 = .ok (.getfield 31, 3) := dk_180 0 31 (dk_at dksX1_offer_0 2 rfl rfl)
theorem dX1_offer_5 : decode cX1_offer 5 = .ok (.aload_n 0, 1) := dk_42 (dk_at dksX1_offer_0 5 rfl rfl)
theorem dX1_offer_6 : decode cX1_offer 6 = .ok (.iload_n 1, 1) := dk_27 (dk_at dksX1_offer_0 6 rfl rfl)
theorem dX1_offer_7 : decode cX1_offer 7 = .ok (.invokevirtual 154, 3) := dk_182 0 154 (dk_at dksX1_offer_0 7 rfl rfl)
theorem dX1_offer_10 : decode cX1_offer 10 = .ok (.ifCond .eq 26, 3) := dk_153 0 26 (dk_at dksX1_offer_0 10 rfl rfl)
theorem dX1_offer_13 : decode cX1_offer 13 = .ok (.iload_n 2, 1) := dk_28 (dk_at dksX1_offer_0 13 rfl rfl)
theorem dX1_offer_14 : decode cX1_offer 14 = .ok (.invokestatic 123, 3) := dk_184 0 123 (dk_at dksX1_offer_0 14 rfl rfl)
theorem dX1_offer_17 : decode cX1_offer 17 = .ok (.ifCond .eq 19, 3) := dk_153 0 19 (dk_at dksX1_offer_0 17 rfl rfl)
theorem dX1_offer_20 : decode cX1_offer 20 = .ok (.aload_n 0, 1) := dk_42 (dk_at dksX1_offer_0 20 rfl rfl)
theorem dX1_offer_21 : decode cX1_offer 21 = .ok (.getfield 31, 3) := dk_180 0 31 (dk_at dksX1_offer_0 21 rfl rfl)
theorem dX1_offer_24 : decode cX1_offer 24 = .ok (.invokevirtual 109, 3) := dk_182 0 109 (dk_at dksX1_offer_1 0 rfl rfl)
theorem dX1_offer_27 : decode cX1_offer 27 = .ok (.bipush 6, 2) := dk_16 6 (dk_at dksX1_offer_1 3 rfl rfl)
theorem dX1_offer_29 : decode cX1_offer 29 = .ok (.if_icmp .ge 7, 3) := dk_162 0 7 (dk_at dksX1_offer_1 5 rfl rfl)
theorem dX1_offer_32 : decode cX1_offer 32 = .ok (.iconst 1, 1) := dk_4 (dk_at dksX1_offer_1 8 rfl rfl)
theorem dX1_offer_33 : decode cX1_offer 33 = .ok (.goto 4, 3) := dk_167 0 4 (dk_at dksX1_offer_1 9 rfl rfl)
theorem dX1_offer_36 : decode cX1_offer 36 = .ok (.iconst 0, 1) := dk_3 (dk_at dksX1_offer_1 12 rfl rfl)
theorem dX1_offer_37 : decode cX1_offer 37 = .ok (.iload_n 1, 1) := dk_27 (dk_at dksX1_offer_1 13 rfl rfl)
theorem dX1_offer_38 : decode cX1_offer 38 = .ok (.iload_n 2, 1) := dk_28 (dk_at dksX1_offer_1 14 rfl rfl)
theorem dX1_offer_39 : decode cX1_offer 39 = .ok (.invokevirtual 160, 3) := dk_182 0 160 (dk_at dksX1_offer_1 15 rfl rfl)
theorem dX1_offer_42 : decode cX1_offer 42 = .ok (.ireturn, 1) := dk_172 (dk_at dksX1_offer_1 18 rfl rfl)
abbrev cX1_points : ByteArray := prog_1_method_26_code
def yX1_points : MethodName := ⟨RX1, "points", "(III)I"⟩
def dkwX1_points_1 : List UInt8 := [27, 28, 29, 182, 0, 189, 167, 0, 4, 2, 172]
abbrev dktX1_points_1 : List UInt8 := dkwX1_points_1 ++ []
def dkwX1_points_0 : List UInt8 := [42, 27, 182, 0, 197, 153, 0, 28, 28, 184, 0, 123, 153, 0, 21, 42, 29, 182, 0, 127, 153, 0, 13, 42]
abbrev dktX1_points_0 : List UInt8 := dkwX1_points_0 ++ dktX1_points_1
theorem dksX1_points_0 : cX1_points.data.toList.drop 0 = dktX1_points_0 := by decide +kernel
theorem dksX1_points_1 : cX1_points.data.toList.drop 24 = dktX1_points_1 := dk_seg dksX1_points_0 24 rfl rfl
theorem dX1_points_0 : decode cX1_points 0 = .ok (.aload_n 0, 1) := dk_42 (dk_at dksX1_points_0 0 rfl rfl)
theorem dX1_points_1 : decode cX1_points 1 = .ok (.iload_n 1, 1) := dk_27 (dk_at dksX1_points_0 1 rfl rfl)
theorem dX1_points_2 : decode cX1_points 2 = .ok (.invokevirtual 197, 3) := dk_182 0 197 (dk_at dksX1_points_0 2 rfl rfl)
theorem dX1_points_5 : decode cX1_points 5 = .ok (.ifCond .eq 28, 3) := dk_153 0 28 (dk_at dksX1_points_0 5 rfl rfl)
theorem dX1_points_8 : decode cX1_points 8 = .ok (.iload_n 2, 1) := dk_28 (dk_at dksX1_points_0 8 rfl rfl)
theorem dX1_points_9 : decode cX1_points 9 = .ok (.invokestatic 123, 3) := dk_184 0 123 (dk_at dksX1_points_0 9 rfl rfl)
theorem dX1_points_12 : decode cX1_points 12 = .ok (.ifCond .eq 21, 3) := dk_153 0 21 (dk_at dksX1_points_0 12 rfl rfl)
theorem dX1_points_15 : decode cX1_points 15 = .ok (.aload_n 0, 1) := dk_42 (dk_at dksX1_points_0 15 rfl rfl)
theorem dX1_points_16 : decode cX1_points 16 = .ok (.iload_n 3, 1) := dk_29 (dk_at dksX1_points_0 16 rfl rfl)
theorem dX1_points_17 : decode cX1_points 17 = .ok (.invokevirtual 127, 3) := dk_182 0 127 (dk_at dksX1_points_0 17 rfl rfl)
theorem dX1_points_20 : decode cX1_points 20 = .ok (.ifCond .eq 13, 3) := dk_153 0 13 (dk_at dksX1_points_0 20 rfl rfl)
theorem dX1_points_23 : decode cX1_points 23 = .ok (.aload_n 0, 1) := dk_42 (dk_at dksX1_points_0 23 rfl rfl)
theorem dX1_points_24 : decode cX1_points 24 = .ok (.iload_n 1, 1) := dk_27 (dk_at dksX1_points_1 0 rfl rfl)
theorem dX1_points_25 : decode cX1_points 25 = .ok (.iload_n 2, 1) := dk_28 (dk_at dksX1_points_1 1 rfl rfl)
theorem dX1_points_26 : decode cX1_points 26 = .ok (.iload_n 3, 1) := dk_29 (dk_at dksX1_points_1 2 rfl rfl)
theorem dX1_points_27 : decode cX1_points 27 = .ok (.invokevirtual 189, 3) := dk_182 0 189 (dk_at dksX1_points_1 3 rfl rfl)
theorem dX1_points_30 : decode cX1_points 30 = .ok (.goto 4, 3) := dk_167 0 4 (dk_at dksX1_points_1 6 rfl rfl)
theorem dX1_points_33 : decode cX1_points 33 = .ok (.iconst (-1), 1) := dk_2 (dk_at dksX1_points_1 9 rfl rfl)
theorem dX1_points_34 : decode cX1_points 34 = .ok (.ireturn, 1) := dk_172 (dk_at dksX1_points_1 10 rfl rfl)
abbrev cX1_isCock : ByteArray := prog_1_method_10_code
def yX1_isCock : MethodName := ⟨RX1, "isCock", "(I)Z"⟩
def dkwX1_isCock_1 : List UInt8 := [167, 0, 4, 3, 172]
abbrev dktX1_isCock_1 : List UInt8 := dkwX1_isCock_1 ++ []
def dkwX1_isCock_0 : List UInt8 := [27, 3, 4, 184, 0, 113, 153, 0, 19, 42, 180, 0, 20, 180, 0, 72, 27, 50, 198, 0, 7, 4]
abbrev dktX1_isCock_0 : List UInt8 := dkwX1_isCock_0 ++ dktX1_isCock_1
theorem dksX1_isCock_0 : cX1_isCock.data.toList.drop 0 = dktX1_isCock_0 := by decide +kernel
theorem dksX1_isCock_1 : cX1_isCock.data.toList.drop 22 = dktX1_isCock_1 := dk_seg dksX1_isCock_0 22 rfl rfl
theorem dX1_isCock_0 : decode cX1_isCock 0 = .ok (.iload_n 1, 1) := dk_27 (dk_at dksX1_isCock_0 0 rfl rfl)
theorem dX1_isCock_1 : decode cX1_isCock 1 = .ok (.iconst 0, 1) := dk_3 (dk_at dksX1_isCock_0 1 rfl rfl)
theorem dX1_isCock_2 : decode cX1_isCock 2 = .ok (.iconst 1, 1) := dk_4 (dk_at dksX1_isCock_0 2 rfl rfl)
theorem dX1_isCock_3 : decode cX1_isCock 3 = .ok (.invokestatic 113, 3) := dk_184 0 113 (dk_at dksX1_isCock_0 3 rfl rfl)
theorem dX1_isCock_6 : decode cX1_isCock 6 = .ok (.ifCond .eq 19, 3) := dk_153 0 19 (dk_at dksX1_isCock_0 6 rfl rfl)
theorem dX1_isCock_9 : decode cX1_isCock 9 = .ok (.aload_n 0, 1) := dk_42 (dk_at dksX1_isCock_0 9 rfl rfl)
theorem dX1_isCock_10 : decode cX1_isCock 10 = .ok (.getfield 20, 3) := dk_180 0 20 (dk_at dksX1_isCock_0 10 rfl rfl)
theorem dX1_isCock_13 : decode cX1_isCock 13 = .ok (.getfield 72, 3) := dk_180 0 72 (dk_at dksX1_isCock_0 13 rfl rfl)
theorem dX1_isCock_16 : decode cX1_isCock 16 = .ok (.iload_n 1, 1) := dk_27 (dk_at dksX1_isCock_0 16 rfl rfl)
theorem dX1_isCock_17 : decode cX1_isCock 17 = .ok (.aaload, 1) := dk_50 (dk_at dksX1_isCock_0 17 rfl rfl)
theorem dX1_isCock_18 : decode cX1_isCock 18 = .ok (.ifnull 7, 3) := dk_198 0 7 (dk_at dksX1_isCock_0 18 rfl rfl)
theorem dX1_isCock_21 : decode cX1_isCock 21 = .ok (.iconst 1, 1) := dk_4 (dk_at dksX1_isCock_0 21 rfl rfl)
theorem dX1_isCock_22 : decode cX1_isCock 22 = .ok (.goto 4, 3) := dk_167 0 4 (dk_at dksX1_isCock_1 0 rfl rfl)
theorem dX1_isCock_25 : decode cX1_isCock 25 = .ok (.iconst 0, 1) := dk_3 (dk_at dksX1_isCock_1 3 rfl rfl)
theorem dX1_isCock_26 : decode cX1_isCock 26 = .ok (.ireturn, 1) := dk_172 (dk_at dksX1_isCock_1 4 rfl rfl)
abbrev cX1_pointsAt : ByteArray := prog_1_method_24_code
def yX1_pointsAt : MethodName := ⟨RX1, "pointsAt", "(III)I"⟩
def dkwX1_pointsAt_1 : List UInt8 := [180, 0, 182, 100, 29, 182, 0, 168, 184, 0, 185, 172]
abbrev dktX1_pointsAt_1 : List UInt8 := dkwX1_pointsAt_1 ++ []
def dkwX1_pointsAt_0 : List UInt8 := [42, 42, 180, 0, 20, 180, 0, 72, 27, 50, 180, 0, 179, 28, 42, 180, 0, 20, 180, 0, 72, 27, 50]
abbrev dktX1_pointsAt_0 : List UInt8 := dkwX1_pointsAt_0 ++ dktX1_pointsAt_1
theorem dksX1_pointsAt_0 : cX1_pointsAt.data.toList.drop 0 = dktX1_pointsAt_0 := by decide +kernel
theorem dksX1_pointsAt_1 : cX1_pointsAt.data.toList.drop 23 = dktX1_pointsAt_1 := dk_seg dksX1_pointsAt_0 23 rfl rfl
theorem dX1_pointsAt_0 : decode cX1_pointsAt 0 = .ok (.aload_n 0, 1) := dk_42 (dk_at dksX1_pointsAt_0 0 rfl rfl)
theorem dX1_pointsAt_1 : decode cX1_pointsAt 1 = .ok (.aload_n 0, 1) := dk_42 (dk_at dksX1_pointsAt_0 1 rfl rfl)
theorem dX1_pointsAt_2 : decode cX1_pointsAt 2 = .ok (.getfield 20, 3) := dk_180 0 20 (dk_at dksX1_pointsAt_0 2 rfl rfl)
theorem dX1_pointsAt_5 : decode cX1_pointsAt 5 = .ok (.getfield 72, 3) := dk_180 0 72 (dk_at dksX1_pointsAt_0 5 rfl rfl)
theorem dX1_pointsAt_8 : decode cX1_pointsAt 8 = .ok (.iload_n 1, 1) := dk_27 (dk_at dksX1_pointsAt_0 8 rfl rfl)
theorem dX1_pointsAt_9 : decode cX1_pointsAt 9 = .ok (.aaload, 1) := dk_50 (dk_at dksX1_pointsAt_0 9 rfl rfl)
theorem dX1_pointsAt_10 : decode cX1_pointsAt 10 = .ok (.getfield 179, 3) := dk_180 0 179 (dk_at dksX1_pointsAt_0 10 rfl rfl)
theorem dX1_pointsAt_13 : decode cX1_pointsAt 13 = .ok (.iload_n 2, 1) := dk_28 (dk_at dksX1_pointsAt_0 13 rfl rfl)
theorem dX1_pointsAt_14 : decode cX1_pointsAt 14 = .ok (.aload_n 0, 1) := dk_42 (dk_at dksX1_pointsAt_0 14 rfl rfl)
theorem dX1_pointsAt_15 : decode cX1_pointsAt 15 = .ok (.getfield 20, 3) := dk_180 0 20 (dk_at dksX1_pointsAt_0 15 rfl rfl)
theorem dX1_pointsAt_18 : decode cX1_pointsAt 18 = .ok (.getfield 72, 3) := dk_180 0 72 (dk_at dksX1_pointsAt_0 18 rfl rfl)
theorem dX1_pointsAt_21 : decode cX1_pointsAt 21 = .ok (.iload_n 1, 1) := dk_27 (dk_at dksX1_pointsAt_0 21 rfl rfl)
theorem dX1_pointsAt_22 : decode cX1_pointsAt 22 = .ok (.aaload, 1) := dk_50 (dk_at dksX1_pointsAt_0 22 rfl rfl)
theorem dX1_pointsAt_23 : decode cX1_pointsAt 23 = .ok (.getfield 182, 3) := dk_180 0 182 (dk_at dksX1_pointsAt_1 0 rfl rfl)
theorem dX1_pointsAt_26 : decode cX1_pointsAt 26 = .ok (.isub, 1) := dk_100 (dk_at dksX1_pointsAt_1 3 rfl rfl)
theorem dX1_pointsAt_27 : decode cX1_pointsAt 27 = .ok (.iload_n 3, 1) := dk_29 (dk_at dksX1_pointsAt_1 4 rfl rfl)
theorem dX1_pointsAt_28 : decode cX1_pointsAt 28 = .ok (.invokevirtual 168, 3) := dk_182 0 168 (dk_at dksX1_pointsAt_1 5 rfl rfl)
theorem dX1_pointsAt_31 : decode cX1_pointsAt 31 = .ok (.invokestatic 185, 3) := dk_184 0 185 (dk_at dksX1_pointsAt_1 8 rfl rfl)
theorem dX1_pointsAt_34 : decode cX1_pointsAt 34 = .ok (.ireturn, 1) := dk_172 (dk_at dksX1_pointsAt_1 11 rfl rfl)
abbrev cX1_lastLie : ByteArray := prog_1_method_21_code
def yX1_lastLie : MethodName := ⟨RX1, "lastLie", "(III)LLiarsCock$Saying;"⟩
def dkwX1_lastLie_3 : List UInt8 := [132, 4, 255, 167, 255, 196, 1, 176]
abbrev dktX1_lastLie_3 : List UInt8 := dkwX1_lastLie_3 ++ []
def dkwX1_lastLie_2 : List UInt8 := [192, 0, 138, 27, 29, 182, 0, 164, 153, 0, 16, 42, 180, 0, 27, 21, 4, 182, 0, 134, 192, 0, 138, 176]
abbrev dktX1_lastLie_2 : List UInt8 := dkwX1_lastLie_2 ++ dktX1_lastLie_3
def dkwX1_lastLie_1 : List UInt8 := [182, 0, 134, 192, 0, 138, 180, 0, 140, 28, 163, 0, 36, 42, 180, 0, 27, 21, 4, 182, 0, 134]
abbrev dktX1_lastLie_1 : List UInt8 := dkwX1_lastLie_1 ++ dktX1_lastLie_2
def dkwX1_lastLie_0 : List UInt8 := [42, 180, 0, 27, 182, 0, 109, 4, 100, 54, 4, 21, 4, 155, 0, 61, 42, 180, 0, 27, 21, 4]
abbrev dktX1_lastLie_0 : List UInt8 := dkwX1_lastLie_0 ++ dktX1_lastLie_1
theorem dksX1_lastLie_0 : cX1_lastLie.data.toList.drop 0 = dktX1_lastLie_0 := by decide +kernel
theorem dksX1_lastLie_1 : cX1_lastLie.data.toList.drop 22 = dktX1_lastLie_1 := dk_seg dksX1_lastLie_0 22 rfl rfl
theorem dksX1_lastLie_2 : cX1_lastLie.data.toList.drop 44 = dktX1_lastLie_2 := dk_seg dksX1_lastLie_1 22 rfl rfl
theorem dksX1_lastLie_3 : cX1_lastLie.data.toList.drop 68 = dktX1_lastLie_3 := dk_seg dksX1_lastLie_2 24 rfl rfl
theorem dX1_lastLie_0 : decode cX1_lastLie 0 = .ok (.aload_n 0, 1) := dk_42 (dk_at dksX1_lastLie_0 0 rfl rfl)
theorem dX1_lastLie_1 : decode cX1_lastLie 1 = .ok (.getfield 27, 3) := dk_180 0 27 (dk_at dksX1_lastLie_0 1 rfl rfl)
theorem dX1_lastLie_4 : decode cX1_lastLie 4 = .ok (.invokevirtual 109, 3) := dk_182 0 109 (dk_at dksX1_lastLie_0 4 rfl rfl)
theorem dX1_lastLie_7 : decode cX1_lastLie 7 = .ok (.iconst 1, 1) := dk_4 (dk_at dksX1_lastLie_0 7 rfl rfl)
theorem dX1_lastLie_8 : decode cX1_lastLie 8 = .ok (.isub, 1) := dk_100 (dk_at dksX1_lastLie_0 8 rfl rfl)
theorem dX1_lastLie_9 : decode cX1_lastLie 9 = .ok (.istore 4, 2) := dk_54 4 (dk_at dksX1_lastLie_0 9 rfl rfl)
theorem dX1_lastLie_11 : decode cX1_lastLie 11 = .ok (.iload 4, 2) := dk_21 4 (dk_at dksX1_lastLie_0 11 rfl rfl)
theorem dX1_lastLie_13 : decode cX1_lastLie 13 = .ok (.ifCond .lt 61, 3) := dk_155 0 61 (dk_at dksX1_lastLie_0 13 rfl rfl)
theorem dX1_lastLie_16 : decode cX1_lastLie 16 = .ok (.aload_n 0, 1) := dk_42 (dk_at dksX1_lastLie_0 16 rfl rfl)
theorem dX1_lastLie_17 : decode cX1_lastLie 17 = .ok (.getfield 27, 3) := dk_180 0 27 (dk_at dksX1_lastLie_0 17 rfl rfl)
theorem dX1_lastLie_20 : decode cX1_lastLie 20 = .ok (.iload 4, 2) := dk_21 4 (dk_at dksX1_lastLie_0 20 rfl rfl)
theorem dX1_lastLie_22 : decode cX1_lastLie 22 = .ok (.invokevirtual 134, 3) := dk_182 0 134 (dk_at dksX1_lastLie_1 0 rfl rfl)
theorem dX1_lastLie_25 : decode cX1_lastLie 25 = .ok (.checkcast 138, 3) := dk_192 0 138 (dk_at dksX1_lastLie_1 3 rfl rfl)
theorem dX1_lastLie_28 : decode cX1_lastLie 28 = .ok (.getfield 140, 3) := dk_180 0 140 (dk_at dksX1_lastLie_1 6 rfl rfl)
theorem dX1_lastLie_31 : decode cX1_lastLie 31 = .ok (.iload_n 2, 1) := dk_28 (dk_at dksX1_lastLie_1 9 rfl rfl)
theorem dX1_lastLie_32 : decode cX1_lastLie 32 = .ok (.if_icmp .gt 36, 3) := dk_163 0 36 (dk_at dksX1_lastLie_1 10 rfl rfl)
theorem dX1_lastLie_35 : decode cX1_lastLie 35 = .ok (.aload_n 0, 1) := dk_42 (dk_at dksX1_lastLie_1 13 rfl rfl)
theorem dX1_lastLie_36 : decode cX1_lastLie 36 = .ok (.getfield 27, 3) := dk_180 0 27 (dk_at dksX1_lastLie_1 14 rfl rfl)
theorem dX1_lastLie_39 : decode cX1_lastLie 39 = .ok (.iload 4, 2) := dk_21 4 (dk_at dksX1_lastLie_1 17 rfl rfl)
theorem dX1_lastLie_41 : decode cX1_lastLie 41 = .ok (.invokevirtual 134, 3) := dk_182 0 134 (dk_at dksX1_lastLie_1 19 rfl rfl)
theorem dX1_lastLie_44 : decode cX1_lastLie 44 = .ok (.checkcast 138, 3) := dk_192 0 138 (dk_at dksX1_lastLie_2 0 rfl rfl)
theorem dX1_lastLie_47 : decode cX1_lastLie 47 = .ok (.iload_n 1, 1) := dk_27 (dk_at dksX1_lastLie_2 3 rfl rfl)
theorem dX1_lastLie_48 : decode cX1_lastLie 48 = .ok (.iload_n 3, 1) := dk_29 (dk_at dksX1_lastLie_2 4 rfl rfl)
theorem dX1_lastLie_49 : decode cX1_lastLie 49 = .ok (.invokevirtual 164, 3) := dk_182 0 164 (dk_at dksX1_lastLie_2 5 rfl rfl)
theorem dX1_lastLie_52 : decode cX1_lastLie 52 = .ok (.ifCond .eq 16, 3) := dk_153 0 16 (dk_at dksX1_lastLie_2 8 rfl rfl)
theorem dX1_lastLie_55 : decode cX1_lastLie 55 = .ok (.aload_n 0, 1) := dk_42 (dk_at dksX1_lastLie_2 11 rfl rfl)
theorem dX1_lastLie_56 : decode cX1_lastLie 56 = .ok (.getfield 27, 3) := dk_180 0 27 (dk_at dksX1_lastLie_2 12 rfl rfl)
theorem dX1_lastLie_59 : decode cX1_lastLie 59 = .ok (.iload 4, 2) := dk_21 4 (dk_at dksX1_lastLie_2 15 rfl rfl)
theorem dX1_lastLie_61 : decode cX1_lastLie 61 = .ok (.invokevirtual 134, 3) := dk_182 0 134 (dk_at dksX1_lastLie_2 17 rfl rfl)
theorem dX1_lastLie_64 : decode cX1_lastLie 64 = .ok (.checkcast 138, 3) := dk_192 0 138 (dk_at dksX1_lastLie_2 20 rfl rfl)
theorem dX1_lastLie_67 : decode cX1_lastLie 67 = .ok (.areturn, 1) := dk_176 (dk_at dksX1_lastLie_2 23 rfl rfl)
theorem dX1_lastLie_68 : decode cX1_lastLie 68 = .ok (.iinc 4 (-1), 3) := dk_132 4 255 (dk_at dksX1_lastLie_3 0 rfl rfl)
theorem dX1_lastLie_71 : decode cX1_lastLie 71 = .ok (.goto (-60), 3) := dk_167 255 196 (dk_at dksX1_lastLie_3 3 rfl rfl)
theorem dX1_lastLie_74 : decode cX1_lastLie 74 = .ok (.aconst_null, 1) := dk_1 (dk_at dksX1_lastLie_3 6 rfl rfl)
theorem dX1_lastLie_75 : decode cX1_lastLie 75 = .ok (.areturn, 1) := dk_176 (dk_at dksX1_lastLie_3 7 rfl rfl)
abbrev cX1_who : ByteArray := prog_1_method_23_code
def yX1_who : MethodName := ⟨RX1, "who", "(LLiarsCock$Saying;)I"⟩
def dkwX1_who_0 : List UInt8 := [42, 199, 0, 7, 2, 167, 0, 7, 42, 180, 0, 176, 172]
abbrev dktX1_who_0 : List UInt8 := dkwX1_who_0 ++ []
theorem dksX1_who_0 : cX1_who.data.toList.drop 0 = dktX1_who_0 := by decide +kernel
theorem dX1_who_0 : decode cX1_who 0 = .ok (.aload_n 0, 1) := dk_42 (dk_at dksX1_who_0 0 rfl rfl)
theorem dX1_who_1 : decode cX1_who 1 = .ok (.ifnonnull 7, 3) := dk_199 0 7 (dk_at dksX1_who_0 1 rfl rfl)
theorem dX1_who_4 : decode cX1_who 4 = .ok (.iconst (-1), 1) := dk_2 (dk_at dksX1_who_0 4 rfl rfl)
theorem dX1_who_5 : decode cX1_who 5 = .ok (.goto 7, 3) := dk_167 0 7 (dk_at dksX1_who_0 5 rfl rfl)
theorem dX1_who_8 : decode cX1_who 8 = .ok (.aload_n 0, 1) := dk_42 (dk_at dksX1_who_0 8 rfl rfl)
theorem dX1_who_9 : decode cX1_who 9 = .ok (.getfield 176, 3) := dk_180 0 176 (dk_at dksX1_who_0 9 rfl rfl)
theorem dX1_who_12 : decode cX1_who 12 = .ok (.ireturn, 1) := dk_172 (dk_at dksX1_who_0 12 rfl rfl)
abbrev cX1_lie : ByteArray := prog_1_method_28_code
def yX1_lie : MethodName := ⟨RX1, "lie", "(II)I"⟩
def dkwX1_lie_3 : List UInt8 := [167, 0, 4, 3, 96, 172]
abbrev dktX1_lie_3 : List UInt8 := dkwX1_lie_3 ++ []
def dkwX1_lie_2 : List UInt8 := [3, 28, 182, 0, 164, 153, 0, 7, 5, 167, 0, 4, 3, 96, 45, 4, 28, 182, 0, 164, 153, 0, 7, 7]
abbrev dktX1_lie_2 : List UInt8 := dkwX1_lie_2 ++ dktX1_lie_3
def dkwX1_lie_1 : List UInt8 := [182, 0, 134, 192, 0, 138, 78, 45, 180, 0, 203, 28, 184, 0, 172, 153, 0, 7, 4, 167, 0, 4, 3, 45]
abbrev dktX1_lie_1 : List UInt8 := dkwX1_lie_1 ++ dktX1_lie_2
def dkwX1_lie_0 : List UInt8 := [42, 27, 182, 0, 200, 153, 0, 11, 42, 28, 182, 0, 127, 154, 0, 5, 2, 172, 42, 180, 0, 27, 27]
abbrev dktX1_lie_0 : List UInt8 := dkwX1_lie_0 ++ dktX1_lie_1
theorem dksX1_lie_0 : cX1_lie.data.toList.drop 0 = dktX1_lie_0 := by decide +kernel
theorem dksX1_lie_1 : cX1_lie.data.toList.drop 23 = dktX1_lie_1 := dk_seg dksX1_lie_0 23 rfl rfl
theorem dksX1_lie_2 : cX1_lie.data.toList.drop 47 = dktX1_lie_2 := dk_seg dksX1_lie_1 24 rfl rfl
theorem dksX1_lie_3 : cX1_lie.data.toList.drop 71 = dktX1_lie_3 := dk_seg dksX1_lie_2 24 rfl rfl
theorem dX1_lie_0 : decode cX1_lie 0 = .ok (.aload_n 0, 1) := dk_42 (dk_at dksX1_lie_0 0 rfl rfl)
theorem dX1_lie_1 : decode cX1_lie 1 = .ok (.iload_n 1, 1) := dk_27 (dk_at dksX1_lie_0 1 rfl rfl)
theorem dX1_lie_2 : decode cX1_lie 2 = .ok (.invokevirtual 200, 3) := dk_182 0 200 (dk_at dksX1_lie_0 2 rfl rfl)
theorem dX1_lie_5 : decode cX1_lie 5 = .ok (.ifCond .eq 11, 3) := dk_153 0 11 (dk_at dksX1_lie_0 5 rfl rfl)
theorem dX1_lie_8 : decode cX1_lie 8 = .ok (.aload_n 0, 1) := dk_42 (dk_at dksX1_lie_0 8 rfl rfl)
theorem dX1_lie_9 : decode cX1_lie 9 = .ok (.iload_n 2, 1) := dk_28 (dk_at dksX1_lie_0 9 rfl rfl)
theorem dX1_lie_10 : decode cX1_lie 10 = .ok (.invokevirtual 127, 3) := dk_182 0 127 (dk_at dksX1_lie_0 10 rfl rfl)
theorem dX1_lie_13 : decode cX1_lie 13 = .ok (.ifCond .ne 5, 3) := dk_154 0 5 (dk_at dksX1_lie_0 13 rfl rfl)
theorem dX1_lie_16 : decode cX1_lie 16 = .ok (.iconst (-1), 1) := dk_2 (dk_at dksX1_lie_0 16 rfl rfl)
theorem dX1_lie_17 : decode cX1_lie 17 = .ok (.ireturn, 1) := dk_172 (dk_at dksX1_lie_0 17 rfl rfl)
theorem dX1_lie_18 : decode cX1_lie 18 = .ok (.aload_n 0, 1) := dk_42 (dk_at dksX1_lie_0 18 rfl rfl)
theorem dX1_lie_19 : decode cX1_lie 19 = .ok (.getfield 27, 3) := dk_180 0 27 (dk_at dksX1_lie_0 19 rfl rfl)
theorem dX1_lie_22 : decode cX1_lie 22 = .ok (.iload_n 1, 1) := dk_27 (dk_at dksX1_lie_0 22 rfl rfl)
theorem dX1_lie_23 : decode cX1_lie 23 = .ok (.invokevirtual 134, 3) := dk_182 0 134 (dk_at dksX1_lie_1 0 rfl rfl)
theorem dX1_lie_26 : decode cX1_lie 26 = .ok (.checkcast 138, 3) := dk_192 0 138 (dk_at dksX1_lie_1 3 rfl rfl)
theorem dX1_lie_29 : decode cX1_lie 29 = .ok (.astore_n 3, 1) := dk_78 (dk_at dksX1_lie_1 6 rfl rfl)
theorem dX1_lie_30 : decode cX1_lie 30 = .ok (.aload_n 3, 1) := dk_45 (dk_at dksX1_lie_1 7 rfl rfl)
theorem dX1_lie_31 : decode cX1_lie 31 = .ok (.getfield 203, 3) := dk_180 0 203 (dk_at dksX1_lie_1 8 rfl rfl)
theorem dX1_lie_34 : decode cX1_lie 34 = .ok (.iload_n 2, 1) := dk_28 (dk_at dksX1_lie_1 11 rfl rfl)
theorem dX1_lie_35 : decode cX1_lie 35 = .ok (.invokestatic 172, 3) := dk_184 0 172 (dk_at dksX1_lie_1 12 rfl rfl)
theorem dX1_lie_38 : decode cX1_lie 38 = .ok (.ifCond .eq 7, 3) := dk_153 0 7 (dk_at dksX1_lie_1 15 rfl rfl)
theorem dX1_lie_41 : decode cX1_lie 41 = .ok (.iconst 1, 1) := dk_4 (dk_at dksX1_lie_1 18 rfl rfl)
theorem dX1_lie_42 : decode cX1_lie 42 = .ok (.goto 4, 3) := dk_167 0 4 (dk_at dksX1_lie_1 19 rfl rfl)
theorem dX1_lie_45 : decode cX1_lie 45 = .ok (.iconst 0, 1) := dk_3 (dk_at dksX1_lie_1 22 rfl rfl)
theorem dX1_lie_46 : decode cX1_lie 46 = .ok (.aload_n 3, 1) := dk_45 (dk_at dksX1_lie_1 23 rfl rfl)
theorem dX1_lie_47 : decode cX1_lie 47 = .ok (.iconst 0, 1) := dk_3 (dk_at dksX1_lie_2 0 rfl rfl)
theorem dX1_lie_48 : decode cX1_lie 48 = .ok (.iload_n 2, 1) := dk_28 (dk_at dksX1_lie_2 1 rfl rfl)
theorem dX1_lie_49 : decode cX1_lie 49 = .ok (.invokevirtual 164, 3) := dk_182 0 164 (dk_at dksX1_lie_2 2 rfl rfl)
theorem dX1_lie_52 : decode cX1_lie 52 = .ok (.ifCond .eq 7, 3) := dk_153 0 7 (dk_at dksX1_lie_2 5 rfl rfl)
theorem dX1_lie_55 : decode cX1_lie 55 = .ok (.iconst 2, 1) := dk_5 (dk_at dksX1_lie_2 8 rfl rfl)
theorem dX1_lie_56 : decode cX1_lie 56 = .ok (.goto 4, 3) := dk_167 0 4 (dk_at dksX1_lie_2 9 rfl rfl)
theorem dX1_lie_59 : decode cX1_lie 59 = .ok (.iconst 0, 1) := dk_3 (dk_at dksX1_lie_2 12 rfl rfl)
theorem dX1_lie_60 : decode cX1_lie 60 = .ok (.iadd, 1) := dk_96 (dk_at dksX1_lie_2 13 rfl rfl)
theorem dX1_lie_61 : decode cX1_lie 61 = .ok (.aload_n 3, 1) := dk_45 (dk_at dksX1_lie_2 14 rfl rfl)
theorem dX1_lie_62 : decode cX1_lie 62 = .ok (.iconst 1, 1) := dk_4 (dk_at dksX1_lie_2 15 rfl rfl)
theorem dX1_lie_63 : decode cX1_lie 63 = .ok (.iload_n 2, 1) := dk_28 (dk_at dksX1_lie_2 16 rfl rfl)
theorem dX1_lie_64 : decode cX1_lie 64 = .ok (.invokevirtual 164, 3) := dk_182 0 164 (dk_at dksX1_lie_2 17 rfl rfl)
theorem dX1_lie_67 : decode cX1_lie 67 = .ok (.ifCond .eq 7, 3) := dk_153 0 7 (dk_at dksX1_lie_2 20 rfl rfl)
theorem dX1_lie_70 : decode cX1_lie 70 = .ok (.iconst 4, 1) := dk_7 (dk_at dksX1_lie_2 23 rfl rfl)
theorem dX1_lie_71 : decode cX1_lie 71 = .ok (.goto 4, 3) := dk_167 0 4 (dk_at dksX1_lie_3 0 rfl rfl)
theorem dX1_lie_74 : decode cX1_lie 74 = .ok (.iconst 0, 1) := dk_3 (dk_at dksX1_lie_3 3 rfl rfl)
theorem dX1_lie_75 : decode cX1_lie 75 = .ok (.iadd, 1) := dk_96 (dk_at dksX1_lie_3 4 rfl rfl)
theorem dX1_lie_76 : decode cX1_lie 76 = .ok (.ireturn, 1) := dk_172 (dk_at dksX1_lie_3 5 rfl rfl)
abbrev cX1_isSaying : ByteArray := prog_1_method_27_code
def yX1_isSaying : MethodName := ⟨RX1, "isSaying", "(I)Z"⟩
def dkwX1_isSaying_0 : List UInt8 := [27, 3, 42, 180, 0, 27, 182, 0, 109, 4, 100, 184, 0, 113, 172]
abbrev dktX1_isSaying_0 : List UInt8 := dkwX1_isSaying_0 ++ []
theorem dksX1_isSaying_0 : cX1_isSaying.data.toList.drop 0 = dktX1_isSaying_0 := by decide +kernel
theorem dX1_isSaying_0 : decode cX1_isSaying 0 = .ok (.iload_n 1, 1) := dk_27 (dk_at dksX1_isSaying_0 0 rfl rfl)
theorem dX1_isSaying_1 : decode cX1_isSaying 1 = .ok (.iconst 0, 1) := dk_3 (dk_at dksX1_isSaying_0 1 rfl rfl)
theorem dX1_isSaying_2 : decode cX1_isSaying 2 = .ok (.aload_n 0, 1) := dk_42 (dk_at dksX1_isSaying_0 2 rfl rfl)
theorem dX1_isSaying_3 : decode cX1_isSaying 3 = .ok (.getfield 27, 3) := dk_180 0 27 (dk_at dksX1_isSaying_0 3 rfl rfl)
theorem dX1_isSaying_6 : decode cX1_isSaying 6 = .ok (.invokevirtual 109, 3) := dk_182 0 109 (dk_at dksX1_isSaying_0 6 rfl rfl)
theorem dX1_isSaying_9 : decode cX1_isSaying 9 = .ok (.iconst 1, 1) := dk_4 (dk_at dksX1_isSaying_0 9 rfl rfl)
theorem dX1_isSaying_10 : decode cX1_isSaying 10 = .ok (.isub, 1) := dk_100 (dk_at dksX1_isSaying_0 10 rfl rfl)
theorem dX1_isSaying_11 : decode cX1_isSaying 11 = .ok (.invokestatic 113, 3) := dk_184 0 113 (dk_at dksX1_isSaying_0 11 rfl rfl)
theorem dX1_isSaying_14 : decode cX1_isSaying 14 = .ok (.ireturn, 1) := dk_172 (dk_at dksX1_isSaying_0 14 rfl rfl)
abbrev cX1_look : ByteArray := prog_1_method_30_code
def yX1_look : MethodName := ⟨RX1, "look", "(IIII)I"⟩
def dkwX1_look_3 : List UInt8 := [100, 172]
abbrev dktX1_look_3 : List UInt8 := dkwX1_look_3 ++ []
def dkwX1_look_2 : List UInt8 := [187, 0, 209, 89, 27, 28, 29, 21, 4, 183, 0, 211, 182, 0, 150, 87, 42, 180, 0, 34, 182, 0, 109, 4]
abbrev dktX1_look_2 : List UInt8 := dkwX1_look_2 ++ dktX1_look_3
def dkwX1_look_1 : List UInt8 := [184, 0, 206, 153, 0, 15, 42, 180, 0, 34, 182, 0, 109, 16, 12, 160, 0, 5, 2, 172, 42, 180, 0, 34]
abbrev dktX1_look_1 : List UInt8 := dkwX1_look_1 ++ dktX1_look_2
def dkwX1_look_0 : List UInt8 := [42, 27, 182, 0, 197, 153, 0, 37, 28, 184, 0, 123, 153, 0, 30, 29, 184, 0, 206, 153, 0, 23, 21, 4]
abbrev dktX1_look_0 : List UInt8 := dkwX1_look_0 ++ dktX1_look_1
theorem dksX1_look_0 : cX1_look.data.toList.drop 0 = dktX1_look_0 := by decide +kernel
theorem dksX1_look_1 : cX1_look.data.toList.drop 24 = dktX1_look_1 := dk_seg dksX1_look_0 24 rfl rfl
theorem dksX1_look_2 : cX1_look.data.toList.drop 48 = dktX1_look_2 := dk_seg dksX1_look_1 24 rfl rfl
theorem dksX1_look_3 : cX1_look.data.toList.drop 72 = dktX1_look_3 := dk_seg dksX1_look_2 24 rfl rfl
theorem dX1_look_0 : decode cX1_look 0 = .ok (.aload_n 0, 1) := dk_42 (dk_at dksX1_look_0 0 rfl rfl)
theorem dX1_look_1 : decode cX1_look 1 = .ok (.iload_n 1, 1) := dk_27 (dk_at dksX1_look_0 1 rfl rfl)
theorem dX1_look_2 : decode cX1_look 2 = .ok (.invokevirtual 197, 3) := dk_182 0 197 (dk_at dksX1_look_0 2 rfl rfl)
theorem dX1_look_5 : decode cX1_look 5 = .ok (.ifCond .eq 37, 3) := dk_153 0 37 (dk_at dksX1_look_0 5 rfl rfl)
theorem dX1_look_8 : decode cX1_look 8 = .ok (.iload_n 2, 1) := dk_28 (dk_at dksX1_look_0 8 rfl rfl)
theorem dX1_look_9 : decode cX1_look 9 = .ok (.invokestatic 123, 3) := dk_184 0 123 (dk_at dksX1_look_0 9 rfl rfl)
theorem dX1_look_12 : decode cX1_look 12 = .ok (.ifCond .eq 30, 3) := dk_153 0 30 (dk_at dksX1_look_0 12 rfl rfl)
theorem dX1_look_15 : decode cX1_look 15 = .ok (.iload_n 3, 1) := dk_29 (dk_at dksX1_look_0 15 rfl rfl)
theorem dX1_look_16 : decode cX1_look 16 = .ok (.invokestatic 206, 3) := dk_184 0 206 (dk_at dksX1_look_0 16 rfl rfl)
theorem dX1_look_19 : decode cX1_look 19 = .ok (.ifCond .eq 23, 3) := dk_153 0 23 (dk_at dksX1_look_0 19 rfl rfl)
theorem dX1_look_22 : decode cX1_look 22 = .ok (.iload 4, 2) := dk_21 4 (dk_at dksX1_look_0 22 rfl rfl)
theorem dX1_look_24 : decode cX1_look 24 = .ok (.invokestatic 206, 3) := dk_184 0 206 (dk_at dksX1_look_1 0 rfl rfl)
theorem dX1_look_27 : decode cX1_look 27 = .ok (.ifCond .eq 15, 3) := dk_153 0 15 (dk_at dksX1_look_1 3 rfl rfl)
theorem dX1_look_30 : decode cX1_look 30 = .ok (.aload_n 0, 1) := dk_42 (dk_at dksX1_look_1 6 rfl rfl)
theorem dX1_look_31 : decode cX1_look 31 = .ok (.getfield 34, 3) := dk_180 0 34 (dk_at dksX1_look_1 7 rfl rfl)
theorem dX1_look_34 : decode cX1_look 34 = .ok (.invokevirtual 109, 3) := dk_182 0 109 (dk_at dksX1_look_1 10 rfl rfl)
theorem dX1_look_37 : decode cX1_look 37 = .ok (.bipush 12, 2) := dk_16 12 (dk_at dksX1_look_1 13 rfl rfl)
theorem dX1_look_39 : decode cX1_look 39 = .ok (.if_icmp .ne 5, 3) := dk_160 0 5 (dk_at dksX1_look_1 15 rfl rfl)
theorem dX1_look_42 : decode cX1_look 42 = .ok (.iconst (-1), 1) := dk_2 (dk_at dksX1_look_1 18 rfl rfl)
theorem dX1_look_43 : decode cX1_look 43 = .ok (.ireturn, 1) := dk_172 (dk_at dksX1_look_1 19 rfl rfl)
theorem dX1_look_44 : decode cX1_look 44 = .ok (.aload_n 0, 1) := dk_42 (dk_at dksX1_look_1 20 rfl rfl)
theorem dX1_look_45 : decode cX1_look 45 = .ok (.getfield 34, 3) := dk_180 0 34 (dk_at dksX1_look_1 21 rfl rfl)
theorem dX1_look_48 : decode cX1_look 48 = .ok (.new 209, 3) := dk_187 0 209 (dk_at dksX1_look_2 0 rfl rfl)
theorem dX1_look_51 : decode cX1_look 51 = .ok (.dup, 1) := dk_89 (dk_at dksX1_look_2 3 rfl rfl)
theorem dX1_look_52 : decode cX1_look 52 = .ok (.iload_n 1, 1) := dk_27 (dk_at dksX1_look_2 4 rfl rfl)
theorem dX1_look_53 : decode cX1_look 53 = .ok (.iload_n 2, 1) := dk_28 (dk_at dksX1_look_2 5 rfl rfl)
theorem dX1_look_54 : decode cX1_look 54 = .ok (.iload_n 3, 1) := dk_29 (dk_at dksX1_look_2 6 rfl rfl)
theorem dX1_look_55 : decode cX1_look 55 = .ok (.iload 4, 2) := dk_21 4 (dk_at dksX1_look_2 7 rfl rfl)
theorem dX1_look_57 : decode cX1_look 57 = .ok (.invokespecial 211, 3) := dk_183 0 211 (dk_at dksX1_look_2 9 rfl rfl)
theorem dX1_look_60 : decode cX1_look 60 = .ok (.invokevirtual 150, 3) := dk_182 0 150 (dk_at dksX1_look_2 12 rfl rfl)
theorem dX1_look_63 : decode cX1_look 63 = .ok (.pop, 1) := dk_87 (dk_at dksX1_look_2 15 rfl rfl)
theorem dX1_look_64 : decode cX1_look 64 = .ok (.aload_n 0, 1) := dk_42 (dk_at dksX1_look_2 16 rfl rfl)
theorem dX1_look_65 : decode cX1_look 65 = .ok (.getfield 34, 3) := dk_180 0 34 (dk_at dksX1_look_2 17 rfl rfl)
theorem dX1_look_68 : decode cX1_look 68 = .ok (.invokevirtual 109, 3) := dk_182 0 109 (dk_at dksX1_look_2 20 rfl rfl)
theorem dX1_look_71 : decode cX1_look 71 = .ok (.iconst 1, 1) := dk_4 (dk_at dksX1_look_2 23 rfl rfl)
theorem dX1_look_72 : decode cX1_look 72 = .ok (.isub, 1) := dk_100 (dk_at dksX1_look_3 0 rfl rfl)
theorem dX1_look_73 : decode cX1_look 73 = .ok (.ireturn, 1) := dk_172 (dk_at dksX1_look_3 1 rfl rfl)
abbrev cX1_isBearing : ByteArray := prog_1_method_14_code
def yX1_isBearing : MethodName := ⟨RX1, "isBearing", "(I)Z"⟩
def dkwX1_isBearing_0 : List UInt8 := [26, 3, 17, 1, 103, 184, 0, 113, 172]
abbrev dktX1_isBearing_0 : List UInt8 := dkwX1_isBearing_0 ++ []
theorem dksX1_isBearing_0 : cX1_isBearing.data.toList.drop 0 = dktX1_isBearing_0 := by decide +kernel
theorem dX1_isBearing_0 : decode cX1_isBearing 0 = .ok (.iload_n 0, 1) := dk_26 (dk_at dksX1_isBearing_0 0 rfl rfl)
theorem dX1_isBearing_1 : decode cX1_isBearing 1 = .ok (.iconst 0, 1) := dk_3 (dk_at dksX1_isBearing_0 1 rfl rfl)
theorem dX1_isBearing_2 : decode cX1_isBearing 2 = .ok (.sipush 359, 3) := dk_17 1 103 (dk_at dksX1_isBearing_0 2 rfl rfl)
theorem dX1_isBearing_5 : decode cX1_isBearing 5 = .ok (.invokestatic 113, 3) := dk_184 0 113 (dk_at dksX1_isBearing_0 5 rfl rfl)
theorem dX1_isBearing_8 : decode cX1_isBearing 8 = .ok (.ireturn, 1) := dk_172 (dk_at dksX1_isBearing_0 8 rfl rfl)
abbrev cX1_watch : ByteArray := prog_1_method_31_code
def yX1_watch : MethodName := ⟨RX1, "watch", "(II)I"⟩
def dkwX1_watch_2 : List UInt8 := [42, 180, 0, 37, 182, 0, 109, 4, 100, 172]
abbrev dktX1_watch_2 : List UInt8 := dkwX1_watch_2 ++ []
def dkwX1_watch_1 : List UInt8 := [160, 0, 5, 2, 172, 42, 180, 0, 37, 187, 0, 209, 89, 27, 28, 3, 3, 183, 0, 211, 182, 0, 150, 87]
abbrev dktX1_watch_1 : List UInt8 := dkwX1_watch_1 ++ dktX1_watch_2
def dkwX1_watch_0 : List UInt8 := [42, 27, 182, 0, 197, 153, 0, 21, 28, 184, 0, 123, 153, 0, 14, 42, 180, 0, 37, 182, 0, 109, 7]
abbrev dktX1_watch_0 : List UInt8 := dkwX1_watch_0 ++ dktX1_watch_1
theorem dksX1_watch_0 : cX1_watch.data.toList.drop 0 = dktX1_watch_0 := by decide +kernel
theorem dksX1_watch_1 : cX1_watch.data.toList.drop 23 = dktX1_watch_1 := dk_seg dksX1_watch_0 23 rfl rfl
theorem dksX1_watch_2 : cX1_watch.data.toList.drop 47 = dktX1_watch_2 := dk_seg dksX1_watch_1 24 rfl rfl
theorem dX1_watch_0 : decode cX1_watch 0 = .ok (.aload_n 0, 1) := dk_42 (dk_at dksX1_watch_0 0 rfl rfl)
theorem dX1_watch_1 : decode cX1_watch 1 = .ok (.iload_n 1, 1) := dk_27 (dk_at dksX1_watch_0 1 rfl rfl)
theorem dX1_watch_2 : decode cX1_watch 2 = .ok (.invokevirtual 197, 3) := dk_182 0 197 (dk_at dksX1_watch_0 2 rfl rfl)
theorem dX1_watch_5 : decode cX1_watch 5 = .ok (.ifCond .eq 21, 3) := dk_153 0 21 (dk_at dksX1_watch_0 5 rfl rfl)
theorem dX1_watch_8 : decode cX1_watch 8 = .ok (.iload_n 2, 1) := dk_28 (dk_at dksX1_watch_0 8 rfl rfl)
theorem dX1_watch_9 : decode cX1_watch 9 = .ok (.invokestatic 123, 3) := dk_184 0 123 (dk_at dksX1_watch_0 9 rfl rfl)
theorem dX1_watch_12 : decode cX1_watch 12 = .ok (.ifCond .eq 14, 3) := dk_153 0 14 (dk_at dksX1_watch_0 12 rfl rfl)
theorem dX1_watch_15 : decode cX1_watch 15 = .ok (.aload_n 0, 1) := dk_42 (dk_at dksX1_watch_0 15 rfl rfl)
theorem dX1_watch_16 : decode cX1_watch 16 = .ok (.getfield 37, 3) := dk_180 0 37 (dk_at dksX1_watch_0 16 rfl rfl)
theorem dX1_watch_19 : decode cX1_watch 19 = .ok (.invokevirtual 109, 3) := dk_182 0 109 (dk_at dksX1_watch_0 19 rfl rfl)
theorem dX1_watch_22 : decode cX1_watch 22 = .ok (.iconst 4, 1) := dk_7 (dk_at dksX1_watch_0 22 rfl rfl)
theorem dX1_watch_23 : decode cX1_watch 23 = .ok (.if_icmp .ne 5, 3) := dk_160 0 5 (dk_at dksX1_watch_1 0 rfl rfl)
theorem dX1_watch_26 : decode cX1_watch 26 = .ok (.iconst (-1), 1) := dk_2 (dk_at dksX1_watch_1 3 rfl rfl)
theorem dX1_watch_27 : decode cX1_watch 27 = .ok (.ireturn, 1) := dk_172 (dk_at dksX1_watch_1 4 rfl rfl)
theorem dX1_watch_28 : decode cX1_watch 28 = .ok (.aload_n 0, 1) := dk_42 (dk_at dksX1_watch_1 5 rfl rfl)
theorem dX1_watch_29 : decode cX1_watch 29 = .ok (.getfield 37, 3) := dk_180 0 37 (dk_at dksX1_watch_1 6 rfl rfl)
theorem dX1_watch_32 : decode cX1_watch 32 = .ok (.new 209, 3) := dk_187 0 209 (dk_at dksX1_watch_1 9 rfl rfl)
theorem dX1_watch_35 : decode cX1_watch 35 = .ok (.dup, 1) := dk_89 (dk_at dksX1_watch_1 12 rfl rfl)
theorem dX1_watch_36 : decode cX1_watch 36 = .ok (.iload_n 1, 1) := dk_27 (dk_at dksX1_watch_1 13 rfl rfl)
theorem dX1_watch_37 : decode cX1_watch 37 = .ok (.iload_n 2, 1) := dk_28 (dk_at dksX1_watch_1 14 rfl rfl)
theorem dX1_watch_38 : decode cX1_watch 38 = .ok (.iconst 0, 1) := dk_3 (dk_at dksX1_watch_1 15 rfl rfl)
theorem dX1_watch_39 : decode cX1_watch 39 = .ok (.iconst 0, 1) := dk_3 (dk_at dksX1_watch_1 16 rfl rfl)
theorem dX1_watch_40 : decode cX1_watch 40 = .ok (.invokespecial 211, 3) := dk_183 0 211 (dk_at dksX1_watch_1 17 rfl rfl)
theorem dX1_watch_43 : decode cX1_watch 43 = .ok (.invokevirtual 150, 3) := dk_182 0 150 (dk_at dksX1_watch_1 20 rfl rfl)
theorem dX1_watch_46 : decode cX1_watch 46 = .ok (.pop, 1) := dk_87 (dk_at dksX1_watch_1 23 rfl rfl)
theorem dX1_watch_47 : decode cX1_watch 47 = .ok (.aload_n 0, 1) := dk_42 (dk_at dksX1_watch_2 0 rfl rfl)
theorem dX1_watch_48 : decode cX1_watch 48 = .ok (.getfield 37, 3) := dk_180 0 37 (dk_at dksX1_watch_2 1 rfl rfl)
theorem dX1_watch_51 : decode cX1_watch 51 = .ok (.invokevirtual 109, 3) := dk_182 0 109 (dk_at dksX1_watch_2 4 rfl rfl)
theorem dX1_watch_54 : decode cX1_watch 54 = .ok (.iconst 1, 1) := dk_4 (dk_at dksX1_watch_2 7 rfl rfl)
theorem dX1_watch_55 : decode cX1_watch 55 = .ok (.isub, 1) := dk_100 (dk_at dksX1_watch_2 8 rfl rfl)
theorem dX1_watch_56 : decode cX1_watch 56 = .ok (.ireturn, 1) := dk_172 (dk_at dksX1_watch_2 9 rfl rfl)
abbrev cX1_world : ByteArray := prog_1_method_36_code
def yX1_world : MethodName := ⟨RX1, "world", "(I)I"⟩
def dkwX1_world_1 : List UInt8 := [167, 0, 22, 42, 180, 0, 20, 180, 0, 81, 27, 184, 0, 172, 153, 0, 7, 4, 167, 0, 4, 3, 172]
abbrev dktX1_world_1 : List UInt8 := dkwX1_world_1 ++ []
def dkwX1_world_0 : List UInt8 := [42, 27, 182, 0, 127, 154, 0, 5, 2, 172, 42, 182, 0, 235, 27, 184, 0, 172, 153, 0, 7, 5]
abbrev dktX1_world_0 : List UInt8 := dkwX1_world_0 ++ dktX1_world_1
theorem dksX1_world_0 : cX1_world.data.toList.drop 0 = dktX1_world_0 := by decide +kernel
theorem dksX1_world_1 : cX1_world.data.toList.drop 22 = dktX1_world_1 := dk_seg dksX1_world_0 22 rfl rfl
theorem dX1_world_0 : decode cX1_world 0 = .ok (.aload_n 0, 1) := dk_42 (dk_at dksX1_world_0 0 rfl rfl)
theorem dX1_world_1 : decode cX1_world 1 = .ok (.iload_n 1, 1) := dk_27 (dk_at dksX1_world_0 1 rfl rfl)
theorem dX1_world_2 : decode cX1_world 2 = .ok (.invokevirtual 127, 3) := dk_182 0 127 (dk_at dksX1_world_0 2 rfl rfl)
theorem dX1_world_5 : decode cX1_world 5 = .ok (.ifCond .ne 5, 3) := dk_154 0 5 (dk_at dksX1_world_0 5 rfl rfl)
theorem dX1_world_8 : decode cX1_world 8 = .ok (.iconst (-1), 1) := dk_2 (dk_at dksX1_world_0 8 rfl rfl)
theorem dX1_world_9 : decode cX1_world 9 = .ok (.ireturn, 1) := dk_172 (dk_at dksX1_world_0 9 rfl rfl)
theorem dX1_world_10 : decode cX1_world 10 = .ok (.aload_n 0, 1) := dk_42 (dk_at dksX1_world_0 10 rfl rfl)
theorem dX1_world_11 : decode cX1_world 11 = .ok (.invokevirtual 235, 3) := dk_182 0 235 (dk_at dksX1_world_0 11 rfl rfl)
theorem dX1_world_14 : decode cX1_world 14 = .ok (.iload_n 1, 1) := dk_27 (dk_at dksX1_world_0 14 rfl rfl)
theorem dX1_world_15 : decode cX1_world 15 = .ok (.invokestatic 172, 3) := dk_184 0 172 (dk_at dksX1_world_0 15 rfl rfl)
theorem dX1_world_18 : decode cX1_world 18 = .ok (.ifCond .eq 7, 3) := dk_153 0 7 (dk_at dksX1_world_0 18 rfl rfl)
theorem dX1_world_21 : decode cX1_world 21 = .ok (.iconst 2, 1) := dk_5 (dk_at dksX1_world_0 21 rfl rfl)
theorem dX1_world_22 : decode cX1_world 22 = .ok (.goto 22, 3) := dk_167 0 22 (dk_at dksX1_world_1 0 rfl rfl)
theorem dX1_world_25 : decode cX1_world 25 = .ok (.aload_n 0, 1) := dk_42 (dk_at dksX1_world_1 3 rfl rfl)
theorem dX1_world_26 : decode cX1_world 26 = .ok (.getfield 20, 3) := dk_180 0 20 (dk_at dksX1_world_1 4 rfl rfl)
theorem dX1_world_29 : decode cX1_world 29 = .ok (.getfield 81, 3) := dk_180 0 81 (dk_at dksX1_world_1 7 rfl rfl)
theorem dX1_world_32 : decode cX1_world 32 = .ok (.iload_n 1, 1) := dk_27 (dk_at dksX1_world_1 10 rfl rfl)
theorem dX1_world_33 : decode cX1_world 33 = .ok (.invokestatic 172, 3) := dk_184 0 172 (dk_at dksX1_world_1 11 rfl rfl)
theorem dX1_world_36 : decode cX1_world 36 = .ok (.ifCond .eq 7, 3) := dk_153 0 7 (dk_at dksX1_world_1 14 rfl rfl)
theorem dX1_world_39 : decode cX1_world 39 = .ok (.iconst 1, 1) := dk_4 (dk_at dksX1_world_1 17 rfl rfl)
theorem dX1_world_40 : decode cX1_world 40 = .ok (.goto 4, 3) := dk_167 0 4 (dk_at dksX1_world_1 18 rfl rfl)
theorem dX1_world_43 : decode cX1_world 43 = .ok (.iconst 0, 1) := dk_3 (dk_at dksX1_world_1 21 rfl rfl)
theorem dX1_world_44 : decode cX1_world 44 = .ok (.ireturn, 1) := dk_172 (dk_at dksX1_world_1 22 rfl rfl)
abbrev cX1_canBe : ByteArray := prog_1_method_35_code
def yX1_canBe : MethodName := ⟨RX1, "canBe", "()J"⟩
def dkwX1_canBe_0 : List UInt8 := [42, 42, 182, 0, 228, 182, 0, 231, 173]
abbrev dktX1_canBe_0 : List UInt8 := dkwX1_canBe_0 ++ []
theorem dksX1_canBe_0 : cX1_canBe.data.toList.drop 0 = dktX1_canBe_0 := by decide +kernel
theorem dX1_canBe_0 : decode cX1_canBe 0 = .ok (.aload_n 0, 1) := dk_42 (dk_at dksX1_canBe_0 0 rfl rfl)
theorem dX1_canBe_1 : decode cX1_canBe 1 = .ok (.aload_n 0, 1) := dk_42 (dk_at dksX1_canBe_0 1 rfl rfl)
theorem dX1_canBe_2 : decode cX1_canBe 2 = .ok (.invokevirtual 228, 3) := dk_182 0 228 (dk_at dksX1_canBe_0 2 rfl rfl)
theorem dX1_canBe_5 : decode cX1_canBe 5 = .ok (.invokevirtual 231, 3) := dk_182 0 231 (dk_at dksX1_canBe_0 5 rfl rfl)
theorem dX1_canBe_8 : decode cX1_canBe 8 = .ok (.lreturn, 1) := dk_173 (dk_at dksX1_canBe_0 8 rfl rfl)
abbrev cX1_allLooks : ByteArray := prog_1_method_34_code
def yX1_allLooks : MethodName := ⟨RX1, "allLooks", "()I"⟩
def dkwX1_allLooks_0 : List UInt8 := [4, 42, 180, 0, 34, 182, 0, 109, 120, 4, 100, 172]
abbrev dktX1_allLooks_0 : List UInt8 := dkwX1_allLooks_0 ++ []
theorem dksX1_allLooks_0 : cX1_allLooks.data.toList.drop 0 = dktX1_allLooks_0 := by decide +kernel
theorem dX1_allLooks_0 : decode cX1_allLooks 0 = .ok (.iconst 1, 1) := dk_4 (dk_at dksX1_allLooks_0 0 rfl rfl)
theorem dX1_allLooks_1 : decode cX1_allLooks 1 = .ok (.aload_n 0, 1) := dk_42 (dk_at dksX1_allLooks_0 1 rfl rfl)
theorem dX1_allLooks_2 : decode cX1_allLooks 2 = .ok (.getfield 34, 3) := dk_180 0 34 (dk_at dksX1_allLooks_0 2 rfl rfl)
theorem dX1_allLooks_5 : decode cX1_allLooks 5 = .ok (.invokevirtual 109, 3) := dk_182 0 109 (dk_at dksX1_allLooks_0 5 rfl rfl)
theorem dX1_allLooks_8 : decode cX1_allLooks 8 = .ok (.ishl, 1) := dk_120 (dk_at dksX1_allLooks_0 8 rfl rfl)
theorem dX1_allLooks_9 : decode cX1_allLooks 9 = .ok (.iconst 1, 1) := dk_4 (dk_at dksX1_allLooks_0 9 rfl rfl)
theorem dX1_allLooks_10 : decode cX1_allLooks 10 = .ok (.isub, 1) := dk_100 (dk_at dksX1_allLooks_0 10 rfl rfl)
theorem dX1_allLooks_11 : decode cX1_allLooks 11 = .ok (.ireturn, 1) := dk_172 (dk_at dksX1_allLooks_0 11 rfl rfl)
abbrev cX1_canBe_2 : ByteArray := prog_1_method_33_code
def yX1_canBe_2 : MethodName := ⟨RX1, "canBe", "(I)J"⟩
def dkwX1_canBe_2_2 : List UInt8 := [182, 0, 224, 127, 65, 132, 4, 1, 167, 255, 212, 32, 173]
abbrev dktX1_canBe_2_2 : List UInt8 := dkwX1_canBe_2_2 ++ []
def dkwX1_canBe_2_1 : List UInt8 := [133, 21, 4, 184, 0, 172, 153, 0, 22, 32, 42, 42, 180, 0, 34, 21, 4, 182, 0, 134, 192, 0, 209]
abbrev dktX1_canBe_2_1 : List UInt8 := dkwX1_canBe_2_1 ++ dktX1_canBe_2_2
def dkwX1_canBe_2_0 : List UInt8 := [42, 180, 0, 20, 180, 0, 81, 65, 3, 54, 4, 21, 4, 42, 180, 0, 34, 182, 0, 109, 162, 0, 38, 27]
abbrev dktX1_canBe_2_0 : List UInt8 := dkwX1_canBe_2_0 ++ dktX1_canBe_2_1
theorem dksX1_canBe_2_0 : cX1_canBe_2.data.toList.drop 0 = dktX1_canBe_2_0 := by decide +kernel
theorem dksX1_canBe_2_1 : cX1_canBe_2.data.toList.drop 24 = dktX1_canBe_2_1 := dk_seg dksX1_canBe_2_0 24 rfl rfl
theorem dksX1_canBe_2_2 : cX1_canBe_2.data.toList.drop 47 = dktX1_canBe_2_2 := dk_seg dksX1_canBe_2_1 23 rfl rfl
theorem dX1_canBe_2_0 : decode cX1_canBe_2 0 = .ok (.aload_n 0, 1) := dk_42 (dk_at dksX1_canBe_2_0 0 rfl rfl)
theorem dX1_canBe_2_1 : decode cX1_canBe_2 1 = .ok (.getfield 20, 3) := dk_180 0 20 (dk_at dksX1_canBe_2_0 1 rfl rfl)
theorem dX1_canBe_2_4 : decode cX1_canBe_2 4 = .ok (.getfield 81, 3) := dk_180 0 81 (dk_at dksX1_canBe_2_0 4 rfl rfl)
theorem dX1_canBe_2_7 : decode cX1_canBe_2 7 = .ok (.lstore_n 2, 1) := dk_65 (dk_at dksX1_canBe_2_0 7 rfl rfl)
theorem dX1_canBe_2_8 : decode cX1_canBe_2 8 = .ok (.iconst 0, 1) := dk_3 (dk_at dksX1_canBe_2_0 8 rfl rfl)
theorem dX1_canBe_2_9 : decode cX1_canBe_2 9 = .ok (.istore 4, 2) := dk_54 4 (dk_at dksX1_canBe_2_0 9 rfl rfl)
theorem dX1_canBe_2_11 : decode cX1_canBe_2 11 = .ok (.iload 4, 2) := dk_21 4 (dk_at dksX1_canBe_2_0 11 rfl rfl)
theorem dX1_canBe_2_13 : decode cX1_canBe_2 13 = .ok (.aload_n 0, 1) := dk_42 (dk_at dksX1_canBe_2_0 13 rfl rfl)
theorem dX1_canBe_2_14 : decode cX1_canBe_2 14 = .ok (.getfield 34, 3) := dk_180 0 34 (dk_at dksX1_canBe_2_0 14 rfl rfl)
theorem dX1_canBe_2_17 : decode cX1_canBe_2 17 = .ok (.invokevirtual 109, 3) := dk_182 0 109 (dk_at dksX1_canBe_2_0 17 rfl rfl)
theorem dX1_canBe_2_20 : decode cX1_canBe_2 20 = .ok (.if_icmp .ge 38, 3) := dk_162 0 38 (dk_at dksX1_canBe_2_0 20 rfl rfl)
theorem dX1_canBe_2_23 : decode cX1_canBe_2 23 = .ok (.iload_n 1, 1) := dk_27 (dk_at dksX1_canBe_2_0 23 rfl rfl)
theorem dX1_canBe_2_24 : decode cX1_canBe_2 24 = .ok (.i2l, 1) := dk_133 (dk_at dksX1_canBe_2_1 0 rfl rfl)
theorem dX1_canBe_2_25 : decode cX1_canBe_2 25 = .ok (.iload 4, 2) := dk_21 4 (dk_at dksX1_canBe_2_1 1 rfl rfl)
theorem dX1_canBe_2_27 : decode cX1_canBe_2 27 = .ok (.invokestatic 172, 3) := dk_184 0 172 (dk_at dksX1_canBe_2_1 3 rfl rfl)
theorem dX1_canBe_2_30 : decode cX1_canBe_2 30 = .ok (.ifCond .eq 22, 3) := dk_153 0 22 (dk_at dksX1_canBe_2_1 6 rfl rfl)
theorem dX1_canBe_2_33 : decode cX1_canBe_2 33 = .ok (.lload_n 2, 1) := dk_32 (dk_at dksX1_canBe_2_1 9 rfl rfl)
theorem dX1_canBe_2_34 : decode cX1_canBe_2 34 = .ok (.aload_n 0, 1) := dk_42 (dk_at dksX1_canBe_2_1 10 rfl rfl)
theorem dX1_canBe_2_35 : decode cX1_canBe_2 35 = .ok (.aload_n 0, 1) := dk_42 (dk_at dksX1_canBe_2_1 11 rfl rfl)
theorem dX1_canBe_2_36 : decode cX1_canBe_2 36 = .ok (.getfield 34, 3) := dk_180 0 34 (dk_at dksX1_canBe_2_1 12 rfl rfl)
theorem dX1_canBe_2_39 : decode cX1_canBe_2 39 = .ok (.iload 4, 2) := dk_21 4 (dk_at dksX1_canBe_2_1 15 rfl rfl)
theorem dX1_canBe_2_41 : decode cX1_canBe_2 41 = .ok (.invokevirtual 134, 3) := dk_182 0 134 (dk_at dksX1_canBe_2_1 17 rfl rfl)
theorem dX1_canBe_2_44 : decode cX1_canBe_2 44 = .ok (.checkcast 209, 3) := dk_192 0 209 (dk_at dksX1_canBe_2_1 20 rfl rfl)
theorem dX1_canBe_2_47 : decode cX1_canBe_2 47 = .ok (.invokevirtual 224, 3) := dk_182 0 224 (dk_at dksX1_canBe_2_2 0 rfl rfl)
theorem dX1_canBe_2_50 : decode cX1_canBe_2 50 = .ok (.land, 1) := dk_127 (dk_at dksX1_canBe_2_2 3 rfl rfl)
theorem dX1_canBe_2_51 : decode cX1_canBe_2 51 = .ok (.lstore_n 2, 1) := dk_65 (dk_at dksX1_canBe_2_2 4 rfl rfl)
theorem dX1_canBe_2_52 : decode cX1_canBe_2 52 = .ok (.iinc 4 1, 3) := dk_132 4 1 (dk_at dksX1_canBe_2_2 5 rfl rfl)
theorem dX1_canBe_2_55 : decode cX1_canBe_2 55 = .ok (.goto (-44), 3) := dk_167 255 212 (dk_at dksX1_canBe_2_2 8 rfl rfl)
theorem dX1_canBe_2_58 : decode cX1_canBe_2 58 = .ok (.lload_n 2, 1) := dk_32 (dk_at dksX1_canBe_2_2 11 rfl rfl)
theorem dX1_canBe_2_59 : decode cX1_canBe_2 59 = .ok (.lreturn, 1) := dk_173 (dk_at dksX1_canBe_2_2 12 rfl rfl)
abbrev cX1_fits : ByteArray := prog_1_method_32_code
def yX1_fits : MethodName := ⟨RX1, "fits", "(LLiarsCock$Look;)J"⟩
def dkwX1_fits_2 : List UInt8 := [167, 255, 213, 32, 173]
abbrev dktX1_fits_2 : List UInt8 := dkwX1_fits_2 ++ []
def dkwX1_fits_1 : List UInt8 := [180, 0, 217, 21, 4, 182, 0, 218, 182, 0, 221, 153, 0, 10, 32, 10, 21, 4, 121, 129, 65, 132, 4, 1]
abbrev dktX1_fits_1 : List UInt8 := dkwX1_fits_1 ++ dktX1_fits_2
def dkwX1_fits_0 : List UInt8 := [9, 65, 3, 54, 4, 21, 4, 42, 180, 0, 20, 182, 0, 120, 162, 0, 37, 43, 42, 43, 180, 0, 214, 43]
abbrev dktX1_fits_0 : List UInt8 := dkwX1_fits_0 ++ dktX1_fits_1
theorem dksX1_fits_0 : cX1_fits.data.toList.drop 0 = dktX1_fits_0 := by decide +kernel
theorem dksX1_fits_1 : cX1_fits.data.toList.drop 24 = dktX1_fits_1 := dk_seg dksX1_fits_0 24 rfl rfl
theorem dksX1_fits_2 : cX1_fits.data.toList.drop 48 = dktX1_fits_2 := dk_seg dksX1_fits_1 24 rfl rfl
theorem dX1_fits_0 : decode cX1_fits 0 = .ok (.lconst 0, 1) := dk_9 (dk_at dksX1_fits_0 0 rfl rfl)
theorem dX1_fits_1 : decode cX1_fits 1 = .ok (.lstore_n 2, 1) := dk_65 (dk_at dksX1_fits_0 1 rfl rfl)
theorem dX1_fits_2 : decode cX1_fits 2 = .ok (.iconst 0, 1) := dk_3 (dk_at dksX1_fits_0 2 rfl rfl)
theorem dX1_fits_3 : decode cX1_fits 3 = .ok (.istore 4, 2) := dk_54 4 (dk_at dksX1_fits_0 3 rfl rfl)
theorem dX1_fits_5 : decode cX1_fits 5 = .ok (.iload 4, 2) := dk_21 4 (dk_at dksX1_fits_0 5 rfl rfl)
theorem dX1_fits_7 : decode cX1_fits 7 = .ok (.aload_n 0, 1) := dk_42 (dk_at dksX1_fits_0 7 rfl rfl)
theorem dX1_fits_8 : decode cX1_fits 8 = .ok (.getfield 20, 3) := dk_180 0 20 (dk_at dksX1_fits_0 8 rfl rfl)
theorem dX1_fits_11 : decode cX1_fits 11 = .ok (.invokevirtual 120, 3) := dk_182 0 120 (dk_at dksX1_fits_0 11 rfl rfl)
theorem dX1_fits_14 : decode cX1_fits 14 = .ok (.if_icmp .ge 37, 3) := dk_162 0 37 (dk_at dksX1_fits_0 14 rfl rfl)
theorem dX1_fits_17 : decode cX1_fits 17 = .ok (.aload_n 1, 1) := dk_43 (dk_at dksX1_fits_0 17 rfl rfl)
theorem dX1_fits_18 : decode cX1_fits 18 = .ok (.aload_n 0, 1) := dk_42 (dk_at dksX1_fits_0 18 rfl rfl)
theorem dX1_fits_19 : decode cX1_fits 19 = .ok (.aload_n 1, 1) := dk_43 (dk_at dksX1_fits_0 19 rfl rfl)
theorem dX1_fits_20 : decode cX1_fits 20 = .ok (.getfield 214, 3) := dk_180 0 214 (dk_at dksX1_fits_0 20 rfl rfl)
theorem dX1_fits_23 : decode cX1_fits 23 = .ok (.aload_n 1, 1) := dk_43 (dk_at dksX1_fits_0 23 rfl rfl)
theorem dX1_fits_24 : decode cX1_fits 24 = .ok (.getfield 217, 3) := dk_180 0 217 (dk_at dksX1_fits_1 0 rfl rfl)
theorem dX1_fits_27 : decode cX1_fits 27 = .ok (.iload 4, 2) := dk_21 4 (dk_at dksX1_fits_1 3 rfl rfl)
theorem dX1_fits_29 : decode cX1_fits 29 = .ok (.invokevirtual 218, 3) := dk_182 0 218 (dk_at dksX1_fits_1 5 rfl rfl)
theorem dX1_fits_32 : decode cX1_fits 32 = .ok (.invokevirtual 221, 3) := dk_182 0 221 (dk_at dksX1_fits_1 8 rfl rfl)
theorem dX1_fits_35 : decode cX1_fits 35 = .ok (.ifCond .eq 10, 3) := dk_153 0 10 (dk_at dksX1_fits_1 11 rfl rfl)
theorem dX1_fits_38 : decode cX1_fits 38 = .ok (.lload_n 2, 1) := dk_32 (dk_at dksX1_fits_1 14 rfl rfl)
theorem dX1_fits_39 : decode cX1_fits 39 = .ok (.lconst 1, 1) := dk_10 (dk_at dksX1_fits_1 15 rfl rfl)
theorem dX1_fits_40 : decode cX1_fits 40 = .ok (.iload 4, 2) := dk_21 4 (dk_at dksX1_fits_1 16 rfl rfl)
theorem dX1_fits_42 : decode cX1_fits 42 = .ok (.lshl, 1) := dk_121 (dk_at dksX1_fits_1 18 rfl rfl)
theorem dX1_fits_43 : decode cX1_fits 43 = .ok (.lor, 1) := dk_129 (dk_at dksX1_fits_1 19 rfl rfl)
theorem dX1_fits_44 : decode cX1_fits 44 = .ok (.lstore_n 2, 1) := dk_65 (dk_at dksX1_fits_1 20 rfl rfl)
theorem dX1_fits_45 : decode cX1_fits 45 = .ok (.iinc 4 1, 3) := dk_132 4 1 (dk_at dksX1_fits_1 21 rfl rfl)
theorem dX1_fits_48 : decode cX1_fits 48 = .ok (.goto (-43), 3) := dk_167 255 213 (dk_at dksX1_fits_2 0 rfl rfl)
theorem dX1_fits_51 : decode cX1_fits 51 = .ok (.lload_n 2, 1) := dk_32 (dk_at dksX1_fits_2 3 rfl rfl)
theorem dX1_fits_52 : decode cX1_fits 52 = .ok (.lreturn, 1) := dk_173 (dk_at dksX1_fits_2 4 rfl rfl)
abbrev cX1_bearingAt : ByteArray := prog_1_method_25_code
def yX1_bearingAt : MethodName := ⟨RX1, "bearingAt", "(III)I"⟩
def dkwX1_bearingAt_0 : List UInt8 := [42, 180, 0, 20, 42, 27, 28, 29, 182, 0, 189, 182, 0, 193, 172]
abbrev dktX1_bearingAt_0 : List UInt8 := dkwX1_bearingAt_0 ++ []
theorem dksX1_bearingAt_0 : cX1_bearingAt.data.toList.drop 0 = dktX1_bearingAt_0 := by decide +kernel
theorem dX1_bearingAt_0 : decode cX1_bearingAt 0 = .ok (.aload_n 0, 1) := dk_42 (dk_at dksX1_bearingAt_0 0 rfl rfl)
theorem dX1_bearingAt_1 : decode cX1_bearingAt 1 = .ok (.getfield 20, 3) := dk_180 0 20 (dk_at dksX1_bearingAt_0 1 rfl rfl)
theorem dX1_bearingAt_4 : decode cX1_bearingAt 4 = .ok (.aload_n 0, 1) := dk_42 (dk_at dksX1_bearingAt_0 4 rfl rfl)
theorem dX1_bearingAt_5 : decode cX1_bearingAt 5 = .ok (.iload_n 1, 1) := dk_27 (dk_at dksX1_bearingAt_0 5 rfl rfl)
theorem dX1_bearingAt_6 : decode cX1_bearingAt 6 = .ok (.iload_n 2, 1) := dk_28 (dk_at dksX1_bearingAt_0 6 rfl rfl)
theorem dX1_bearingAt_7 : decode cX1_bearingAt 7 = .ok (.iload_n 3, 1) := dk_29 (dk_at dksX1_bearingAt_0 7 rfl rfl)
theorem dX1_bearingAt_8 : decode cX1_bearingAt 8 = .ok (.invokevirtual 189, 3) := dk_182 0 189 (dk_at dksX1_bearingAt_0 8 rfl rfl)
theorem dX1_bearingAt_11 : decode cX1_bearingAt 11 = .ok (.invokevirtual 193, 3) := dk_182 0 193 (dk_at dksX1_bearingAt_0 11 rfl rfl)
theorem dX1_bearingAt_14 : decode cX1_bearingAt 14 = .ok (.ireturn, 1) := dk_172 (dk_at dksX1_bearingAt_0 14 rfl rfl)
abbrev cX1_isIn : ByteArray := prog_1_method_29_code
def yX1_isIn : MethodName := ⟨RX1, "isIn", "(III)Z"⟩
def dkwX1_isIn_1 : List UInt8 := [4, 167, 0, 4, 3, 172]
abbrev dktX1_isIn_1 : List UInt8 := dkwX1_isIn_1 ++ []
def dkwX1_isIn_0 : List UInt8 := [27, 28, 163, 0, 12, 26, 27, 28, 184, 0, 113, 167, 0, 18, 26, 27, 162, 0, 8, 26, 28, 163, 0, 7]
abbrev dktX1_isIn_0 : List UInt8 := dkwX1_isIn_0 ++ dktX1_isIn_1
theorem dksX1_isIn_0 : cX1_isIn.data.toList.drop 0 = dktX1_isIn_0 := by decide +kernel
theorem dksX1_isIn_1 : cX1_isIn.data.toList.drop 24 = dktX1_isIn_1 := dk_seg dksX1_isIn_0 24 rfl rfl
theorem dX1_isIn_0 : decode cX1_isIn 0 = .ok (.iload_n 1, 1) := dk_27 (dk_at dksX1_isIn_0 0 rfl rfl)
theorem dX1_isIn_1 : decode cX1_isIn 1 = .ok (.iload_n 2, 1) := dk_28 (dk_at dksX1_isIn_0 1 rfl rfl)
theorem dX1_isIn_2 : decode cX1_isIn 2 = .ok (.if_icmp .gt 12, 3) := dk_163 0 12 (dk_at dksX1_isIn_0 2 rfl rfl)
theorem dX1_isIn_5 : decode cX1_isIn 5 = .ok (.iload_n 0, 1) := dk_26 (dk_at dksX1_isIn_0 5 rfl rfl)
theorem dX1_isIn_6 : decode cX1_isIn 6 = .ok (.iload_n 1, 1) := dk_27 (dk_at dksX1_isIn_0 6 rfl rfl)
theorem dX1_isIn_7 : decode cX1_isIn 7 = .ok (.iload_n 2, 1) := dk_28 (dk_at dksX1_isIn_0 7 rfl rfl)
theorem dX1_isIn_8 : decode cX1_isIn 8 = .ok (.invokestatic 113, 3) := dk_184 0 113 (dk_at dksX1_isIn_0 8 rfl rfl)
theorem dX1_isIn_11 : decode cX1_isIn 11 = .ok (.goto 18, 3) := dk_167 0 18 (dk_at dksX1_isIn_0 11 rfl rfl)
theorem dX1_isIn_14 : decode cX1_isIn 14 = .ok (.iload_n 0, 1) := dk_26 (dk_at dksX1_isIn_0 14 rfl rfl)
theorem dX1_isIn_15 : decode cX1_isIn 15 = .ok (.iload_n 1, 1) := dk_27 (dk_at dksX1_isIn_0 15 rfl rfl)
theorem dX1_isIn_16 : decode cX1_isIn 16 = .ok (.if_icmp .ge 8, 3) := dk_162 0 8 (dk_at dksX1_isIn_0 16 rfl rfl)
theorem dX1_isIn_19 : decode cX1_isIn 19 = .ok (.iload_n 0, 1) := dk_26 (dk_at dksX1_isIn_0 19 rfl rfl)
theorem dX1_isIn_20 : decode cX1_isIn 20 = .ok (.iload_n 2, 1) := dk_28 (dk_at dksX1_isIn_0 20 rfl rfl)
theorem dX1_isIn_21 : decode cX1_isIn 21 = .ok (.if_icmp .gt 7, 3) := dk_163 0 7 (dk_at dksX1_isIn_0 21 rfl rfl)
theorem dX1_isIn_24 : decode cX1_isIn 24 = .ok (.iconst 1, 1) := dk_4 (dk_at dksX1_isIn_1 0 rfl rfl)
theorem dX1_isIn_25 : decode cX1_isIn 25 = .ok (.goto 4, 3) := dk_167 0 4 (dk_at dksX1_isIn_1 1 rfl rfl)
theorem dX1_isIn_28 : decode cX1_isIn 28 = .ok (.iconst 0, 1) := dk_3 (dk_at dksX1_isIn_1 4 rfl rfl)
theorem dX1_isIn_29 : decode cX1_isIn 29 = .ok (.ireturn, 1) := dk_172 (dk_at dksX1_isIn_1 5 rfl rfl)
abbrev cX1_worlds : ByteArray := prog_1_method_38_code
def yX1_worlds : MethodName := ⟨RX1, "worlds", "(I)I"⟩
def dkwX1_worlds_1 : List UInt8 := [167, 0, 13, 42, 182, 0, 235, 42, 27, 182, 0, 241, 127, 184, 0, 244, 172]
abbrev dktX1_worlds_1 : List UInt8 := dkwX1_worlds_1 ++ []
def dkwX1_worlds_0 : List UInt8 := [27, 2, 159, 0, 13, 42, 27, 182, 0, 238, 154, 0, 5, 2, 172, 27, 2, 160, 0, 10, 42, 182, 0, 235]
abbrev dktX1_worlds_0 : List UInt8 := dkwX1_worlds_0 ++ dktX1_worlds_1
theorem dksX1_worlds_0 : cX1_worlds.data.toList.drop 0 = dktX1_worlds_0 := by decide +kernel
theorem dksX1_worlds_1 : cX1_worlds.data.toList.drop 24 = dktX1_worlds_1 := dk_seg dksX1_worlds_0 24 rfl rfl
theorem dX1_worlds_0 : decode cX1_worlds 0 = .ok (.iload_n 1, 1) := dk_27 (dk_at dksX1_worlds_0 0 rfl rfl)
theorem dX1_worlds_1 : decode cX1_worlds 1 = .ok (.iconst (-1), 1) := dk_2 (dk_at dksX1_worlds_0 1 rfl rfl)
theorem dX1_worlds_2 : decode cX1_worlds 2 = .ok (.if_icmp .eq 13, 3) := dk_159 0 13 (dk_at dksX1_worlds_0 2 rfl rfl)
theorem dX1_worlds_5 : decode cX1_worlds 5 = .ok (.aload_n 0, 1) := dk_42 (dk_at dksX1_worlds_0 5 rfl rfl)
theorem dX1_worlds_6 : decode cX1_worlds 6 = .ok (.iload_n 1, 1) := dk_27 (dk_at dksX1_worlds_0 6 rfl rfl)
theorem dX1_worlds_7 : decode cX1_worlds 7 = .ok (.invokevirtual 238, 3) := dk_182 0 238 (dk_at dksX1_worlds_0 7 rfl rfl)
theorem dX1_worlds_10 : decode cX1_worlds 10 = .ok (.ifCond .ne 5, 3) := dk_154 0 5 (dk_at dksX1_worlds_0 10 rfl rfl)
theorem dX1_worlds_13 : decode cX1_worlds 13 = .ok (.iconst (-1), 1) := dk_2 (dk_at dksX1_worlds_0 13 rfl rfl)
theorem dX1_worlds_14 : decode cX1_worlds 14 = .ok (.ireturn, 1) := dk_172 (dk_at dksX1_worlds_0 14 rfl rfl)
theorem dX1_worlds_15 : decode cX1_worlds 15 = .ok (.iload_n 1, 1) := dk_27 (dk_at dksX1_worlds_0 15 rfl rfl)
theorem dX1_worlds_16 : decode cX1_worlds 16 = .ok (.iconst (-1), 1) := dk_2 (dk_at dksX1_worlds_0 16 rfl rfl)
theorem dX1_worlds_17 : decode cX1_worlds 17 = .ok (.if_icmp .ne 10, 3) := dk_160 0 10 (dk_at dksX1_worlds_0 17 rfl rfl)
theorem dX1_worlds_20 : decode cX1_worlds 20 = .ok (.aload_n 0, 1) := dk_42 (dk_at dksX1_worlds_0 20 rfl rfl)
theorem dX1_worlds_21 : decode cX1_worlds 21 = .ok (.invokevirtual 235, 3) := dk_182 0 235 (dk_at dksX1_worlds_0 21 rfl rfl)
theorem dX1_worlds_24 : decode cX1_worlds 24 = .ok (.goto 13, 3) := dk_167 0 13 (dk_at dksX1_worlds_1 0 rfl rfl)
theorem dX1_worlds_27 : decode cX1_worlds 27 = .ok (.aload_n 0, 1) := dk_42 (dk_at dksX1_worlds_1 3 rfl rfl)
theorem dX1_worlds_28 : decode cX1_worlds 28 = .ok (.invokevirtual 235, 3) := dk_182 0 235 (dk_at dksX1_worlds_1 4 rfl rfl)
theorem dX1_worlds_31 : decode cX1_worlds 31 = .ok (.aload_n 0, 1) := dk_42 (dk_at dksX1_worlds_1 7 rfl rfl)
theorem dX1_worlds_32 : decode cX1_worlds 32 = .ok (.iload_n 1, 1) := dk_27 (dk_at dksX1_worlds_1 8 rfl rfl)
theorem dX1_worlds_33 : decode cX1_worlds 33 = .ok (.invokevirtual 241, 3) := dk_182 0 241 (dk_at dksX1_worlds_1 9 rfl rfl)
theorem dX1_worlds_36 : decode cX1_worlds 36 = .ok (.land, 1) := dk_127 (dk_at dksX1_worlds_1 12 rfl rfl)
theorem dX1_worlds_37 : decode cX1_worlds 37 = .ok (.invokestatic 244, 3) := dk_184 0 244 (dk_at dksX1_worlds_1 13 rfl rfl)
theorem dX1_worlds_40 : decode cX1_worlds 40 = .ok (.ireturn, 1) := dk_172 (dk_at dksX1_worlds_1 16 rfl rfl)
abbrev cX1_isFact : ByteArray := prog_1_method_8_code
def yX1_isFact : MethodName := ⟨RX1, "isFact", "(I)Z"⟩
def dkwX1_isFact_0 : List UInt8 := [27, 3, 42, 180, 0, 20, 180, 0, 106, 182, 0, 109, 4, 100, 184, 0, 113, 172]
abbrev dktX1_isFact_0 : List UInt8 := dkwX1_isFact_0 ++ []
theorem dksX1_isFact_0 : cX1_isFact.data.toList.drop 0 = dktX1_isFact_0 := by decide +kernel
theorem dX1_isFact_0 : decode cX1_isFact 0 = .ok (.iload_n 1, 1) := dk_27 (dk_at dksX1_isFact_0 0 rfl rfl)
theorem dX1_isFact_1 : decode cX1_isFact 1 = .ok (.iconst 0, 1) := dk_3 (dk_at dksX1_isFact_0 1 rfl rfl)
theorem dX1_isFact_2 : decode cX1_isFact 2 = .ok (.aload_n 0, 1) := dk_42 (dk_at dksX1_isFact_0 2 rfl rfl)
theorem dX1_isFact_3 : decode cX1_isFact 3 = .ok (.getfield 20, 3) := dk_180 0 20 (dk_at dksX1_isFact_0 3 rfl rfl)
theorem dX1_isFact_6 : decode cX1_isFact 6 = .ok (.getfield 106, 3) := dk_180 0 106 (dk_at dksX1_isFact_0 6 rfl rfl)
theorem dX1_isFact_9 : decode cX1_isFact 9 = .ok (.invokevirtual 109, 3) := dk_182 0 109 (dk_at dksX1_isFact_0 9 rfl rfl)
theorem dX1_isFact_12 : decode cX1_isFact 12 = .ok (.iconst 1, 1) := dk_4 (dk_at dksX1_isFact_0 12 rfl rfl)
theorem dX1_isFact_13 : decode cX1_isFact 13 = .ok (.isub, 1) := dk_100 (dk_at dksX1_isFact_0 13 rfl rfl)
theorem dX1_isFact_14 : decode cX1_isFact 14 = .ok (.invokestatic 113, 3) := dk_184 0 113 (dk_at dksX1_isFact_0 14 rfl rfl)
theorem dX1_isFact_17 : decode cX1_isFact 17 = .ok (.ireturn, 1) := dk_172 (dk_at dksX1_isFact_0 17 rfl rfl)
abbrev cX1_with : ByteArray := prog_1_method_37_code
def yX1_with : MethodName := ⟨RX1, "with", "(I)J"⟩
def dkwX1_with_1 : List UInt8 := [153, 0, 10, 32, 10, 21, 4, 121, 129, 65, 132, 4, 1, 167, 255, 224, 32, 173]
abbrev dktX1_with_1 : List UInt8 := dkwX1_with_1 ++ []
def dkwX1_with_0 : List UInt8 := [9, 65, 3, 54, 4, 21, 4, 42, 180, 0, 20, 182, 0, 120, 162, 0, 26, 21, 4, 133, 27, 184, 0, 172]
abbrev dktX1_with_0 : List UInt8 := dkwX1_with_0 ++ dktX1_with_1
theorem dksX1_with_0 : cX1_with.data.toList.drop 0 = dktX1_with_0 := by decide +kernel
theorem dksX1_with_1 : cX1_with.data.toList.drop 24 = dktX1_with_1 := dk_seg dksX1_with_0 24 rfl rfl
theorem dX1_with_0 : decode cX1_with 0 = .ok (.lconst 0, 1) := dk_9 (dk_at dksX1_with_0 0 rfl rfl)
theorem dX1_with_1 : decode cX1_with 1 = .ok (.lstore_n 2, 1) := dk_65 (dk_at dksX1_with_0 1 rfl rfl)
theorem dX1_with_2 : decode cX1_with 2 = .ok (.iconst 0, 1) := dk_3 (dk_at dksX1_with_0 2 rfl rfl)
theorem dX1_with_3 : decode cX1_with 3 = .ok (.istore 4, 2) := dk_54 4 (dk_at dksX1_with_0 3 rfl rfl)
theorem dX1_with_5 : decode cX1_with 5 = .ok (.iload 4, 2) := dk_21 4 (dk_at dksX1_with_0 5 rfl rfl)
theorem dX1_with_7 : decode cX1_with 7 = .ok (.aload_n 0, 1) := dk_42 (dk_at dksX1_with_0 7 rfl rfl)
theorem dX1_with_8 : decode cX1_with 8 = .ok (.getfield 20, 3) := dk_180 0 20 (dk_at dksX1_with_0 8 rfl rfl)
theorem dX1_with_11 : decode cX1_with 11 = .ok (.invokevirtual 120, 3) := dk_182 0 120 (dk_at dksX1_with_0 11 rfl rfl)
theorem dX1_with_14 : decode cX1_with 14 = .ok (.if_icmp .ge 26, 3) := dk_162 0 26 (dk_at dksX1_with_0 14 rfl rfl)
theorem dX1_with_17 : decode cX1_with 17 = .ok (.iload 4, 2) := dk_21 4 (dk_at dksX1_with_0 17 rfl rfl)
theorem dX1_with_19 : decode cX1_with 19 = .ok (.i2l, 1) := dk_133 (dk_at dksX1_with_0 19 rfl rfl)
theorem dX1_with_20 : decode cX1_with 20 = .ok (.iload_n 1, 1) := dk_27 (dk_at dksX1_with_0 20 rfl rfl)
theorem dX1_with_21 : decode cX1_with 21 = .ok (.invokestatic 172, 3) := dk_184 0 172 (dk_at dksX1_with_0 21 rfl rfl)
theorem dX1_with_24 : decode cX1_with 24 = .ok (.ifCond .eq 10, 3) := dk_153 0 10 (dk_at dksX1_with_1 0 rfl rfl)
theorem dX1_with_27 : decode cX1_with 27 = .ok (.lload_n 2, 1) := dk_32 (dk_at dksX1_with_1 3 rfl rfl)
theorem dX1_with_28 : decode cX1_with 28 = .ok (.lconst 1, 1) := dk_10 (dk_at dksX1_with_1 4 rfl rfl)
theorem dX1_with_29 : decode cX1_with 29 = .ok (.iload 4, 2) := dk_21 4 (dk_at dksX1_with_1 5 rfl rfl)
theorem dX1_with_31 : decode cX1_with 31 = .ok (.lshl, 1) := dk_121 (dk_at dksX1_with_1 7 rfl rfl)
theorem dX1_with_32 : decode cX1_with 32 = .ok (.lor, 1) := dk_129 (dk_at dksX1_with_1 8 rfl rfl)
theorem dX1_with_33 : decode cX1_with 33 = .ok (.lstore_n 2, 1) := dk_65 (dk_at dksX1_with_1 9 rfl rfl)
theorem dX1_with_34 : decode cX1_with 34 = .ok (.iinc 4 1, 3) := dk_132 4 1 (dk_at dksX1_with_1 10 rfl rfl)
theorem dX1_with_37 : decode cX1_with 37 = .ok (.goto (-32), 3) := dk_167 255 224 (dk_at dksX1_with_1 13 rfl rfl)
theorem dX1_with_40 : decode cX1_with 40 = .ok (.lload_n 2, 1) := dk_32 (dk_at dksX1_with_1 16 rfl rfl)
theorem dX1_with_41 : decode cX1_with 41 = .ok (.lreturn, 1) := dk_173 (dk_at dksX1_with_1 17 rfl rfl)
abbrev cX1_bits : ByteArray := prog_1_method_4_code
def yX1_bits : MethodName := ⟨RX1, "bits", "(J)I"⟩
def dkwX1_bits_0 : List UInt8 := [3, 61, 30, 66, 33, 9, 148, 153, 0, 15, 132, 2, 1, 33, 33, 10, 101, 127, 66, 167, 255, 241, 28, 172]
abbrev dktX1_bits_0 : List UInt8 := dkwX1_bits_0 ++ []
theorem dksX1_bits_0 : cX1_bits.data.toList.drop 0 = dktX1_bits_0 := by decide +kernel
theorem dX1_bits_0 : decode cX1_bits 0 = .ok (.iconst 0, 1) := dk_3 (dk_at dksX1_bits_0 0 rfl rfl)
theorem dX1_bits_1 : decode cX1_bits 1 = .ok (.istore_n 2, 1) := dk_61 (dk_at dksX1_bits_0 1 rfl rfl)
theorem dX1_bits_2 : decode cX1_bits 2 = .ok (.lload_n 0, 1) := dk_30 (dk_at dksX1_bits_0 2 rfl rfl)
theorem dX1_bits_3 : decode cX1_bits 3 = .ok (.lstore_n 3, 1) := dk_66 (dk_at dksX1_bits_0 3 rfl rfl)
theorem dX1_bits_4 : decode cX1_bits 4 = .ok (.lload_n 3, 1) := dk_33 (dk_at dksX1_bits_0 4 rfl rfl)
theorem dX1_bits_5 : decode cX1_bits 5 = .ok (.lconst 0, 1) := dk_9 (dk_at dksX1_bits_0 5 rfl rfl)
theorem dX1_bits_6 : decode cX1_bits 6 = .ok (.lcmp, 1) := dk_148 (dk_at dksX1_bits_0 6 rfl rfl)
theorem dX1_bits_7 : decode cX1_bits 7 = .ok (.ifCond .eq 15, 3) := dk_153 0 15 (dk_at dksX1_bits_0 7 rfl rfl)
theorem dX1_bits_10 : decode cX1_bits 10 = .ok (.iinc 2 1, 3) := dk_132 2 1 (dk_at dksX1_bits_0 10 rfl rfl)
theorem dX1_bits_13 : decode cX1_bits 13 = .ok (.lload_n 3, 1) := dk_33 (dk_at dksX1_bits_0 13 rfl rfl)
theorem dX1_bits_14 : decode cX1_bits 14 = .ok (.lload_n 3, 1) := dk_33 (dk_at dksX1_bits_0 14 rfl rfl)
theorem dX1_bits_15 : decode cX1_bits 15 = .ok (.lconst 1, 1) := dk_10 (dk_at dksX1_bits_0 15 rfl rfl)
theorem dX1_bits_16 : decode cX1_bits 16 = .ok (.lsub, 1) := dk_101 (dk_at dksX1_bits_0 16 rfl rfl)
theorem dX1_bits_17 : decode cX1_bits 17 = .ok (.land, 1) := dk_127 (dk_at dksX1_bits_0 17 rfl rfl)
theorem dX1_bits_18 : decode cX1_bits 18 = .ok (.lstore_n 3, 1) := dk_66 (dk_at dksX1_bits_0 18 rfl rfl)
theorem dX1_bits_19 : decode cX1_bits 19 = .ok (.goto (-15), 3) := dk_167 255 241 (dk_at dksX1_bits_0 19 rfl rfl)
theorem dX1_bits_22 : decode cX1_bits 22 = .ok (.iload_n 2, 1) := dk_28 (dk_at dksX1_bits_0 22 rfl rfl)
theorem dX1_bits_23 : decode cX1_bits 23 = .ok (.ireturn, 1) := dk_172 (dk_at dksX1_bits_0 23 rfl rfl)
abbrev cX1_sureFact : ByteArray := prog_1_method_40_code
def yX1_sureFact : MethodName := ⟨RX1, "sureFact", "(I)I"⟩
def dkwX1_sureFact_1 : List UInt8 := [172]
abbrev dktX1_sureFact_1 : List UInt8 := dkwX1_sureFact_1 ++ []
def dkwX1_sureFact_0 : List UInt8 := [42, 27, 182, 0, 238, 153, 0, 18, 42, 182, 0, 235, 42, 27, 182, 0, 241, 184, 0, 250, 167, 0, 4, 2]
abbrev dktX1_sureFact_0 : List UInt8 := dkwX1_sureFact_0 ++ dktX1_sureFact_1
theorem dksX1_sureFact_0 : cX1_sureFact.data.toList.drop 0 = dktX1_sureFact_0 := by decide +kernel
theorem dksX1_sureFact_1 : cX1_sureFact.data.toList.drop 24 = dktX1_sureFact_1 := dk_seg dksX1_sureFact_0 24 rfl rfl
theorem dX1_sureFact_0 : decode cX1_sureFact 0 = .ok (.aload_n 0, 1) := dk_42 (dk_at dksX1_sureFact_0 0 rfl rfl)
theorem dX1_sureFact_1 : decode cX1_sureFact 1 = .ok (.iload_n 1, 1) := dk_27 (dk_at dksX1_sureFact_0 1 rfl rfl)
theorem dX1_sureFact_2 : decode cX1_sureFact 2 = .ok (.invokevirtual 238, 3) := dk_182 0 238 (dk_at dksX1_sureFact_0 2 rfl rfl)
theorem dX1_sureFact_5 : decode cX1_sureFact 5 = .ok (.ifCond .eq 18, 3) := dk_153 0 18 (dk_at dksX1_sureFact_0 5 rfl rfl)
theorem dX1_sureFact_8 : decode cX1_sureFact 8 = .ok (.aload_n 0, 1) := dk_42 (dk_at dksX1_sureFact_0 8 rfl rfl)
theorem dX1_sureFact_9 : decode cX1_sureFact 9 = .ok (.invokevirtual 235, 3) := dk_182 0 235 (dk_at dksX1_sureFact_0 9 rfl rfl)
theorem dX1_sureFact_12 : decode cX1_sureFact 12 = .ok (.aload_n 0, 1) := dk_42 (dk_at dksX1_sureFact_0 12 rfl rfl)
theorem dX1_sureFact_13 : decode cX1_sureFact 13 = .ok (.iload_n 1, 1) := dk_27 (dk_at dksX1_sureFact_0 13 rfl rfl)
theorem dX1_sureFact_14 : decode cX1_sureFact 14 = .ok (.invokevirtual 241, 3) := dk_182 0 241 (dk_at dksX1_sureFact_0 14 rfl rfl)
theorem dX1_sureFact_17 : decode cX1_sureFact 17 = .ok (.invokestatic 250, 3) := dk_184 0 250 (dk_at dksX1_sureFact_0 17 rfl rfl)
theorem dX1_sureFact_20 : decode cX1_sureFact 20 = .ok (.goto 4, 3) := dk_167 0 4 (dk_at dksX1_sureFact_0 20 rfl rfl)
theorem dX1_sureFact_23 : decode cX1_sureFact 23 = .ok (.iconst (-1), 1) := dk_2 (dk_at dksX1_sureFact_0 23 rfl rfl)
theorem dX1_sureFact_24 : decode cX1_sureFact 24 = .ok (.ireturn, 1) := dk_172 (dk_at dksX1_sureFact_1 0 rfl rfl)
abbrev cX1_sureBy : ByteArray := prog_1_method_39_code
def yX1_sureBy : MethodName := ⟨RX1, "sureBy", "(JJ)I"⟩
def dkwX1_sureBy_1 : List UInt8 := [30, 32, 127, 9, 148, 154, 0, 7, 3, 167, 0, 4, 5, 172]
abbrev dktX1_sureBy_1 : List UInt8 := dkwX1_sureBy_1 ++ []
def dkwX1_sureBy_0 : List UInt8 := [30, 9, 148, 154, 0, 5, 6, 172, 30, 32, 20, 0, 248, 131, 127, 9, 148, 154, 0, 7, 4, 167, 0, 16]
abbrev dktX1_sureBy_0 : List UInt8 := dkwX1_sureBy_0 ++ dktX1_sureBy_1
theorem dksX1_sureBy_0 : cX1_sureBy.data.toList.drop 0 = dktX1_sureBy_0 := by decide +kernel
theorem dksX1_sureBy_1 : cX1_sureBy.data.toList.drop 24 = dktX1_sureBy_1 := dk_seg dksX1_sureBy_0 24 rfl rfl
theorem dX1_sureBy_0 : decode cX1_sureBy 0 = .ok (.lload_n 0, 1) := dk_30 (dk_at dksX1_sureBy_0 0 rfl rfl)
theorem dX1_sureBy_1 : decode cX1_sureBy 1 = .ok (.lconst 0, 1) := dk_9 (dk_at dksX1_sureBy_0 1 rfl rfl)
theorem dX1_sureBy_2 : decode cX1_sureBy 2 = .ok (.lcmp, 1) := dk_148 (dk_at dksX1_sureBy_0 2 rfl rfl)
theorem dX1_sureBy_3 : decode cX1_sureBy 3 = .ok (.ifCond .ne 5, 3) := dk_154 0 5 (dk_at dksX1_sureBy_0 3 rfl rfl)
theorem dX1_sureBy_6 : decode cX1_sureBy 6 = .ok (.iconst 3, 1) := dk_6 (dk_at dksX1_sureBy_0 6 rfl rfl)
theorem dX1_sureBy_7 : decode cX1_sureBy 7 = .ok (.ireturn, 1) := dk_172 (dk_at dksX1_sureBy_0 7 rfl rfl)
theorem dX1_sureBy_8 : decode cX1_sureBy 8 = .ok (.lload_n 0, 1) := dk_30 (dk_at dksX1_sureBy_0 8 rfl rfl)
theorem dX1_sureBy_9 : decode cX1_sureBy 9 = .ok (.lload_n 2, 1) := dk_32 (dk_at dksX1_sureBy_0 9 rfl rfl)
theorem dX1_sureBy_10 : decode cX1_sureBy 10 = .ok (.ldc2_w 248, 3) := dk_20 0 248 (dk_at dksX1_sureBy_0 10 rfl rfl)
theorem dX1_sureBy_13 : decode cX1_sureBy 13 = .ok (.lxor, 1) := dk_131 (dk_at dksX1_sureBy_0 13 rfl rfl)
theorem dX1_sureBy_14 : decode cX1_sureBy 14 = .ok (.land, 1) := dk_127 (dk_at dksX1_sureBy_0 14 rfl rfl)
theorem dX1_sureBy_15 : decode cX1_sureBy 15 = .ok (.lconst 0, 1) := dk_9 (dk_at dksX1_sureBy_0 15 rfl rfl)
theorem dX1_sureBy_16 : decode cX1_sureBy 16 = .ok (.lcmp, 1) := dk_148 (dk_at dksX1_sureBy_0 16 rfl rfl)
theorem dX1_sureBy_17 : decode cX1_sureBy 17 = .ok (.ifCond .ne 7, 3) := dk_154 0 7 (dk_at dksX1_sureBy_0 17 rfl rfl)
theorem dX1_sureBy_20 : decode cX1_sureBy 20 = .ok (.iconst 1, 1) := dk_4 (dk_at dksX1_sureBy_0 20 rfl rfl)
theorem dX1_sureBy_21 : decode cX1_sureBy 21 = .ok (.goto 16, 3) := dk_167 0 16 (dk_at dksX1_sureBy_0 21 rfl rfl)
theorem dX1_sureBy_24 : decode cX1_sureBy 24 = .ok (.lload_n 0, 1) := dk_30 (dk_at dksX1_sureBy_1 0 rfl rfl)
theorem dX1_sureBy_25 : decode cX1_sureBy 25 = .ok (.lload_n 2, 1) := dk_32 (dk_at dksX1_sureBy_1 1 rfl rfl)
theorem dX1_sureBy_26 : decode cX1_sureBy 26 = .ok (.land, 1) := dk_127 (dk_at dksX1_sureBy_1 2 rfl rfl)
theorem dX1_sureBy_27 : decode cX1_sureBy 27 = .ok (.lconst 0, 1) := dk_9 (dk_at dksX1_sureBy_1 3 rfl rfl)
theorem dX1_sureBy_28 : decode cX1_sureBy 28 = .ok (.lcmp, 1) := dk_148 (dk_at dksX1_sureBy_1 4 rfl rfl)
theorem dX1_sureBy_29 : decode cX1_sureBy 29 = .ok (.ifCond .ne 7, 3) := dk_154 0 7 (dk_at dksX1_sureBy_1 5 rfl rfl)
theorem dX1_sureBy_32 : decode cX1_sureBy 32 = .ok (.iconst 0, 1) := dk_3 (dk_at dksX1_sureBy_1 8 rfl rfl)
theorem dX1_sureBy_33 : decode cX1_sureBy 33 = .ok (.goto 4, 3) := dk_167 0 4 (dk_at dksX1_sureBy_1 9 rfl rfl)
theorem dX1_sureBy_36 : decode cX1_sureBy 36 = .ok (.iconst 2, 1) := dk_5 (dk_at dksX1_sureBy_1 12 rfl rfl)
theorem dX1_sureBy_37 : decode cX1_sureBy 37 = .ok (.ireturn, 1) := dk_172 (dk_at dksX1_sureBy_1 13 rfl rfl)
abbrev cX1_sure : ByteArray := prog_1_method_41_code
def yX1_sure : MethodName := ⟨RX1, "sure", "(I)I"⟩
def dkwX1_sure_1 : List UInt8 := [180, 0, 203, 184, 0, 250, 167, 0, 4, 2, 172]
abbrev dktX1_sure_1 : List UInt8 := dkwX1_sure_1 ++ []
def dkwX1_sure_0 : List UInt8 := [42, 27, 182, 0, 200, 153, 0, 27, 42, 182, 0, 235, 42, 180, 0, 27, 27, 182, 0, 134, 192, 0, 138]
abbrev dktX1_sure_0 : List UInt8 := dkwX1_sure_0 ++ dktX1_sure_1
theorem dksX1_sure_0 : cX1_sure.data.toList.drop 0 = dktX1_sure_0 := by decide +kernel
theorem dksX1_sure_1 : cX1_sure.data.toList.drop 23 = dktX1_sure_1 := dk_seg dksX1_sure_0 23 rfl rfl
theorem dX1_sure_0 : decode cX1_sure 0 = .ok (.aload_n 0, 1) := dk_42 (dk_at dksX1_sure_0 0 rfl rfl)
theorem dX1_sure_1 : decode cX1_sure 1 = .ok (.iload_n 1, 1) := dk_27 (dk_at dksX1_sure_0 1 rfl rfl)
theorem dX1_sure_2 : decode cX1_sure 2 = .ok (.invokevirtual 200, 3) := dk_182 0 200 (dk_at dksX1_sure_0 2 rfl rfl)
theorem dX1_sure_5 : decode cX1_sure 5 = .ok (.ifCond .eq 27, 3) := dk_153 0 27 (dk_at dksX1_sure_0 5 rfl rfl)
theorem dX1_sure_8 : decode cX1_sure 8 = .ok (.aload_n 0, 1) := dk_42 (dk_at dksX1_sure_0 8 rfl rfl)
theorem dX1_sure_9 : decode cX1_sure 9 = .ok (.invokevirtual 235, 3) := dk_182 0 235 (dk_at dksX1_sure_0 9 rfl rfl)
theorem dX1_sure_12 : decode cX1_sure 12 = .ok (.aload_n 0, 1) := dk_42 (dk_at dksX1_sure_0 12 rfl rfl)
theorem dX1_sure_13 : decode cX1_sure 13 = .ok (.getfield 27, 3) := dk_180 0 27 (dk_at dksX1_sure_0 13 rfl rfl)
theorem dX1_sure_16 : decode cX1_sure 16 = .ok (.iload_n 1, 1) := dk_27 (dk_at dksX1_sure_0 16 rfl rfl)
theorem dX1_sure_17 : decode cX1_sure 17 = .ok (.invokevirtual 134, 3) := dk_182 0 134 (dk_at dksX1_sure_0 17 rfl rfl)
theorem dX1_sure_20 : decode cX1_sure 20 = .ok (.checkcast 138, 3) := dk_192 0 138 (dk_at dksX1_sure_0 20 rfl rfl)
theorem dX1_sure_23 : decode cX1_sure 23 = .ok (.getfield 203, 3) := dk_180 0 203 (dk_at dksX1_sure_1 0 rfl rfl)
theorem dX1_sure_26 : decode cX1_sure 26 = .ok (.invokestatic 250, 3) := dk_184 0 250 (dk_at dksX1_sure_1 3 rfl rfl)
theorem dX1_sure_29 : decode cX1_sure 29 = .ok (.goto 4, 3) := dk_167 0 4 (dk_at dksX1_sure_1 6 rfl rfl)
theorem dX1_sure_32 : decode cX1_sure 32 = .ok (.iconst (-1), 1) := dk_2 (dk_at dksX1_sure_1 9 rfl rfl)
theorem dX1_sure_33 : decode cX1_sure 33 = .ok (.ireturn, 1) := dk_172 (dk_at dksX1_sure_1 10 rfl rfl)
abbrev cX1_odds : ByteArray := prog_1_method_45_code
def yX1_odds : MethodName := ⟨RX1, "odds", "(II)J"⟩
def dkwX1_odds_4 : List UInt8 := [22, 7, 9, 148, 154, 0, 9, 20, 0, 248, 167, 0, 11, 22, 5, 22, 7, 28, 184, 1, 11, 173]
abbrev dktX1_odds_4 : List UInt8 := dkwX1_odds_4 ++ []
def dkwX1_odds_3 : List UInt8 := [184, 0, 172, 153, 0, 14, 22, 5, 42, 21, 9, 182, 1, 8, 97, 55, 5, 132, 9, 1, 167, 255, 197]
abbrev dktX1_odds_3 : List UInt8 := dkwX1_odds_3 ++ dktX1_odds_4
def dkwX1_odds_2 : List UInt8 := [184, 0, 172, 154, 0, 6, 167, 0, 35, 22, 7, 42, 21, 9, 182, 1, 8, 97, 55, 7, 21, 9, 133, 27]
abbrev dktX1_odds_2 : List UInt8 := dkwX1_odds_2 ++ dktX1_odds_3
def dkwX1_odds_1 : List UInt8 := [9, 55, 5, 9, 55, 7, 3, 54, 9, 21, 9, 42, 180, 0, 20, 182, 0, 120, 162, 0, 53, 33, 21, 9]
abbrev dktX1_odds_1 : List UInt8 := dkwX1_odds_1 ++ dktX1_odds_2
def dkwX1_odds_0 : List UInt8 := [42, 27, 182, 0, 238, 153, 0, 10, 28, 184, 1, 5, 154, 0, 7, 20, 0, 248, 173, 42, 182, 0, 235, 66]
abbrev dktX1_odds_0 : List UInt8 := dkwX1_odds_0 ++ dktX1_odds_1
theorem dksX1_odds_0 : cX1_odds.data.toList.drop 0 = dktX1_odds_0 := by decide +kernel
theorem dksX1_odds_1 : cX1_odds.data.toList.drop 24 = dktX1_odds_1 := dk_seg dksX1_odds_0 24 rfl rfl
theorem dksX1_odds_2 : cX1_odds.data.toList.drop 48 = dktX1_odds_2 := dk_seg dksX1_odds_1 24 rfl rfl
theorem dksX1_odds_3 : cX1_odds.data.toList.drop 72 = dktX1_odds_3 := dk_seg dksX1_odds_2 24 rfl rfl
theorem dksX1_odds_4 : cX1_odds.data.toList.drop 95 = dktX1_odds_4 := dk_seg dksX1_odds_3 23 rfl rfl
theorem dX1_odds_0 : decode cX1_odds 0 = .ok (.aload_n 0, 1) := dk_42 (dk_at dksX1_odds_0 0 rfl rfl)
theorem dX1_odds_1 : decode cX1_odds 1 = .ok (.iload_n 1, 1) := dk_27 (dk_at dksX1_odds_0 1 rfl rfl)
theorem dX1_odds_2 : decode cX1_odds 2 = .ok (.invokevirtual 238, 3) := dk_182 0 238 (dk_at dksX1_odds_0 2 rfl rfl)
theorem dX1_odds_5 : decode cX1_odds 5 = .ok (.ifCond .eq 10, 3) := dk_153 0 10 (dk_at dksX1_odds_0 5 rfl rfl)
theorem dX1_odds_8 : decode cX1_odds 8 = .ok (.iload_n 2, 1) := dk_28 (dk_at dksX1_odds_0 8 rfl rfl)
theorem dX1_odds_9 : decode cX1_odds 9 = .ok (.invokestatic 261, 3) := dk_184 1 5 (dk_at dksX1_odds_0 9 rfl rfl)
theorem dX1_odds_12 : decode cX1_odds 12 = .ok (.ifCond .ne 7, 3) := dk_154 0 7 (dk_at dksX1_odds_0 12 rfl rfl)
theorem dX1_odds_15 : decode cX1_odds 15 = .ok (.ldc2_w 248, 3) := dk_20 0 248 (dk_at dksX1_odds_0 15 rfl rfl)
theorem dX1_odds_18 : decode cX1_odds 18 = .ok (.lreturn, 1) := dk_173 (dk_at dksX1_odds_0 18 rfl rfl)
theorem dX1_odds_19 : decode cX1_odds 19 = .ok (.aload_n 0, 1) := dk_42 (dk_at dksX1_odds_0 19 rfl rfl)
theorem dX1_odds_20 : decode cX1_odds 20 = .ok (.invokevirtual 235, 3) := dk_182 0 235 (dk_at dksX1_odds_0 20 rfl rfl)
theorem dX1_odds_23 : decode cX1_odds 23 = .ok (.lstore_n 3, 1) := dk_66 (dk_at dksX1_odds_0 23 rfl rfl)
theorem dX1_odds_24 : decode cX1_odds 24 = .ok (.lconst 0, 1) := dk_9 (dk_at dksX1_odds_1 0 rfl rfl)
theorem dX1_odds_25 : decode cX1_odds 25 = .ok (.lstore 5, 2) := dk_55 5 (dk_at dksX1_odds_1 1 rfl rfl)
theorem dX1_odds_27 : decode cX1_odds 27 = .ok (.lconst 0, 1) := dk_9 (dk_at dksX1_odds_1 3 rfl rfl)
theorem dX1_odds_28 : decode cX1_odds 28 = .ok (.lstore 7, 2) := dk_55 7 (dk_at dksX1_odds_1 4 rfl rfl)
theorem dX1_odds_30 : decode cX1_odds 30 = .ok (.iconst 0, 1) := dk_3 (dk_at dksX1_odds_1 6 rfl rfl)
theorem dX1_odds_31 : decode cX1_odds 31 = .ok (.istore 9, 2) := dk_54 9 (dk_at dksX1_odds_1 7 rfl rfl)
theorem dX1_odds_33 : decode cX1_odds 33 = .ok (.iload 9, 2) := dk_21 9 (dk_at dksX1_odds_1 9 rfl rfl)
theorem dX1_odds_35 : decode cX1_odds 35 = .ok (.aload_n 0, 1) := dk_42 (dk_at dksX1_odds_1 11 rfl rfl)
theorem dX1_odds_36 : decode cX1_odds 36 = .ok (.getfield 20, 3) := dk_180 0 20 (dk_at dksX1_odds_1 12 rfl rfl)
theorem dX1_odds_39 : decode cX1_odds 39 = .ok (.invokevirtual 120, 3) := dk_182 0 120 (dk_at dksX1_odds_1 15 rfl rfl)
theorem dX1_odds_42 : decode cX1_odds 42 = .ok (.if_icmp .ge 53, 3) := dk_162 0 53 (dk_at dksX1_odds_1 18 rfl rfl)
theorem dX1_odds_45 : decode cX1_odds 45 = .ok (.lload_n 3, 1) := dk_33 (dk_at dksX1_odds_1 21 rfl rfl)
theorem dX1_odds_46 : decode cX1_odds 46 = .ok (.iload 9, 2) := dk_21 9 (dk_at dksX1_odds_1 22 rfl rfl)
theorem dX1_odds_48 : decode cX1_odds 48 = .ok (.invokestatic 172, 3) := dk_184 0 172 (dk_at dksX1_odds_2 0 rfl rfl)
theorem dX1_odds_51 : decode cX1_odds 51 = .ok (.ifCond .ne 6, 3) := dk_154 0 6 (dk_at dksX1_odds_2 3 rfl rfl)
theorem dX1_odds_54 : decode cX1_odds 54 = .ok (.goto 35, 3) := dk_167 0 35 (dk_at dksX1_odds_2 6 rfl rfl)
theorem dX1_odds_57 : decode cX1_odds 57 = .ok (.lload 7, 2) := dk_22 7 (dk_at dksX1_odds_2 9 rfl rfl)
theorem dX1_odds_59 : decode cX1_odds 59 = .ok (.aload_n 0, 1) := dk_42 (dk_at dksX1_odds_2 11 rfl rfl)
theorem dX1_odds_60 : decode cX1_odds 60 = .ok (.iload 9, 2) := dk_21 9 (dk_at dksX1_odds_2 12 rfl rfl)
theorem dX1_odds_62 : decode cX1_odds 62 = .ok (.invokevirtual 264, 3) := dk_182 1 8 (dk_at dksX1_odds_2 14 rfl rfl)
theorem dX1_odds_65 : decode cX1_odds 65 = .ok (.ladd, 1) := dk_97 (dk_at dksX1_odds_2 17 rfl rfl)
theorem dX1_odds_66 : decode cX1_odds 66 = .ok (.lstore 7, 2) := dk_55 7 (dk_at dksX1_odds_2 18 rfl rfl)
theorem dX1_odds_68 : decode cX1_odds 68 = .ok (.iload 9, 2) := dk_21 9 (dk_at dksX1_odds_2 20 rfl rfl)
theorem dX1_odds_70 : decode cX1_odds 70 = .ok (.i2l, 1) := dk_133 (dk_at dksX1_odds_2 22 rfl rfl)
theorem dX1_odds_71 : decode cX1_odds 71 = .ok (.iload_n 1, 1) := dk_27 (dk_at dksX1_odds_2 23 rfl rfl)
theorem dX1_odds_72 : decode cX1_odds 72 = .ok (.invokestatic 172, 3) := dk_184 0 172 (dk_at dksX1_odds_3 0 rfl rfl)
theorem dX1_odds_75 : decode cX1_odds 75 = .ok (.ifCond .eq 14, 3) := dk_153 0 14 (dk_at dksX1_odds_3 3 rfl rfl)
theorem dX1_odds_78 : decode cX1_odds 78 = .ok (.lload 5, 2) := dk_22 5 (dk_at dksX1_odds_3 6 rfl rfl)
theorem dX1_odds_80 : decode cX1_odds 80 = .ok (.aload_n 0, 1) := dk_42 (dk_at dksX1_odds_3 8 rfl rfl)
theorem dX1_odds_81 : decode cX1_odds 81 = .ok (.iload 9, 2) := dk_21 9 (dk_at dksX1_odds_3 9 rfl rfl)
theorem dX1_odds_83 : decode cX1_odds 83 = .ok (.invokevirtual 264, 3) := dk_182 1 8 (dk_at dksX1_odds_3 11 rfl rfl)
theorem dX1_odds_86 : decode cX1_odds 86 = .ok (.ladd, 1) := dk_97 (dk_at dksX1_odds_3 14 rfl rfl)
theorem dX1_odds_87 : decode cX1_odds 87 = .ok (.lstore 5, 2) := dk_55 5 (dk_at dksX1_odds_3 15 rfl rfl)
theorem dX1_odds_89 : decode cX1_odds 89 = .ok (.iinc 9 1, 3) := dk_132 9 1 (dk_at dksX1_odds_3 17 rfl rfl)
theorem dX1_odds_92 : decode cX1_odds 92 = .ok (.goto (-59), 3) := dk_167 255 197 (dk_at dksX1_odds_3 20 rfl rfl)
theorem dX1_odds_95 : decode cX1_odds 95 = .ok (.lload 7, 2) := dk_22 7 (dk_at dksX1_odds_4 0 rfl rfl)
theorem dX1_odds_97 : decode cX1_odds 97 = .ok (.lconst 0, 1) := dk_9 (dk_at dksX1_odds_4 2 rfl rfl)
theorem dX1_odds_98 : decode cX1_odds 98 = .ok (.lcmp, 1) := dk_148 (dk_at dksX1_odds_4 3 rfl rfl)
theorem dX1_odds_99 : decode cX1_odds 99 = .ok (.ifCond .ne 9, 3) := dk_154 0 9 (dk_at dksX1_odds_4 4 rfl rfl)
theorem dX1_odds_102 : decode cX1_odds 102 = .ok (.ldc2_w 248, 3) := dk_20 0 248 (dk_at dksX1_odds_4 7 rfl rfl)
theorem dX1_odds_105 : decode cX1_odds 105 = .ok (.goto 11, 3) := dk_167 0 11 (dk_at dksX1_odds_4 10 rfl rfl)
theorem dX1_odds_108 : decode cX1_odds 108 = .ok (.lload 5, 2) := dk_22 5 (dk_at dksX1_odds_4 13 rfl rfl)
theorem dX1_odds_110 : decode cX1_odds 110 = .ok (.lload 7, 2) := dk_22 7 (dk_at dksX1_odds_4 15 rfl rfl)
theorem dX1_odds_112 : decode cX1_odds 112 = .ok (.iload_n 2, 1) := dk_28 (dk_at dksX1_odds_4 17 rfl rfl)
theorem dX1_odds_113 : decode cX1_odds 113 = .ok (.invokestatic 267, 3) := dk_184 1 11 (dk_at dksX1_odds_4 18 rfl rfl)
theorem dX1_odds_116 : decode cX1_odds 116 = .ok (.lreturn, 1) := dk_173 (dk_at dksX1_odds_4 21 rfl rfl)
abbrev cX1_isWhat : ByteArray := prog_1_method_15_code
def yX1_isWhat : MethodName := ⟨RX1, "isWhat", "(I)Z"⟩
def dkwX1_isWhat_0 : List UInt8 := [26, 3, 4, 184, 0, 113, 172]
abbrev dktX1_isWhat_0 : List UInt8 := dkwX1_isWhat_0 ++ []
theorem dksX1_isWhat_0 : cX1_isWhat.data.toList.drop 0 = dktX1_isWhat_0 := by decide +kernel
theorem dX1_isWhat_0 : decode cX1_isWhat 0 = .ok (.iload_n 0, 1) := dk_26 (dk_at dksX1_isWhat_0 0 rfl rfl)
theorem dX1_isWhat_1 : decode cX1_isWhat 1 = .ok (.iconst 0, 1) := dk_3 (dk_at dksX1_isWhat_0 1 rfl rfl)
theorem dX1_isWhat_2 : decode cX1_isWhat 2 = .ok (.iconst 1, 1) := dk_4 (dk_at dksX1_isWhat_0 2 rfl rfl)
theorem dX1_isWhat_3 : decode cX1_isWhat 3 = .ok (.invokestatic 113, 3) := dk_184 0 113 (dk_at dksX1_isWhat_0 3 rfl rfl)
theorem dX1_isWhat_6 : decode cX1_isWhat 6 = .ok (.ireturn, 1) := dk_172 (dk_at dksX1_isWhat_0 6 rfl rfl)
abbrev cX1_weight : ByteArray := prog_1_method_44_code
def yX1_weight : MethodName := ⟨RX1, "weight", "(I)J"⟩
def dkwX1_weight_2 : List UInt8 := [42, 180, 0, 20, 180, 1, 1, 21, 4, 46, 100, 133, 105, 65, 132, 4, 1, 167, 255, 197, 32, 173]
abbrev dktX1_weight_2 : List UInt8 := dkwX1_weight_2 ++ []
def dkwX1_weight_1 : List UInt8 := [21, 4, 184, 0, 172, 153, 0, 17, 42, 180, 0, 20, 180, 1, 1, 21, 4, 46, 133, 167, 0, 17, 16, 10]
abbrev dktX1_weight_1 : List UInt8 := dkwX1_weight_1 ++ dktX1_weight_2
def dkwX1_weight_0 : List UInt8 := [10, 65, 3, 54, 4, 21, 4, 42, 180, 0, 20, 180, 0, 106, 182, 0, 109, 162, 0, 50, 32, 27, 133]
abbrev dktX1_weight_0 : List UInt8 := dkwX1_weight_0 ++ dktX1_weight_1
theorem dksX1_weight_0 : cX1_weight.data.toList.drop 0 = dktX1_weight_0 := by decide +kernel
theorem dksX1_weight_1 : cX1_weight.data.toList.drop 23 = dktX1_weight_1 := dk_seg dksX1_weight_0 23 rfl rfl
theorem dksX1_weight_2 : cX1_weight.data.toList.drop 47 = dktX1_weight_2 := dk_seg dksX1_weight_1 24 rfl rfl
theorem dX1_weight_0 : decode cX1_weight 0 = .ok (.lconst 1, 1) := dk_10 (dk_at dksX1_weight_0 0 rfl rfl)
theorem dX1_weight_1 : decode cX1_weight 1 = .ok (.lstore_n 2, 1) := dk_65 (dk_at dksX1_weight_0 1 rfl rfl)
theorem dX1_weight_2 : decode cX1_weight 2 = .ok (.iconst 0, 1) := dk_3 (dk_at dksX1_weight_0 2 rfl rfl)
theorem dX1_weight_3 : decode cX1_weight 3 = .ok (.istore 4, 2) := dk_54 4 (dk_at dksX1_weight_0 3 rfl rfl)
theorem dX1_weight_5 : decode cX1_weight 5 = .ok (.iload 4, 2) := dk_21 4 (dk_at dksX1_weight_0 5 rfl rfl)
theorem dX1_weight_7 : decode cX1_weight 7 = .ok (.aload_n 0, 1) := dk_42 (dk_at dksX1_weight_0 7 rfl rfl)
theorem dX1_weight_8 : decode cX1_weight 8 = .ok (.getfield 20, 3) := dk_180 0 20 (dk_at dksX1_weight_0 8 rfl rfl)
theorem dX1_weight_11 : decode cX1_weight 11 = .ok (.getfield 106, 3) := dk_180 0 106 (dk_at dksX1_weight_0 11 rfl rfl)
theorem dX1_weight_14 : decode cX1_weight 14 = .ok (.invokevirtual 109, 3) := dk_182 0 109 (dk_at dksX1_weight_0 14 rfl rfl)
theorem dX1_weight_17 : decode cX1_weight 17 = .ok (.if_icmp .ge 50, 3) := dk_162 0 50 (dk_at dksX1_weight_0 17 rfl rfl)
theorem dX1_weight_20 : decode cX1_weight 20 = .ok (.lload_n 2, 1) := dk_32 (dk_at dksX1_weight_0 20 rfl rfl)
theorem dX1_weight_21 : decode cX1_weight 21 = .ok (.iload_n 1, 1) := dk_27 (dk_at dksX1_weight_0 21 rfl rfl)
theorem dX1_weight_22 : decode cX1_weight 22 = .ok (.i2l, 1) := dk_133 (dk_at dksX1_weight_0 22 rfl rfl)
theorem dX1_weight_23 : decode cX1_weight 23 = .ok (.iload 4, 2) := dk_21 4 (dk_at dksX1_weight_1 0 rfl rfl)
theorem dX1_weight_25 : decode cX1_weight 25 = .ok (.invokestatic 172, 3) := dk_184 0 172 (dk_at dksX1_weight_1 2 rfl rfl)
theorem dX1_weight_28 : decode cX1_weight 28 = .ok (.ifCond .eq 17, 3) := dk_153 0 17 (dk_at dksX1_weight_1 5 rfl rfl)
theorem dX1_weight_31 : decode cX1_weight 31 = .ok (.aload_n 0, 1) := dk_42 (dk_at dksX1_weight_1 8 rfl rfl)
theorem dX1_weight_32 : decode cX1_weight 32 = .ok (.getfield 20, 3) := dk_180 0 20 (dk_at dksX1_weight_1 9 rfl rfl)
theorem dX1_weight_35 : decode cX1_weight 35 = .ok (.getfield 257, 3) := dk_180 1 1 (dk_at dksX1_weight_1 12 rfl rfl)
theorem dX1_weight_38 : decode cX1_weight 38 = .ok (.iload 4, 2) := dk_21 4 (dk_at dksX1_weight_1 15 rfl rfl)
theorem dX1_weight_40 : decode cX1_weight 40 = .ok (.iaload, 1) := dk_46 (dk_at dksX1_weight_1 17 rfl rfl)
theorem dX1_weight_41 : decode cX1_weight 41 = .ok (.i2l, 1) := dk_133 (dk_at dksX1_weight_1 18 rfl rfl)
theorem dX1_weight_42 : decode cX1_weight 42 = .ok (.goto 17, 3) := dk_167 0 17 (dk_at dksX1_weight_1 19 rfl rfl)
theorem dX1_weight_45 : decode cX1_weight 45 = .ok (.bipush 10, 2) := dk_16 10 (dk_at dksX1_weight_1 22 rfl rfl)
theorem dX1_weight_47 : decode cX1_weight 47 = .ok (.aload_n 0, 1) := dk_42 (dk_at dksX1_weight_2 0 rfl rfl)
theorem dX1_weight_48 : decode cX1_weight 48 = .ok (.getfield 20, 3) := dk_180 0 20 (dk_at dksX1_weight_2 1 rfl rfl)
theorem dX1_weight_51 : decode cX1_weight 51 = .ok (.getfield 257, 3) := dk_180 1 1 (dk_at dksX1_weight_2 4 rfl rfl)
theorem dX1_weight_54 : decode cX1_weight 54 = .ok (.iload 4, 2) := dk_21 4 (dk_at dksX1_weight_2 7 rfl rfl)
theorem dX1_weight_56 : decode cX1_weight 56 = .ok (.iaload, 1) := dk_46 (dk_at dksX1_weight_2 9 rfl rfl)
theorem dX1_weight_57 : decode cX1_weight 57 = .ok (.isub, 1) := dk_100 (dk_at dksX1_weight_2 10 rfl rfl)
theorem dX1_weight_58 : decode cX1_weight 58 = .ok (.i2l, 1) := dk_133 (dk_at dksX1_weight_2 11 rfl rfl)
theorem dX1_weight_59 : decode cX1_weight 59 = .ok (.lmul, 1) := dk_105 (dk_at dksX1_weight_2 12 rfl rfl)
theorem dX1_weight_60 : decode cX1_weight 60 = .ok (.lstore_n 2, 1) := dk_65 (dk_at dksX1_weight_2 13 rfl rfl)
theorem dX1_weight_61 : decode cX1_weight 61 = .ok (.iinc 4 1, 3) := dk_132 4 1 (dk_at dksX1_weight_2 14 rfl rfl)
theorem dX1_weight_64 : decode cX1_weight 64 = .ok (.goto (-59), 3) := dk_167 255 197 (dk_at dksX1_weight_2 17 rfl rfl)
theorem dX1_weight_67 : decode cX1_weight 67 = .ok (.lload_n 2, 1) := dk_32 (dk_at dksX1_weight_2 20 rfl rfl)
theorem dX1_weight_68 : decode cX1_weight 68 = .ok (.lreturn, 1) := dk_173 (dk_at dksX1_weight_2 21 rfl rfl)
abbrev cX1_lowest : ByteArray := prog_1_method_43_code
def yX1_lowest : MethodName := ⟨RX1, "lowest", "(JJI)J"⟩
def dkwX1_lowest_0 : List UInt8 := [30, 32, 184, 0, 254, 55, 5, 21, 4, 154, 0, 10, 30, 22, 5, 109, 167, 0, 7, 32, 22, 5, 109, 173]
abbrev dktX1_lowest_0 : List UInt8 := dkwX1_lowest_0 ++ []
theorem dksX1_lowest_0 : cX1_lowest.data.toList.drop 0 = dktX1_lowest_0 := by decide +kernel
theorem dX1_lowest_0 : decode cX1_lowest 0 = .ok (.lload_n 0, 1) := dk_30 (dk_at dksX1_lowest_0 0 rfl rfl)
theorem dX1_lowest_1 : decode cX1_lowest 1 = .ok (.lload_n 2, 1) := dk_32 (dk_at dksX1_lowest_0 1 rfl rfl)
theorem dX1_lowest_2 : decode cX1_lowest 2 = .ok (.invokestatic 254, 3) := dk_184 0 254 (dk_at dksX1_lowest_0 2 rfl rfl)
theorem dX1_lowest_5 : decode cX1_lowest 5 = .ok (.lstore 5, 2) := dk_55 5 (dk_at dksX1_lowest_0 5 rfl rfl)
theorem dX1_lowest_7 : decode cX1_lowest 7 = .ok (.iload 4, 2) := dk_21 4 (dk_at dksX1_lowest_0 7 rfl rfl)
theorem dX1_lowest_9 : decode cX1_lowest 9 = .ok (.ifCond .ne 10, 3) := dk_154 0 10 (dk_at dksX1_lowest_0 9 rfl rfl)
theorem dX1_lowest_12 : decode cX1_lowest 12 = .ok (.lload_n 0, 1) := dk_30 (dk_at dksX1_lowest_0 12 rfl rfl)
theorem dX1_lowest_13 : decode cX1_lowest 13 = .ok (.lload 5, 2) := dk_22 5 (dk_at dksX1_lowest_0 13 rfl rfl)
theorem dX1_lowest_15 : decode cX1_lowest 15 = .ok (.ldiv, 1) := dk_109 (dk_at dksX1_lowest_0 15 rfl rfl)
theorem dX1_lowest_16 : decode cX1_lowest 16 = .ok (.goto 7, 3) := dk_167 0 7 (dk_at dksX1_lowest_0 16 rfl rfl)
theorem dX1_lowest_19 : decode cX1_lowest 19 = .ok (.lload_n 2, 1) := dk_32 (dk_at dksX1_lowest_0 19 rfl rfl)
theorem dX1_lowest_20 : decode cX1_lowest 20 = .ok (.lload 5, 2) := dk_22 5 (dk_at dksX1_lowest_0 20 rfl rfl)
theorem dX1_lowest_22 : decode cX1_lowest 22 = .ok (.ldiv, 1) := dk_109 (dk_at dksX1_lowest_0 22 rfl rfl)
theorem dX1_lowest_23 : decode cX1_lowest 23 = .ok (.lreturn, 1) := dk_173 (dk_at dksX1_lowest_0 23 rfl rfl)
abbrev cX1_common : ByteArray := prog_1_method_42_code
def yX1_common : MethodName := ⟨RX1, "common", "(JJ)J"⟩
def dkwX1_common_1 : List UInt8 := [22, 8, 55, 6, 167, 255, 234, 22, 4, 173]
abbrev dktX1_common_1 : List UInt8 := dkwX1_common_1 ++ []
def dkwX1_common_0 : List UInt8 := [30, 55, 4, 32, 55, 6, 22, 6, 9, 148, 153, 0, 21, 22, 4, 22, 6, 113, 55, 8, 22, 6, 55, 4]
abbrev dktX1_common_0 : List UInt8 := dkwX1_common_0 ++ dktX1_common_1
theorem dksX1_common_0 : cX1_common.data.toList.drop 0 = dktX1_common_0 := by decide +kernel
theorem dksX1_common_1 : cX1_common.data.toList.drop 24 = dktX1_common_1 := dk_seg dksX1_common_0 24 rfl rfl
theorem dX1_common_0 : decode cX1_common 0 = .ok (.lload_n 0, 1) := dk_30 (dk_at dksX1_common_0 0 rfl rfl)
theorem dX1_common_1 : decode cX1_common 1 = .ok (.lstore 4, 2) := dk_55 4 (dk_at dksX1_common_0 1 rfl rfl)
theorem dX1_common_3 : decode cX1_common 3 = .ok (.lload_n 2, 1) := dk_32 (dk_at dksX1_common_0 3 rfl rfl)
theorem dX1_common_4 : decode cX1_common 4 = .ok (.lstore 6, 2) := dk_55 6 (dk_at dksX1_common_0 4 rfl rfl)
theorem dX1_common_6 : decode cX1_common 6 = .ok (.lload 6, 2) := dk_22 6 (dk_at dksX1_common_0 6 rfl rfl)
theorem dX1_common_8 : decode cX1_common 8 = .ok (.lconst 0, 1) := dk_9 (dk_at dksX1_common_0 8 rfl rfl)
theorem dX1_common_9 : decode cX1_common 9 = .ok (.lcmp, 1) := dk_148 (dk_at dksX1_common_0 9 rfl rfl)
theorem dX1_common_10 : decode cX1_common 10 = .ok (.ifCond .eq 21, 3) := dk_153 0 21 (dk_at dksX1_common_0 10 rfl rfl)
theorem dX1_common_13 : decode cX1_common 13 = .ok (.lload 4, 2) := dk_22 4 (dk_at dksX1_common_0 13 rfl rfl)
theorem dX1_common_15 : decode cX1_common 15 = .ok (.lload 6, 2) := dk_22 6 (dk_at dksX1_common_0 15 rfl rfl)
theorem dX1_common_17 : decode cX1_common 17 = .ok (.lrem, 1) := dk_113 (dk_at dksX1_common_0 17 rfl rfl)
theorem dX1_common_18 : decode cX1_common 18 = .ok (.lstore 8, 2) := dk_55 8 (dk_at dksX1_common_0 18 rfl rfl)
theorem dX1_common_20 : decode cX1_common 20 = .ok (.lload 6, 2) := dk_22 6 (dk_at dksX1_common_0 20 rfl rfl)
theorem dX1_common_22 : decode cX1_common 22 = .ok (.lstore 4, 2) := dk_55 4 (dk_at dksX1_common_0 22 rfl rfl)
theorem dX1_common_24 : decode cX1_common 24 = .ok (.lload 8, 2) := dk_22 8 (dk_at dksX1_common_1 0 rfl rfl)
theorem dX1_common_26 : decode cX1_common 26 = .ok (.lstore 6, 2) := dk_55 6 (dk_at dksX1_common_1 2 rfl rfl)
theorem dX1_common_28 : decode cX1_common 28 = .ok (.goto (-22), 3) := dk_167 255 234 (dk_at dksX1_common_1 4 rfl rfl)
theorem dX1_common_31 : decode cX1_common 31 = .ok (.lload 4, 2) := dk_22 4 (dk_at dksX1_common_1 7 rfl rfl)
theorem dX1_common_33 : decode cX1_common 33 = .ok (.lreturn, 1) := dk_173 (dk_at dksX1_common_1 9 rfl rfl)
abbrev cX1_proof : ByteArray := prog_1_method_47_code
def yX1_proof : MethodName := ⟨RX1, "proof", "(II)I"⟩
def dkwX1_proof_2 : List UInt8 := [182, 1, 15, 182, 1, 18, 28, 184, 1, 22, 172]
abbrev dktX1_proof_2 : List UInt8 := dkwX1_proof_2 ++ []
def dkwX1_proof_1 : List UInt8 := [2, 172, 42, 180, 0, 45, 42, 180, 0, 27, 27, 182, 0, 134, 192, 0, 138, 180, 0, 203, 42, 27]
abbrev dktX1_proof_1 : List UInt8 := dkwX1_proof_1 ++ dktX1_proof_2
def dkwX1_proof_0 : List UInt8 := [42, 27, 182, 0, 200, 153, 0, 19, 28, 184, 1, 5, 153, 0, 12, 42, 27, 182, 1, 15, 4, 164, 0, 5]
abbrev dktX1_proof_0 : List UInt8 := dkwX1_proof_0 ++ dktX1_proof_1
theorem dksX1_proof_0 : cX1_proof.data.toList.drop 0 = dktX1_proof_0 := by decide +kernel
theorem dksX1_proof_1 : cX1_proof.data.toList.drop 24 = dktX1_proof_1 := dk_seg dksX1_proof_0 24 rfl rfl
theorem dksX1_proof_2 : cX1_proof.data.toList.drop 46 = dktX1_proof_2 := dk_seg dksX1_proof_1 22 rfl rfl
theorem dX1_proof_0 : decode cX1_proof 0 = .ok (.aload_n 0, 1) := dk_42 (dk_at dksX1_proof_0 0 rfl rfl)
theorem dX1_proof_1 : decode cX1_proof 1 = .ok (.iload_n 1, 1) := dk_27 (dk_at dksX1_proof_0 1 rfl rfl)
theorem dX1_proof_2 : decode cX1_proof 2 = .ok (.invokevirtual 200, 3) := dk_182 0 200 (dk_at dksX1_proof_0 2 rfl rfl)
theorem dX1_proof_5 : decode cX1_proof 5 = .ok (.ifCond .eq 19, 3) := dk_153 0 19 (dk_at dksX1_proof_0 5 rfl rfl)
theorem dX1_proof_8 : decode cX1_proof 8 = .ok (.iload_n 2, 1) := dk_28 (dk_at dksX1_proof_0 8 rfl rfl)
theorem dX1_proof_9 : decode cX1_proof 9 = .ok (.invokestatic 261, 3) := dk_184 1 5 (dk_at dksX1_proof_0 9 rfl rfl)
theorem dX1_proof_12 : decode cX1_proof 12 = .ok (.ifCond .eq 12, 3) := dk_153 0 12 (dk_at dksX1_proof_0 12 rfl rfl)
theorem dX1_proof_15 : decode cX1_proof 15 = .ok (.aload_n 0, 1) := dk_42 (dk_at dksX1_proof_0 15 rfl rfl)
theorem dX1_proof_16 : decode cX1_proof 16 = .ok (.iload_n 1, 1) := dk_27 (dk_at dksX1_proof_0 16 rfl rfl)
theorem dX1_proof_17 : decode cX1_proof 17 = .ok (.invokevirtual 271, 3) := dk_182 1 15 (dk_at dksX1_proof_0 17 rfl rfl)
theorem dX1_proof_20 : decode cX1_proof 20 = .ok (.iconst 1, 1) := dk_4 (dk_at dksX1_proof_0 20 rfl rfl)
theorem dX1_proof_21 : decode cX1_proof 21 = .ok (.if_icmp .le 5, 3) := dk_164 0 5 (dk_at dksX1_proof_0 21 rfl rfl)
theorem dX1_proof_24 : decode cX1_proof 24 = .ok (.iconst (-1), 1) := dk_2 (dk_at dksX1_proof_1 0 rfl rfl)
theorem dX1_proof_25 : decode cX1_proof 25 = .ok (.ireturn, 1) := dk_172 (dk_at dksX1_proof_1 1 rfl rfl)
theorem dX1_proof_26 : decode cX1_proof 26 = .ok (.aload_n 0, 1) := dk_42 (dk_at dksX1_proof_1 2 rfl rfl)
theorem dX1_proof_27 : decode cX1_proof 27 = .ok (.getfield 45, 3) := dk_180 0 45 (dk_at dksX1_proof_1 3 rfl rfl)
theorem dX1_proof_30 : decode cX1_proof 30 = .ok (.aload_n 0, 1) := dk_42 (dk_at dksX1_proof_1 6 rfl rfl)
theorem dX1_proof_31 : decode cX1_proof 31 = .ok (.getfield 27, 3) := dk_180 0 27 (dk_at dksX1_proof_1 7 rfl rfl)
theorem dX1_proof_34 : decode cX1_proof 34 = .ok (.iload_n 1, 1) := dk_27 (dk_at dksX1_proof_1 10 rfl rfl)
theorem dX1_proof_35 : decode cX1_proof 35 = .ok (.invokevirtual 134, 3) := dk_182 0 134 (dk_at dksX1_proof_1 11 rfl rfl)
theorem dX1_proof_38 : decode cX1_proof 38 = .ok (.checkcast 138, 3) := dk_192 0 138 (dk_at dksX1_proof_1 14 rfl rfl)
theorem dX1_proof_41 : decode cX1_proof 41 = .ok (.getfield 203, 3) := dk_180 0 203 (dk_at dksX1_proof_1 17 rfl rfl)
theorem dX1_proof_44 : decode cX1_proof 44 = .ok (.aload_n 0, 1) := dk_42 (dk_at dksX1_proof_1 20 rfl rfl)
theorem dX1_proof_45 : decode cX1_proof 45 = .ok (.iload_n 1, 1) := dk_27 (dk_at dksX1_proof_1 21 rfl rfl)
theorem dX1_proof_46 : decode cX1_proof 46 = .ok (.invokevirtual 271, 3) := dk_182 1 15 (dk_at dksX1_proof_2 0 rfl rfl)
theorem dX1_proof_49 : decode cX1_proof 49 = .ok (.invokevirtual 274, 3) := dk_182 1 18 (dk_at dksX1_proof_2 3 rfl rfl)
theorem dX1_proof_52 : decode cX1_proof 52 = .ok (.iload_n 2, 1) := dk_28 (dk_at dksX1_proof_2 6 rfl rfl)
theorem dX1_proof_53 : decode cX1_proof 53 = .ok (.invokestatic 278, 3) := dk_184 1 22 (dk_at dksX1_proof_2 7 rfl rfl)
theorem dX1_proof_56 : decode cX1_proof 56 = .ok (.ireturn, 1) := dk_172 (dk_at dksX1_proof_2 10 rfl rfl)
abbrev cX1_told_2 : ByteArray := prog_1_method_46_code
def yX1_told_2 : MethodName := ⟨RX1, "told", "(II)I"⟩
def dkwX1_told_2_0 : List UInt8 := [26, 2, 160, 0, 7, 2, 167, 0, 16, 27, 154, 0, 11, 26, 133, 184, 0, 244, 167, 0, 4, 26, 172]
abbrev dktX1_told_2_0 : List UInt8 := dkwX1_told_2_0 ++ []
theorem dksX1_told_2_0 : cX1_told_2.data.toList.drop 0 = dktX1_told_2_0 := by decide +kernel
theorem dX1_told_2_0 : decode cX1_told_2 0 = .ok (.iload_n 0, 1) := dk_26 (dk_at dksX1_told_2_0 0 rfl rfl)
theorem dX1_told_2_1 : decode cX1_told_2 1 = .ok (.iconst (-1), 1) := dk_2 (dk_at dksX1_told_2_0 1 rfl rfl)
theorem dX1_told_2_2 : decode cX1_told_2 2 = .ok (.if_icmp .ne 7, 3) := dk_160 0 7 (dk_at dksX1_told_2_0 2 rfl rfl)
theorem dX1_told_2_5 : decode cX1_told_2 5 = .ok (.iconst (-1), 1) := dk_2 (dk_at dksX1_told_2_0 5 rfl rfl)
theorem dX1_told_2_6 : decode cX1_told_2 6 = .ok (.goto 16, 3) := dk_167 0 16 (dk_at dksX1_told_2_0 6 rfl rfl)
theorem dX1_told_2_9 : decode cX1_told_2 9 = .ok (.iload_n 1, 1) := dk_27 (dk_at dksX1_told_2_0 9 rfl rfl)
theorem dX1_told_2_10 : decode cX1_told_2 10 = .ok (.ifCond .ne 11, 3) := dk_154 0 11 (dk_at dksX1_told_2_0 10 rfl rfl)
theorem dX1_told_2_13 : decode cX1_told_2 13 = .ok (.iload_n 0, 1) := dk_26 (dk_at dksX1_told_2_0 13 rfl rfl)
theorem dX1_told_2_14 : decode cX1_told_2 14 = .ok (.i2l, 1) := dk_133 (dk_at dksX1_told_2_0 14 rfl rfl)
theorem dX1_told_2_15 : decode cX1_told_2 15 = .ok (.invokestatic 244, 3) := dk_184 0 244 (dk_at dksX1_told_2_0 15 rfl rfl)
theorem dX1_told_2_18 : decode cX1_told_2 18 = .ok (.goto 4, 3) := dk_167 0 4 (dk_at dksX1_told_2_0 18 rfl rfl)
theorem dX1_told_2_21 : decode cX1_told_2 21 = .ok (.iload_n 0, 1) := dk_26 (dk_at dksX1_told_2_0 21 rfl rfl)
theorem dX1_told_2_22 : decode cX1_told_2 22 = .ok (.ireturn, 1) := dk_172 (dk_at dksX1_told_2_0 22 rfl rfl)
abbrev cX1_clash : ByteArray := prog_1_method_48_code
def yX1_clash : MethodName := ⟨RX1, "clash", "(I)I"⟩
def dkwX1_clash_1 : List UInt8 := [182, 1, 18, 27, 184, 1, 22, 167, 0, 4, 2, 172]
abbrev dktX1_clash_1 : List UInt8 := dkwX1_clash_1 ++ []
def dkwX1_clash_0 : List UInt8 := [27, 184, 1, 5, 153, 0, 28, 42, 182, 0, 235, 9, 148, 154, 0, 19, 42, 180, 0, 45, 9, 6]
abbrev dktX1_clash_0 : List UInt8 := dkwX1_clash_0 ++ dktX1_clash_1
theorem dksX1_clash_0 : cX1_clash.data.toList.drop 0 = dktX1_clash_0 := by decide +kernel
theorem dksX1_clash_1 : cX1_clash.data.toList.drop 22 = dktX1_clash_1 := dk_seg dksX1_clash_0 22 rfl rfl
theorem dX1_clash_0 : decode cX1_clash 0 = .ok (.iload_n 1, 1) := dk_27 (dk_at dksX1_clash_0 0 rfl rfl)
theorem dX1_clash_1 : decode cX1_clash 1 = .ok (.invokestatic 261, 3) := dk_184 1 5 (dk_at dksX1_clash_0 1 rfl rfl)
theorem dX1_clash_4 : decode cX1_clash 4 = .ok (.ifCond .eq 28, 3) := dk_153 0 28 (dk_at dksX1_clash_0 4 rfl rfl)
theorem dX1_clash_7 : decode cX1_clash 7 = .ok (.aload_n 0, 1) := dk_42 (dk_at dksX1_clash_0 7 rfl rfl)
theorem dX1_clash_8 : decode cX1_clash 8 = .ok (.invokevirtual 235, 3) := dk_182 0 235 (dk_at dksX1_clash_0 8 rfl rfl)
theorem dX1_clash_11 : decode cX1_clash 11 = .ok (.lconst 0, 1) := dk_9 (dk_at dksX1_clash_0 11 rfl rfl)
theorem dX1_clash_12 : decode cX1_clash 12 = .ok (.lcmp, 1) := dk_148 (dk_at dksX1_clash_0 12 rfl rfl)
theorem dX1_clash_13 : decode cX1_clash 13 = .ok (.ifCond .ne 19, 3) := dk_154 0 19 (dk_at dksX1_clash_0 13 rfl rfl)
theorem dX1_clash_16 : decode cX1_clash 16 = .ok (.aload_n 0, 1) := dk_42 (dk_at dksX1_clash_0 16 rfl rfl)
theorem dX1_clash_17 : decode cX1_clash 17 = .ok (.getfield 45, 3) := dk_180 0 45 (dk_at dksX1_clash_0 17 rfl rfl)
theorem dX1_clash_20 : decode cX1_clash 20 = .ok (.lconst 0, 1) := dk_9 (dk_at dksX1_clash_0 20 rfl rfl)
theorem dX1_clash_21 : decode cX1_clash 21 = .ok (.iconst 3, 1) := dk_6 (dk_at dksX1_clash_0 21 rfl rfl)
theorem dX1_clash_22 : decode cX1_clash 22 = .ok (.invokevirtual 274, 3) := dk_182 1 18 (dk_at dksX1_clash_1 0 rfl rfl)
theorem dX1_clash_25 : decode cX1_clash 25 = .ok (.iload_n 1, 1) := dk_27 (dk_at dksX1_clash_1 3 rfl rfl)
theorem dX1_clash_26 : decode cX1_clash 26 = .ok (.invokestatic 278, 3) := dk_184 1 22 (dk_at dksX1_clash_1 4 rfl rfl)
theorem dX1_clash_29 : decode cX1_clash 29 = .ok (.goto 4, 3) := dk_167 0 4 (dk_at dksX1_clash_1 7 rfl rfl)
theorem dX1_clash_32 : decode cX1_clash 32 = .ok (.iconst (-1), 1) := dk_2 (dk_at dksX1_clash_1 10 rfl rfl)
theorem dX1_clash_33 : decode cX1_clash 33 = .ok (.ireturn, 1) := dk_172 (dk_at dksX1_clash_1 11 rfl rfl)
abbrev cX1_next : ByteArray := prog_1_method_49_code
def yX1_next : MethodName := ⟨RX1, "next", "(IIII)I"⟩
def dkwX1_next_0 : List UInt8 := [42, 27, 28, 29, 21, 4, 4, 182, 1, 25, 172]
abbrev dktX1_next_0 : List UInt8 := dkwX1_next_0 ++ []
theorem dksX1_next_0 : cX1_next.data.toList.drop 0 = dktX1_next_0 := by decide +kernel
theorem dX1_next_0 : decode cX1_next 0 = .ok (.aload_n 0, 1) := dk_42 (dk_at dksX1_next_0 0 rfl rfl)
theorem dX1_next_1 : decode cX1_next 1 = .ok (.iload_n 1, 1) := dk_27 (dk_at dksX1_next_0 1 rfl rfl)
theorem dX1_next_2 : decode cX1_next 2 = .ok (.iload_n 2, 1) := dk_28 (dk_at dksX1_next_0 2 rfl rfl)
theorem dX1_next_3 : decode cX1_next 3 = .ok (.iload_n 3, 1) := dk_29 (dk_at dksX1_next_0 3 rfl rfl)
theorem dX1_next_4 : decode cX1_next 4 = .ok (.iload 4, 2) := dk_21 4 (dk_at dksX1_next_0 4 rfl rfl)
theorem dX1_next_6 : decode cX1_next 6 = .ok (.iconst 1, 1) := dk_4 (dk_at dksX1_next_0 6 rfl rfl)
theorem dX1_next_7 : decode cX1_next 7 = .ok (.invokevirtual 281, 3) := dk_182 1 25 (dk_at dksX1_next_0 7 rfl rfl)
theorem dX1_next_10 : decode cX1_next 10 = .ok (.ireturn, 1) := dk_172 (dk_at dksX1_next_0 10 rfl rfl)
abbrev cX1_when : ByteArray := prog_1_method_51_code
def yX1_when : MethodName := ⟨RX1, "when", "(IIIIZ)I"⟩
def dkwX1_when_6 : List UInt8 := [21, 4, 154, 0, 8, 21, 8, 167, 0, 5, 21, 9, 172]
abbrev dktX1_when_6 : List UInt8 := dkwX1_when_6 ++ []
def dkwX1_when_5 : List UInt8 := [180, 0, 52, 180, 1, 36, 167, 0, 10, 42, 180, 0, 52, 180, 1, 39, 54, 9, 132, 10, 1, 167, 255, 166]
abbrev dktX1_when_5 : List UInt8 := dkwX1_when_5 ++ dktX1_when_6
def dkwX1_when_4 : List UInt8 := [180, 0, 52, 180, 1, 39, 21, 9, 163, 0, 6, 167, 0, 31, 21, 10, 54, 8, 21, 5, 153, 0, 13, 42]
abbrev dktX1_when_4 : List UInt8 := dkwX1_when_4 ++ dktX1_when_5
def dkwX1_when_3 : List UInt8 := [159, 0, 38, 21, 5, 153, 0, 18, 42, 180, 0, 52, 180, 1, 36, 21, 9, 161, 0, 21, 167, 0, 46, 42]
abbrev dktX1_when_3 : List UInt8 := dkwX1_when_3 ++ dktX1_when_4
def dkwX1_when_2 : List UInt8 := [54, 10, 21, 10, 29, 163, 0, 90, 42, 180, 0, 52, 22, 6, 27, 21, 10, 182, 1, 32, 21, 8, 2]
abbrev dktX1_when_2 : List UInt8 := dkwX1_when_2 ++ dktX1_when_3
def dkwX1_when_1 : List UInt8 := [2, 172, 42, 182, 0, 235, 55, 6, 22, 6, 9, 148, 154, 0, 5, 2, 172, 2, 54, 8, 3, 54, 9, 28]
abbrev dktX1_when_1 : List UInt8 := dkwX1_when_1 ++ dktX1_when_2
def dkwX1_when_0 : List UInt8 := [42, 27, 182, 0, 197, 153, 0, 19, 28, 29, 184, 1, 29, 153, 0, 11, 21, 4, 184, 1, 5, 154, 0, 5]
abbrev dktX1_when_0 : List UInt8 := dkwX1_when_0 ++ dktX1_when_1
theorem dksX1_when_0 : cX1_when.data.toList.drop 0 = dktX1_when_0 := by decide +kernel
theorem dksX1_when_1 : cX1_when.data.toList.drop 24 = dktX1_when_1 := dk_seg dksX1_when_0 24 rfl rfl
theorem dksX1_when_2 : cX1_when.data.toList.drop 48 = dktX1_when_2 := dk_seg dksX1_when_1 24 rfl rfl
theorem dksX1_when_3 : cX1_when.data.toList.drop 71 = dktX1_when_3 := dk_seg dksX1_when_2 23 rfl rfl
theorem dksX1_when_4 : cX1_when.data.toList.drop 95 = dktX1_when_4 := dk_seg dksX1_when_3 24 rfl rfl
theorem dksX1_when_5 : cX1_when.data.toList.drop 119 = dktX1_when_5 := dk_seg dksX1_when_4 24 rfl rfl
theorem dksX1_when_6 : cX1_when.data.toList.drop 143 = dktX1_when_6 := dk_seg dksX1_when_5 24 rfl rfl
theorem dX1_when_0 : decode cX1_when 0 = .ok (.aload_n 0, 1) := dk_42 (dk_at dksX1_when_0 0 rfl rfl)
theorem dX1_when_1 : decode cX1_when 1 = .ok (.iload_n 1, 1) := dk_27 (dk_at dksX1_when_0 1 rfl rfl)
theorem dX1_when_2 : decode cX1_when 2 = .ok (.invokevirtual 197, 3) := dk_182 0 197 (dk_at dksX1_when_0 2 rfl rfl)
theorem dX1_when_5 : decode cX1_when 5 = .ok (.ifCond .eq 19, 3) := dk_153 0 19 (dk_at dksX1_when_0 5 rfl rfl)
theorem dX1_when_8 : decode cX1_when 8 = .ok (.iload_n 2, 1) := dk_28 (dk_at dksX1_when_0 8 rfl rfl)
theorem dX1_when_9 : decode cX1_when 9 = .ok (.iload_n 3, 1) := dk_29 (dk_at dksX1_when_0 9 rfl rfl)
theorem dX1_when_10 : decode cX1_when 10 = .ok (.invokestatic 285, 3) := dk_184 1 29 (dk_at dksX1_when_0 10 rfl rfl)
theorem dX1_when_13 : decode cX1_when 13 = .ok (.ifCond .eq 11, 3) := dk_153 0 11 (dk_at dksX1_when_0 13 rfl rfl)
theorem dX1_when_16 : decode cX1_when 16 = .ok (.iload 4, 2) := dk_21 4 (dk_at dksX1_when_0 16 rfl rfl)
theorem dX1_when_18 : decode cX1_when 18 = .ok (.invokestatic 261, 3) := dk_184 1 5 (dk_at dksX1_when_0 18 rfl rfl)
theorem dX1_when_21 : decode cX1_when 21 = .ok (.ifCond .ne 5, 3) := dk_154 0 5 (dk_at dksX1_when_0 21 rfl rfl)
theorem dX1_when_24 : decode cX1_when 24 = .ok (.iconst (-1), 1) := dk_2 (dk_at dksX1_when_1 0 rfl rfl)
theorem dX1_when_25 : decode cX1_when 25 = .ok (.ireturn, 1) := dk_172 (dk_at dksX1_when_1 1 rfl rfl)
theorem dX1_when_26 : decode cX1_when 26 = .ok (.aload_n 0, 1) := dk_42 (dk_at dksX1_when_1 2 rfl rfl)
theorem dX1_when_27 : decode cX1_when 27 = .ok (.invokevirtual 235, 3) := dk_182 0 235 (dk_at dksX1_when_1 3 rfl rfl)
theorem dX1_when_30 : decode cX1_when 30 = .ok (.lstore 6, 2) := dk_55 6 (dk_at dksX1_when_1 6 rfl rfl)
theorem dX1_when_32 : decode cX1_when 32 = .ok (.lload 6, 2) := dk_22 6 (dk_at dksX1_when_1 8 rfl rfl)
theorem dX1_when_34 : decode cX1_when 34 = .ok (.lconst 0, 1) := dk_9 (dk_at dksX1_when_1 10 rfl rfl)
theorem dX1_when_35 : decode cX1_when 35 = .ok (.lcmp, 1) := dk_148 (dk_at dksX1_when_1 11 rfl rfl)
theorem dX1_when_36 : decode cX1_when 36 = .ok (.ifCond .ne 5, 3) := dk_154 0 5 (dk_at dksX1_when_1 12 rfl rfl)
theorem dX1_when_39 : decode cX1_when 39 = .ok (.iconst (-1), 1) := dk_2 (dk_at dksX1_when_1 15 rfl rfl)
theorem dX1_when_40 : decode cX1_when 40 = .ok (.ireturn, 1) := dk_172 (dk_at dksX1_when_1 16 rfl rfl)
theorem dX1_when_41 : decode cX1_when 41 = .ok (.iconst (-1), 1) := dk_2 (dk_at dksX1_when_1 17 rfl rfl)
theorem dX1_when_42 : decode cX1_when 42 = .ok (.istore 8, 2) := dk_54 8 (dk_at dksX1_when_1 18 rfl rfl)
theorem dX1_when_44 : decode cX1_when 44 = .ok (.iconst 0, 1) := dk_3 (dk_at dksX1_when_1 20 rfl rfl)
theorem dX1_when_45 : decode cX1_when 45 = .ok (.istore 9, 2) := dk_54 9 (dk_at dksX1_when_1 21 rfl rfl)
theorem dX1_when_47 : decode cX1_when 47 = .ok (.iload_n 2, 1) := dk_28 (dk_at dksX1_when_1 23 rfl rfl)
theorem dX1_when_48 : decode cX1_when 48 = .ok (.istore 10, 2) := dk_54 10 (dk_at dksX1_when_2 0 rfl rfl)
theorem dX1_when_50 : decode cX1_when 50 = .ok (.iload 10, 2) := dk_21 10 (dk_at dksX1_when_2 2 rfl rfl)
theorem dX1_when_52 : decode cX1_when 52 = .ok (.iload_n 3, 1) := dk_29 (dk_at dksX1_when_2 4 rfl rfl)
theorem dX1_when_53 : decode cX1_when 53 = .ok (.if_icmp .gt 90, 3) := dk_163 0 90 (dk_at dksX1_when_2 5 rfl rfl)
theorem dX1_when_56 : decode cX1_when 56 = .ok (.aload_n 0, 1) := dk_42 (dk_at dksX1_when_2 8 rfl rfl)
theorem dX1_when_57 : decode cX1_when 57 = .ok (.getfield 52, 3) := dk_180 0 52 (dk_at dksX1_when_2 9 rfl rfl)
theorem dX1_when_60 : decode cX1_when 60 = .ok (.lload 6, 2) := dk_22 6 (dk_at dksX1_when_2 12 rfl rfl)
theorem dX1_when_62 : decode cX1_when 62 = .ok (.iload_n 1, 1) := dk_27 (dk_at dksX1_when_2 14 rfl rfl)
theorem dX1_when_63 : decode cX1_when 63 = .ok (.iload 10, 2) := dk_21 10 (dk_at dksX1_when_2 15 rfl rfl)
theorem dX1_when_65 : decode cX1_when 65 = .ok (.invokevirtual 288, 3) := dk_182 1 32 (dk_at dksX1_when_2 17 rfl rfl)
theorem dX1_when_68 : decode cX1_when 68 = .ok (.iload 8, 2) := dk_21 8 (dk_at dksX1_when_2 20 rfl rfl)
theorem dX1_when_70 : decode cX1_when 70 = .ok (.iconst (-1), 1) := dk_2 (dk_at dksX1_when_2 22 rfl rfl)
theorem dX1_when_71 : decode cX1_when 71 = .ok (.if_icmp .eq 38, 3) := dk_159 0 38 (dk_at dksX1_when_3 0 rfl rfl)
theorem dX1_when_74 : decode cX1_when 74 = .ok (.iload 5, 2) := dk_21 5 (dk_at dksX1_when_3 3 rfl rfl)
theorem dX1_when_76 : decode cX1_when 76 = .ok (.ifCond .eq 18, 3) := dk_153 0 18 (dk_at dksX1_when_3 5 rfl rfl)
theorem dX1_when_79 : decode cX1_when 79 = .ok (.aload_n 0, 1) := dk_42 (dk_at dksX1_when_3 8 rfl rfl)
theorem dX1_when_80 : decode cX1_when 80 = .ok (.getfield 52, 3) := dk_180 0 52 (dk_at dksX1_when_3 9 rfl rfl)
theorem dX1_when_83 : decode cX1_when 83 = .ok (.getfield 292, 3) := dk_180 1 36 (dk_at dksX1_when_3 12 rfl rfl)
theorem dX1_when_86 : decode cX1_when 86 = .ok (.iload 9, 2) := dk_21 9 (dk_at dksX1_when_3 15 rfl rfl)
theorem dX1_when_88 : decode cX1_when 88 = .ok (.if_icmp .lt 21, 3) := dk_161 0 21 (dk_at dksX1_when_3 17 rfl rfl)
theorem dX1_when_91 : decode cX1_when 91 = .ok (.goto 46, 3) := dk_167 0 46 (dk_at dksX1_when_3 20 rfl rfl)
theorem dX1_when_94 : decode cX1_when 94 = .ok (.aload_n 0, 1) := dk_42 (dk_at dksX1_when_3 23 rfl rfl)
theorem dX1_when_95 : decode cX1_when 95 = .ok (.getfield 52, 3) := dk_180 0 52 (dk_at dksX1_when_4 0 rfl rfl)
theorem dX1_when_98 : decode cX1_when 98 = .ok (.getfield 295, 3) := dk_180 1 39 (dk_at dksX1_when_4 3 rfl rfl)
theorem dX1_when_101 : decode cX1_when 101 = .ok (.iload 9, 2) := dk_21 9 (dk_at dksX1_when_4 6 rfl rfl)
theorem dX1_when_103 : decode cX1_when 103 = .ok (.if_icmp .gt 6, 3) := dk_163 0 6 (dk_at dksX1_when_4 8 rfl rfl)
theorem dX1_when_106 : decode cX1_when 106 = .ok (.goto 31, 3) := dk_167 0 31 (dk_at dksX1_when_4 11 rfl rfl)
theorem dX1_when_109 : decode cX1_when 109 = .ok (.iload 10, 2) := dk_21 10 (dk_at dksX1_when_4 14 rfl rfl)
theorem dX1_when_111 : decode cX1_when 111 = .ok (.istore 8, 2) := dk_54 8 (dk_at dksX1_when_4 16 rfl rfl)
theorem dX1_when_113 : decode cX1_when 113 = .ok (.iload 5, 2) := dk_21 5 (dk_at dksX1_when_4 18 rfl rfl)
theorem dX1_when_115 : decode cX1_when 115 = .ok (.ifCond .eq 13, 3) := dk_153 0 13 (dk_at dksX1_when_4 20 rfl rfl)
theorem dX1_when_118 : decode cX1_when 118 = .ok (.aload_n 0, 1) := dk_42 (dk_at dksX1_when_4 23 rfl rfl)
theorem dX1_when_119 : decode cX1_when 119 = .ok (.getfield 52, 3) := dk_180 0 52 (dk_at dksX1_when_5 0 rfl rfl)
theorem dX1_when_122 : decode cX1_when 122 = .ok (.getfield 292, 3) := dk_180 1 36 (dk_at dksX1_when_5 3 rfl rfl)
theorem dX1_when_125 : decode cX1_when 125 = .ok (.goto 10, 3) := dk_167 0 10 (dk_at dksX1_when_5 6 rfl rfl)
theorem dX1_when_128 : decode cX1_when 128 = .ok (.aload_n 0, 1) := dk_42 (dk_at dksX1_when_5 9 rfl rfl)
theorem dX1_when_129 : decode cX1_when 129 = .ok (.getfield 52, 3) := dk_180 0 52 (dk_at dksX1_when_5 10 rfl rfl)
theorem dX1_when_132 : decode cX1_when 132 = .ok (.getfield 295, 3) := dk_180 1 39 (dk_at dksX1_when_5 13 rfl rfl)
theorem dX1_when_135 : decode cX1_when 135 = .ok (.istore 9, 2) := dk_54 9 (dk_at dksX1_when_5 16 rfl rfl)
theorem dX1_when_137 : decode cX1_when 137 = .ok (.iinc 10 1, 3) := dk_132 10 1 (dk_at dksX1_when_5 18 rfl rfl)
theorem dX1_when_140 : decode cX1_when 140 = .ok (.goto (-90), 3) := dk_167 255 166 (dk_at dksX1_when_5 21 rfl rfl)
theorem dX1_when_143 : decode cX1_when 143 = .ok (.iload 4, 2) := dk_21 4 (dk_at dksX1_when_6 0 rfl rfl)
theorem dX1_when_145 : decode cX1_when 145 = .ok (.ifCond .ne 8, 3) := dk_154 0 8 (dk_at dksX1_when_6 2 rfl rfl)
theorem dX1_when_148 : decode cX1_when 148 = .ok (.iload 8, 2) := dk_21 8 (dk_at dksX1_when_6 5 rfl rfl)
theorem dX1_when_150 : decode cX1_when 150 = .ok (.goto 5, 3) := dk_167 0 5 (dk_at dksX1_when_6 7 rfl rfl)
theorem dX1_when_153 : decode cX1_when 153 = .ok (.iload 9, 2) := dk_21 9 (dk_at dksX1_when_6 10 rfl rfl)
theorem dX1_when_155 : decode cX1_when 155 = .ok (.ireturn, 1) := dk_172 (dk_at dksX1_when_6 12 rfl rfl)
abbrev cX1_areMinutes : ByteArray := prog_1_method_13_code
def yX1_areMinutes : MethodName := ⟨RX1, "areMinutes", "(II)Z"⟩
def dkwX1_areMinutes_1 : List UInt8 := [172]
abbrev dktX1_areMinutes_1 : List UInt8 := dkwX1_areMinutes_1 ++ []
def dkwX1_areMinutes_0 : List UInt8 := [26, 184, 0, 123, 153, 0, 19, 27, 184, 0, 123, 153, 0, 12, 26, 27, 163, 0, 7, 4, 167, 0, 4, 3]
abbrev dktX1_areMinutes_0 : List UInt8 := dkwX1_areMinutes_0 ++ dktX1_areMinutes_1
theorem dksX1_areMinutes_0 : cX1_areMinutes.data.toList.drop 0 = dktX1_areMinutes_0 := by decide +kernel
theorem dksX1_areMinutes_1 : cX1_areMinutes.data.toList.drop 24 = dktX1_areMinutes_1 := dk_seg dksX1_areMinutes_0 24 rfl rfl
theorem dX1_areMinutes_0 : decode cX1_areMinutes 0 = .ok (.iload_n 0, 1) := dk_26 (dk_at dksX1_areMinutes_0 0 rfl rfl)
theorem dX1_areMinutes_1 : decode cX1_areMinutes 1 = .ok (.invokestatic 123, 3) := dk_184 0 123 (dk_at dksX1_areMinutes_0 1 rfl rfl)
theorem dX1_areMinutes_4 : decode cX1_areMinutes 4 = .ok (.ifCond .eq 19, 3) := dk_153 0 19 (dk_at dksX1_areMinutes_0 4 rfl rfl)
theorem dX1_areMinutes_7 : decode cX1_areMinutes 7 = .ok (.iload_n 1, 1) := dk_27 (dk_at dksX1_areMinutes_0 7 rfl rfl)
theorem dX1_areMinutes_8 : decode cX1_areMinutes 8 = .ok (.invokestatic 123, 3) := dk_184 0 123 (dk_at dksX1_areMinutes_0 8 rfl rfl)
theorem dX1_areMinutes_11 : decode cX1_areMinutes 11 = .ok (.ifCond .eq 12, 3) := dk_153 0 12 (dk_at dksX1_areMinutes_0 11 rfl rfl)
theorem dX1_areMinutes_14 : decode cX1_areMinutes 14 = .ok (.iload_n 0, 1) := dk_26 (dk_at dksX1_areMinutes_0 14 rfl rfl)
theorem dX1_areMinutes_15 : decode cX1_areMinutes 15 = .ok (.iload_n 1, 1) := dk_27 (dk_at dksX1_areMinutes_0 15 rfl rfl)
theorem dX1_areMinutes_16 : decode cX1_areMinutes 16 = .ok (.if_icmp .gt 7, 3) := dk_163 0 7 (dk_at dksX1_areMinutes_0 16 rfl rfl)
theorem dX1_areMinutes_19 : decode cX1_areMinutes 19 = .ok (.iconst 1, 1) := dk_4 (dk_at dksX1_areMinutes_0 19 rfl rfl)
theorem dX1_areMinutes_20 : decode cX1_areMinutes 20 = .ok (.goto 4, 3) := dk_167 0 4 (dk_at dksX1_areMinutes_0 20 rfl rfl)
theorem dX1_areMinutes_23 : decode cX1_areMinutes 23 = .ok (.iconst 0, 1) := dk_3 (dk_at dksX1_areMinutes_0 23 rfl rfl)
theorem dX1_areMinutes_24 : decode cX1_areMinutes 24 = .ok (.ireturn, 1) := dk_172 (dk_at dksX1_areMinutes_1 0 rfl rfl)
abbrev cX1_fog : ByteArray := prog_1_method_50_code
def yX1_fog : MethodName := ⟨RX1, "fog", "(IIII)I"⟩
def dkwX1_fog_0 : List UInt8 := [42, 27, 28, 29, 21, 4, 3, 182, 1, 25, 172]
abbrev dktX1_fog_0 : List UInt8 := dkwX1_fog_0 ++ []
theorem dksX1_fog_0 : cX1_fog.data.toList.drop 0 = dktX1_fog_0 := by decide +kernel
theorem dX1_fog_0 : decode cX1_fog 0 = .ok (.aload_n 0, 1) := dk_42 (dk_at dksX1_fog_0 0 rfl rfl)
theorem dX1_fog_1 : decode cX1_fog 1 = .ok (.iload_n 1, 1) := dk_27 (dk_at dksX1_fog_0 1 rfl rfl)
theorem dX1_fog_2 : decode cX1_fog 2 = .ok (.iload_n 2, 1) := dk_28 (dk_at dksX1_fog_0 2 rfl rfl)
theorem dX1_fog_3 : decode cX1_fog 3 = .ok (.iload_n 3, 1) := dk_29 (dk_at dksX1_fog_0 3 rfl rfl)
theorem dX1_fog_4 : decode cX1_fog 4 = .ok (.iload 4, 2) := dk_21 4 (dk_at dksX1_fog_0 4 rfl rfl)
theorem dX1_fog_6 : decode cX1_fog 6 = .ok (.iconst 0, 1) := dk_3 (dk_at dksX1_fog_0 6 rfl rfl)
theorem dX1_fog_7 : decode cX1_fog 7 = .ok (.invokevirtual 281, 3) := dk_182 1 25 (dk_at dksX1_fog_0 7 rfl rfl)
theorem dX1_fog_10 : decode cX1_fog 10 = .ok (.ireturn, 1) := dk_172 (dk_at dksX1_fog_0 10 rfl rfl)
abbrev cX1_learns : ByteArray := prog_1_method_52_code
def yX1_learns : MethodName := ⟨RX1, "learns", "(IIZII)I"⟩
def dkwX1_learns_12 : List UInt8 := [182, 1, 63, 160, 0, 5, 3, 172, 132, 13, 1, 167, 255, 178, 132, 12, 1, 167, 255, 157, 4, 172]
abbrev dktX1_learns_12 : List UInt8 := dkwX1_learns_12 ++ []
def dkwX1_learns_11 : List UInt8 := [22, 10, 27, 21, 4, 21, 5, 21, 12, 182, 1, 63, 42, 22, 10, 27, 21, 4, 21, 5, 21, 13]
abbrev dktX1_learns_11 : List UInt8 := dkwX1_learns_11 ++ dktX1_learns_12
def dkwX1_learns_10 : List UInt8 := [184, 0, 172, 153, 0, 51, 21, 12, 133, 28, 184, 0, 172, 21, 13, 133, 28, 184, 0, 172, 159, 0, 34, 42]
abbrev dktX1_learns_10 : List UInt8 := dkwX1_learns_10 ++ dktX1_learns_11
def dkwX1_learns_9 : List UInt8 := [54, 13, 21, 13, 21, 12, 162, 0, 77, 22, 6, 21, 12, 184, 0, 172, 153, 0, 61, 22, 6, 21, 13]
abbrev dktX1_learns_9 : List UInt8 := dkwX1_learns_9 ++ dktX1_learns_10
def dkwX1_learns_8 : List UInt8 := [180, 1, 44, 182, 1, 59, 55, 10, 3, 54, 12, 21, 12, 42, 180, 0, 20, 182, 0, 120, 162, 0, 93, 3]
abbrev dktX1_learns_8 : List UInt8 := dkwX1_learns_8 ++ dktX1_learns_9
def dkwX1_learns_7 : List UInt8 := [167, 0, 29, 42, 180, 0, 20, 22, 8, 42, 180, 0, 20, 180, 0, 117, 27, 182, 0, 134, 192, 1, 42]
abbrev dktX1_learns_7 : List UInt8 := dkwX1_learns_7 ++ dktX1_learns_8
def dkwX1_learns_6 : List UInt8 := [55, 8, 42, 180, 0, 20, 180, 0, 72, 21, 5, 50, 180, 0, 179, 154, 0, 12, 22, 8, 20, 0, 248, 131]
abbrev dktX1_learns_6 : List UInt8 := dkwX1_learns_6 ++ dktX1_learns_7
def dkwX1_learns_5 : List UInt8 := [167, 0, 24, 42, 28, 182, 0, 241, 42, 180, 0, 20, 187, 1, 51, 89, 4, 183, 1, 53, 182, 1, 56, 131]
abbrev dktX1_learns_5 : List UInt8 := dkwX1_learns_5 ++ dktX1_learns_6
def dkwX1_learns_4 : List UInt8 := [182, 1, 47, 127, 55, 6, 22, 6, 9, 148, 154, 0, 5, 2, 172, 29, 153, 0, 11, 42, 28, 182, 0, 241]
abbrev dktX1_learns_4 : List UInt8 := dkwX1_learns_4 ++ dktX1_learns_5
def dkwX1_learns_3 : List UInt8 := [180, 0, 20, 42, 180, 0, 95, 42, 180, 0, 20, 180, 0, 117, 27, 182, 0, 134, 192, 1, 42, 180, 1, 44]
abbrev dktX1_learns_3 : List UInt8 := dkwX1_learns_3 ++ dktX1_learns_4
def dkwX1_learns_2 : List UInt8 := [180, 0, 72, 21, 5, 50, 180, 0, 182, 96, 17, 5, 159, 164, 0, 5, 2, 172, 42, 182, 0, 235, 42]
abbrev dktX1_learns_2 : List UInt8 := dkwX1_learns_2 ++ dktX1_learns_3
def dkwX1_learns_1 : List UInt8 := [21, 4, 42, 182, 0, 157, 161, 0, 34, 42, 21, 5, 182, 0, 197, 153, 0, 25, 21, 4, 42, 180, 0, 20]
abbrev dktX1_learns_1 : List UInt8 := dkwX1_learns_1 ++ dktX1_learns_2
def dkwX1_learns_0 : List UInt8 := [42, 27, 182, 0, 154, 153, 0, 59, 42, 28, 182, 0, 238, 153, 0, 51, 21, 4, 184, 0, 123, 153, 0, 43]
abbrev dktX1_learns_0 : List UInt8 := dkwX1_learns_0 ++ dktX1_learns_1
theorem dksX1_learns_0 : cX1_learns.data.toList.drop 0 = dktX1_learns_0 := by decide +kernel
theorem dksX1_learns_1 : cX1_learns.data.toList.drop 24 = dktX1_learns_1 := dk_seg dksX1_learns_0 24 rfl rfl
theorem dksX1_learns_2 : cX1_learns.data.toList.drop 48 = dktX1_learns_2 := dk_seg dksX1_learns_1 24 rfl rfl
theorem dksX1_learns_3 : cX1_learns.data.toList.drop 71 = dktX1_learns_3 := dk_seg dksX1_learns_2 23 rfl rfl
theorem dksX1_learns_4 : cX1_learns.data.toList.drop 95 = dktX1_learns_4 := dk_seg dksX1_learns_3 24 rfl rfl
theorem dksX1_learns_5 : cX1_learns.data.toList.drop 119 = dktX1_learns_5 := dk_seg dksX1_learns_4 24 rfl rfl
theorem dksX1_learns_6 : cX1_learns.data.toList.drop 143 = dktX1_learns_6 := dk_seg dksX1_learns_5 24 rfl rfl
theorem dksX1_learns_7 : cX1_learns.data.toList.drop 167 = dktX1_learns_7 := dk_seg dksX1_learns_6 24 rfl rfl
theorem dksX1_learns_8 : cX1_learns.data.toList.drop 190 = dktX1_learns_8 := dk_seg dksX1_learns_7 23 rfl rfl
theorem dksX1_learns_9 : cX1_learns.data.toList.drop 214 = dktX1_learns_9 := dk_seg dksX1_learns_8 24 rfl rfl
theorem dksX1_learns_10 : cX1_learns.data.toList.drop 237 = dktX1_learns_10 := dk_seg dksX1_learns_9 23 rfl rfl
theorem dksX1_learns_11 : cX1_learns.data.toList.drop 261 = dktX1_learns_11 := dk_seg dksX1_learns_10 24 rfl rfl
theorem dksX1_learns_12 : cX1_learns.data.toList.drop 283 = dktX1_learns_12 := dk_seg dksX1_learns_11 22 rfl rfl
theorem dX1_learns_0 : decode cX1_learns 0 = .ok (.aload_n 0, 1) := dk_42 (dk_at dksX1_learns_0 0 rfl rfl)
theorem dX1_learns_1 : decode cX1_learns 1 = .ok (.iload_n 1, 1) := dk_27 (dk_at dksX1_learns_0 1 rfl rfl)
theorem dX1_learns_2 : decode cX1_learns 2 = .ok (.invokevirtual 154, 3) := dk_182 0 154 (dk_at dksX1_learns_0 2 rfl rfl)
theorem dX1_learns_5 : decode cX1_learns 5 = .ok (.ifCond .eq 59, 3) := dk_153 0 59 (dk_at dksX1_learns_0 5 rfl rfl)
theorem dX1_learns_8 : decode cX1_learns 8 = .ok (.aload_n 0, 1) := dk_42 (dk_at dksX1_learns_0 8 rfl rfl)
theorem dX1_learns_9 : decode cX1_learns 9 = .ok (.iload_n 2, 1) := dk_28 (dk_at dksX1_learns_0 9 rfl rfl)
theorem dX1_learns_10 : decode cX1_learns 10 = .ok (.invokevirtual 238, 3) := dk_182 0 238 (dk_at dksX1_learns_0 10 rfl rfl)
theorem dX1_learns_13 : decode cX1_learns 13 = .ok (.ifCond .eq 51, 3) := dk_153 0 51 (dk_at dksX1_learns_0 13 rfl rfl)
theorem dX1_learns_16 : decode cX1_learns 16 = .ok (.iload 4, 2) := dk_21 4 (dk_at dksX1_learns_0 16 rfl rfl)
theorem dX1_learns_18 : decode cX1_learns 18 = .ok (.invokestatic 123, 3) := dk_184 0 123 (dk_at dksX1_learns_0 18 rfl rfl)
theorem dX1_learns_21 : decode cX1_learns 21 = .ok (.ifCond .eq 43, 3) := dk_153 0 43 (dk_at dksX1_learns_0 21 rfl rfl)
theorem dX1_learns_24 : decode cX1_learns 24 = .ok (.iload 4, 2) := dk_21 4 (dk_at dksX1_learns_1 0 rfl rfl)
theorem dX1_learns_26 : decode cX1_learns 26 = .ok (.aload_n 0, 1) := dk_42 (dk_at dksX1_learns_1 2 rfl rfl)
theorem dX1_learns_27 : decode cX1_learns 27 = .ok (.invokevirtual 157, 3) := dk_182 0 157 (dk_at dksX1_learns_1 3 rfl rfl)
theorem dX1_learns_30 : decode cX1_learns 30 = .ok (.if_icmp .lt 34, 3) := dk_161 0 34 (dk_at dksX1_learns_1 6 rfl rfl)
theorem dX1_learns_33 : decode cX1_learns 33 = .ok (.aload_n 0, 1) := dk_42 (dk_at dksX1_learns_1 9 rfl rfl)
theorem dX1_learns_34 : decode cX1_learns 34 = .ok (.iload 5, 2) := dk_21 5 (dk_at dksX1_learns_1 10 rfl rfl)
theorem dX1_learns_36 : decode cX1_learns 36 = .ok (.invokevirtual 197, 3) := dk_182 0 197 (dk_at dksX1_learns_1 12 rfl rfl)
theorem dX1_learns_39 : decode cX1_learns 39 = .ok (.ifCond .eq 25, 3) := dk_153 0 25 (dk_at dksX1_learns_1 15 rfl rfl)
theorem dX1_learns_42 : decode cX1_learns 42 = .ok (.iload 4, 2) := dk_21 4 (dk_at dksX1_learns_1 18 rfl rfl)
theorem dX1_learns_44 : decode cX1_learns 44 = .ok (.aload_n 0, 1) := dk_42 (dk_at dksX1_learns_1 20 rfl rfl)
theorem dX1_learns_45 : decode cX1_learns 45 = .ok (.getfield 20, 3) := dk_180 0 20 (dk_at dksX1_learns_1 21 rfl rfl)
theorem dX1_learns_48 : decode cX1_learns 48 = .ok (.getfield 72, 3) := dk_180 0 72 (dk_at dksX1_learns_2 0 rfl rfl)
theorem dX1_learns_51 : decode cX1_learns 51 = .ok (.iload 5, 2) := dk_21 5 (dk_at dksX1_learns_2 3 rfl rfl)
theorem dX1_learns_53 : decode cX1_learns 53 = .ok (.aaload, 1) := dk_50 (dk_at dksX1_learns_2 5 rfl rfl)
theorem dX1_learns_54 : decode cX1_learns 54 = .ok (.getfield 182, 3) := dk_180 0 182 (dk_at dksX1_learns_2 6 rfl rfl)
theorem dX1_learns_57 : decode cX1_learns 57 = .ok (.iadd, 1) := dk_96 (dk_at dksX1_learns_2 9 rfl rfl)
theorem dX1_learns_58 : decode cX1_learns 58 = .ok (.sipush 1439, 3) := dk_17 5 159 (dk_at dksX1_learns_2 10 rfl rfl)
theorem dX1_learns_61 : decode cX1_learns 61 = .ok (.if_icmp .le 5, 3) := dk_164 0 5 (dk_at dksX1_learns_2 13 rfl rfl)
theorem dX1_learns_64 : decode cX1_learns 64 = .ok (.iconst (-1), 1) := dk_2 (dk_at dksX1_learns_2 16 rfl rfl)
theorem dX1_learns_65 : decode cX1_learns 65 = .ok (.ireturn, 1) := dk_172 (dk_at dksX1_learns_2 17 rfl rfl)
theorem dX1_learns_66 : decode cX1_learns 66 = .ok (.aload_n 0, 1) := dk_42 (dk_at dksX1_learns_2 18 rfl rfl)
theorem dX1_learns_67 : decode cX1_learns 67 = .ok (.invokevirtual 235, 3) := dk_182 0 235 (dk_at dksX1_learns_2 19 rfl rfl)
theorem dX1_learns_70 : decode cX1_learns 70 = .ok (.aload_n 0, 1) := dk_42 (dk_at dksX1_learns_2 22 rfl rfl)
theorem dX1_learns_71 : decode cX1_learns 71 = .ok (.getfield 20, 3) := dk_180 0 20 (dk_at dksX1_learns_3 0 rfl rfl)
theorem dX1_learns_74 : decode cX1_learns 74 = .ok (.aload_n 0, 1) := dk_42 (dk_at dksX1_learns_3 3 rfl rfl)
theorem dX1_learns_75 : decode cX1_learns 75 = .ok (.getfield 95, 3) := dk_180 0 95 (dk_at dksX1_learns_3 4 rfl rfl)
theorem dX1_learns_78 : decode cX1_learns 78 = .ok (.aload_n 0, 1) := dk_42 (dk_at dksX1_learns_3 7 rfl rfl)
theorem dX1_learns_79 : decode cX1_learns 79 = .ok (.getfield 20, 3) := dk_180 0 20 (dk_at dksX1_learns_3 8 rfl rfl)
theorem dX1_learns_82 : decode cX1_learns 82 = .ok (.getfield 117, 3) := dk_180 0 117 (dk_at dksX1_learns_3 11 rfl rfl)
theorem dX1_learns_85 : decode cX1_learns 85 = .ok (.iload_n 1, 1) := dk_27 (dk_at dksX1_learns_3 14 rfl rfl)
theorem dX1_learns_86 : decode cX1_learns 86 = .ok (.invokevirtual 134, 3) := dk_182 0 134 (dk_at dksX1_learns_3 15 rfl rfl)
theorem dX1_learns_89 : decode cX1_learns 89 = .ok (.checkcast 298, 3) := dk_192 1 42 (dk_at dksX1_learns_3 18 rfl rfl)
theorem dX1_learns_92 : decode cX1_learns 92 = .ok (.getfield 300, 3) := dk_180 1 44 (dk_at dksX1_learns_3 21 rfl rfl)
theorem dX1_learns_95 : decode cX1_learns 95 = .ok (.invokevirtual 303, 3) := dk_182 1 47 (dk_at dksX1_learns_4 0 rfl rfl)
theorem dX1_learns_98 : decode cX1_learns 98 = .ok (.land, 1) := dk_127 (dk_at dksX1_learns_4 3 rfl rfl)
theorem dX1_learns_99 : decode cX1_learns 99 = .ok (.lstore 6, 2) := dk_55 6 (dk_at dksX1_learns_4 4 rfl rfl)
theorem dX1_learns_101 : decode cX1_learns 101 = .ok (.lload 6, 2) := dk_22 6 (dk_at dksX1_learns_4 6 rfl rfl)
theorem dX1_learns_103 : decode cX1_learns 103 = .ok (.lconst 0, 1) := dk_9 (dk_at dksX1_learns_4 8 rfl rfl)
theorem dX1_learns_104 : decode cX1_learns 104 = .ok (.lcmp, 1) := dk_148 (dk_at dksX1_learns_4 9 rfl rfl)
theorem dX1_learns_105 : decode cX1_learns 105 = .ok (.ifCond .ne 5, 3) := dk_154 0 5 (dk_at dksX1_learns_4 10 rfl rfl)
theorem dX1_learns_108 : decode cX1_learns 108 = .ok (.iconst (-1), 1) := dk_2 (dk_at dksX1_learns_4 13 rfl rfl)
theorem dX1_learns_109 : decode cX1_learns 109 = .ok (.ireturn, 1) := dk_172 (dk_at dksX1_learns_4 14 rfl rfl)
theorem dX1_learns_110 : decode cX1_learns 110 = .ok (.iload_n 3, 1) := dk_29 (dk_at dksX1_learns_4 15 rfl rfl)
theorem dX1_learns_111 : decode cX1_learns 111 = .ok (.ifCond .eq 11, 3) := dk_153 0 11 (dk_at dksX1_learns_4 16 rfl rfl)
theorem dX1_learns_114 : decode cX1_learns 114 = .ok (.aload_n 0, 1) := dk_42 (dk_at dksX1_learns_4 19 rfl rfl)
theorem dX1_learns_115 : decode cX1_learns 115 = .ok (.iload_n 2, 1) := dk_28 (dk_at dksX1_learns_4 20 rfl rfl)
theorem dX1_learns_116 : decode cX1_learns 116 = .ok (.invokevirtual 241, 3) := dk_182 0 241 (dk_at dksX1_learns_4 21 rfl rfl)
theorem dX1_learns_119 : decode cX1_learns 119 = .ok (.goto 24, 3) := dk_167 0 24 (dk_at dksX1_learns_5 0 rfl rfl)
theorem dX1_learns_122 : decode cX1_learns 122 = .ok (.aload_n 0, 1) := dk_42 (dk_at dksX1_learns_5 3 rfl rfl)
theorem dX1_learns_123 : decode cX1_learns 123 = .ok (.iload_n 2, 1) := dk_28 (dk_at dksX1_learns_5 4 rfl rfl)
theorem dX1_learns_124 : decode cX1_learns 124 = .ok (.invokevirtual 241, 3) := dk_182 0 241 (dk_at dksX1_learns_5 5 rfl rfl)
theorem dX1_learns_127 : decode cX1_learns 127 = .ok (.aload_n 0, 1) := dk_42 (dk_at dksX1_learns_5 8 rfl rfl)
theorem dX1_learns_128 : decode cX1_learns 128 = .ok (.getfield 20, 3) := dk_180 0 20 (dk_at dksX1_learns_5 9 rfl rfl)
theorem dX1_learns_131 : decode cX1_learns 131 = .ok (.new 307, 3) := dk_187 1 51 (dk_at dksX1_learns_5 12 rfl rfl)
theorem dX1_learns_134 : decode cX1_learns 134 = .ok (.dup, 1) := dk_89 (dk_at dksX1_learns_5 15 rfl rfl)
theorem dX1_learns_135 : decode cX1_learns 135 = .ok (.iconst 1, 1) := dk_4 (dk_at dksX1_learns_5 16 rfl rfl)
theorem dX1_learns_136 : decode cX1_learns 136 = .ok (.invokespecial 309, 3) := dk_183 1 53 (dk_at dksX1_learns_5 17 rfl rfl)
theorem dX1_learns_139 : decode cX1_learns 139 = .ok (.invokevirtual 312, 3) := dk_182 1 56 (dk_at dksX1_learns_5 20 rfl rfl)
theorem dX1_learns_142 : decode cX1_learns 142 = .ok (.lxor, 1) := dk_131 (dk_at dksX1_learns_5 23 rfl rfl)
theorem dX1_learns_143 : decode cX1_learns 143 = .ok (.lstore 8, 2) := dk_55 8 (dk_at dksX1_learns_6 0 rfl rfl)
theorem dX1_learns_145 : decode cX1_learns 145 = .ok (.aload_n 0, 1) := dk_42 (dk_at dksX1_learns_6 2 rfl rfl)
theorem dX1_learns_146 : decode cX1_learns 146 = .ok (.getfield 20, 3) := dk_180 0 20 (dk_at dksX1_learns_6 3 rfl rfl)
theorem dX1_learns_149 : decode cX1_learns 149 = .ok (.getfield 72, 3) := dk_180 0 72 (dk_at dksX1_learns_6 6 rfl rfl)
theorem dX1_learns_152 : decode cX1_learns 152 = .ok (.iload 5, 2) := dk_21 5 (dk_at dksX1_learns_6 9 rfl rfl)
theorem dX1_learns_154 : decode cX1_learns 154 = .ok (.aaload, 1) := dk_50 (dk_at dksX1_learns_6 11 rfl rfl)
theorem dX1_learns_155 : decode cX1_learns 155 = .ok (.getfield 179, 3) := dk_180 0 179 (dk_at dksX1_learns_6 12 rfl rfl)
theorem dX1_learns_158 : decode cX1_learns 158 = .ok (.ifCond .ne 12, 3) := dk_154 0 12 (dk_at dksX1_learns_6 15 rfl rfl)
theorem dX1_learns_161 : decode cX1_learns 161 = .ok (.lload 8, 2) := dk_22 8 (dk_at dksX1_learns_6 18 rfl rfl)
theorem dX1_learns_163 : decode cX1_learns 163 = .ok (.ldc2_w 248, 3) := dk_20 0 248 (dk_at dksX1_learns_6 20 rfl rfl)
theorem dX1_learns_166 : decode cX1_learns 166 = .ok (.lxor, 1) := dk_131 (dk_at dksX1_learns_6 23 rfl rfl)
theorem dX1_learns_167 : decode cX1_learns 167 = .ok (.goto 29, 3) := dk_167 0 29 (dk_at dksX1_learns_7 0 rfl rfl)
theorem dX1_learns_170 : decode cX1_learns 170 = .ok (.aload_n 0, 1) := dk_42 (dk_at dksX1_learns_7 3 rfl rfl)
theorem dX1_learns_171 : decode cX1_learns 171 = .ok (.getfield 20, 3) := dk_180 0 20 (dk_at dksX1_learns_7 4 rfl rfl)
theorem dX1_learns_174 : decode cX1_learns 174 = .ok (.lload 8, 2) := dk_22 8 (dk_at dksX1_learns_7 7 rfl rfl)
theorem dX1_learns_176 : decode cX1_learns 176 = .ok (.aload_n 0, 1) := dk_42 (dk_at dksX1_learns_7 9 rfl rfl)
theorem dX1_learns_177 : decode cX1_learns 177 = .ok (.getfield 20, 3) := dk_180 0 20 (dk_at dksX1_learns_7 10 rfl rfl)
theorem dX1_learns_180 : decode cX1_learns 180 = .ok (.getfield 117, 3) := dk_180 0 117 (dk_at dksX1_learns_7 13 rfl rfl)
theorem dX1_learns_183 : decode cX1_learns 183 = .ok (.iload_n 1, 1) := dk_27 (dk_at dksX1_learns_7 16 rfl rfl)
theorem dX1_learns_184 : decode cX1_learns 184 = .ok (.invokevirtual 134, 3) := dk_182 0 134 (dk_at dksX1_learns_7 17 rfl rfl)
theorem dX1_learns_187 : decode cX1_learns 187 = .ok (.checkcast 298, 3) := dk_192 1 42 (dk_at dksX1_learns_7 20 rfl rfl)
theorem dX1_learns_190 : decode cX1_learns 190 = .ok (.getfield 300, 3) := dk_180 1 44 (dk_at dksX1_learns_8 0 rfl rfl)
theorem dX1_learns_193 : decode cX1_learns 193 = .ok (.invokevirtual 315, 3) := dk_182 1 59 (dk_at dksX1_learns_8 3 rfl rfl)
theorem dX1_learns_196 : decode cX1_learns 196 = .ok (.lstore 10, 2) := dk_55 10 (dk_at dksX1_learns_8 6 rfl rfl)
theorem dX1_learns_198 : decode cX1_learns 198 = .ok (.iconst 0, 1) := dk_3 (dk_at dksX1_learns_8 8 rfl rfl)
theorem dX1_learns_199 : decode cX1_learns 199 = .ok (.istore 12, 2) := dk_54 12 (dk_at dksX1_learns_8 9 rfl rfl)
theorem dX1_learns_201 : decode cX1_learns 201 = .ok (.iload 12, 2) := dk_21 12 (dk_at dksX1_learns_8 11 rfl rfl)
theorem dX1_learns_203 : decode cX1_learns 203 = .ok (.aload_n 0, 1) := dk_42 (dk_at dksX1_learns_8 13 rfl rfl)
theorem dX1_learns_204 : decode cX1_learns 204 = .ok (.getfield 20, 3) := dk_180 0 20 (dk_at dksX1_learns_8 14 rfl rfl)
theorem dX1_learns_207 : decode cX1_learns 207 = .ok (.invokevirtual 120, 3) := dk_182 0 120 (dk_at dksX1_learns_8 17 rfl rfl)
theorem dX1_learns_210 : decode cX1_learns 210 = .ok (.if_icmp .ge 93, 3) := dk_162 0 93 (dk_at dksX1_learns_8 20 rfl rfl)
theorem dX1_learns_213 : decode cX1_learns 213 = .ok (.iconst 0, 1) := dk_3 (dk_at dksX1_learns_8 23 rfl rfl)
theorem dX1_learns_214 : decode cX1_learns 214 = .ok (.istore 13, 2) := dk_54 13 (dk_at dksX1_learns_9 0 rfl rfl)
theorem dX1_learns_216 : decode cX1_learns 216 = .ok (.iload 13, 2) := dk_21 13 (dk_at dksX1_learns_9 2 rfl rfl)
theorem dX1_learns_218 : decode cX1_learns 218 = .ok (.iload 12, 2) := dk_21 12 (dk_at dksX1_learns_9 4 rfl rfl)
theorem dX1_learns_220 : decode cX1_learns 220 = .ok (.if_icmp .ge 77, 3) := dk_162 0 77 (dk_at dksX1_learns_9 6 rfl rfl)
theorem dX1_learns_223 : decode cX1_learns 223 = .ok (.lload 6, 2) := dk_22 6 (dk_at dksX1_learns_9 9 rfl rfl)
theorem dX1_learns_225 : decode cX1_learns 225 = .ok (.iload 12, 2) := dk_21 12 (dk_at dksX1_learns_9 11 rfl rfl)
theorem dX1_learns_227 : decode cX1_learns 227 = .ok (.invokestatic 172, 3) := dk_184 0 172 (dk_at dksX1_learns_9 13 rfl rfl)
theorem dX1_learns_230 : decode cX1_learns 230 = .ok (.ifCond .eq 61, 3) := dk_153 0 61 (dk_at dksX1_learns_9 16 rfl rfl)
theorem dX1_learns_233 : decode cX1_learns 233 = .ok (.lload 6, 2) := dk_22 6 (dk_at dksX1_learns_9 19 rfl rfl)
theorem dX1_learns_235 : decode cX1_learns 235 = .ok (.iload 13, 2) := dk_21 13 (dk_at dksX1_learns_9 21 rfl rfl)
theorem dX1_learns_237 : decode cX1_learns 237 = .ok (.invokestatic 172, 3) := dk_184 0 172 (dk_at dksX1_learns_10 0 rfl rfl)
theorem dX1_learns_240 : decode cX1_learns 240 = .ok (.ifCond .eq 51, 3) := dk_153 0 51 (dk_at dksX1_learns_10 3 rfl rfl)
theorem dX1_learns_243 : decode cX1_learns 243 = .ok (.iload 12, 2) := dk_21 12 (dk_at dksX1_learns_10 6 rfl rfl)
theorem dX1_learns_245 : decode cX1_learns 245 = .ok (.i2l, 1) := dk_133 (dk_at dksX1_learns_10 8 rfl rfl)
theorem dX1_learns_246 : decode cX1_learns 246 = .ok (.iload_n 2, 1) := dk_28 (dk_at dksX1_learns_10 9 rfl rfl)
theorem dX1_learns_247 : decode cX1_learns 247 = .ok (.invokestatic 172, 3) := dk_184 0 172 (dk_at dksX1_learns_10 10 rfl rfl)
theorem dX1_learns_250 : decode cX1_learns 250 = .ok (.iload 13, 2) := dk_21 13 (dk_at dksX1_learns_10 13 rfl rfl)
theorem dX1_learns_252 : decode cX1_learns 252 = .ok (.i2l, 1) := dk_133 (dk_at dksX1_learns_10 15 rfl rfl)
theorem dX1_learns_253 : decode cX1_learns 253 = .ok (.iload_n 2, 1) := dk_28 (dk_at dksX1_learns_10 16 rfl rfl)
theorem dX1_learns_254 : decode cX1_learns 254 = .ok (.invokestatic 172, 3) := dk_184 0 172 (dk_at dksX1_learns_10 17 rfl rfl)
theorem dX1_learns_257 : decode cX1_learns 257 = .ok (.if_icmp .eq 34, 3) := dk_159 0 34 (dk_at dksX1_learns_10 20 rfl rfl)
theorem dX1_learns_260 : decode cX1_learns 260 = .ok (.aload_n 0, 1) := dk_42 (dk_at dksX1_learns_10 23 rfl rfl)
theorem dX1_learns_261 : decode cX1_learns 261 = .ok (.lload 10, 2) := dk_22 10 (dk_at dksX1_learns_11 0 rfl rfl)
theorem dX1_learns_263 : decode cX1_learns 263 = .ok (.iload_n 1, 1) := dk_27 (dk_at dksX1_learns_11 2 rfl rfl)
theorem dX1_learns_264 : decode cX1_learns 264 = .ok (.iload 4, 2) := dk_21 4 (dk_at dksX1_learns_11 3 rfl rfl)
theorem dX1_learns_266 : decode cX1_learns 266 = .ok (.iload 5, 2) := dk_21 5 (dk_at dksX1_learns_11 5 rfl rfl)
theorem dX1_learns_268 : decode cX1_learns 268 = .ok (.iload 12, 2) := dk_21 12 (dk_at dksX1_learns_11 7 rfl rfl)
theorem dX1_learns_270 : decode cX1_learns 270 = .ok (.invokevirtual 319, 3) := dk_182 1 63 (dk_at dksX1_learns_11 9 rfl rfl)
theorem dX1_learns_273 : decode cX1_learns 273 = .ok (.aload_n 0, 1) := dk_42 (dk_at dksX1_learns_11 12 rfl rfl)
theorem dX1_learns_274 : decode cX1_learns 274 = .ok (.lload 10, 2) := dk_22 10 (dk_at dksX1_learns_11 13 rfl rfl)
theorem dX1_learns_276 : decode cX1_learns 276 = .ok (.iload_n 1, 1) := dk_27 (dk_at dksX1_learns_11 15 rfl rfl)
theorem dX1_learns_277 : decode cX1_learns 277 = .ok (.iload 4, 2) := dk_21 4 (dk_at dksX1_learns_11 16 rfl rfl)
theorem dX1_learns_279 : decode cX1_learns 279 = .ok (.iload 5, 2) := dk_21 5 (dk_at dksX1_learns_11 18 rfl rfl)
theorem dX1_learns_281 : decode cX1_learns 281 = .ok (.iload 13, 2) := dk_21 13 (dk_at dksX1_learns_11 20 rfl rfl)
theorem dX1_learns_283 : decode cX1_learns 283 = .ok (.invokevirtual 319, 3) := dk_182 1 63 (dk_at dksX1_learns_12 0 rfl rfl)
theorem dX1_learns_286 : decode cX1_learns 286 = .ok (.if_icmp .ne 5, 3) := dk_160 0 5 (dk_at dksX1_learns_12 3 rfl rfl)
theorem dX1_learns_289 : decode cX1_learns 289 = .ok (.iconst 0, 1) := dk_3 (dk_at dksX1_learns_12 6 rfl rfl)
theorem dX1_learns_290 : decode cX1_learns 290 = .ok (.ireturn, 1) := dk_172 (dk_at dksX1_learns_12 7 rfl rfl)
theorem dX1_learns_291 : decode cX1_learns 291 = .ok (.iinc 13 1, 3) := dk_132 13 1 (dk_at dksX1_learns_12 8 rfl rfl)
theorem dX1_learns_294 : decode cX1_learns 294 = .ok (.goto (-78), 3) := dk_167 255 178 (dk_at dksX1_learns_12 11 rfl rfl)
theorem dX1_learns_297 : decode cX1_learns 297 = .ok (.iinc 12 1, 3) := dk_132 12 1 (dk_at dksX1_learns_12 14 rfl rfl)
theorem dX1_learns_300 : decode cX1_learns 300 = .ok (.goto (-99), 3) := dk_167 255 157 (dk_at dksX1_learns_12 17 rfl rfl)
theorem dX1_learns_303 : decode cX1_learns 303 = .ok (.iconst 1, 1) := dk_4 (dk_at dksX1_learns_12 20 rfl rfl)
theorem dX1_learns_304 : decode cX1_learns 304 = .ok (.ireturn, 1) := dk_172 (dk_at dksX1_learns_12 21 rfl rfl)
abbrev cX1_seen : ByteArray := prog_1_method_53_code
def yX1_seen : MethodName := ⟨RX1, "seen", "(JIIII)I"⟩
def dkwX1_seen_1 : List UInt8 := [180, 0, 72, 21, 5, 50, 180, 0, 179, 21, 4, 21, 6, 182, 0, 168, 184, 0, 185, 182, 0, 193, 172]
abbrev dktX1_seen_1 : List UInt8 := dkwX1_seen_1 ++ []
def dkwX1_seen_0 : List UInt8 := [42, 180, 0, 20, 31, 21, 6, 184, 0, 172, 153, 0, 7, 29, 167, 0, 27, 42, 42, 180, 0, 20]
abbrev dktX1_seen_0 : List UInt8 := dkwX1_seen_0 ++ dktX1_seen_1
theorem dksX1_seen_0 : cX1_seen.data.toList.drop 0 = dktX1_seen_0 := by decide +kernel
theorem dksX1_seen_1 : cX1_seen.data.toList.drop 22 = dktX1_seen_1 := dk_seg dksX1_seen_0 22 rfl rfl
theorem dX1_seen_0 : decode cX1_seen 0 = .ok (.aload_n 0, 1) := dk_42 (dk_at dksX1_seen_0 0 rfl rfl)
theorem dX1_seen_1 : decode cX1_seen 1 = .ok (.getfield 20, 3) := dk_180 0 20 (dk_at dksX1_seen_0 1 rfl rfl)
theorem dX1_seen_4 : decode cX1_seen 4 = .ok (.lload_n 1, 1) := dk_31 (dk_at dksX1_seen_0 4 rfl rfl)
theorem dX1_seen_5 : decode cX1_seen 5 = .ok (.iload 6, 2) := dk_21 6 (dk_at dksX1_seen_0 5 rfl rfl)
theorem dX1_seen_7 : decode cX1_seen 7 = .ok (.invokestatic 172, 3) := dk_184 0 172 (dk_at dksX1_seen_0 7 rfl rfl)
theorem dX1_seen_10 : decode cX1_seen 10 = .ok (.ifCond .eq 7, 3) := dk_153 0 7 (dk_at dksX1_seen_0 10 rfl rfl)
theorem dX1_seen_13 : decode cX1_seen 13 = .ok (.iload_n 3, 1) := dk_29 (dk_at dksX1_seen_0 13 rfl rfl)
theorem dX1_seen_14 : decode cX1_seen 14 = .ok (.goto 27, 3) := dk_167 0 27 (dk_at dksX1_seen_0 14 rfl rfl)
theorem dX1_seen_17 : decode cX1_seen 17 = .ok (.aload_n 0, 1) := dk_42 (dk_at dksX1_seen_0 17 rfl rfl)
theorem dX1_seen_18 : decode cX1_seen 18 = .ok (.aload_n 0, 1) := dk_42 (dk_at dksX1_seen_0 18 rfl rfl)
theorem dX1_seen_19 : decode cX1_seen 19 = .ok (.getfield 20, 3) := dk_180 0 20 (dk_at dksX1_seen_0 19 rfl rfl)
theorem dX1_seen_22 : decode cX1_seen 22 = .ok (.getfield 72, 3) := dk_180 0 72 (dk_at dksX1_seen_1 0 rfl rfl)
theorem dX1_seen_25 : decode cX1_seen 25 = .ok (.iload 5, 2) := dk_21 5 (dk_at dksX1_seen_1 3 rfl rfl)
theorem dX1_seen_27 : decode cX1_seen 27 = .ok (.aaload, 1) := dk_50 (dk_at dksX1_seen_1 5 rfl rfl)
theorem dX1_seen_28 : decode cX1_seen 28 = .ok (.getfield 179, 3) := dk_180 0 179 (dk_at dksX1_seen_1 6 rfl rfl)
theorem dX1_seen_31 : decode cX1_seen 31 = .ok (.iload 4, 2) := dk_21 4 (dk_at dksX1_seen_1 9 rfl rfl)
theorem dX1_seen_33 : decode cX1_seen 33 = .ok (.iload 6, 2) := dk_21 6 (dk_at dksX1_seen_1 11 rfl rfl)
theorem dX1_seen_35 : decode cX1_seen 35 = .ok (.invokevirtual 168, 3) := dk_182 0 168 (dk_at dksX1_seen_1 13 rfl rfl)
theorem dX1_seen_38 : decode cX1_seen 38 = .ok (.invokestatic 185, 3) := dk_184 0 185 (dk_at dksX1_seen_1 16 rfl rfl)
theorem dX1_seen_41 : decode cX1_seen 41 = .ok (.invokevirtual 193, 3) := dk_182 0 193 (dk_at dksX1_seen_1 19 rfl rfl)
theorem dX1_seen_44 : decode cX1_seen 44 = .ok (.ireturn, 1) := dk_172 (dk_at dksX1_seen_1 22 rfl rfl)
abbrev cX1_judged : ByteArray := prog_1_method_54_code
def yX1_judged : MethodName := ⟨RX1, "judged", "()I"⟩
def dkwX1_judged_2 : List UInt8 := [27, 172, 132, 1, 1, 167, 255, 205, 2, 172]
abbrev dktX1_judged_2 : List UInt8 := dkwX1_judged_2 ++ []
def dkwX1_judged_1 : List UInt8 := [77, 44, 42, 44, 180, 0, 214, 44, 180, 0, 217, 42, 180, 0, 95, 182, 0, 218, 182, 0, 221, 154, 0, 5]
abbrev dktX1_judged_1 : List UInt8 := dkwX1_judged_1 ++ dktX1_judged_2
def dkwX1_judged_0 : List UInt8 := [3, 60, 27, 42, 180, 0, 34, 182, 0, 109, 162, 0, 46, 42, 180, 0, 34, 27, 182, 0, 134, 192, 0, 209]
abbrev dktX1_judged_0 : List UInt8 := dkwX1_judged_0 ++ dktX1_judged_1
theorem dksX1_judged_0 : cX1_judged.data.toList.drop 0 = dktX1_judged_0 := by decide +kernel
theorem dksX1_judged_1 : cX1_judged.data.toList.drop 24 = dktX1_judged_1 := dk_seg dksX1_judged_0 24 rfl rfl
theorem dksX1_judged_2 : cX1_judged.data.toList.drop 48 = dktX1_judged_2 := dk_seg dksX1_judged_1 24 rfl rfl
theorem dX1_judged_0 : decode cX1_judged 0 = .ok (.iconst 0, 1) := dk_3 (dk_at dksX1_judged_0 0 rfl rfl)
theorem dX1_judged_1 : decode cX1_judged 1 = .ok (.istore_n 1, 1) := dk_60 (dk_at dksX1_judged_0 1 rfl rfl)
theorem dX1_judged_2 : decode cX1_judged 2 = .ok (.iload_n 1, 1) := dk_27 (dk_at dksX1_judged_0 2 rfl rfl)
theorem dX1_judged_3 : decode cX1_judged 3 = .ok (.aload_n 0, 1) := dk_42 (dk_at dksX1_judged_0 3 rfl rfl)
theorem dX1_judged_4 : decode cX1_judged 4 = .ok (.getfield 34, 3) := dk_180 0 34 (dk_at dksX1_judged_0 4 rfl rfl)
theorem dX1_judged_7 : decode cX1_judged 7 = .ok (.invokevirtual 109, 3) := dk_182 0 109 (dk_at dksX1_judged_0 7 rfl rfl)
theorem dX1_judged_10 : decode cX1_judged 10 = .ok (.if_icmp .ge 46, 3) := dk_162 0 46 (dk_at dksX1_judged_0 10 rfl rfl)
theorem dX1_judged_13 : decode cX1_judged 13 = .ok (.aload_n 0, 1) := dk_42 (dk_at dksX1_judged_0 13 rfl rfl)
theorem dX1_judged_14 : decode cX1_judged 14 = .ok (.getfield 34, 3) := dk_180 0 34 (dk_at dksX1_judged_0 14 rfl rfl)
theorem dX1_judged_17 : decode cX1_judged 17 = .ok (.iload_n 1, 1) := dk_27 (dk_at dksX1_judged_0 17 rfl rfl)
theorem dX1_judged_18 : decode cX1_judged 18 = .ok (.invokevirtual 134, 3) := dk_182 0 134 (dk_at dksX1_judged_0 18 rfl rfl)
theorem dX1_judged_21 : decode cX1_judged 21 = .ok (.checkcast 209, 3) := dk_192 0 209 (dk_at dksX1_judged_0 21 rfl rfl)
theorem dX1_judged_24 : decode cX1_judged 24 = .ok (.astore_n 2, 1) := dk_77 (dk_at dksX1_judged_1 0 rfl rfl)
theorem dX1_judged_25 : decode cX1_judged 25 = .ok (.aload_n 2, 1) := dk_44 (dk_at dksX1_judged_1 1 rfl rfl)
theorem dX1_judged_26 : decode cX1_judged 26 = .ok (.aload_n 0, 1) := dk_42 (dk_at dksX1_judged_1 2 rfl rfl)
theorem dX1_judged_27 : decode cX1_judged 27 = .ok (.aload_n 2, 1) := dk_44 (dk_at dksX1_judged_1 3 rfl rfl)
theorem dX1_judged_28 : decode cX1_judged 28 = .ok (.getfield 214, 3) := dk_180 0 214 (dk_at dksX1_judged_1 4 rfl rfl)
theorem dX1_judged_31 : decode cX1_judged 31 = .ok (.aload_n 2, 1) := dk_44 (dk_at dksX1_judged_1 7 rfl rfl)
theorem dX1_judged_32 : decode cX1_judged 32 = .ok (.getfield 217, 3) := dk_180 0 217 (dk_at dksX1_judged_1 8 rfl rfl)
theorem dX1_judged_35 : decode cX1_judged 35 = .ok (.aload_n 0, 1) := dk_42 (dk_at dksX1_judged_1 11 rfl rfl)
theorem dX1_judged_36 : decode cX1_judged 36 = .ok (.getfield 95, 3) := dk_180 0 95 (dk_at dksX1_judged_1 12 rfl rfl)
theorem dX1_judged_39 : decode cX1_judged 39 = .ok (.invokevirtual 218, 3) := dk_182 0 218 (dk_at dksX1_judged_1 15 rfl rfl)
theorem dX1_judged_42 : decode cX1_judged 42 = .ok (.invokevirtual 221, 3) := dk_182 0 221 (dk_at dksX1_judged_1 18 rfl rfl)
theorem dX1_judged_45 : decode cX1_judged 45 = .ok (.ifCond .ne 5, 3) := dk_154 0 5 (dk_at dksX1_judged_1 21 rfl rfl)
theorem dX1_judged_48 : decode cX1_judged 48 = .ok (.iload_n 1, 1) := dk_27 (dk_at dksX1_judged_2 0 rfl rfl)
theorem dX1_judged_49 : decode cX1_judged 49 = .ok (.ireturn, 1) := dk_172 (dk_at dksX1_judged_2 1 rfl rfl)
theorem dX1_judged_50 : decode cX1_judged 50 = .ok (.iinc 1 1, 3) := dk_132 1 1 (dk_at dksX1_judged_2 2 rfl rfl)
theorem dX1_judged_53 : decode cX1_judged 53 = .ok (.goto (-51), 3) := dk_167 255 205 (dk_at dksX1_judged_2 5 rfl rfl)
theorem dX1_judged_56 : decode cX1_judged 56 = .ok (.iconst (-1), 1) := dk_2 (dk_at dksX1_judged_2 8 rfl rfl)
theorem dX1_judged_57 : decode cX1_judged 57 = .ok (.ireturn, 1) := dk_172 (dk_at dksX1_judged_2 9 rfl rfl)
abbrev cX1_turned : ByteArray := prog_1_method_55_code
def yX1_turned : MethodName := ⟨RX1, "turned", "(II)I"⟩
def dkwX1_turned_2 : List UInt8 := [21, 4, 159, 0, 6, 132, 3, 1, 21, 6, 54, 4, 132, 5, 1, 167, 255, 220, 29, 172]
abbrev dktX1_turned_2 : List UInt8 := dkwX1_turned_2 ++ []
def dkwX1_turned_1 : List UInt8 := [54, 5, 21, 5, 28, 163, 0, 36, 42, 27, 21, 5, 42, 180, 0, 95, 182, 0, 189, 54, 6, 21, 6]
abbrev dktX1_turned_1 : List UInt8 := dkwX1_turned_1 ++ dktX1_turned_2
def dkwX1_turned_0 : List UInt8 := [42, 27, 182, 0, 197, 153, 0, 10, 28, 184, 0, 123, 154, 0, 5, 2, 172, 3, 62, 2, 54, 4, 3]
abbrev dktX1_turned_0 : List UInt8 := dkwX1_turned_0 ++ dktX1_turned_1
theorem dksX1_turned_0 : cX1_turned.data.toList.drop 0 = dktX1_turned_0 := by decide +kernel
theorem dksX1_turned_1 : cX1_turned.data.toList.drop 23 = dktX1_turned_1 := dk_seg dksX1_turned_0 23 rfl rfl
theorem dksX1_turned_2 : cX1_turned.data.toList.drop 46 = dktX1_turned_2 := dk_seg dksX1_turned_1 23 rfl rfl
theorem dX1_turned_0 : decode cX1_turned 0 = .ok (.aload_n 0, 1) := dk_42 (dk_at dksX1_turned_0 0 rfl rfl)
theorem dX1_turned_1 : decode cX1_turned 1 = .ok (.iload_n 1, 1) := dk_27 (dk_at dksX1_turned_0 1 rfl rfl)
theorem dX1_turned_2 : decode cX1_turned 2 = .ok (.invokevirtual 197, 3) := dk_182 0 197 (dk_at dksX1_turned_0 2 rfl rfl)
theorem dX1_turned_5 : decode cX1_turned 5 = .ok (.ifCond .eq 10, 3) := dk_153 0 10 (dk_at dksX1_turned_0 5 rfl rfl)
theorem dX1_turned_8 : decode cX1_turned 8 = .ok (.iload_n 2, 1) := dk_28 (dk_at dksX1_turned_0 8 rfl rfl)
theorem dX1_turned_9 : decode cX1_turned 9 = .ok (.invokestatic 123, 3) := dk_184 0 123 (dk_at dksX1_turned_0 9 rfl rfl)
theorem dX1_turned_12 : decode cX1_turned 12 = .ok (.ifCond .ne 5, 3) := dk_154 0 5 (dk_at dksX1_turned_0 12 rfl rfl)
theorem dX1_turned_15 : decode cX1_turned 15 = .ok (.iconst (-1), 1) := dk_2 (dk_at dksX1_turned_0 15 rfl rfl)
theorem dX1_turned_16 : decode cX1_turned 16 = .ok (.ireturn, 1) := dk_172 (dk_at dksX1_turned_0 16 rfl rfl)
theorem dX1_turned_17 : decode cX1_turned 17 = .ok (.iconst 0, 1) := dk_3 (dk_at dksX1_turned_0 17 rfl rfl)
theorem dX1_turned_18 : decode cX1_turned 18 = .ok (.istore_n 3, 1) := dk_62 (dk_at dksX1_turned_0 18 rfl rfl)
theorem dX1_turned_19 : decode cX1_turned 19 = .ok (.iconst (-1), 1) := dk_2 (dk_at dksX1_turned_0 19 rfl rfl)
theorem dX1_turned_20 : decode cX1_turned 20 = .ok (.istore 4, 2) := dk_54 4 (dk_at dksX1_turned_0 20 rfl rfl)
theorem dX1_turned_22 : decode cX1_turned 22 = .ok (.iconst 0, 1) := dk_3 (dk_at dksX1_turned_0 22 rfl rfl)
theorem dX1_turned_23 : decode cX1_turned 23 = .ok (.istore 5, 2) := dk_54 5 (dk_at dksX1_turned_1 0 rfl rfl)
theorem dX1_turned_25 : decode cX1_turned 25 = .ok (.iload 5, 2) := dk_21 5 (dk_at dksX1_turned_1 2 rfl rfl)
theorem dX1_turned_27 : decode cX1_turned 27 = .ok (.iload_n 2, 1) := dk_28 (dk_at dksX1_turned_1 4 rfl rfl)
theorem dX1_turned_28 : decode cX1_turned 28 = .ok (.if_icmp .gt 36, 3) := dk_163 0 36 (dk_at dksX1_turned_1 5 rfl rfl)
theorem dX1_turned_31 : decode cX1_turned 31 = .ok (.aload_n 0, 1) := dk_42 (dk_at dksX1_turned_1 8 rfl rfl)
theorem dX1_turned_32 : decode cX1_turned 32 = .ok (.iload_n 1, 1) := dk_27 (dk_at dksX1_turned_1 9 rfl rfl)
theorem dX1_turned_33 : decode cX1_turned 33 = .ok (.iload 5, 2) := dk_21 5 (dk_at dksX1_turned_1 10 rfl rfl)
theorem dX1_turned_35 : decode cX1_turned 35 = .ok (.aload_n 0, 1) := dk_42 (dk_at dksX1_turned_1 12 rfl rfl)
theorem dX1_turned_36 : decode cX1_turned 36 = .ok (.getfield 95, 3) := dk_180 0 95 (dk_at dksX1_turned_1 13 rfl rfl)
theorem dX1_turned_39 : decode cX1_turned 39 = .ok (.invokevirtual 189, 3) := dk_182 0 189 (dk_at dksX1_turned_1 16 rfl rfl)
theorem dX1_turned_42 : decode cX1_turned 42 = .ok (.istore 6, 2) := dk_54 6 (dk_at dksX1_turned_1 19 rfl rfl)
theorem dX1_turned_44 : decode cX1_turned 44 = .ok (.iload 6, 2) := dk_21 6 (dk_at dksX1_turned_1 21 rfl rfl)
theorem dX1_turned_46 : decode cX1_turned 46 = .ok (.iload 4, 2) := dk_21 4 (dk_at dksX1_turned_2 0 rfl rfl)
theorem dX1_turned_48 : decode cX1_turned 48 = .ok (.if_icmp .eq 6, 3) := dk_159 0 6 (dk_at dksX1_turned_2 2 rfl rfl)
theorem dX1_turned_51 : decode cX1_turned 51 = .ok (.iinc 3 1, 3) := dk_132 3 1 (dk_at dksX1_turned_2 5 rfl rfl)
theorem dX1_turned_54 : decode cX1_turned 54 = .ok (.iload 6, 2) := dk_21 6 (dk_at dksX1_turned_2 8 rfl rfl)
theorem dX1_turned_56 : decode cX1_turned 56 = .ok (.istore 4, 2) := dk_54 4 (dk_at dksX1_turned_2 10 rfl rfl)
theorem dX1_turned_58 : decode cX1_turned 58 = .ok (.iinc 5 1, 3) := dk_132 5 1 (dk_at dksX1_turned_2 12 rfl rfl)
theorem dX1_turned_61 : decode cX1_turned 61 = .ok (.goto (-36), 3) := dk_167 255 220 (dk_at dksX1_turned_2 15 rfl rfl)
theorem dX1_turned_64 : decode cX1_turned 64 = .ok (.iload_n 3, 1) := dk_29 (dk_at dksX1_turned_2 18 rfl rfl)
theorem dX1_turned_65 : decode cX1_turned 65 = .ok (.ireturn, 1) := dk_172 (dk_at dksX1_turned_2 19 rfl rfl)
abbrev cX1_pointed : ByteArray := prog_1_method_56_code
def yX1_pointed : MethodName := ⟨RX1, "pointed", "(IIII)I"⟩
def dkwX1_pointed_3 : List UInt8 := [172]
abbrev dktX1_pointed_3 : List UInt8 := dkwX1_pointed_3 ++ []
def dkwX1_pointed_2 : List UInt8 := [21, 6, 42, 180, 0, 95, 182, 0, 189, 28, 160, 0, 6, 132, 5, 1, 132, 6, 1, 167, 255, 228, 21, 5]
abbrev dktX1_pointed_2 : List UInt8 := dkwX1_pointed_2 ++ dktX1_pointed_3
def dkwX1_pointed_1 : List UInt8 := [184, 1, 29, 154, 0, 5, 2, 172, 3, 54, 5, 29, 54, 6, 21, 6, 21, 4, 163, 0, 27, 42, 27]
abbrev dktX1_pointed_1 : List UInt8 := dkwX1_pointed_1 ++ dktX1_pointed_2
def dkwX1_pointed_0 : List UInt8 := [42, 27, 182, 0, 197, 153, 0, 25, 28, 2, 159, 0, 11, 42, 28, 182, 0, 154, 153, 0, 12, 29, 21, 4]
abbrev dktX1_pointed_0 : List UInt8 := dkwX1_pointed_0 ++ dktX1_pointed_1
theorem dksX1_pointed_0 : cX1_pointed.data.toList.drop 0 = dktX1_pointed_0 := by decide +kernel
theorem dksX1_pointed_1 : cX1_pointed.data.toList.drop 24 = dktX1_pointed_1 := dk_seg dksX1_pointed_0 24 rfl rfl
theorem dksX1_pointed_2 : cX1_pointed.data.toList.drop 47 = dktX1_pointed_2 := dk_seg dksX1_pointed_1 23 rfl rfl
theorem dksX1_pointed_3 : cX1_pointed.data.toList.drop 71 = dktX1_pointed_3 := dk_seg dksX1_pointed_2 24 rfl rfl
theorem dX1_pointed_0 : decode cX1_pointed 0 = .ok (.aload_n 0, 1) := dk_42 (dk_at dksX1_pointed_0 0 rfl rfl)
theorem dX1_pointed_1 : decode cX1_pointed 1 = .ok (.iload_n 1, 1) := dk_27 (dk_at dksX1_pointed_0 1 rfl rfl)
theorem dX1_pointed_2 : decode cX1_pointed 2 = .ok (.invokevirtual 197, 3) := dk_182 0 197 (dk_at dksX1_pointed_0 2 rfl rfl)
theorem dX1_pointed_5 : decode cX1_pointed 5 = .ok (.ifCond .eq 25, 3) := dk_153 0 25 (dk_at dksX1_pointed_0 5 rfl rfl)
theorem dX1_pointed_8 : decode cX1_pointed 8 = .ok (.iload_n 2, 1) := dk_28 (dk_at dksX1_pointed_0 8 rfl rfl)
theorem dX1_pointed_9 : decode cX1_pointed 9 = .ok (.iconst (-1), 1) := dk_2 (dk_at dksX1_pointed_0 9 rfl rfl)
theorem dX1_pointed_10 : decode cX1_pointed 10 = .ok (.if_icmp .eq 11, 3) := dk_159 0 11 (dk_at dksX1_pointed_0 10 rfl rfl)
theorem dX1_pointed_13 : decode cX1_pointed 13 = .ok (.aload_n 0, 1) := dk_42 (dk_at dksX1_pointed_0 13 rfl rfl)
theorem dX1_pointed_14 : decode cX1_pointed 14 = .ok (.iload_n 2, 1) := dk_28 (dk_at dksX1_pointed_0 14 rfl rfl)
theorem dX1_pointed_15 : decode cX1_pointed 15 = .ok (.invokevirtual 154, 3) := dk_182 0 154 (dk_at dksX1_pointed_0 15 rfl rfl)
theorem dX1_pointed_18 : decode cX1_pointed 18 = .ok (.ifCond .eq 12, 3) := dk_153 0 12 (dk_at dksX1_pointed_0 18 rfl rfl)
theorem dX1_pointed_21 : decode cX1_pointed 21 = .ok (.iload_n 3, 1) := dk_29 (dk_at dksX1_pointed_0 21 rfl rfl)
theorem dX1_pointed_22 : decode cX1_pointed 22 = .ok (.iload 4, 2) := dk_21 4 (dk_at dksX1_pointed_0 22 rfl rfl)
theorem dX1_pointed_24 : decode cX1_pointed 24 = .ok (.invokestatic 285, 3) := dk_184 1 29 (dk_at dksX1_pointed_1 0 rfl rfl)
theorem dX1_pointed_27 : decode cX1_pointed 27 = .ok (.ifCond .ne 5, 3) := dk_154 0 5 (dk_at dksX1_pointed_1 3 rfl rfl)
theorem dX1_pointed_30 : decode cX1_pointed 30 = .ok (.iconst (-1), 1) := dk_2 (dk_at dksX1_pointed_1 6 rfl rfl)
theorem dX1_pointed_31 : decode cX1_pointed 31 = .ok (.ireturn, 1) := dk_172 (dk_at dksX1_pointed_1 7 rfl rfl)
theorem dX1_pointed_32 : decode cX1_pointed 32 = .ok (.iconst 0, 1) := dk_3 (dk_at dksX1_pointed_1 8 rfl rfl)
theorem dX1_pointed_33 : decode cX1_pointed 33 = .ok (.istore 5, 2) := dk_54 5 (dk_at dksX1_pointed_1 9 rfl rfl)
theorem dX1_pointed_35 : decode cX1_pointed 35 = .ok (.iload_n 3, 1) := dk_29 (dk_at dksX1_pointed_1 11 rfl rfl)
theorem dX1_pointed_36 : decode cX1_pointed 36 = .ok (.istore 6, 2) := dk_54 6 (dk_at dksX1_pointed_1 12 rfl rfl)
theorem dX1_pointed_38 : decode cX1_pointed 38 = .ok (.iload 6, 2) := dk_21 6 (dk_at dksX1_pointed_1 14 rfl rfl)
theorem dX1_pointed_40 : decode cX1_pointed 40 = .ok (.iload 4, 2) := dk_21 4 (dk_at dksX1_pointed_1 16 rfl rfl)
theorem dX1_pointed_42 : decode cX1_pointed 42 = .ok (.if_icmp .gt 27, 3) := dk_163 0 27 (dk_at dksX1_pointed_1 18 rfl rfl)
theorem dX1_pointed_45 : decode cX1_pointed 45 = .ok (.aload_n 0, 1) := dk_42 (dk_at dksX1_pointed_1 21 rfl rfl)
theorem dX1_pointed_46 : decode cX1_pointed 46 = .ok (.iload_n 1, 1) := dk_27 (dk_at dksX1_pointed_1 22 rfl rfl)
theorem dX1_pointed_47 : decode cX1_pointed 47 = .ok (.iload 6, 2) := dk_21 6 (dk_at dksX1_pointed_2 0 rfl rfl)
theorem dX1_pointed_49 : decode cX1_pointed 49 = .ok (.aload_n 0, 1) := dk_42 (dk_at dksX1_pointed_2 2 rfl rfl)
theorem dX1_pointed_50 : decode cX1_pointed 50 = .ok (.getfield 95, 3) := dk_180 0 95 (dk_at dksX1_pointed_2 3 rfl rfl)
theorem dX1_pointed_53 : decode cX1_pointed 53 = .ok (.invokevirtual 189, 3) := dk_182 0 189 (dk_at dksX1_pointed_2 6 rfl rfl)
theorem dX1_pointed_56 : decode cX1_pointed 56 = .ok (.iload_n 2, 1) := dk_28 (dk_at dksX1_pointed_2 9 rfl rfl)
theorem dX1_pointed_57 : decode cX1_pointed 57 = .ok (.if_icmp .ne 6, 3) := dk_160 0 6 (dk_at dksX1_pointed_2 10 rfl rfl)
theorem dX1_pointed_60 : decode cX1_pointed 60 = .ok (.iinc 5 1, 3) := dk_132 5 1 (dk_at dksX1_pointed_2 13 rfl rfl)
theorem dX1_pointed_63 : decode cX1_pointed 63 = .ok (.iinc 6 1, 3) := dk_132 6 1 (dk_at dksX1_pointed_2 16 rfl rfl)
theorem dX1_pointed_66 : decode cX1_pointed 66 = .ok (.goto (-28), 3) := dk_167 255 228 (dk_at dksX1_pointed_2 19 rfl rfl)
theorem dX1_pointed_69 : decode cX1_pointed 69 = .ok (.iload 5, 2) := dk_21 5 (dk_at dksX1_pointed_2 22 rfl rfl)
theorem dX1_pointed_71 : decode cX1_pointed 71 = .ok (.ireturn, 1) := dk_172 (dk_at dksX1_pointed_3 0 rfl rfl)
abbrev cX1_round : ByteArray := prog_1_method_58_code
def yX1_round : MethodName := ⟨RX1, "round", "(II)I"⟩
def dkwX1_round_2 : List UInt8 := [21, 6, 184, 1, 75, 96, 62, 21, 6, 54, 4, 132, 5, 1, 167, 255, 220, 29, 172]
abbrev dktX1_round_2 : List UInt8 := dkwX1_round_2 ++ []
def dkwX1_round_1 : List UInt8 := [54, 5, 21, 5, 28, 163, 0, 36, 42, 27, 21, 5, 42, 180, 0, 95, 182, 0, 218, 54, 6, 29, 21, 4]
abbrev dktX1_round_1 : List UInt8 := dkwX1_round_1 ++ dktX1_round_2
def dkwX1_round_0 : List UInt8 := [42, 27, 182, 0, 197, 153, 0, 10, 28, 184, 0, 123, 154, 0, 5, 2, 172, 3, 62, 3, 54, 4, 3]
abbrev dktX1_round_0 : List UInt8 := dkwX1_round_0 ++ dktX1_round_1
theorem dksX1_round_0 : cX1_round.data.toList.drop 0 = dktX1_round_0 := by decide +kernel
theorem dksX1_round_1 : cX1_round.data.toList.drop 23 = dktX1_round_1 := dk_seg dksX1_round_0 23 rfl rfl
theorem dksX1_round_2 : cX1_round.data.toList.drop 47 = dktX1_round_2 := dk_seg dksX1_round_1 24 rfl rfl
theorem dX1_round_0 : decode cX1_round 0 = .ok (.aload_n 0, 1) := dk_42 (dk_at dksX1_round_0 0 rfl rfl)
theorem dX1_round_1 : decode cX1_round 1 = .ok (.iload_n 1, 1) := dk_27 (dk_at dksX1_round_0 1 rfl rfl)
theorem dX1_round_2 : decode cX1_round 2 = .ok (.invokevirtual 197, 3) := dk_182 0 197 (dk_at dksX1_round_0 2 rfl rfl)
theorem dX1_round_5 : decode cX1_round 5 = .ok (.ifCond .eq 10, 3) := dk_153 0 10 (dk_at dksX1_round_0 5 rfl rfl)
theorem dX1_round_8 : decode cX1_round 8 = .ok (.iload_n 2, 1) := dk_28 (dk_at dksX1_round_0 8 rfl rfl)
theorem dX1_round_9 : decode cX1_round 9 = .ok (.invokestatic 123, 3) := dk_184 0 123 (dk_at dksX1_round_0 9 rfl rfl)
theorem dX1_round_12 : decode cX1_round 12 = .ok (.ifCond .ne 5, 3) := dk_154 0 5 (dk_at dksX1_round_0 12 rfl rfl)
theorem dX1_round_15 : decode cX1_round 15 = .ok (.iconst (-1), 1) := dk_2 (dk_at dksX1_round_0 15 rfl rfl)
theorem dX1_round_16 : decode cX1_round 16 = .ok (.ireturn, 1) := dk_172 (dk_at dksX1_round_0 16 rfl rfl)
theorem dX1_round_17 : decode cX1_round 17 = .ok (.iconst 0, 1) := dk_3 (dk_at dksX1_round_0 17 rfl rfl)
theorem dX1_round_18 : decode cX1_round 18 = .ok (.istore_n 3, 1) := dk_62 (dk_at dksX1_round_0 18 rfl rfl)
theorem dX1_round_19 : decode cX1_round 19 = .ok (.iconst 0, 1) := dk_3 (dk_at dksX1_round_0 19 rfl rfl)
theorem dX1_round_20 : decode cX1_round 20 = .ok (.istore 4, 2) := dk_54 4 (dk_at dksX1_round_0 20 rfl rfl)
theorem dX1_round_22 : decode cX1_round 22 = .ok (.iconst 0, 1) := dk_3 (dk_at dksX1_round_0 22 rfl rfl)
theorem dX1_round_23 : decode cX1_round 23 = .ok (.istore 5, 2) := dk_54 5 (dk_at dksX1_round_1 0 rfl rfl)
theorem dX1_round_25 : decode cX1_round 25 = .ok (.iload 5, 2) := dk_21 5 (dk_at dksX1_round_1 2 rfl rfl)
theorem dX1_round_27 : decode cX1_round 27 = .ok (.iload_n 2, 1) := dk_28 (dk_at dksX1_round_1 4 rfl rfl)
theorem dX1_round_28 : decode cX1_round 28 = .ok (.if_icmp .gt 36, 3) := dk_163 0 36 (dk_at dksX1_round_1 5 rfl rfl)
theorem dX1_round_31 : decode cX1_round 31 = .ok (.aload_n 0, 1) := dk_42 (dk_at dksX1_round_1 8 rfl rfl)
theorem dX1_round_32 : decode cX1_round 32 = .ok (.iload_n 1, 1) := dk_27 (dk_at dksX1_round_1 9 rfl rfl)
theorem dX1_round_33 : decode cX1_round 33 = .ok (.iload 5, 2) := dk_21 5 (dk_at dksX1_round_1 10 rfl rfl)
theorem dX1_round_35 : decode cX1_round 35 = .ok (.aload_n 0, 1) := dk_42 (dk_at dksX1_round_1 12 rfl rfl)
theorem dX1_round_36 : decode cX1_round 36 = .ok (.getfield 95, 3) := dk_180 0 95 (dk_at dksX1_round_1 13 rfl rfl)
theorem dX1_round_39 : decode cX1_round 39 = .ok (.invokevirtual 218, 3) := dk_182 0 218 (dk_at dksX1_round_1 16 rfl rfl)
theorem dX1_round_42 : decode cX1_round 42 = .ok (.istore 6, 2) := dk_54 6 (dk_at dksX1_round_1 19 rfl rfl)
theorem dX1_round_44 : decode cX1_round 44 = .ok (.iload_n 3, 1) := dk_29 (dk_at dksX1_round_1 21 rfl rfl)
theorem dX1_round_45 : decode cX1_round 45 = .ok (.iload 4, 2) := dk_21 4 (dk_at dksX1_round_1 22 rfl rfl)
theorem dX1_round_47 : decode cX1_round 47 = .ok (.iload 6, 2) := dk_21 6 (dk_at dksX1_round_2 0 rfl rfl)
theorem dX1_round_49 : decode cX1_round 49 = .ok (.invokestatic 331, 3) := dk_184 1 75 (dk_at dksX1_round_2 2 rfl rfl)
theorem dX1_round_52 : decode cX1_round 52 = .ok (.iadd, 1) := dk_96 (dk_at dksX1_round_2 5 rfl rfl)
theorem dX1_round_53 : decode cX1_round 53 = .ok (.istore_n 3, 1) := dk_62 (dk_at dksX1_round_2 6 rfl rfl)
theorem dX1_round_54 : decode cX1_round 54 = .ok (.iload 6, 2) := dk_21 6 (dk_at dksX1_round_2 7 rfl rfl)
theorem dX1_round_56 : decode cX1_round 56 = .ok (.istore 4, 2) := dk_54 4 (dk_at dksX1_round_2 9 rfl rfl)
theorem dX1_round_58 : decode cX1_round 58 = .ok (.iinc 5 1, 3) := dk_132 5 1 (dk_at dksX1_round_2 11 rfl rfl)
theorem dX1_round_61 : decode cX1_round 61 = .ok (.goto (-36), 3) := dk_167 255 220 (dk_at dksX1_round_2 14 rfl rfl)
theorem dX1_round_64 : decode cX1_round 64 = .ok (.iload_n 3, 1) := dk_29 (dk_at dksX1_round_2 17 rfl rfl)
theorem dX1_round_65 : decode cX1_round 65 = .ok (.ireturn, 1) := dk_172 (dk_at dksX1_round_2 18 rfl rfl)
abbrev cX1_apart : ByteArray := prog_1_method_57_code
def yX1_apart : MethodName := ⟨RX1, "apart", "(II)I"⟩
def dkwX1_apart_0 : List UInt8 := [26, 27, 100, 184, 1, 67, 61, 28, 17, 1, 104, 28, 100, 184, 1, 72, 172]
abbrev dktX1_apart_0 : List UInt8 := dkwX1_apart_0 ++ []
theorem dksX1_apart_0 : cX1_apart.data.toList.drop 0 = dktX1_apart_0 := by decide +kernel
theorem dX1_apart_0 : decode cX1_apart 0 = .ok (.iload_n 0, 1) := dk_26 (dk_at dksX1_apart_0 0 rfl rfl)
theorem dX1_apart_1 : decode cX1_apart 1 = .ok (.iload_n 1, 1) := dk_27 (dk_at dksX1_apart_0 1 rfl rfl)
theorem dX1_apart_2 : decode cX1_apart 2 = .ok (.isub, 1) := dk_100 (dk_at dksX1_apart_0 2 rfl rfl)
theorem dX1_apart_3 : decode cX1_apart 3 = .ok (.invokestatic 323, 3) := dk_184 1 67 (dk_at dksX1_apart_0 3 rfl rfl)
theorem dX1_apart_6 : decode cX1_apart 6 = .ok (.istore_n 2, 1) := dk_61 (dk_at dksX1_apart_0 6 rfl rfl)
theorem dX1_apart_7 : decode cX1_apart 7 = .ok (.iload_n 2, 1) := dk_28 (dk_at dksX1_apart_0 7 rfl rfl)
theorem dX1_apart_8 : decode cX1_apart 8 = .ok (.sipush 360, 3) := dk_17 1 104 (dk_at dksX1_apart_0 8 rfl rfl)
theorem dX1_apart_11 : decode cX1_apart 11 = .ok (.iload_n 2, 1) := dk_28 (dk_at dksX1_apart_0 11 rfl rfl)
theorem dX1_apart_12 : decode cX1_apart 12 = .ok (.isub, 1) := dk_100 (dk_at dksX1_apart_0 12 rfl rfl)
theorem dX1_apart_13 : decode cX1_apart 13 = .ok (.invokestatic 328, 3) := dk_184 1 72 (dk_at dksX1_apart_0 13 rfl rfl)
theorem dX1_apart_16 : decode cX1_apart 16 = .ok (.ireturn, 1) := dk_172 (dk_at dksX1_apart_0 16 rfl rfl)
abbrev cX1_hidden : ByteArray := prog_1_method_64_code
def yX1_hidden : MethodName := ⟨RX1, "hidden", "(II)I"⟩
def dkwX1_hidden_1 : List UInt8 := [153, 0, 7, 4, 167, 0, 8, 3, 167, 0, 4, 2, 172]
abbrev dktX1_hidden_1 : List UInt8 := dkwX1_hidden_1 ++ []
def dkwX1_hidden_0 : List UInt8 := [42, 27, 182, 1, 89, 153, 0, 28, 42, 28, 182, 1, 92, 153, 0, 20, 42, 27, 28, 182, 1, 95]
abbrev dktX1_hidden_0 : List UInt8 := dkwX1_hidden_0 ++ dktX1_hidden_1
theorem dksX1_hidden_0 : cX1_hidden.data.toList.drop 0 = dktX1_hidden_0 := by decide +kernel
theorem dksX1_hidden_1 : cX1_hidden.data.toList.drop 22 = dktX1_hidden_1 := dk_seg dksX1_hidden_0 22 rfl rfl
theorem dX1_hidden_0 : decode cX1_hidden 0 = .ok (.aload_n 0, 1) := dk_42 (dk_at dksX1_hidden_0 0 rfl rfl)
theorem dX1_hidden_1 : decode cX1_hidden 1 = .ok (.iload_n 1, 1) := dk_27 (dk_at dksX1_hidden_0 1 rfl rfl)
theorem dX1_hidden_2 : decode cX1_hidden 2 = .ok (.invokevirtual 345, 3) := dk_182 1 89 (dk_at dksX1_hidden_0 2 rfl rfl)
theorem dX1_hidden_5 : decode cX1_hidden 5 = .ok (.ifCond .eq 28, 3) := dk_153 0 28 (dk_at dksX1_hidden_0 5 rfl rfl)
theorem dX1_hidden_8 : decode cX1_hidden 8 = .ok (.aload_n 0, 1) := dk_42 (dk_at dksX1_hidden_0 8 rfl rfl)
theorem dX1_hidden_9 : decode cX1_hidden 9 = .ok (.iload_n 2, 1) := dk_28 (dk_at dksX1_hidden_0 9 rfl rfl)
theorem dX1_hidden_10 : decode cX1_hidden 10 = .ok (.invokevirtual 348, 3) := dk_182 1 92 (dk_at dksX1_hidden_0 10 rfl rfl)
theorem dX1_hidden_13 : decode cX1_hidden 13 = .ok (.ifCond .eq 20, 3) := dk_153 0 20 (dk_at dksX1_hidden_0 13 rfl rfl)
theorem dX1_hidden_16 : decode cX1_hidden 16 = .ok (.aload_n 0, 1) := dk_42 (dk_at dksX1_hidden_0 16 rfl rfl)
theorem dX1_hidden_17 : decode cX1_hidden 17 = .ok (.iload_n 1, 1) := dk_27 (dk_at dksX1_hidden_0 17 rfl rfl)
theorem dX1_hidden_18 : decode cX1_hidden 18 = .ok (.iload_n 2, 1) := dk_28 (dk_at dksX1_hidden_0 18 rfl rfl)
theorem dX1_hidden_19 : decode cX1_hidden 19 = .ok (.invokevirtual 351, 3) := dk_182 1 95 (dk_at dksX1_hidden_0 19 rfl rfl)
theorem dX1_hidden_22 : decode cX1_hidden 22 = .ok (.ifCond .eq 7, 3) := dk_153 0 7 (dk_at dksX1_hidden_1 0 rfl rfl)
theorem dX1_hidden_25 : decode cX1_hidden 25 = .ok (.iconst 1, 1) := dk_4 (dk_at dksX1_hidden_1 3 rfl rfl)
theorem dX1_hidden_26 : decode cX1_hidden 26 = .ok (.goto 8, 3) := dk_167 0 8 (dk_at dksX1_hidden_1 4 rfl rfl)
theorem dX1_hidden_29 : decode cX1_hidden 29 = .ok (.iconst 0, 1) := dk_3 (dk_at dksX1_hidden_1 7 rfl rfl)
theorem dX1_hidden_30 : decode cX1_hidden 30 = .ok (.goto 4, 3) := dk_167 0 4 (dk_at dksX1_hidden_1 8 rfl rfl)
theorem dX1_hidden_33 : decode cX1_hidden 33 = .ok (.iconst (-1), 1) := dk_2 (dk_at dksX1_hidden_1 11 rfl rfl)
theorem dX1_hidden_34 : decode cX1_hidden 34 = .ok (.ireturn, 1) := dk_172 (dk_at dksX1_hidden_1 12 rfl rfl)
abbrev cX1_isHidable : ByteArray := prog_1_method_59_code
def yX1_isHidable : MethodName := ⟨RX1, "isHidable", "(I)Z"⟩
def dkwX1_isHidable_1 : List UInt8 := [180, 0, 72, 3, 50, 180, 0, 179, 42, 180, 0, 95, 182, 0, 164, 153, 0, 7, 4, 167, 0, 4, 3, 172]
abbrev dktX1_isHidable_1 : List UInt8 := dkwX1_isHidable_1 ++ []
def dkwX1_isHidable_0 : List UInt8 := [42, 27, 182, 0, 200, 153, 0, 40, 42, 180, 0, 27, 27, 182, 0, 134, 192, 0, 138, 42, 180, 0, 20]
abbrev dktX1_isHidable_0 : List UInt8 := dkwX1_isHidable_0 ++ dktX1_isHidable_1
theorem dksX1_isHidable_0 : cX1_isHidable.data.toList.drop 0 = dktX1_isHidable_0 := by decide +kernel
theorem dksX1_isHidable_1 : cX1_isHidable.data.toList.drop 23 = dktX1_isHidable_1 := dk_seg dksX1_isHidable_0 23 rfl rfl
theorem dX1_isHidable_0 : decode cX1_isHidable 0 = .ok (.aload_n 0, 1) := dk_42 (dk_at dksX1_isHidable_0 0 rfl rfl)
theorem dX1_isHidable_1 : decode cX1_isHidable 1 = .ok (.iload_n 1, 1) := dk_27 (dk_at dksX1_isHidable_0 1 rfl rfl)
theorem dX1_isHidable_2 : decode cX1_isHidable 2 = .ok (.invokevirtual 200, 3) := dk_182 0 200 (dk_at dksX1_isHidable_0 2 rfl rfl)
theorem dX1_isHidable_5 : decode cX1_isHidable 5 = .ok (.ifCond .eq 40, 3) := dk_153 0 40 (dk_at dksX1_isHidable_0 5 rfl rfl)
theorem dX1_isHidable_8 : decode cX1_isHidable 8 = .ok (.aload_n 0, 1) := dk_42 (dk_at dksX1_isHidable_0 8 rfl rfl)
theorem dX1_isHidable_9 : decode cX1_isHidable 9 = .ok (.getfield 27, 3) := dk_180 0 27 (dk_at dksX1_isHidable_0 9 rfl rfl)
theorem dX1_isHidable_12 : decode cX1_isHidable 12 = .ok (.iload_n 1, 1) := dk_27 (dk_at dksX1_isHidable_0 12 rfl rfl)
theorem dX1_isHidable_13 : decode cX1_isHidable 13 = .ok (.invokevirtual 134, 3) := dk_182 0 134 (dk_at dksX1_isHidable_0 13 rfl rfl)
theorem dX1_isHidable_16 : decode cX1_isHidable 16 = .ok (.checkcast 138, 3) := dk_192 0 138 (dk_at dksX1_isHidable_0 16 rfl rfl)
theorem dX1_isHidable_19 : decode cX1_isHidable 19 = .ok (.aload_n 0, 1) := dk_42 (dk_at dksX1_isHidable_0 19 rfl rfl)
theorem dX1_isHidable_20 : decode cX1_isHidable 20 = .ok (.getfield 20, 3) := dk_180 0 20 (dk_at dksX1_isHidable_0 20 rfl rfl)
theorem dX1_isHidable_23 : decode cX1_isHidable 23 = .ok (.getfield 72, 3) := dk_180 0 72 (dk_at dksX1_isHidable_1 0 rfl rfl)
theorem dX1_isHidable_26 : decode cX1_isHidable 26 = .ok (.iconst 0, 1) := dk_3 (dk_at dksX1_isHidable_1 3 rfl rfl)
theorem dX1_isHidable_27 : decode cX1_isHidable 27 = .ok (.aaload, 1) := dk_50 (dk_at dksX1_isHidable_1 4 rfl rfl)
theorem dX1_isHidable_28 : decode cX1_isHidable 28 = .ok (.getfield 179, 3) := dk_180 0 179 (dk_at dksX1_isHidable_1 5 rfl rfl)
theorem dX1_isHidable_31 : decode cX1_isHidable 31 = .ok (.aload_n 0, 1) := dk_42 (dk_at dksX1_isHidable_1 8 rfl rfl)
theorem dX1_isHidable_32 : decode cX1_isHidable 32 = .ok (.getfield 95, 3) := dk_180 0 95 (dk_at dksX1_isHidable_1 9 rfl rfl)
theorem dX1_isHidable_35 : decode cX1_isHidable 35 = .ok (.invokevirtual 164, 3) := dk_182 0 164 (dk_at dksX1_isHidable_1 12 rfl rfl)
theorem dX1_isHidable_38 : decode cX1_isHidable 38 = .ok (.ifCond .eq 7, 3) := dk_153 0 7 (dk_at dksX1_isHidable_1 15 rfl rfl)
theorem dX1_isHidable_41 : decode cX1_isHidable 41 = .ok (.iconst 1, 1) := dk_4 (dk_at dksX1_isHidable_1 18 rfl rfl)
theorem dX1_isHidable_42 : decode cX1_isHidable 42 = .ok (.goto 4, 3) := dk_167 0 4 (dk_at dksX1_isHidable_1 19 rfl rfl)
theorem dX1_isHidable_45 : decode cX1_isHidable 45 = .ok (.iconst 0, 1) := dk_3 (dk_at dksX1_isHidable_1 22 rfl rfl)
theorem dX1_isHidable_46 : decode cX1_isHidable 46 = .ok (.ireturn, 1) := dk_172 (dk_at dksX1_isHidable_1 23 rfl rfl)
abbrev cX1_areOffers : ByteArray := prog_1_method_63_code
def yX1_areOffers : MethodName := ⟨RX1, "areOffers", "(I)Z"⟩
def dkwX1_areOffers_0 : List UInt8 := [27, 3, 4, 42, 180, 0, 31, 182, 0, 109, 120, 4, 100, 184, 0, 113, 172]
abbrev dktX1_areOffers_0 : List UInt8 := dkwX1_areOffers_0 ++ []
theorem dksX1_areOffers_0 : cX1_areOffers.data.toList.drop 0 = dktX1_areOffers_0 := by decide +kernel
theorem dX1_areOffers_0 : decode cX1_areOffers 0 = .ok (.iload_n 1, 1) := dk_27 (dk_at dksX1_areOffers_0 0 rfl rfl)
theorem dX1_areOffers_1 : decode cX1_areOffers 1 = .ok (.iconst 0, 1) := dk_3 (dk_at dksX1_areOffers_0 1 rfl rfl)
theorem dX1_areOffers_2 : decode cX1_areOffers 2 = .ok (.iconst 1, 1) := dk_4 (dk_at dksX1_areOffers_0 2 rfl rfl)
theorem dX1_areOffers_3 : decode cX1_areOffers 3 = .ok (.aload_n 0, 1) := dk_42 (dk_at dksX1_areOffers_0 3 rfl rfl)
theorem dX1_areOffers_4 : decode cX1_areOffers 4 = .ok (.getfield 31, 3) := dk_180 0 31 (dk_at dksX1_areOffers_0 4 rfl rfl)
theorem dX1_areOffers_7 : decode cX1_areOffers 7 = .ok (.invokevirtual 109, 3) := dk_182 0 109 (dk_at dksX1_areOffers_0 7 rfl rfl)
theorem dX1_areOffers_10 : decode cX1_areOffers 10 = .ok (.ishl, 1) := dk_120 (dk_at dksX1_areOffers_0 10 rfl rfl)
theorem dX1_areOffers_11 : decode cX1_areOffers 11 = .ok (.iconst 1, 1) := dk_4 (dk_at dksX1_areOffers_0 11 rfl rfl)
theorem dX1_areOffers_12 : decode cX1_areOffers 12 = .ok (.isub, 1) := dk_100 (dk_at dksX1_areOffers_0 12 rfl rfl)
theorem dX1_areOffers_13 : decode cX1_areOffers 13 = .ok (.invokestatic 113, 3) := dk_184 0 113 (dk_at dksX1_areOffers_0 13 rfl rfl)
theorem dX1_areOffers_16 : decode cX1_areOffers 16 = .ok (.ireturn, 1) := dk_172 (dk_at dksX1_areOffers_0 16 rfl rfl)
abbrev cX1_isHidden : ByteArray := prog_1_method_62_code
def yX1_isHidden : MethodName := ⟨RX1, "isHidden", "(II)Z"⟩
def dkwX1_isHidden_3 : List UInt8 := [62, 132, 4, 1, 167, 255, 187, 29, 154, 0, 7, 4, 167, 0, 4, 3, 172]
abbrev dktX1_isHidden_3 : List UInt8 := dkwX1_isHidden_3 ++ []
def dkwX1_isHidden_2 : List UInt8 := [180, 0, 27, 27, 182, 0, 134, 192, 0, 138, 180, 0, 203, 21, 4, 184, 0, 172, 153, 0, 5, 4, 172, 4]
abbrev dktX1_isHidden_2 : List UInt8 := dkwX1_isHidden_2 ++ dktX1_isHidden_3
def dkwX1_isHidden_1 : List UInt8 := [21, 4, 184, 0, 172, 153, 0, 42, 42, 28, 21, 4, 182, 1, 86, 154, 0, 6, 167, 0, 29, 42]
abbrev dktX1_isHidden_1 : List UInt8 := dkwX1_isHidden_1 ++ dktX1_isHidden_2
def dkwX1_isHidden_0 : List UInt8 := [3, 62, 3, 54, 4, 21, 4, 42, 180, 0, 20, 182, 0, 120, 162, 0, 63, 42, 180, 0, 20, 180, 0, 81]
abbrev dktX1_isHidden_0 : List UInt8 := dkwX1_isHidden_0 ++ dktX1_isHidden_1
theorem dksX1_isHidden_0 : cX1_isHidden.data.toList.drop 0 = dktX1_isHidden_0 := by decide +kernel
theorem dksX1_isHidden_1 : cX1_isHidden.data.toList.drop 24 = dktX1_isHidden_1 := dk_seg dksX1_isHidden_0 24 rfl rfl
theorem dksX1_isHidden_2 : cX1_isHidden.data.toList.drop 46 = dktX1_isHidden_2 := dk_seg dksX1_isHidden_1 22 rfl rfl
theorem dksX1_isHidden_3 : cX1_isHidden.data.toList.drop 70 = dktX1_isHidden_3 := dk_seg dksX1_isHidden_2 24 rfl rfl
theorem dX1_isHidden_0 : decode cX1_isHidden 0 = .ok (.iconst 0, 1) := dk_3 (dk_at dksX1_isHidden_0 0 rfl rfl)
theorem dX1_isHidden_1 : decode cX1_isHidden 1 = .ok (.istore_n 3, 1) := dk_62 (dk_at dksX1_isHidden_0 1 rfl rfl)
theorem dX1_isHidden_2 : decode cX1_isHidden 2 = .ok (.iconst 0, 1) := dk_3 (dk_at dksX1_isHidden_0 2 rfl rfl)
theorem dX1_isHidden_3 : decode cX1_isHidden 3 = .ok (.istore 4, 2) := dk_54 4 (dk_at dksX1_isHidden_0 3 rfl rfl)
theorem dX1_isHidden_5 : decode cX1_isHidden 5 = .ok (.iload 4, 2) := dk_21 4 (dk_at dksX1_isHidden_0 5 rfl rfl)
theorem dX1_isHidden_7 : decode cX1_isHidden 7 = .ok (.aload_n 0, 1) := dk_42 (dk_at dksX1_isHidden_0 7 rfl rfl)
theorem dX1_isHidden_8 : decode cX1_isHidden 8 = .ok (.getfield 20, 3) := dk_180 0 20 (dk_at dksX1_isHidden_0 8 rfl rfl)
theorem dX1_isHidden_11 : decode cX1_isHidden 11 = .ok (.invokevirtual 120, 3) := dk_182 0 120 (dk_at dksX1_isHidden_0 11 rfl rfl)
theorem dX1_isHidden_14 : decode cX1_isHidden 14 = .ok (.if_icmp .ge 63, 3) := dk_162 0 63 (dk_at dksX1_isHidden_0 14 rfl rfl)
theorem dX1_isHidden_17 : decode cX1_isHidden 17 = .ok (.aload_n 0, 1) := dk_42 (dk_at dksX1_isHidden_0 17 rfl rfl)
theorem dX1_isHidden_18 : decode cX1_isHidden 18 = .ok (.getfield 20, 3) := dk_180 0 20 (dk_at dksX1_isHidden_0 18 rfl rfl)
theorem dX1_isHidden_21 : decode cX1_isHidden 21 = .ok (.getfield 81, 3) := dk_180 0 81 (dk_at dksX1_isHidden_0 21 rfl rfl)
theorem dX1_isHidden_24 : decode cX1_isHidden 24 = .ok (.iload 4, 2) := dk_21 4 (dk_at dksX1_isHidden_1 0 rfl rfl)
theorem dX1_isHidden_26 : decode cX1_isHidden 26 = .ok (.invokestatic 172, 3) := dk_184 0 172 (dk_at dksX1_isHidden_1 2 rfl rfl)
theorem dX1_isHidden_29 : decode cX1_isHidden 29 = .ok (.ifCond .eq 42, 3) := dk_153 0 42 (dk_at dksX1_isHidden_1 5 rfl rfl)
theorem dX1_isHidden_32 : decode cX1_isHidden 32 = .ok (.aload_n 0, 1) := dk_42 (dk_at dksX1_isHidden_1 8 rfl rfl)
theorem dX1_isHidden_33 : decode cX1_isHidden 33 = .ok (.iload_n 2, 1) := dk_28 (dk_at dksX1_isHidden_1 9 rfl rfl)
theorem dX1_isHidden_34 : decode cX1_isHidden 34 = .ok (.iload 4, 2) := dk_21 4 (dk_at dksX1_isHidden_1 10 rfl rfl)
theorem dX1_isHidden_36 : decode cX1_isHidden 36 = .ok (.invokevirtual 342, 3) := dk_182 1 86 (dk_at dksX1_isHidden_1 12 rfl rfl)
theorem dX1_isHidden_39 : decode cX1_isHidden 39 = .ok (.ifCond .ne 6, 3) := dk_154 0 6 (dk_at dksX1_isHidden_1 15 rfl rfl)
theorem dX1_isHidden_42 : decode cX1_isHidden 42 = .ok (.goto 29, 3) := dk_167 0 29 (dk_at dksX1_isHidden_1 18 rfl rfl)
theorem dX1_isHidden_45 : decode cX1_isHidden 45 = .ok (.aload_n 0, 1) := dk_42 (dk_at dksX1_isHidden_1 21 rfl rfl)
theorem dX1_isHidden_46 : decode cX1_isHidden 46 = .ok (.getfield 27, 3) := dk_180 0 27 (dk_at dksX1_isHidden_2 0 rfl rfl)
theorem dX1_isHidden_49 : decode cX1_isHidden 49 = .ok (.iload_n 1, 1) := dk_27 (dk_at dksX1_isHidden_2 3 rfl rfl)
theorem dX1_isHidden_50 : decode cX1_isHidden 50 = .ok (.invokevirtual 134, 3) := dk_182 0 134 (dk_at dksX1_isHidden_2 4 rfl rfl)
theorem dX1_isHidden_53 : decode cX1_isHidden 53 = .ok (.checkcast 138, 3) := dk_192 0 138 (dk_at dksX1_isHidden_2 7 rfl rfl)
theorem dX1_isHidden_56 : decode cX1_isHidden 56 = .ok (.getfield 203, 3) := dk_180 0 203 (dk_at dksX1_isHidden_2 10 rfl rfl)
theorem dX1_isHidden_59 : decode cX1_isHidden 59 = .ok (.iload 4, 2) := dk_21 4 (dk_at dksX1_isHidden_2 13 rfl rfl)
theorem dX1_isHidden_61 : decode cX1_isHidden 61 = .ok (.invokestatic 172, 3) := dk_184 0 172 (dk_at dksX1_isHidden_2 15 rfl rfl)
theorem dX1_isHidden_64 : decode cX1_isHidden 64 = .ok (.ifCond .eq 5, 3) := dk_153 0 5 (dk_at dksX1_isHidden_2 18 rfl rfl)
theorem dX1_isHidden_67 : decode cX1_isHidden 67 = .ok (.iconst 1, 1) := dk_4 (dk_at dksX1_isHidden_2 21 rfl rfl)
theorem dX1_isHidden_68 : decode cX1_isHidden 68 = .ok (.ireturn, 1) := dk_172 (dk_at dksX1_isHidden_2 22 rfl rfl)
theorem dX1_isHidden_69 : decode cX1_isHidden 69 = .ok (.iconst 1, 1) := dk_4 (dk_at dksX1_isHidden_2 23 rfl rfl)
theorem dX1_isHidden_70 : decode cX1_isHidden 70 = .ok (.istore_n 3, 1) := dk_62 (dk_at dksX1_isHidden_3 0 rfl rfl)
theorem dX1_isHidden_71 : decode cX1_isHidden 71 = .ok (.iinc 4 1, 3) := dk_132 4 1 (dk_at dksX1_isHidden_3 1 rfl rfl)
theorem dX1_isHidden_74 : decode cX1_isHidden 74 = .ok (.goto (-69), 3) := dk_167 255 187 (dk_at dksX1_isHidden_3 4 rfl rfl)
theorem dX1_isHidden_77 : decode cX1_isHidden 77 = .ok (.iload_n 3, 1) := dk_29 (dk_at dksX1_isHidden_3 7 rfl rfl)
theorem dX1_isHidden_78 : decode cX1_isHidden 78 = .ok (.ifCond .ne 7, 3) := dk_154 0 7 (dk_at dksX1_isHidden_3 8 rfl rfl)
theorem dX1_isHidden_81 : decode cX1_isHidden 81 = .ok (.iconst 1, 1) := dk_4 (dk_at dksX1_isHidden_3 11 rfl rfl)
theorem dX1_isHidden_82 : decode cX1_isHidden 82 = .ok (.goto 4, 3) := dk_167 0 4 (dk_at dksX1_isHidden_3 12 rfl rfl)
theorem dX1_isHidden_85 : decode cX1_isHidden 85 = .ok (.iconst 0, 1) := dk_3 (dk_at dksX1_isHidden_3 15 rfl rfl)
theorem dX1_isHidden_86 : decode cX1_isHidden 86 = .ok (.ireturn, 1) := dk_172 (dk_at dksX1_isHidden_3 16 rfl rfl)
abbrev cX1_isAlike : ByteArray := prog_1_method_61_code
def yX1_isAlike : MethodName := ⟨RX1, "isAlike", "(II)Z"⟩
def dkwX1_isAlike_2 : List UInt8 := [180, 0, 95, 182, 1, 82, 159, 0, 5, 3, 172, 132, 3, 1, 167, 255, 200, 4, 172]
abbrev dktX1_isAlike_2 : List UInt8 := dkwX1_isAlike_2 ++ []
def dkwX1_isAlike_1 : List UInt8 := [192, 0, 209, 27, 28, 182, 1, 82, 42, 42, 180, 0, 37, 29, 182, 0, 134, 192, 0, 209, 27, 42]
abbrev dktX1_isAlike_1 : List UInt8 := dkwX1_isAlike_1 ++ dktX1_isAlike_2
def dkwX1_isAlike_0 : List UInt8 := [3, 62, 29, 42, 180, 0, 37, 182, 0, 109, 162, 0, 51, 42, 42, 180, 0, 37, 29, 182, 0, 134]
abbrev dktX1_isAlike_0 : List UInt8 := dkwX1_isAlike_0 ++ dktX1_isAlike_1
theorem dksX1_isAlike_0 : cX1_isAlike.data.toList.drop 0 = dktX1_isAlike_0 := by decide +kernel
theorem dksX1_isAlike_1 : cX1_isAlike.data.toList.drop 22 = dktX1_isAlike_1 := dk_seg dksX1_isAlike_0 22 rfl rfl
theorem dksX1_isAlike_2 : cX1_isAlike.data.toList.drop 44 = dktX1_isAlike_2 := dk_seg dksX1_isAlike_1 22 rfl rfl
theorem dX1_isAlike_0 : decode cX1_isAlike 0 = .ok (.iconst 0, 1) := dk_3 (dk_at dksX1_isAlike_0 0 rfl rfl)
theorem dX1_isAlike_1 : decode cX1_isAlike 1 = .ok (.istore_n 3, 1) := dk_62 (dk_at dksX1_isAlike_0 1 rfl rfl)
theorem dX1_isAlike_2 : decode cX1_isAlike 2 = .ok (.iload_n 3, 1) := dk_29 (dk_at dksX1_isAlike_0 2 rfl rfl)
theorem dX1_isAlike_3 : decode cX1_isAlike 3 = .ok (.aload_n 0, 1) := dk_42 (dk_at dksX1_isAlike_0 3 rfl rfl)
theorem dX1_isAlike_4 : decode cX1_isAlike 4 = .ok (.getfield 37, 3) := dk_180 0 37 (dk_at dksX1_isAlike_0 4 rfl rfl)
theorem dX1_isAlike_7 : decode cX1_isAlike 7 = .ok (.invokevirtual 109, 3) := dk_182 0 109 (dk_at dksX1_isAlike_0 7 rfl rfl)
theorem dX1_isAlike_10 : decode cX1_isAlike 10 = .ok (.if_icmp .ge 51, 3) := dk_162 0 51 (dk_at dksX1_isAlike_0 10 rfl rfl)
theorem dX1_isAlike_13 : decode cX1_isAlike 13 = .ok (.aload_n 0, 1) := dk_42 (dk_at dksX1_isAlike_0 13 rfl rfl)
theorem dX1_isAlike_14 : decode cX1_isAlike 14 = .ok (.aload_n 0, 1) := dk_42 (dk_at dksX1_isAlike_0 14 rfl rfl)
theorem dX1_isAlike_15 : decode cX1_isAlike 15 = .ok (.getfield 37, 3) := dk_180 0 37 (dk_at dksX1_isAlike_0 15 rfl rfl)
theorem dX1_isAlike_18 : decode cX1_isAlike 18 = .ok (.iload_n 3, 1) := dk_29 (dk_at dksX1_isAlike_0 18 rfl rfl)
theorem dX1_isAlike_19 : decode cX1_isAlike 19 = .ok (.invokevirtual 134, 3) := dk_182 0 134 (dk_at dksX1_isAlike_0 19 rfl rfl)
theorem dX1_isAlike_22 : decode cX1_isAlike 22 = .ok (.checkcast 209, 3) := dk_192 0 209 (dk_at dksX1_isAlike_1 0 rfl rfl)
theorem dX1_isAlike_25 : decode cX1_isAlike 25 = .ok (.iload_n 1, 1) := dk_27 (dk_at dksX1_isAlike_1 3 rfl rfl)
theorem dX1_isAlike_26 : decode cX1_isAlike 26 = .ok (.iload_n 2, 1) := dk_28 (dk_at dksX1_isAlike_1 4 rfl rfl)
theorem dX1_isAlike_27 : decode cX1_isAlike 27 = .ok (.invokevirtual 338, 3) := dk_182 1 82 (dk_at dksX1_isAlike_1 5 rfl rfl)
theorem dX1_isAlike_30 : decode cX1_isAlike 30 = .ok (.aload_n 0, 1) := dk_42 (dk_at dksX1_isAlike_1 8 rfl rfl)
theorem dX1_isAlike_31 : decode cX1_isAlike 31 = .ok (.aload_n 0, 1) := dk_42 (dk_at dksX1_isAlike_1 9 rfl rfl)
theorem dX1_isAlike_32 : decode cX1_isAlike 32 = .ok (.getfield 37, 3) := dk_180 0 37 (dk_at dksX1_isAlike_1 10 rfl rfl)
theorem dX1_isAlike_35 : decode cX1_isAlike 35 = .ok (.iload_n 3, 1) := dk_29 (dk_at dksX1_isAlike_1 13 rfl rfl)
theorem dX1_isAlike_36 : decode cX1_isAlike 36 = .ok (.invokevirtual 134, 3) := dk_182 0 134 (dk_at dksX1_isAlike_1 14 rfl rfl)
theorem dX1_isAlike_39 : decode cX1_isAlike 39 = .ok (.checkcast 209, 3) := dk_192 0 209 (dk_at dksX1_isAlike_1 17 rfl rfl)
theorem dX1_isAlike_42 : decode cX1_isAlike 42 = .ok (.iload_n 1, 1) := dk_27 (dk_at dksX1_isAlike_1 20 rfl rfl)
theorem dX1_isAlike_43 : decode cX1_isAlike 43 = .ok (.aload_n 0, 1) := dk_42 (dk_at dksX1_isAlike_1 21 rfl rfl)
theorem dX1_isAlike_44 : decode cX1_isAlike 44 = .ok (.getfield 95, 3) := dk_180 0 95 (dk_at dksX1_isAlike_2 0 rfl rfl)
theorem dX1_isAlike_47 : decode cX1_isAlike 47 = .ok (.invokevirtual 338, 3) := dk_182 1 82 (dk_at dksX1_isAlike_2 3 rfl rfl)
theorem dX1_isAlike_50 : decode cX1_isAlike 50 = .ok (.if_icmp .eq 5, 3) := dk_159 0 5 (dk_at dksX1_isAlike_2 6 rfl rfl)
theorem dX1_isAlike_53 : decode cX1_isAlike 53 = .ok (.iconst 0, 1) := dk_3 (dk_at dksX1_isAlike_2 9 rfl rfl)
theorem dX1_isAlike_54 : decode cX1_isAlike 54 = .ok (.ireturn, 1) := dk_172 (dk_at dksX1_isAlike_2 10 rfl rfl)
theorem dX1_isAlike_55 : decode cX1_isAlike 55 = .ok (.iinc 3 1, 3) := dk_132 3 1 (dk_at dksX1_isAlike_2 11 rfl rfl)
theorem dX1_isAlike_58 : decode cX1_isAlike 58 = .ok (.goto (-56), 3) := dk_167 255 200 (dk_at dksX1_isAlike_2 14 rfl rfl)
theorem dX1_isAlike_61 : decode cX1_isAlike 61 = .ok (.iconst 1, 1) := dk_4 (dk_at dksX1_isAlike_2 17 rfl rfl)
theorem dX1_isAlike_62 : decode cX1_isAlike 62 = .ok (.ireturn, 1) := dk_172 (dk_at dksX1_isAlike_2 18 rfl rfl)
abbrev cX1_watched : ByteArray := prog_1_method_60_code
def yX1_watched : MethodName := ⟨RX1, "watched", "(LLiarsCock$Look;II)I"⟩
def dkwX1_watched_1 : List UInt8 := [180, 0, 179, 43, 180, 0, 217, 25, 4, 180, 0, 182, 100, 29, 182, 1, 78, 184, 0, 185, 182, 0, 193, 172]
abbrev dktX1_watched_1 : List UInt8 := dkwX1_watched_1 ++ []
def dkwX1_watched_0 : List UInt8 := [42, 180, 0, 20, 180, 0, 72, 43, 180, 0, 214, 50, 58, 4, 42, 180, 0, 20, 42, 28, 25, 4]
abbrev dktX1_watched_0 : List UInt8 := dkwX1_watched_0 ++ dktX1_watched_1
theorem dksX1_watched_0 : cX1_watched.data.toList.drop 0 = dktX1_watched_0 := by decide +kernel
theorem dksX1_watched_1 : cX1_watched.data.toList.drop 22 = dktX1_watched_1 := dk_seg dksX1_watched_0 22 rfl rfl
theorem dX1_watched_0 : decode cX1_watched 0 = .ok (.aload_n 0, 1) := dk_42 (dk_at dksX1_watched_0 0 rfl rfl)
theorem dX1_watched_1 : decode cX1_watched 1 = .ok (.getfield 20, 3) := dk_180 0 20 (dk_at dksX1_watched_0 1 rfl rfl)
theorem dX1_watched_4 : decode cX1_watched 4 = .ok (.getfield 72, 3) := dk_180 0 72 (dk_at dksX1_watched_0 4 rfl rfl)
theorem dX1_watched_7 : decode cX1_watched 7 = .ok (.aload_n 1, 1) := dk_43 (dk_at dksX1_watched_0 7 rfl rfl)
theorem dX1_watched_8 : decode cX1_watched 8 = .ok (.getfield 214, 3) := dk_180 0 214 (dk_at dksX1_watched_0 8 rfl rfl)
theorem dX1_watched_11 : decode cX1_watched 11 = .ok (.aaload, 1) := dk_50 (dk_at dksX1_watched_0 11 rfl rfl)
theorem dX1_watched_12 : decode cX1_watched 12 = .ok (.astore 4, 2) := dk_58 4 (dk_at dksX1_watched_0 12 rfl rfl)
theorem dX1_watched_14 : decode cX1_watched 14 = .ok (.aload_n 0, 1) := dk_42 (dk_at dksX1_watched_0 14 rfl rfl)
theorem dX1_watched_15 : decode cX1_watched 15 = .ok (.getfield 20, 3) := dk_180 0 20 (dk_at dksX1_watched_0 15 rfl rfl)
theorem dX1_watched_18 : decode cX1_watched 18 = .ok (.aload_n 0, 1) := dk_42 (dk_at dksX1_watched_0 18 rfl rfl)
theorem dX1_watched_19 : decode cX1_watched 19 = .ok (.iload_n 2, 1) := dk_28 (dk_at dksX1_watched_0 19 rfl rfl)
theorem dX1_watched_20 : decode cX1_watched 20 = .ok (.aload 4, 2) := dk_25 4 (dk_at dksX1_watched_0 20 rfl rfl)
theorem dX1_watched_22 : decode cX1_watched 22 = .ok (.getfield 179, 3) := dk_180 0 179 (dk_at dksX1_watched_1 0 rfl rfl)
theorem dX1_watched_25 : decode cX1_watched 25 = .ok (.aload_n 1, 1) := dk_43 (dk_at dksX1_watched_1 3 rfl rfl)
theorem dX1_watched_26 : decode cX1_watched 26 = .ok (.getfield 217, 3) := dk_180 0 217 (dk_at dksX1_watched_1 4 rfl rfl)
theorem dX1_watched_29 : decode cX1_watched 29 = .ok (.aload 4, 2) := dk_25 4 (dk_at dksX1_watched_1 7 rfl rfl)
theorem dX1_watched_31 : decode cX1_watched 31 = .ok (.getfield 182, 3) := dk_180 0 182 (dk_at dksX1_watched_1 9 rfl rfl)
theorem dX1_watched_34 : decode cX1_watched 34 = .ok (.isub, 1) := dk_100 (dk_at dksX1_watched_1 12 rfl rfl)
theorem dX1_watched_35 : decode cX1_watched 35 = .ok (.iload_n 3, 1) := dk_29 (dk_at dksX1_watched_1 13 rfl rfl)
theorem dX1_watched_36 : decode cX1_watched 36 = .ok (.invokevirtual 334, 3) := dk_182 1 78 (dk_at dksX1_watched_1 14 rfl rfl)
theorem dX1_watched_39 : decode cX1_watched 39 = .ok (.invokestatic 185, 3) := dk_184 0 185 (dk_at dksX1_watched_1 17 rfl rfl)
theorem dX1_watched_42 : decode cX1_watched 42 = .ok (.invokevirtual 193, 3) := dk_182 0 193 (dk_at dksX1_watched_1 20 rfl rfl)
theorem dX1_watched_45 : decode cX1_watched 45 = .ok (.ireturn, 1) := dk_172 (dk_at dksX1_watched_1 23 rfl rfl)
abbrev cX1_lastWith : ByteArray := prog_1_method_22_code
def yX1_lastWith : MethodName := ⟨RX1, "lastWith", "(IIII)LLiarsCock$Saying;"⟩
def dkwX1_lastWith_4 : List UInt8 := [132, 6, 1, 167, 255, 175, 25, 5, 176]
abbrev dktX1_lastWith_4 : List UInt8 := dkwX1_lastWith_4 ++ []
def dkwX1_lastWith_3 : List UInt8 := [25, 5, 198, 0, 16, 25, 7, 180, 0, 140, 25, 5, 180, 0, 140, 161, 0, 7, 25, 7, 58, 5]
abbrev dktX1_lastWith_3 : List UInt8 := dkwX1_lastWith_3 ++ dktX1_lastWith_4
def dkwX1_lastWith_2 : List UInt8 := [153, 0, 45, 25, 7, 180, 0, 140, 29, 163, 0, 36, 25, 7, 28, 21, 4, 182, 0, 164, 153, 0, 25]
abbrev dktX1_lastWith_2 : List UInt8 := dkwX1_lastWith_2 ++ dktX1_lastWith_3
def dkwX1_lastWith_1 : List UInt8 := [162, 0, 75, 42, 180, 0, 31, 21, 6, 182, 0, 134, 192, 0, 138, 58, 7, 27, 133, 21, 6, 184, 0, 172]
abbrev dktX1_lastWith_1 : List UInt8 := dkwX1_lastWith_1 ++ dktX1_lastWith_2
def dkwX1_lastWith_0 : List UInt8 := [42, 28, 29, 21, 4, 182, 0, 168, 58, 5, 3, 54, 6, 21, 6, 42, 180, 0, 31, 182, 0, 109]
abbrev dktX1_lastWith_0 : List UInt8 := dkwX1_lastWith_0 ++ dktX1_lastWith_1
theorem dksX1_lastWith_0 : cX1_lastWith.data.toList.drop 0 = dktX1_lastWith_0 := by decide +kernel
theorem dksX1_lastWith_1 : cX1_lastWith.data.toList.drop 22 = dktX1_lastWith_1 := dk_seg dksX1_lastWith_0 22 rfl rfl
theorem dksX1_lastWith_2 : cX1_lastWith.data.toList.drop 46 = dktX1_lastWith_2 := dk_seg dksX1_lastWith_1 24 rfl rfl
theorem dksX1_lastWith_3 : cX1_lastWith.data.toList.drop 69 = dktX1_lastWith_3 := dk_seg dksX1_lastWith_2 23 rfl rfl
theorem dksX1_lastWith_4 : cX1_lastWith.data.toList.drop 91 = dktX1_lastWith_4 := dk_seg dksX1_lastWith_3 22 rfl rfl
theorem dX1_lastWith_0 : decode cX1_lastWith 0 = .ok (.aload_n 0, 1) := dk_42 (dk_at dksX1_lastWith_0 0 rfl rfl)
theorem dX1_lastWith_1 : decode cX1_lastWith 1 = .ok (.iload_n 2, 1) := dk_28 (dk_at dksX1_lastWith_0 1 rfl rfl)
theorem dX1_lastWith_2 : decode cX1_lastWith 2 = .ok (.iload_n 3, 1) := dk_29 (dk_at dksX1_lastWith_0 2 rfl rfl)
theorem dX1_lastWith_3 : decode cX1_lastWith 3 = .ok (.iload 4, 2) := dk_21 4 (dk_at dksX1_lastWith_0 3 rfl rfl)
theorem dX1_lastWith_5 : decode cX1_lastWith 5 = .ok (.invokevirtual 168, 3) := dk_182 0 168 (dk_at dksX1_lastWith_0 5 rfl rfl)
theorem dX1_lastWith_8 : decode cX1_lastWith 8 = .ok (.astore 5, 2) := dk_58 5 (dk_at dksX1_lastWith_0 8 rfl rfl)
theorem dX1_lastWith_10 : decode cX1_lastWith 10 = .ok (.iconst 0, 1) := dk_3 (dk_at dksX1_lastWith_0 10 rfl rfl)
theorem dX1_lastWith_11 : decode cX1_lastWith 11 = .ok (.istore 6, 2) := dk_54 6 (dk_at dksX1_lastWith_0 11 rfl rfl)
theorem dX1_lastWith_13 : decode cX1_lastWith 13 = .ok (.iload 6, 2) := dk_21 6 (dk_at dksX1_lastWith_0 13 rfl rfl)
theorem dX1_lastWith_15 : decode cX1_lastWith 15 = .ok (.aload_n 0, 1) := dk_42 (dk_at dksX1_lastWith_0 15 rfl rfl)
theorem dX1_lastWith_16 : decode cX1_lastWith 16 = .ok (.getfield 31, 3) := dk_180 0 31 (dk_at dksX1_lastWith_0 16 rfl rfl)
theorem dX1_lastWith_19 : decode cX1_lastWith 19 = .ok (.invokevirtual 109, 3) := dk_182 0 109 (dk_at dksX1_lastWith_0 19 rfl rfl)
theorem dX1_lastWith_22 : decode cX1_lastWith 22 = .ok (.if_icmp .ge 75, 3) := dk_162 0 75 (dk_at dksX1_lastWith_1 0 rfl rfl)
theorem dX1_lastWith_25 : decode cX1_lastWith 25 = .ok (.aload_n 0, 1) := dk_42 (dk_at dksX1_lastWith_1 3 rfl rfl)
theorem dX1_lastWith_26 : decode cX1_lastWith 26 = .ok (.getfield 31, 3) := dk_180 0 31 (dk_at dksX1_lastWith_1 4 rfl rfl)
theorem dX1_lastWith_29 : decode cX1_lastWith 29 = .ok (.iload 6, 2) := dk_21 6 (dk_at dksX1_lastWith_1 7 rfl rfl)
theorem dX1_lastWith_31 : decode cX1_lastWith 31 = .ok (.invokevirtual 134, 3) := dk_182 0 134 (dk_at dksX1_lastWith_1 9 rfl rfl)
theorem dX1_lastWith_34 : decode cX1_lastWith 34 = .ok (.checkcast 138, 3) := dk_192 0 138 (dk_at dksX1_lastWith_1 12 rfl rfl)
theorem dX1_lastWith_37 : decode cX1_lastWith 37 = .ok (.astore 7, 2) := dk_58 7 (dk_at dksX1_lastWith_1 15 rfl rfl)
theorem dX1_lastWith_39 : decode cX1_lastWith 39 = .ok (.iload_n 1, 1) := dk_27 (dk_at dksX1_lastWith_1 17 rfl rfl)
theorem dX1_lastWith_40 : decode cX1_lastWith 40 = .ok (.i2l, 1) := dk_133 (dk_at dksX1_lastWith_1 18 rfl rfl)
theorem dX1_lastWith_41 : decode cX1_lastWith 41 = .ok (.iload 6, 2) := dk_21 6 (dk_at dksX1_lastWith_1 19 rfl rfl)
theorem dX1_lastWith_43 : decode cX1_lastWith 43 = .ok (.invokestatic 172, 3) := dk_184 0 172 (dk_at dksX1_lastWith_1 21 rfl rfl)
theorem dX1_lastWith_46 : decode cX1_lastWith 46 = .ok (.ifCond .eq 45, 3) := dk_153 0 45 (dk_at dksX1_lastWith_2 0 rfl rfl)
theorem dX1_lastWith_49 : decode cX1_lastWith 49 = .ok (.aload 7, 2) := dk_25 7 (dk_at dksX1_lastWith_2 3 rfl rfl)
theorem dX1_lastWith_51 : decode cX1_lastWith 51 = .ok (.getfield 140, 3) := dk_180 0 140 (dk_at dksX1_lastWith_2 5 rfl rfl)
theorem dX1_lastWith_54 : decode cX1_lastWith 54 = .ok (.iload_n 3, 1) := dk_29 (dk_at dksX1_lastWith_2 8 rfl rfl)
theorem dX1_lastWith_55 : decode cX1_lastWith 55 = .ok (.if_icmp .gt 36, 3) := dk_163 0 36 (dk_at dksX1_lastWith_2 9 rfl rfl)
theorem dX1_lastWith_58 : decode cX1_lastWith 58 = .ok (.aload 7, 2) := dk_25 7 (dk_at dksX1_lastWith_2 12 rfl rfl)
theorem dX1_lastWith_60 : decode cX1_lastWith 60 = .ok (.iload_n 2, 1) := dk_28 (dk_at dksX1_lastWith_2 14 rfl rfl)
theorem dX1_lastWith_61 : decode cX1_lastWith 61 = .ok (.iload 4, 2) := dk_21 4 (dk_at dksX1_lastWith_2 15 rfl rfl)
theorem dX1_lastWith_63 : decode cX1_lastWith 63 = .ok (.invokevirtual 164, 3) := dk_182 0 164 (dk_at dksX1_lastWith_2 17 rfl rfl)
theorem dX1_lastWith_66 : decode cX1_lastWith 66 = .ok (.ifCond .eq 25, 3) := dk_153 0 25 (dk_at dksX1_lastWith_2 20 rfl rfl)
theorem dX1_lastWith_69 : decode cX1_lastWith 69 = .ok (.aload 5, 2) := dk_25 5 (dk_at dksX1_lastWith_3 0 rfl rfl)
theorem dX1_lastWith_71 : decode cX1_lastWith 71 = .ok (.ifnull 16, 3) := dk_198 0 16 (dk_at dksX1_lastWith_3 2 rfl rfl)
theorem dX1_lastWith_74 : decode cX1_lastWith 74 = .ok (.aload 7, 2) := dk_25 7 (dk_at dksX1_lastWith_3 5 rfl rfl)
theorem dX1_lastWith_76 : decode cX1_lastWith 76 = .ok (.getfield 140, 3) := dk_180 0 140 (dk_at dksX1_lastWith_3 7 rfl rfl)
theorem dX1_lastWith_79 : decode cX1_lastWith 79 = .ok (.aload 5, 2) := dk_25 5 (dk_at dksX1_lastWith_3 10 rfl rfl)
theorem dX1_lastWith_81 : decode cX1_lastWith 81 = .ok (.getfield 140, 3) := dk_180 0 140 (dk_at dksX1_lastWith_3 12 rfl rfl)
theorem dX1_lastWith_84 : decode cX1_lastWith 84 = .ok (.if_icmp .lt 7, 3) := dk_161 0 7 (dk_at dksX1_lastWith_3 15 rfl rfl)
theorem dX1_lastWith_87 : decode cX1_lastWith 87 = .ok (.aload 7, 2) := dk_25 7 (dk_at dksX1_lastWith_3 18 rfl rfl)
theorem dX1_lastWith_89 : decode cX1_lastWith 89 = .ok (.astore 5, 2) := dk_58 5 (dk_at dksX1_lastWith_3 20 rfl rfl)
theorem dX1_lastWith_91 : decode cX1_lastWith 91 = .ok (.iinc 6 1, 3) := dk_132 6 1 (dk_at dksX1_lastWith_4 0 rfl rfl)
theorem dX1_lastWith_94 : decode cX1_lastWith 94 = .ok (.goto (-81), 3) := dk_167 255 175 (dk_at dksX1_lastWith_4 3 rfl rfl)
theorem dX1_lastWith_97 : decode cX1_lastWith 97 = .ok (.aload 5, 2) := dk_25 5 (dk_at dksX1_lastWith_4 6 rfl rfl)
theorem dX1_lastWith_99 : decode cX1_lastWith 99 = .ok (.areturn, 1) := dk_176 (dk_at dksX1_lastWith_4 8 rfl rfl)
abbrev cX1_hide : ByteArray := prog_1_method_65_code
def yX1_hide : MethodName := ⟨RX1, "hide", "(II)I"⟩
def dkwX1_hide_3 : List UInt8 := [167, 255, 207, 29, 28, 184, 1, 22, 172]
abbrev dktX1_hide_3 : List UInt8 := dkwX1_hide_3 ++ []
def dkwX1_hide_2 : List UInt8 := [133, 184, 0, 244, 162, 0, 16, 42, 27, 21, 4, 182, 1, 95, 153, 0, 6, 21, 4, 62, 132, 4, 1]
abbrev dktX1_hide_2 : List UInt8 := dkwX1_hide_2 ++ dktX1_hide_3
def dkwX1_hide_1 : List UInt8 := [4, 42, 180, 0, 31, 182, 0, 109, 120, 162, 0, 41, 29, 2, 159, 0, 17, 21, 4, 133, 184, 0, 244, 29]
abbrev dktX1_hide_1 : List UInt8 := dkwX1_hide_1 ++ dktX1_hide_2
def dkwX1_hide_0 : List UInt8 := [42, 27, 182, 1, 89, 153, 0, 10, 28, 184, 1, 5, 154, 0, 5, 2, 172, 2, 62, 3, 54, 4, 21, 4]
abbrev dktX1_hide_0 : List UInt8 := dkwX1_hide_0 ++ dktX1_hide_1
theorem dksX1_hide_0 : cX1_hide.data.toList.drop 0 = dktX1_hide_0 := by decide +kernel
theorem dksX1_hide_1 : cX1_hide.data.toList.drop 24 = dktX1_hide_1 := dk_seg dksX1_hide_0 24 rfl rfl
theorem dksX1_hide_2 : cX1_hide.data.toList.drop 48 = dktX1_hide_2 := dk_seg dksX1_hide_1 24 rfl rfl
theorem dksX1_hide_3 : cX1_hide.data.toList.drop 71 = dktX1_hide_3 := dk_seg dksX1_hide_2 23 rfl rfl
theorem dX1_hide_0 : decode cX1_hide 0 = .ok (.aload_n 0, 1) := dk_42 (dk_at dksX1_hide_0 0 rfl rfl)
theorem dX1_hide_1 : decode cX1_hide 1 = .ok (.iload_n 1, 1) := dk_27 (dk_at dksX1_hide_0 1 rfl rfl)
theorem dX1_hide_2 : decode cX1_hide 2 = .ok (.invokevirtual 345, 3) := dk_182 1 89 (dk_at dksX1_hide_0 2 rfl rfl)
theorem dX1_hide_5 : decode cX1_hide 5 = .ok (.ifCond .eq 10, 3) := dk_153 0 10 (dk_at dksX1_hide_0 5 rfl rfl)
theorem dX1_hide_8 : decode cX1_hide 8 = .ok (.iload_n 2, 1) := dk_28 (dk_at dksX1_hide_0 8 rfl rfl)
theorem dX1_hide_9 : decode cX1_hide 9 = .ok (.invokestatic 261, 3) := dk_184 1 5 (dk_at dksX1_hide_0 9 rfl rfl)
theorem dX1_hide_12 : decode cX1_hide 12 = .ok (.ifCond .ne 5, 3) := dk_154 0 5 (dk_at dksX1_hide_0 12 rfl rfl)
theorem dX1_hide_15 : decode cX1_hide 15 = .ok (.iconst (-1), 1) := dk_2 (dk_at dksX1_hide_0 15 rfl rfl)
theorem dX1_hide_16 : decode cX1_hide 16 = .ok (.ireturn, 1) := dk_172 (dk_at dksX1_hide_0 16 rfl rfl)
theorem dX1_hide_17 : decode cX1_hide 17 = .ok (.iconst (-1), 1) := dk_2 (dk_at dksX1_hide_0 17 rfl rfl)
theorem dX1_hide_18 : decode cX1_hide 18 = .ok (.istore_n 3, 1) := dk_62 (dk_at dksX1_hide_0 18 rfl rfl)
theorem dX1_hide_19 : decode cX1_hide 19 = .ok (.iconst 0, 1) := dk_3 (dk_at dksX1_hide_0 19 rfl rfl)
theorem dX1_hide_20 : decode cX1_hide 20 = .ok (.istore 4, 2) := dk_54 4 (dk_at dksX1_hide_0 20 rfl rfl)
theorem dX1_hide_22 : decode cX1_hide 22 = .ok (.iload 4, 2) := dk_21 4 (dk_at dksX1_hide_0 22 rfl rfl)
theorem dX1_hide_24 : decode cX1_hide 24 = .ok (.iconst 1, 1) := dk_4 (dk_at dksX1_hide_1 0 rfl rfl)
theorem dX1_hide_25 : decode cX1_hide 25 = .ok (.aload_n 0, 1) := dk_42 (dk_at dksX1_hide_1 1 rfl rfl)
theorem dX1_hide_26 : decode cX1_hide 26 = .ok (.getfield 31, 3) := dk_180 0 31 (dk_at dksX1_hide_1 2 rfl rfl)
theorem dX1_hide_29 : decode cX1_hide 29 = .ok (.invokevirtual 109, 3) := dk_182 0 109 (dk_at dksX1_hide_1 5 rfl rfl)
theorem dX1_hide_32 : decode cX1_hide 32 = .ok (.ishl, 1) := dk_120 (dk_at dksX1_hide_1 8 rfl rfl)
theorem dX1_hide_33 : decode cX1_hide 33 = .ok (.if_icmp .ge 41, 3) := dk_162 0 41 (dk_at dksX1_hide_1 9 rfl rfl)
theorem dX1_hide_36 : decode cX1_hide 36 = .ok (.iload_n 3, 1) := dk_29 (dk_at dksX1_hide_1 12 rfl rfl)
theorem dX1_hide_37 : decode cX1_hide 37 = .ok (.iconst (-1), 1) := dk_2 (dk_at dksX1_hide_1 13 rfl rfl)
theorem dX1_hide_38 : decode cX1_hide 38 = .ok (.if_icmp .eq 17, 3) := dk_159 0 17 (dk_at dksX1_hide_1 14 rfl rfl)
theorem dX1_hide_41 : decode cX1_hide 41 = .ok (.iload 4, 2) := dk_21 4 (dk_at dksX1_hide_1 17 rfl rfl)
theorem dX1_hide_43 : decode cX1_hide 43 = .ok (.i2l, 1) := dk_133 (dk_at dksX1_hide_1 19 rfl rfl)
theorem dX1_hide_44 : decode cX1_hide 44 = .ok (.invokestatic 244, 3) := dk_184 0 244 (dk_at dksX1_hide_1 20 rfl rfl)
theorem dX1_hide_47 : decode cX1_hide 47 = .ok (.iload_n 3, 1) := dk_29 (dk_at dksX1_hide_1 23 rfl rfl)
theorem dX1_hide_48 : decode cX1_hide 48 = .ok (.i2l, 1) := dk_133 (dk_at dksX1_hide_2 0 rfl rfl)
theorem dX1_hide_49 : decode cX1_hide 49 = .ok (.invokestatic 244, 3) := dk_184 0 244 (dk_at dksX1_hide_2 1 rfl rfl)
theorem dX1_hide_52 : decode cX1_hide 52 = .ok (.if_icmp .ge 16, 3) := dk_162 0 16 (dk_at dksX1_hide_2 4 rfl rfl)
theorem dX1_hide_55 : decode cX1_hide 55 = .ok (.aload_n 0, 1) := dk_42 (dk_at dksX1_hide_2 7 rfl rfl)
theorem dX1_hide_56 : decode cX1_hide 56 = .ok (.iload_n 1, 1) := dk_27 (dk_at dksX1_hide_2 8 rfl rfl)
theorem dX1_hide_57 : decode cX1_hide 57 = .ok (.iload 4, 2) := dk_21 4 (dk_at dksX1_hide_2 9 rfl rfl)
theorem dX1_hide_59 : decode cX1_hide 59 = .ok (.invokevirtual 351, 3) := dk_182 1 95 (dk_at dksX1_hide_2 11 rfl rfl)
theorem dX1_hide_62 : decode cX1_hide 62 = .ok (.ifCond .eq 6, 3) := dk_153 0 6 (dk_at dksX1_hide_2 14 rfl rfl)
theorem dX1_hide_65 : decode cX1_hide 65 = .ok (.iload 4, 2) := dk_21 4 (dk_at dksX1_hide_2 17 rfl rfl)
theorem dX1_hide_67 : decode cX1_hide 67 = .ok (.istore_n 3, 1) := dk_62 (dk_at dksX1_hide_2 19 rfl rfl)
theorem dX1_hide_68 : decode cX1_hide 68 = .ok (.iinc 4 1, 3) := dk_132 4 1 (dk_at dksX1_hide_2 20 rfl rfl)
theorem dX1_hide_71 : decode cX1_hide 71 = .ok (.goto (-49), 3) := dk_167 255 207 (dk_at dksX1_hide_3 0 rfl rfl)
theorem dX1_hide_74 : decode cX1_hide 74 = .ok (.iload_n 3, 1) := dk_29 (dk_at dksX1_hide_3 3 rfl rfl)
theorem dX1_hide_75 : decode cX1_hide 75 = .ok (.iload_n 2, 1) := dk_28 (dk_at dksX1_hide_3 4 rfl rfl)
theorem dX1_hide_76 : decode cX1_hide 76 = .ok (.invokestatic 278, 3) := dk_184 1 22 (dk_at dksX1_hide_3 5 rfl rfl)
theorem dX1_hide_79 : decode cX1_hide 79 = .ok (.ireturn, 1) := dk_172 (dk_at dksX1_hide_3 8 rfl rfl)
abbrev cX1_sector : ByteArray := prog_1_method_67_code
def yX1_sector : MethodName := ⟨RX1, "sector", "(II)I"⟩
def dkwX1_sector_2 : List UInt8 := [184, 1, 103, 153, 0, 10, 29, 4, 21, 4, 120, 128, 62, 132, 4, 1, 167, 255, 214, 29, 172]
abbrev dktX1_sector_2 : List UInt8 := dkwX1_sector_2 ++ []
def dkwX1_sector_1 : List UInt8 := [180, 0, 20, 180, 0, 117, 182, 0, 109, 162, 0, 33, 42, 180, 0, 20, 21, 4, 182, 0, 193, 27, 28]
abbrev dktX1_sector_1 : List UInt8 := dkwX1_sector_1 ++ dktX1_sector_2
def dkwX1_sector_0 : List UInt8 := [27, 184, 0, 206, 153, 0, 10, 28, 184, 0, 206, 154, 0, 5, 2, 172, 3, 62, 3, 54, 4, 21, 4, 42]
abbrev dktX1_sector_0 : List UInt8 := dkwX1_sector_0 ++ dktX1_sector_1
theorem dksX1_sector_0 : cX1_sector.data.toList.drop 0 = dktX1_sector_0 := by decide +kernel
theorem dksX1_sector_1 : cX1_sector.data.toList.drop 24 = dktX1_sector_1 := dk_seg dksX1_sector_0 24 rfl rfl
theorem dksX1_sector_2 : cX1_sector.data.toList.drop 47 = dktX1_sector_2 := dk_seg dksX1_sector_1 23 rfl rfl
theorem dX1_sector_0 : decode cX1_sector 0 = .ok (.iload_n 1, 1) := dk_27 (dk_at dksX1_sector_0 0 rfl rfl)
theorem dX1_sector_1 : decode cX1_sector 1 = .ok (.invokestatic 206, 3) := dk_184 0 206 (dk_at dksX1_sector_0 1 rfl rfl)
theorem dX1_sector_4 : decode cX1_sector 4 = .ok (.ifCond .eq 10, 3) := dk_153 0 10 (dk_at dksX1_sector_0 4 rfl rfl)
theorem dX1_sector_7 : decode cX1_sector 7 = .ok (.iload_n 2, 1) := dk_28 (dk_at dksX1_sector_0 7 rfl rfl)
theorem dX1_sector_8 : decode cX1_sector 8 = .ok (.invokestatic 206, 3) := dk_184 0 206 (dk_at dksX1_sector_0 8 rfl rfl)
theorem dX1_sector_11 : decode cX1_sector 11 = .ok (.ifCond .ne 5, 3) := dk_154 0 5 (dk_at dksX1_sector_0 11 rfl rfl)
theorem dX1_sector_14 : decode cX1_sector 14 = .ok (.iconst (-1), 1) := dk_2 (dk_at dksX1_sector_0 14 rfl rfl)
theorem dX1_sector_15 : decode cX1_sector 15 = .ok (.ireturn, 1) := dk_172 (dk_at dksX1_sector_0 15 rfl rfl)
theorem dX1_sector_16 : decode cX1_sector 16 = .ok (.iconst 0, 1) := dk_3 (dk_at dksX1_sector_0 16 rfl rfl)
theorem dX1_sector_17 : decode cX1_sector 17 = .ok (.istore_n 3, 1) := dk_62 (dk_at dksX1_sector_0 17 rfl rfl)
theorem dX1_sector_18 : decode cX1_sector 18 = .ok (.iconst 0, 1) := dk_3 (dk_at dksX1_sector_0 18 rfl rfl)
theorem dX1_sector_19 : decode cX1_sector 19 = .ok (.istore 4, 2) := dk_54 4 (dk_at dksX1_sector_0 19 rfl rfl)
theorem dX1_sector_21 : decode cX1_sector 21 = .ok (.iload 4, 2) := dk_21 4 (dk_at dksX1_sector_0 21 rfl rfl)
theorem dX1_sector_23 : decode cX1_sector 23 = .ok (.aload_n 0, 1) := dk_42 (dk_at dksX1_sector_0 23 rfl rfl)
theorem dX1_sector_24 : decode cX1_sector 24 = .ok (.getfield 20, 3) := dk_180 0 20 (dk_at dksX1_sector_1 0 rfl rfl)
theorem dX1_sector_27 : decode cX1_sector 27 = .ok (.getfield 117, 3) := dk_180 0 117 (dk_at dksX1_sector_1 3 rfl rfl)
theorem dX1_sector_30 : decode cX1_sector 30 = .ok (.invokevirtual 109, 3) := dk_182 0 109 (dk_at dksX1_sector_1 6 rfl rfl)
theorem dX1_sector_33 : decode cX1_sector 33 = .ok (.if_icmp .ge 33, 3) := dk_162 0 33 (dk_at dksX1_sector_1 9 rfl rfl)
theorem dX1_sector_36 : decode cX1_sector 36 = .ok (.aload_n 0, 1) := dk_42 (dk_at dksX1_sector_1 12 rfl rfl)
theorem dX1_sector_37 : decode cX1_sector 37 = .ok (.getfield 20, 3) := dk_180 0 20 (dk_at dksX1_sector_1 13 rfl rfl)
theorem dX1_sector_40 : decode cX1_sector 40 = .ok (.iload 4, 2) := dk_21 4 (dk_at dksX1_sector_1 16 rfl rfl)
theorem dX1_sector_42 : decode cX1_sector 42 = .ok (.invokevirtual 193, 3) := dk_182 0 193 (dk_at dksX1_sector_1 18 rfl rfl)
theorem dX1_sector_45 : decode cX1_sector 45 = .ok (.iload_n 1, 1) := dk_27 (dk_at dksX1_sector_1 21 rfl rfl)
theorem dX1_sector_46 : decode cX1_sector 46 = .ok (.iload_n 2, 1) := dk_28 (dk_at dksX1_sector_1 22 rfl rfl)
theorem dX1_sector_47 : decode cX1_sector 47 = .ok (.invokestatic 359, 3) := dk_184 1 103 (dk_at dksX1_sector_2 0 rfl rfl)
theorem dX1_sector_50 : decode cX1_sector 50 = .ok (.ifCond .eq 10, 3) := dk_153 0 10 (dk_at dksX1_sector_2 3 rfl rfl)
theorem dX1_sector_53 : decode cX1_sector 53 = .ok (.iload_n 3, 1) := dk_29 (dk_at dksX1_sector_2 6 rfl rfl)
theorem dX1_sector_54 : decode cX1_sector 54 = .ok (.iconst 1, 1) := dk_4 (dk_at dksX1_sector_2 7 rfl rfl)
theorem dX1_sector_55 : decode cX1_sector 55 = .ok (.iload 4, 2) := dk_21 4 (dk_at dksX1_sector_2 8 rfl rfl)
theorem dX1_sector_57 : decode cX1_sector 57 = .ok (.ishl, 1) := dk_120 (dk_at dksX1_sector_2 10 rfl rfl)
theorem dX1_sector_58 : decode cX1_sector 58 = .ok (.ior, 1) := dk_128 (dk_at dksX1_sector_2 11 rfl rfl)
theorem dX1_sector_59 : decode cX1_sector 59 = .ok (.istore_n 3, 1) := dk_62 (dk_at dksX1_sector_2 12 rfl rfl)
theorem dX1_sector_60 : decode cX1_sector 60 = .ok (.iinc 4 1, 3) := dk_132 4 1 (dk_at dksX1_sector_2 13 rfl rfl)
theorem dX1_sector_63 : decode cX1_sector 63 = .ok (.goto (-42), 3) := dk_167 255 214 (dk_at dksX1_sector_2 16 rfl rfl)
theorem dX1_sector_66 : decode cX1_sector 66 = .ok (.iload_n 3, 1) := dk_29 (dk_at dksX1_sector_2 19 rfl rfl)
theorem dX1_sector_67 : decode cX1_sector 67 = .ok (.ireturn, 1) := dk_172 (dk_at dksX1_sector_2 20 rfl rfl)
abbrev cX1_blind : ByteArray := prog_1_method_70_code
def yX1_blind : MethodName := ⟨RX1, "blind", "(II)I"⟩
def dkwX1_blind_4 : List UInt8 := [167, 255, 227, 132, 4, 1, 167, 255, 182, 29, 172]
abbrev dktX1_blind_4 : List UInt8 := dkwX1_blind_4 ++ []
def dkwX1_blind_3 : List UInt8 := [28, 154, 0, 24, 42, 21, 4, 21, 5, 27, 182, 1, 106, 153, 0, 6, 132, 3, 1, 132, 5, 1]
abbrev dktX1_blind_3 : List UInt8 := dkwX1_blind_3 ++ dktX1_blind_4
def dkwX1_blind_2 : List UInt8 := [21, 4, 27, 182, 1, 109, 133, 184, 0, 244, 184, 1, 112, 62, 3, 54, 5, 21, 5, 21, 4, 162, 0, 28]
abbrev dktX1_blind_2 : List UInt8 := dkwX1_blind_2 ++ dktX1_blind_3
def dkwX1_blind_1 : List UInt8 := [54, 4, 21, 4, 42, 180, 0, 20, 180, 0, 117, 182, 0, 109, 162, 0, 65, 28, 4, 160, 0, 19, 29, 42]
abbrev dktX1_blind_1 : List UInt8 := dkwX1_blind_1 ++ dktX1_blind_2
def dkwX1_blind_0 : List UInt8 := [27, 3, 17, 0, 180, 184, 0, 113, 153, 0, 10, 28, 184, 1, 5, 154, 0, 5, 2, 172, 3, 62, 3]
abbrev dktX1_blind_0 : List UInt8 := dkwX1_blind_0 ++ dktX1_blind_1
theorem dksX1_blind_0 : cX1_blind.data.toList.drop 0 = dktX1_blind_0 := by decide +kernel
theorem dksX1_blind_1 : cX1_blind.data.toList.drop 23 = dktX1_blind_1 := dk_seg dksX1_blind_0 23 rfl rfl
theorem dksX1_blind_2 : cX1_blind.data.toList.drop 47 = dktX1_blind_2 := dk_seg dksX1_blind_1 24 rfl rfl
theorem dksX1_blind_3 : cX1_blind.data.toList.drop 71 = dktX1_blind_3 := dk_seg dksX1_blind_2 24 rfl rfl
theorem dksX1_blind_4 : cX1_blind.data.toList.drop 93 = dktX1_blind_4 := dk_seg dksX1_blind_3 22 rfl rfl
theorem dX1_blind_0 : decode cX1_blind 0 = .ok (.iload_n 1, 1) := dk_27 (dk_at dksX1_blind_0 0 rfl rfl)
theorem dX1_blind_1 : decode cX1_blind 1 = .ok (.iconst 0, 1) := dk_3 (dk_at dksX1_blind_0 1 rfl rfl)
theorem dX1_blind_2 : decode cX1_blind 2 = .ok (.sipush 180, 3) := dk_17 0 180 (dk_at dksX1_blind_0 2 rfl rfl)
theorem dX1_blind_5 : decode cX1_blind 5 = .ok (.invokestatic 113, 3) := dk_184 0 113 (dk_at dksX1_blind_0 5 rfl rfl)
theorem dX1_blind_8 : decode cX1_blind 8 = .ok (.ifCond .eq 10, 3) := dk_153 0 10 (dk_at dksX1_blind_0 8 rfl rfl)
theorem dX1_blind_11 : decode cX1_blind 11 = .ok (.iload_n 2, 1) := dk_28 (dk_at dksX1_blind_0 11 rfl rfl)
theorem dX1_blind_12 : decode cX1_blind 12 = .ok (.invokestatic 261, 3) := dk_184 1 5 (dk_at dksX1_blind_0 12 rfl rfl)
theorem dX1_blind_15 : decode cX1_blind 15 = .ok (.ifCond .ne 5, 3) := dk_154 0 5 (dk_at dksX1_blind_0 15 rfl rfl)
theorem dX1_blind_18 : decode cX1_blind 18 = .ok (.iconst (-1), 1) := dk_2 (dk_at dksX1_blind_0 18 rfl rfl)
theorem dX1_blind_19 : decode cX1_blind 19 = .ok (.ireturn, 1) := dk_172 (dk_at dksX1_blind_0 19 rfl rfl)
theorem dX1_blind_20 : decode cX1_blind 20 = .ok (.iconst 0, 1) := dk_3 (dk_at dksX1_blind_0 20 rfl rfl)
theorem dX1_blind_21 : decode cX1_blind 21 = .ok (.istore_n 3, 1) := dk_62 (dk_at dksX1_blind_0 21 rfl rfl)
theorem dX1_blind_22 : decode cX1_blind 22 = .ok (.iconst 0, 1) := dk_3 (dk_at dksX1_blind_0 22 rfl rfl)
theorem dX1_blind_23 : decode cX1_blind 23 = .ok (.istore 4, 2) := dk_54 4 (dk_at dksX1_blind_1 0 rfl rfl)
theorem dX1_blind_25 : decode cX1_blind 25 = .ok (.iload 4, 2) := dk_21 4 (dk_at dksX1_blind_1 2 rfl rfl)
theorem dX1_blind_27 : decode cX1_blind 27 = .ok (.aload_n 0, 1) := dk_42 (dk_at dksX1_blind_1 4 rfl rfl)
theorem dX1_blind_28 : decode cX1_blind 28 = .ok (.getfield 20, 3) := dk_180 0 20 (dk_at dksX1_blind_1 5 rfl rfl)
theorem dX1_blind_31 : decode cX1_blind 31 = .ok (.getfield 117, 3) := dk_180 0 117 (dk_at dksX1_blind_1 8 rfl rfl)
theorem dX1_blind_34 : decode cX1_blind 34 = .ok (.invokevirtual 109, 3) := dk_182 0 109 (dk_at dksX1_blind_1 11 rfl rfl)
theorem dX1_blind_37 : decode cX1_blind 37 = .ok (.if_icmp .ge 65, 3) := dk_162 0 65 (dk_at dksX1_blind_1 14 rfl rfl)
theorem dX1_blind_40 : decode cX1_blind 40 = .ok (.iload_n 2, 1) := dk_28 (dk_at dksX1_blind_1 17 rfl rfl)
theorem dX1_blind_41 : decode cX1_blind 41 = .ok (.iconst 1, 1) := dk_4 (dk_at dksX1_blind_1 18 rfl rfl)
theorem dX1_blind_42 : decode cX1_blind 42 = .ok (.if_icmp .ne 19, 3) := dk_160 0 19 (dk_at dksX1_blind_1 19 rfl rfl)
theorem dX1_blind_45 : decode cX1_blind 45 = .ok (.iload_n 3, 1) := dk_29 (dk_at dksX1_blind_1 22 rfl rfl)
theorem dX1_blind_46 : decode cX1_blind 46 = .ok (.aload_n 0, 1) := dk_42 (dk_at dksX1_blind_1 23 rfl rfl)
theorem dX1_blind_47 : decode cX1_blind 47 = .ok (.iload 4, 2) := dk_21 4 (dk_at dksX1_blind_2 0 rfl rfl)
theorem dX1_blind_49 : decode cX1_blind 49 = .ok (.iload_n 1, 1) := dk_27 (dk_at dksX1_blind_2 2 rfl rfl)
theorem dX1_blind_50 : decode cX1_blind 50 = .ok (.invokevirtual 365, 3) := dk_182 1 109 (dk_at dksX1_blind_2 3 rfl rfl)
theorem dX1_blind_53 : decode cX1_blind 53 = .ok (.i2l, 1) := dk_133 (dk_at dksX1_blind_2 6 rfl rfl)
theorem dX1_blind_54 : decode cX1_blind 54 = .ok (.invokestatic 244, 3) := dk_184 0 244 (dk_at dksX1_blind_2 7 rfl rfl)
theorem dX1_blind_57 : decode cX1_blind 57 = .ok (.invokestatic 368, 3) := dk_184 1 112 (dk_at dksX1_blind_2 10 rfl rfl)
theorem dX1_blind_60 : decode cX1_blind 60 = .ok (.istore_n 3, 1) := dk_62 (dk_at dksX1_blind_2 13 rfl rfl)
theorem dX1_blind_61 : decode cX1_blind 61 = .ok (.iconst 0, 1) := dk_3 (dk_at dksX1_blind_2 14 rfl rfl)
theorem dX1_blind_62 : decode cX1_blind 62 = .ok (.istore 5, 2) := dk_54 5 (dk_at dksX1_blind_2 15 rfl rfl)
theorem dX1_blind_64 : decode cX1_blind 64 = .ok (.iload 5, 2) := dk_21 5 (dk_at dksX1_blind_2 17 rfl rfl)
theorem dX1_blind_66 : decode cX1_blind 66 = .ok (.iload 4, 2) := dk_21 4 (dk_at dksX1_blind_2 19 rfl rfl)
theorem dX1_blind_68 : decode cX1_blind 68 = .ok (.if_icmp .ge 28, 3) := dk_162 0 28 (dk_at dksX1_blind_2 21 rfl rfl)
theorem dX1_blind_71 : decode cX1_blind 71 = .ok (.iload_n 2, 1) := dk_28 (dk_at dksX1_blind_3 0 rfl rfl)
theorem dX1_blind_72 : decode cX1_blind 72 = .ok (.ifCond .ne 24, 3) := dk_154 0 24 (dk_at dksX1_blind_3 1 rfl rfl)
theorem dX1_blind_75 : decode cX1_blind 75 = .ok (.aload_n 0, 1) := dk_42 (dk_at dksX1_blind_3 4 rfl rfl)
theorem dX1_blind_76 : decode cX1_blind 76 = .ok (.iload 4, 2) := dk_21 4 (dk_at dksX1_blind_3 5 rfl rfl)
theorem dX1_blind_78 : decode cX1_blind 78 = .ok (.iload 5, 2) := dk_21 5 (dk_at dksX1_blind_3 7 rfl rfl)
theorem dX1_blind_80 : decode cX1_blind 80 = .ok (.iload_n 1, 1) := dk_27 (dk_at dksX1_blind_3 9 rfl rfl)
theorem dX1_blind_81 : decode cX1_blind 81 = .ok (.invokevirtual 362, 3) := dk_182 1 106 (dk_at dksX1_blind_3 10 rfl rfl)
theorem dX1_blind_84 : decode cX1_blind 84 = .ok (.ifCond .eq 6, 3) := dk_153 0 6 (dk_at dksX1_blind_3 13 rfl rfl)
theorem dX1_blind_87 : decode cX1_blind 87 = .ok (.iinc 3 1, 3) := dk_132 3 1 (dk_at dksX1_blind_3 16 rfl rfl)
theorem dX1_blind_90 : decode cX1_blind 90 = .ok (.iinc 5 1, 3) := dk_132 5 1 (dk_at dksX1_blind_3 19 rfl rfl)
theorem dX1_blind_93 : decode cX1_blind 93 = .ok (.goto (-29), 3) := dk_167 255 227 (dk_at dksX1_blind_4 0 rfl rfl)
theorem dX1_blind_96 : decode cX1_blind 96 = .ok (.iinc 4 1, 3) := dk_132 4 1 (dk_at dksX1_blind_4 3 rfl rfl)
theorem dX1_blind_99 : decode cX1_blind 99 = .ok (.goto (-74), 3) := dk_167 255 182 (dk_at dksX1_blind_4 6 rfl rfl)
theorem dX1_blind_102 : decode cX1_blind 102 = .ok (.iload_n 3, 1) := dk_29 (dk_at dksX1_blind_4 9 rfl rfl)
theorem dX1_blind_103 : decode cX1_blind 103 = .ok (.ireturn, 1) := dk_172 (dk_at dksX1_blind_4 10 rfl rfl)
abbrev cX1_crowd : ByteArray := prog_1_method_69_code
def yX1_crowd : MethodName := ⟨RX1, "crowd", "(II)I"⟩
def dkwX1_crowd_4 : List UInt8 := [132, 6, 1, 167, 255, 193, 132, 5, 1, 167, 255, 169, 167, 255, 155, 29, 172]
abbrev dktX1_crowd_4 : List UInt8 := dkwX1_crowd_4 ++ []
def dkwX1_crowd_3 : List UInt8 := [21, 5, 21, 6, 28, 182, 1, 106, 154, 0, 6, 167, 0, 13, 29, 4, 21, 6, 120, 128, 62, 4, 54, 4]
abbrev dktX1_crowd_3 : List UInt8 := dkwX1_crowd_3 ++ dktX1_crowd_4
def dkwX1_crowd_2 : List UInt8 := [162, 0, 54, 29, 133, 21, 5, 184, 0, 172, 153, 0, 38, 29, 133, 21, 6, 184, 0, 172, 154, 0, 28, 42]
abbrev dktX1_crowd_2 : List UInt8 := dkwX1_crowd_2 ++ dktX1_crowd_3
def dkwX1_crowd_1 : List UInt8 := [180, 0, 117, 182, 0, 109, 162, 0, 78, 3, 54, 6, 21, 6, 42, 180, 0, 20, 180, 0, 117, 182, 0, 109]
abbrev dktX1_crowd_1 : List UInt8 := dkwX1_crowd_1 ++ dktX1_crowd_2
def dkwX1_crowd_0 : List UInt8 := [4, 27, 120, 62, 4, 54, 4, 21, 4, 153, 0, 102, 3, 54, 4, 3, 54, 5, 21, 5, 42, 180, 0, 20]
abbrev dktX1_crowd_0 : List UInt8 := dkwX1_crowd_0 ++ dktX1_crowd_1
theorem dksX1_crowd_0 : cX1_crowd.data.toList.drop 0 = dktX1_crowd_0 := by decide +kernel
theorem dksX1_crowd_1 : cX1_crowd.data.toList.drop 24 = dktX1_crowd_1 := dk_seg dksX1_crowd_0 24 rfl rfl
theorem dksX1_crowd_2 : cX1_crowd.data.toList.drop 48 = dktX1_crowd_2 := dk_seg dksX1_crowd_1 24 rfl rfl
theorem dksX1_crowd_3 : cX1_crowd.data.toList.drop 72 = dktX1_crowd_3 := dk_seg dksX1_crowd_2 24 rfl rfl
theorem dksX1_crowd_4 : cX1_crowd.data.toList.drop 96 = dktX1_crowd_4 := dk_seg dksX1_crowd_3 24 rfl rfl
theorem dX1_crowd_0 : decode cX1_crowd 0 = .ok (.iconst 1, 1) := dk_4 (dk_at dksX1_crowd_0 0 rfl rfl)
theorem dX1_crowd_1 : decode cX1_crowd 1 = .ok (.iload_n 1, 1) := dk_27 (dk_at dksX1_crowd_0 1 rfl rfl)
theorem dX1_crowd_2 : decode cX1_crowd 2 = .ok (.ishl, 1) := dk_120 (dk_at dksX1_crowd_0 2 rfl rfl)
theorem dX1_crowd_3 : decode cX1_crowd 3 = .ok (.istore_n 3, 1) := dk_62 (dk_at dksX1_crowd_0 3 rfl rfl)
theorem dX1_crowd_4 : decode cX1_crowd 4 = .ok (.iconst 1, 1) := dk_4 (dk_at dksX1_crowd_0 4 rfl rfl)
theorem dX1_crowd_5 : decode cX1_crowd 5 = .ok (.istore 4, 2) := dk_54 4 (dk_at dksX1_crowd_0 5 rfl rfl)
theorem dX1_crowd_7 : decode cX1_crowd 7 = .ok (.iload 4, 2) := dk_21 4 (dk_at dksX1_crowd_0 7 rfl rfl)
theorem dX1_crowd_9 : decode cX1_crowd 9 = .ok (.ifCond .eq 102, 3) := dk_153 0 102 (dk_at dksX1_crowd_0 9 rfl rfl)
theorem dX1_crowd_12 : decode cX1_crowd 12 = .ok (.iconst 0, 1) := dk_3 (dk_at dksX1_crowd_0 12 rfl rfl)
theorem dX1_crowd_13 : decode cX1_crowd 13 = .ok (.istore 4, 2) := dk_54 4 (dk_at dksX1_crowd_0 13 rfl rfl)
theorem dX1_crowd_15 : decode cX1_crowd 15 = .ok (.iconst 0, 1) := dk_3 (dk_at dksX1_crowd_0 15 rfl rfl)
theorem dX1_crowd_16 : decode cX1_crowd 16 = .ok (.istore 5, 2) := dk_54 5 (dk_at dksX1_crowd_0 16 rfl rfl)
theorem dX1_crowd_18 : decode cX1_crowd 18 = .ok (.iload 5, 2) := dk_21 5 (dk_at dksX1_crowd_0 18 rfl rfl)
theorem dX1_crowd_20 : decode cX1_crowd 20 = .ok (.aload_n 0, 1) := dk_42 (dk_at dksX1_crowd_0 20 rfl rfl)
theorem dX1_crowd_21 : decode cX1_crowd 21 = .ok (.getfield 20, 3) := dk_180 0 20 (dk_at dksX1_crowd_0 21 rfl rfl)
theorem dX1_crowd_24 : decode cX1_crowd 24 = .ok (.getfield 117, 3) := dk_180 0 117 (dk_at dksX1_crowd_1 0 rfl rfl)
theorem dX1_crowd_27 : decode cX1_crowd 27 = .ok (.invokevirtual 109, 3) := dk_182 0 109 (dk_at dksX1_crowd_1 3 rfl rfl)
theorem dX1_crowd_30 : decode cX1_crowd 30 = .ok (.if_icmp .ge 78, 3) := dk_162 0 78 (dk_at dksX1_crowd_1 6 rfl rfl)
theorem dX1_crowd_33 : decode cX1_crowd 33 = .ok (.iconst 0, 1) := dk_3 (dk_at dksX1_crowd_1 9 rfl rfl)
theorem dX1_crowd_34 : decode cX1_crowd 34 = .ok (.istore 6, 2) := dk_54 6 (dk_at dksX1_crowd_1 10 rfl rfl)
theorem dX1_crowd_36 : decode cX1_crowd 36 = .ok (.iload 6, 2) := dk_21 6 (dk_at dksX1_crowd_1 12 rfl rfl)
theorem dX1_crowd_38 : decode cX1_crowd 38 = .ok (.aload_n 0, 1) := dk_42 (dk_at dksX1_crowd_1 14 rfl rfl)
theorem dX1_crowd_39 : decode cX1_crowd 39 = .ok (.getfield 20, 3) := dk_180 0 20 (dk_at dksX1_crowd_1 15 rfl rfl)
theorem dX1_crowd_42 : decode cX1_crowd 42 = .ok (.getfield 117, 3) := dk_180 0 117 (dk_at dksX1_crowd_1 18 rfl rfl)
theorem dX1_crowd_45 : decode cX1_crowd 45 = .ok (.invokevirtual 109, 3) := dk_182 0 109 (dk_at dksX1_crowd_1 21 rfl rfl)
theorem dX1_crowd_48 : decode cX1_crowd 48 = .ok (.if_icmp .ge 54, 3) := dk_162 0 54 (dk_at dksX1_crowd_2 0 rfl rfl)
theorem dX1_crowd_51 : decode cX1_crowd 51 = .ok (.iload_n 3, 1) := dk_29 (dk_at dksX1_crowd_2 3 rfl rfl)
theorem dX1_crowd_52 : decode cX1_crowd 52 = .ok (.i2l, 1) := dk_133 (dk_at dksX1_crowd_2 4 rfl rfl)
theorem dX1_crowd_53 : decode cX1_crowd 53 = .ok (.iload 5, 2) := dk_21 5 (dk_at dksX1_crowd_2 5 rfl rfl)
theorem dX1_crowd_55 : decode cX1_crowd 55 = .ok (.invokestatic 172, 3) := dk_184 0 172 (dk_at dksX1_crowd_2 7 rfl rfl)
theorem dX1_crowd_58 : decode cX1_crowd 58 = .ok (.ifCond .eq 38, 3) := dk_153 0 38 (dk_at dksX1_crowd_2 10 rfl rfl)
theorem dX1_crowd_61 : decode cX1_crowd 61 = .ok (.iload_n 3, 1) := dk_29 (dk_at dksX1_crowd_2 13 rfl rfl)
theorem dX1_crowd_62 : decode cX1_crowd 62 = .ok (.i2l, 1) := dk_133 (dk_at dksX1_crowd_2 14 rfl rfl)
theorem dX1_crowd_63 : decode cX1_crowd 63 = .ok (.iload 6, 2) := dk_21 6 (dk_at dksX1_crowd_2 15 rfl rfl)
theorem dX1_crowd_65 : decode cX1_crowd 65 = .ok (.invokestatic 172, 3) := dk_184 0 172 (dk_at dksX1_crowd_2 17 rfl rfl)
theorem dX1_crowd_68 : decode cX1_crowd 68 = .ok (.ifCond .ne 28, 3) := dk_154 0 28 (dk_at dksX1_crowd_2 20 rfl rfl)
theorem dX1_crowd_71 : decode cX1_crowd 71 = .ok (.aload_n 0, 1) := dk_42 (dk_at dksX1_crowd_2 23 rfl rfl)
theorem dX1_crowd_72 : decode cX1_crowd 72 = .ok (.iload 5, 2) := dk_21 5 (dk_at dksX1_crowd_3 0 rfl rfl)
theorem dX1_crowd_74 : decode cX1_crowd 74 = .ok (.iload 6, 2) := dk_21 6 (dk_at dksX1_crowd_3 2 rfl rfl)
theorem dX1_crowd_76 : decode cX1_crowd 76 = .ok (.iload_n 2, 1) := dk_28 (dk_at dksX1_crowd_3 4 rfl rfl)
theorem dX1_crowd_77 : decode cX1_crowd 77 = .ok (.invokevirtual 362, 3) := dk_182 1 106 (dk_at dksX1_crowd_3 5 rfl rfl)
theorem dX1_crowd_80 : decode cX1_crowd 80 = .ok (.ifCond .ne 6, 3) := dk_154 0 6 (dk_at dksX1_crowd_3 8 rfl rfl)
theorem dX1_crowd_83 : decode cX1_crowd 83 = .ok (.goto 13, 3) := dk_167 0 13 (dk_at dksX1_crowd_3 11 rfl rfl)
theorem dX1_crowd_86 : decode cX1_crowd 86 = .ok (.iload_n 3, 1) := dk_29 (dk_at dksX1_crowd_3 14 rfl rfl)
theorem dX1_crowd_87 : decode cX1_crowd 87 = .ok (.iconst 1, 1) := dk_4 (dk_at dksX1_crowd_3 15 rfl rfl)
theorem dX1_crowd_88 : decode cX1_crowd 88 = .ok (.iload 6, 2) := dk_21 6 (dk_at dksX1_crowd_3 16 rfl rfl)
theorem dX1_crowd_90 : decode cX1_crowd 90 = .ok (.ishl, 1) := dk_120 (dk_at dksX1_crowd_3 18 rfl rfl)
theorem dX1_crowd_91 : decode cX1_crowd 91 = .ok (.ior, 1) := dk_128 (dk_at dksX1_crowd_3 19 rfl rfl)
theorem dX1_crowd_92 : decode cX1_crowd 92 = .ok (.istore_n 3, 1) := dk_62 (dk_at dksX1_crowd_3 20 rfl rfl)
theorem dX1_crowd_93 : decode cX1_crowd 93 = .ok (.iconst 1, 1) := dk_4 (dk_at dksX1_crowd_3 21 rfl rfl)
theorem dX1_crowd_94 : decode cX1_crowd 94 = .ok (.istore 4, 2) := dk_54 4 (dk_at dksX1_crowd_3 22 rfl rfl)
theorem dX1_crowd_96 : decode cX1_crowd 96 = .ok (.iinc 6 1, 3) := dk_132 6 1 (dk_at dksX1_crowd_4 0 rfl rfl)
theorem dX1_crowd_99 : decode cX1_crowd 99 = .ok (.goto (-63), 3) := dk_167 255 193 (dk_at dksX1_crowd_4 3 rfl rfl)
theorem dX1_crowd_102 : decode cX1_crowd 102 = .ok (.iinc 5 1, 3) := dk_132 5 1 (dk_at dksX1_crowd_4 6 rfl rfl)
theorem dX1_crowd_105 : decode cX1_crowd 105 = .ok (.goto (-87), 3) := dk_167 255 169 (dk_at dksX1_crowd_4 9 rfl rfl)
theorem dX1_crowd_108 : decode cX1_crowd 108 = .ok (.goto (-101), 3) := dk_167 255 155 (dk_at dksX1_crowd_4 12 rfl rfl)
theorem dX1_crowd_111 : decode cX1_crowd 111 = .ok (.iload_n 3, 1) := dk_29 (dk_at dksX1_crowd_4 15 rfl rfl)
theorem dX1_crowd_112 : decode cX1_crowd 112 = .ok (.ireturn, 1) := dk_172 (dk_at dksX1_crowd_4 16 rfl rfl)
abbrev cX1_areBlind : ByteArray := prog_1_method_68_code
def yX1_areBlind : MethodName := ⟨RX1, "areBlind", "(III)Z"⟩
def dkwX1_areBlind_1 : List UInt8 := [167, 0, 4, 3, 172]
abbrev dktX1_areBlind_1 : List UInt8 := dkwX1_areBlind_1 ++ []
def dkwX1_areBlind_0 : List UInt8 := [42, 180, 0, 20, 27, 182, 0, 193, 42, 180, 0, 20, 28, 182, 0, 193, 184, 1, 75, 29, 163, 0, 7, 4]
abbrev dktX1_areBlind_0 : List UInt8 := dkwX1_areBlind_0 ++ dktX1_areBlind_1
theorem dksX1_areBlind_0 : cX1_areBlind.data.toList.drop 0 = dktX1_areBlind_0 := by decide +kernel
theorem dksX1_areBlind_1 : cX1_areBlind.data.toList.drop 24 = dktX1_areBlind_1 := dk_seg dksX1_areBlind_0 24 rfl rfl
theorem dX1_areBlind_0 : decode cX1_areBlind 0 = .ok (.aload_n 0, 1) := dk_42 (dk_at dksX1_areBlind_0 0 rfl rfl)
theorem dX1_areBlind_1 : decode cX1_areBlind 1 = .ok (.getfield 20, 3) := dk_180 0 20 (dk_at dksX1_areBlind_0 1 rfl rfl)
theorem dX1_areBlind_4 : decode cX1_areBlind 4 = .ok (.iload_n 1, 1) := dk_27 (dk_at dksX1_areBlind_0 4 rfl rfl)
theorem dX1_areBlind_5 : decode cX1_areBlind 5 = .ok (.invokevirtual 193, 3) := dk_182 0 193 (dk_at dksX1_areBlind_0 5 rfl rfl)
theorem dX1_areBlind_8 : decode cX1_areBlind 8 = .ok (.aload_n 0, 1) := dk_42 (dk_at dksX1_areBlind_0 8 rfl rfl)
theorem dX1_areBlind_9 : decode cX1_areBlind 9 = .ok (.getfield 20, 3) := dk_180 0 20 (dk_at dksX1_areBlind_0 9 rfl rfl)
theorem dX1_areBlind_12 : decode cX1_areBlind 12 = .ok (.iload_n 2, 1) := dk_28 (dk_at dksX1_areBlind_0 12 rfl rfl)
theorem dX1_areBlind_13 : decode cX1_areBlind 13 = .ok (.invokevirtual 193, 3) := dk_182 0 193 (dk_at dksX1_areBlind_0 13 rfl rfl)
theorem dX1_areBlind_16 : decode cX1_areBlind 16 = .ok (.invokestatic 331, 3) := dk_184 1 75 (dk_at dksX1_areBlind_0 16 rfl rfl)
theorem dX1_areBlind_19 : decode cX1_areBlind 19 = .ok (.iload_n 3, 1) := dk_29 (dk_at dksX1_areBlind_0 19 rfl rfl)
theorem dX1_areBlind_20 : decode cX1_areBlind 20 = .ok (.if_icmp .gt 7, 3) := dk_163 0 7 (dk_at dksX1_areBlind_0 20 rfl rfl)
theorem dX1_areBlind_23 : decode cX1_areBlind 23 = .ok (.iconst 1, 1) := dk_4 (dk_at dksX1_areBlind_0 23 rfl rfl)
theorem dX1_areBlind_24 : decode cX1_areBlind 24 = .ok (.goto 4, 3) := dk_167 0 4 (dk_at dksX1_areBlind_1 0 rfl rfl)
theorem dX1_areBlind_27 : decode cX1_areBlind 27 = .ok (.iconst 0, 1) := dk_3 (dk_at dksX1_areBlind_1 3 rfl rfl)
theorem dX1_areBlind_28 : decode cX1_areBlind 28 = .ok (.ireturn, 1) := dk_172 (dk_at dksX1_areBlind_1 4 rfl rfl)
abbrev cX1_told_3 : ByteArray := prog_1_method_74_code
def yX1_told_3 : MethodName := ⟨RX1, "told", "(I)I"⟩
def dkwX1_told_3_0 : List UInt8 := [27, 3, 42, 182, 1, 118, 184, 0, 113, 153, 0, 11, 42, 27, 182, 1, 121, 167, 0, 4, 2, 172]
abbrev dktX1_told_3_0 : List UInt8 := dkwX1_told_3_0 ++ []
theorem dksX1_told_3_0 : cX1_told_3.data.toList.drop 0 = dktX1_told_3_0 := by decide +kernel
theorem dX1_told_3_0 : decode cX1_told_3 0 = .ok (.iload_n 1, 1) := dk_27 (dk_at dksX1_told_3_0 0 rfl rfl)
theorem dX1_told_3_1 : decode cX1_told_3 1 = .ok (.iconst 0, 1) := dk_3 (dk_at dksX1_told_3_0 1 rfl rfl)
theorem dX1_told_3_2 : decode cX1_told_3 2 = .ok (.aload_n 0, 1) := dk_42 (dk_at dksX1_told_3_0 2 rfl rfl)
theorem dX1_told_3_3 : decode cX1_told_3 3 = .ok (.invokevirtual 374, 3) := dk_182 1 118 (dk_at dksX1_told_3_0 3 rfl rfl)
theorem dX1_told_3_6 : decode cX1_told_3 6 = .ok (.invokestatic 113, 3) := dk_184 0 113 (dk_at dksX1_told_3_0 6 rfl rfl)
theorem dX1_told_3_9 : decode cX1_told_3 9 = .ok (.ifCond .eq 11, 3) := dk_153 0 11 (dk_at dksX1_told_3_0 9 rfl rfl)
theorem dX1_told_3_12 : decode cX1_told_3 12 = .ok (.aload_n 0, 1) := dk_42 (dk_at dksX1_told_3_0 12 rfl rfl)
theorem dX1_told_3_13 : decode cX1_told_3 13 = .ok (.iload_n 1, 1) := dk_27 (dk_at dksX1_told_3_0 13 rfl rfl)
theorem dX1_told_3_14 : decode cX1_told_3 14 = .ok (.invokevirtual 377, 3) := dk_182 1 121 (dk_at dksX1_told_3_0 14 rfl rfl)
theorem dX1_told_3_17 : decode cX1_told_3 17 = .ok (.goto 4, 3) := dk_167 0 4 (dk_at dksX1_told_3_0 17 rfl rfl)
theorem dX1_told_3_20 : decode cX1_told_3 20 = .ok (.iconst (-1), 1) := dk_2 (dk_at dksX1_told_3_0 20 rfl rfl)
theorem dX1_told_3_21 : decode cX1_told_3 21 = .ok (.ireturn, 1) := dk_172 (dk_at dksX1_told_3_0 21 rfl rfl)
abbrev cX1_everybody : ByteArray := prog_1_method_73_code
def yX1_everybody : MethodName := ⟨RX1, "everybody", "()I"⟩
def dkwX1_everybody_0 : List UInt8 := [4, 42, 180, 0, 20, 180, 0, 117, 182, 0, 109, 120, 4, 100, 172]
abbrev dktX1_everybody_0 : List UInt8 := dkwX1_everybody_0 ++ []
theorem dksX1_everybody_0 : cX1_everybody.data.toList.drop 0 = dktX1_everybody_0 := by decide +kernel
theorem dX1_everybody_0 : decode cX1_everybody 0 = .ok (.iconst 1, 1) := dk_4 (dk_at dksX1_everybody_0 0 rfl rfl)
theorem dX1_everybody_1 : decode cX1_everybody 1 = .ok (.aload_n 0, 1) := dk_42 (dk_at dksX1_everybody_0 1 rfl rfl)
theorem dX1_everybody_2 : decode cX1_everybody 2 = .ok (.getfield 20, 3) := dk_180 0 20 (dk_at dksX1_everybody_0 2 rfl rfl)
theorem dX1_everybody_5 : decode cX1_everybody 5 = .ok (.getfield 117, 3) := dk_180 0 117 (dk_at dksX1_everybody_0 5 rfl rfl)
theorem dX1_everybody_8 : decode cX1_everybody 8 = .ok (.invokevirtual 109, 3) := dk_182 0 109 (dk_at dksX1_everybody_0 8 rfl rfl)
theorem dX1_everybody_11 : decode cX1_everybody 11 = .ok (.ishl, 1) := dk_120 (dk_at dksX1_everybody_0 11 rfl rfl)
theorem dX1_everybody_12 : decode cX1_everybody 12 = .ok (.iconst 1, 1) := dk_4 (dk_at dksX1_everybody_0 12 rfl rfl)
theorem dX1_everybody_13 : decode cX1_everybody 13 = .ok (.isub, 1) := dk_100 (dk_at dksX1_everybody_0 13 rfl rfl)
theorem dX1_everybody_14 : decode cX1_everybody 14 = .ok (.ireturn, 1) := dk_172 (dk_at dksX1_everybody_0 14 rfl rfl)
abbrev cX1_toldBy : ByteArray := prog_1_method_72_code
def yX1_toldBy : MethodName := ⟨RX1, "toldBy", "(I)I"⟩
def dkwX1_toldBy_3 : List UInt8 := [128, 54, 4, 132, 5, 1, 167, 255, 209, 21, 4, 172]
abbrev dktX1_toldBy_3 : List UInt8 := dkwX1_toldBy_3 ++ []
def dkwX1_toldBy_2 : List UInt8 := [148, 153, 0, 32, 32, 42, 21, 5, 182, 0, 241, 184, 0, 250, 5, 162, 0, 12, 21, 4, 4, 21, 5, 120]
abbrev dktX1_toldBy_2 : List UInt8 := dkwX1_toldBy_2 ++ dktX1_toldBy_3
def dkwX1_toldBy_1 : List UInt8 := [65, 3, 54, 4, 3, 54, 5, 21, 5, 42, 180, 0, 20, 180, 0, 106, 182, 0, 109, 162, 0, 38, 32, 9]
abbrev dktX1_toldBy_1 : List UInt8 := dkwX1_toldBy_1 ++ dktX1_toldBy_2
def dkwX1_toldBy_0 : List UInt8 := [42, 180, 0, 20, 180, 0, 81, 42, 180, 0, 20, 42, 180, 0, 95, 42, 27, 182, 1, 115, 182, 1, 47, 127]
abbrev dktX1_toldBy_0 : List UInt8 := dkwX1_toldBy_0 ++ dktX1_toldBy_1
theorem dksX1_toldBy_0 : cX1_toldBy.data.toList.drop 0 = dktX1_toldBy_0 := by decide +kernel
theorem dksX1_toldBy_1 : cX1_toldBy.data.toList.drop 24 = dktX1_toldBy_1 := dk_seg dksX1_toldBy_0 24 rfl rfl
theorem dksX1_toldBy_2 : cX1_toldBy.data.toList.drop 48 = dktX1_toldBy_2 := dk_seg dksX1_toldBy_1 24 rfl rfl
theorem dksX1_toldBy_3 : cX1_toldBy.data.toList.drop 72 = dktX1_toldBy_3 := dk_seg dksX1_toldBy_2 24 rfl rfl
theorem dX1_toldBy_0 : decode cX1_toldBy 0 = .ok (.aload_n 0, 1) := dk_42 (dk_at dksX1_toldBy_0 0 rfl rfl)
theorem dX1_toldBy_1 : decode cX1_toldBy 1 = .ok (.getfield 20, 3) := dk_180 0 20 (dk_at dksX1_toldBy_0 1 rfl rfl)
theorem dX1_toldBy_4 : decode cX1_toldBy 4 = .ok (.getfield 81, 3) := dk_180 0 81 (dk_at dksX1_toldBy_0 4 rfl rfl)
theorem dX1_toldBy_7 : decode cX1_toldBy 7 = .ok (.aload_n 0, 1) := dk_42 (dk_at dksX1_toldBy_0 7 rfl rfl)
theorem dX1_toldBy_8 : decode cX1_toldBy 8 = .ok (.getfield 20, 3) := dk_180 0 20 (dk_at dksX1_toldBy_0 8 rfl rfl)
theorem dX1_toldBy_11 : decode cX1_toldBy 11 = .ok (.aload_n 0, 1) := dk_42 (dk_at dksX1_toldBy_0 11 rfl rfl)
theorem dX1_toldBy_12 : decode cX1_toldBy 12 = .ok (.getfield 95, 3) := dk_180 0 95 (dk_at dksX1_toldBy_0 12 rfl rfl)
theorem dX1_toldBy_15 : decode cX1_toldBy 15 = .ok (.aload_n 0, 1) := dk_42 (dk_at dksX1_toldBy_0 15 rfl rfl)
theorem dX1_toldBy_16 : decode cX1_toldBy 16 = .ok (.iload_n 1, 1) := dk_27 (dk_at dksX1_toldBy_0 16 rfl rfl)
theorem dX1_toldBy_17 : decode cX1_toldBy 17 = .ok (.invokevirtual 371, 3) := dk_182 1 115 (dk_at dksX1_toldBy_0 17 rfl rfl)
theorem dX1_toldBy_20 : decode cX1_toldBy 20 = .ok (.invokevirtual 303, 3) := dk_182 1 47 (dk_at dksX1_toldBy_0 20 rfl rfl)
theorem dX1_toldBy_23 : decode cX1_toldBy 23 = .ok (.land, 1) := dk_127 (dk_at dksX1_toldBy_0 23 rfl rfl)
theorem dX1_toldBy_24 : decode cX1_toldBy 24 = .ok (.lstore_n 2, 1) := dk_65 (dk_at dksX1_toldBy_1 0 rfl rfl)
theorem dX1_toldBy_25 : decode cX1_toldBy 25 = .ok (.iconst 0, 1) := dk_3 (dk_at dksX1_toldBy_1 1 rfl rfl)
theorem dX1_toldBy_26 : decode cX1_toldBy 26 = .ok (.istore 4, 2) := dk_54 4 (dk_at dksX1_toldBy_1 2 rfl rfl)
theorem dX1_toldBy_28 : decode cX1_toldBy 28 = .ok (.iconst 0, 1) := dk_3 (dk_at dksX1_toldBy_1 4 rfl rfl)
theorem dX1_toldBy_29 : decode cX1_toldBy 29 = .ok (.istore 5, 2) := dk_54 5 (dk_at dksX1_toldBy_1 5 rfl rfl)
theorem dX1_toldBy_31 : decode cX1_toldBy 31 = .ok (.iload 5, 2) := dk_21 5 (dk_at dksX1_toldBy_1 7 rfl rfl)
theorem dX1_toldBy_33 : decode cX1_toldBy 33 = .ok (.aload_n 0, 1) := dk_42 (dk_at dksX1_toldBy_1 9 rfl rfl)
theorem dX1_toldBy_34 : decode cX1_toldBy 34 = .ok (.getfield 20, 3) := dk_180 0 20 (dk_at dksX1_toldBy_1 10 rfl rfl)
theorem dX1_toldBy_37 : decode cX1_toldBy 37 = .ok (.getfield 106, 3) := dk_180 0 106 (dk_at dksX1_toldBy_1 13 rfl rfl)
theorem dX1_toldBy_40 : decode cX1_toldBy 40 = .ok (.invokevirtual 109, 3) := dk_182 0 109 (dk_at dksX1_toldBy_1 16 rfl rfl)
theorem dX1_toldBy_43 : decode cX1_toldBy 43 = .ok (.if_icmp .ge 38, 3) := dk_162 0 38 (dk_at dksX1_toldBy_1 19 rfl rfl)
theorem dX1_toldBy_46 : decode cX1_toldBy 46 = .ok (.lload_n 2, 1) := dk_32 (dk_at dksX1_toldBy_1 22 rfl rfl)
theorem dX1_toldBy_47 : decode cX1_toldBy 47 = .ok (.lconst 0, 1) := dk_9 (dk_at dksX1_toldBy_1 23 rfl rfl)
theorem dX1_toldBy_48 : decode cX1_toldBy 48 = .ok (.lcmp, 1) := dk_148 (dk_at dksX1_toldBy_2 0 rfl rfl)
theorem dX1_toldBy_49 : decode cX1_toldBy 49 = .ok (.ifCond .eq 32, 3) := dk_153 0 32 (dk_at dksX1_toldBy_2 1 rfl rfl)
theorem dX1_toldBy_52 : decode cX1_toldBy 52 = .ok (.lload_n 2, 1) := dk_32 (dk_at dksX1_toldBy_2 4 rfl rfl)
theorem dX1_toldBy_53 : decode cX1_toldBy 53 = .ok (.aload_n 0, 1) := dk_42 (dk_at dksX1_toldBy_2 5 rfl rfl)
theorem dX1_toldBy_54 : decode cX1_toldBy 54 = .ok (.iload 5, 2) := dk_21 5 (dk_at dksX1_toldBy_2 6 rfl rfl)
theorem dX1_toldBy_56 : decode cX1_toldBy 56 = .ok (.invokevirtual 241, 3) := dk_182 0 241 (dk_at dksX1_toldBy_2 8 rfl rfl)
theorem dX1_toldBy_59 : decode cX1_toldBy 59 = .ok (.invokestatic 250, 3) := dk_184 0 250 (dk_at dksX1_toldBy_2 11 rfl rfl)
theorem dX1_toldBy_62 : decode cX1_toldBy 62 = .ok (.iconst 2, 1) := dk_5 (dk_at dksX1_toldBy_2 14 rfl rfl)
theorem dX1_toldBy_63 : decode cX1_toldBy 63 = .ok (.if_icmp .ge 12, 3) := dk_162 0 12 (dk_at dksX1_toldBy_2 15 rfl rfl)
theorem dX1_toldBy_66 : decode cX1_toldBy 66 = .ok (.iload 4, 2) := dk_21 4 (dk_at dksX1_toldBy_2 18 rfl rfl)
theorem dX1_toldBy_68 : decode cX1_toldBy 68 = .ok (.iconst 1, 1) := dk_4 (dk_at dksX1_toldBy_2 20 rfl rfl)
theorem dX1_toldBy_69 : decode cX1_toldBy 69 = .ok (.iload 5, 2) := dk_21 5 (dk_at dksX1_toldBy_2 21 rfl rfl)
theorem dX1_toldBy_71 : decode cX1_toldBy 71 = .ok (.ishl, 1) := dk_120 (dk_at dksX1_toldBy_2 23 rfl rfl)
theorem dX1_toldBy_72 : decode cX1_toldBy 72 = .ok (.ior, 1) := dk_128 (dk_at dksX1_toldBy_3 0 rfl rfl)
theorem dX1_toldBy_73 : decode cX1_toldBy 73 = .ok (.istore 4, 2) := dk_54 4 (dk_at dksX1_toldBy_3 1 rfl rfl)
theorem dX1_toldBy_75 : decode cX1_toldBy 75 = .ok (.iinc 5 1, 3) := dk_132 5 1 (dk_at dksX1_toldBy_3 3 rfl rfl)
theorem dX1_toldBy_78 : decode cX1_toldBy 78 = .ok (.goto (-47), 3) := dk_167 255 209 (dk_at dksX1_toldBy_3 6 rfl rfl)
theorem dX1_toldBy_81 : decode cX1_toldBy 81 = .ok (.iload 4, 2) := dk_21 4 (dk_at dksX1_toldBy_3 9 rfl rfl)
theorem dX1_toldBy_83 : decode cX1_toldBy 83 = .ok (.ireturn, 1) := dk_172 (dk_at dksX1_toldBy_3 11 rfl rfl)
abbrev cX1_knownBy : ByteArray := prog_1_method_71_code
def yX1_knownBy : MethodName := ⟨RX1, "knownBy", "(I)I"⟩
def dkwX1_knownBy_2 : List UInt8 := [132, 3, 1, 167, 255, 210, 28, 172]
abbrev dktX1_knownBy_2 : List UInt8 := dkwX1_knownBy_2 ++ []
def dkwX1_knownBy_1 : List UInt8 := [153, 0, 23, 28, 42, 180, 0, 20, 180, 0, 117, 29, 182, 0, 134, 192, 1, 42, 180, 1, 44, 128, 61]
abbrev dktX1_knownBy_1 : List UInt8 := dkwX1_knownBy_1 ++ dktX1_knownBy_2
def dkwX1_knownBy_0 : List UInt8 := [3, 61, 3, 62, 29, 42, 180, 0, 20, 180, 0, 117, 182, 0, 109, 162, 0, 38, 27, 133, 29, 184, 0, 172]
abbrev dktX1_knownBy_0 : List UInt8 := dkwX1_knownBy_0 ++ dktX1_knownBy_1
theorem dksX1_knownBy_0 : cX1_knownBy.data.toList.drop 0 = dktX1_knownBy_0 := by decide +kernel
theorem dksX1_knownBy_1 : cX1_knownBy.data.toList.drop 24 = dktX1_knownBy_1 := dk_seg dksX1_knownBy_0 24 rfl rfl
theorem dksX1_knownBy_2 : cX1_knownBy.data.toList.drop 47 = dktX1_knownBy_2 := dk_seg dksX1_knownBy_1 23 rfl rfl
theorem dX1_knownBy_0 : decode cX1_knownBy 0 = .ok (.iconst 0, 1) := dk_3 (dk_at dksX1_knownBy_0 0 rfl rfl)
theorem dX1_knownBy_1 : decode cX1_knownBy 1 = .ok (.istore_n 2, 1) := dk_61 (dk_at dksX1_knownBy_0 1 rfl rfl)
theorem dX1_knownBy_2 : decode cX1_knownBy 2 = .ok (.iconst 0, 1) := dk_3 (dk_at dksX1_knownBy_0 2 rfl rfl)
theorem dX1_knownBy_3 : decode cX1_knownBy 3 = .ok (.istore_n 3, 1) := dk_62 (dk_at dksX1_knownBy_0 3 rfl rfl)
theorem dX1_knownBy_4 : decode cX1_knownBy 4 = .ok (.iload_n 3, 1) := dk_29 (dk_at dksX1_knownBy_0 4 rfl rfl)
theorem dX1_knownBy_5 : decode cX1_knownBy 5 = .ok (.aload_n 0, 1) := dk_42 (dk_at dksX1_knownBy_0 5 rfl rfl)
theorem dX1_knownBy_6 : decode cX1_knownBy 6 = .ok (.getfield 20, 3) := dk_180 0 20 (dk_at dksX1_knownBy_0 6 rfl rfl)
theorem dX1_knownBy_9 : decode cX1_knownBy 9 = .ok (.getfield 117, 3) := dk_180 0 117 (dk_at dksX1_knownBy_0 9 rfl rfl)
theorem dX1_knownBy_12 : decode cX1_knownBy 12 = .ok (.invokevirtual 109, 3) := dk_182 0 109 (dk_at dksX1_knownBy_0 12 rfl rfl)
theorem dX1_knownBy_15 : decode cX1_knownBy 15 = .ok (.if_icmp .ge 38, 3) := dk_162 0 38 (dk_at dksX1_knownBy_0 15 rfl rfl)
theorem dX1_knownBy_18 : decode cX1_knownBy 18 = .ok (.iload_n 1, 1) := dk_27 (dk_at dksX1_knownBy_0 18 rfl rfl)
theorem dX1_knownBy_19 : decode cX1_knownBy 19 = .ok (.i2l, 1) := dk_133 (dk_at dksX1_knownBy_0 19 rfl rfl)
theorem dX1_knownBy_20 : decode cX1_knownBy 20 = .ok (.iload_n 3, 1) := dk_29 (dk_at dksX1_knownBy_0 20 rfl rfl)
theorem dX1_knownBy_21 : decode cX1_knownBy 21 = .ok (.invokestatic 172, 3) := dk_184 0 172 (dk_at dksX1_knownBy_0 21 rfl rfl)
theorem dX1_knownBy_24 : decode cX1_knownBy 24 = .ok (.ifCond .eq 23, 3) := dk_153 0 23 (dk_at dksX1_knownBy_1 0 rfl rfl)
theorem dX1_knownBy_27 : decode cX1_knownBy 27 = .ok (.iload_n 2, 1) := dk_28 (dk_at dksX1_knownBy_1 3 rfl rfl)
theorem dX1_knownBy_28 : decode cX1_knownBy 28 = .ok (.aload_n 0, 1) := dk_42 (dk_at dksX1_knownBy_1 4 rfl rfl)
theorem dX1_knownBy_29 : decode cX1_knownBy 29 = .ok (.getfield 20, 3) := dk_180 0 20 (dk_at dksX1_knownBy_1 5 rfl rfl)
theorem dX1_knownBy_32 : decode cX1_knownBy 32 = .ok (.getfield 117, 3) := dk_180 0 117 (dk_at dksX1_knownBy_1 8 rfl rfl)
theorem dX1_knownBy_35 : decode cX1_knownBy 35 = .ok (.iload_n 3, 1) := dk_29 (dk_at dksX1_knownBy_1 11 rfl rfl)
theorem dX1_knownBy_36 : decode cX1_knownBy 36 = .ok (.invokevirtual 134, 3) := dk_182 0 134 (dk_at dksX1_knownBy_1 12 rfl rfl)
theorem dX1_knownBy_39 : decode cX1_knownBy 39 = .ok (.checkcast 298, 3) := dk_192 1 42 (dk_at dksX1_knownBy_1 15 rfl rfl)
theorem dX1_knownBy_42 : decode cX1_knownBy 42 = .ok (.getfield 300, 3) := dk_180 1 44 (dk_at dksX1_knownBy_1 18 rfl rfl)
theorem dX1_knownBy_45 : decode cX1_knownBy 45 = .ok (.ior, 1) := dk_128 (dk_at dksX1_knownBy_1 21 rfl rfl)
theorem dX1_knownBy_46 : decode cX1_knownBy 46 = .ok (.istore_n 2, 1) := dk_61 (dk_at dksX1_knownBy_1 22 rfl rfl)
theorem dX1_knownBy_47 : decode cX1_knownBy 47 = .ok (.iinc 3 1, 3) := dk_132 3 1 (dk_at dksX1_knownBy_2 0 rfl rfl)
theorem dX1_knownBy_50 : decode cX1_knownBy 50 = .ok (.goto (-46), 3) := dk_167 255 210 (dk_at dksX1_knownBy_2 3 rfl rfl)
theorem dX1_knownBy_53 : decode cX1_knownBy 53 = .ok (.iload_n 2, 1) := dk_28 (dk_at dksX1_knownBy_2 6 rfl rfl)
theorem dX1_knownBy_54 : decode cX1_knownBy 54 = .ok (.ireturn, 1) := dk_172 (dk_at dksX1_knownBy_2 7 rfl rfl)
abbrev cX1_fewest : ByteArray := prog_1_method_75_code
def yX1_fewest : MethodName := ⟨RX1, "fewest", "(II)I"⟩
def dkwX1_fewest_3 : List UInt8 := [167, 255, 208, 29, 28, 184, 1, 22, 172]
abbrev dktX1_fewest_3 : List UInt8 := dkwX1_fewest_3 ++ []
def dkwX1_fewest_2 : List UInt8 := [162, 0, 20, 42, 21, 4, 182, 1, 121, 133, 27, 184, 0, 172, 153, 0, 6, 21, 4, 62, 132, 4, 1]
abbrev dktX1_fewest_2 : List UInt8 := dkwX1_fewest_2 ++ dktX1_fewest_3
def dkwX1_fewest_1 : List UInt8 := [42, 182, 1, 118, 163, 0, 45, 29, 2, 159, 0, 17, 21, 4, 133, 184, 0, 244, 29, 133, 184, 0, 244]
abbrev dktX1_fewest_1 : List UInt8 := dkwX1_fewest_1 ++ dktX1_fewest_2
def dkwX1_fewest_0 : List UInt8 := [42, 27, 182, 0, 238, 153, 0, 10, 28, 184, 1, 5, 154, 0, 5, 2, 172, 2, 62, 3, 54, 4, 21, 4]
abbrev dktX1_fewest_0 : List UInt8 := dkwX1_fewest_0 ++ dktX1_fewest_1
theorem dksX1_fewest_0 : cX1_fewest.data.toList.drop 0 = dktX1_fewest_0 := by decide +kernel
theorem dksX1_fewest_1 : cX1_fewest.data.toList.drop 24 = dktX1_fewest_1 := dk_seg dksX1_fewest_0 24 rfl rfl
theorem dksX1_fewest_2 : cX1_fewest.data.toList.drop 47 = dktX1_fewest_2 := dk_seg dksX1_fewest_1 23 rfl rfl
theorem dksX1_fewest_3 : cX1_fewest.data.toList.drop 70 = dktX1_fewest_3 := dk_seg dksX1_fewest_2 23 rfl rfl
theorem dX1_fewest_0 : decode cX1_fewest 0 = .ok (.aload_n 0, 1) := dk_42 (dk_at dksX1_fewest_0 0 rfl rfl)
theorem dX1_fewest_1 : decode cX1_fewest 1 = .ok (.iload_n 1, 1) := dk_27 (dk_at dksX1_fewest_0 1 rfl rfl)
theorem dX1_fewest_2 : decode cX1_fewest 2 = .ok (.invokevirtual 238, 3) := dk_182 0 238 (dk_at dksX1_fewest_0 2 rfl rfl)
theorem dX1_fewest_5 : decode cX1_fewest 5 = .ok (.ifCond .eq 10, 3) := dk_153 0 10 (dk_at dksX1_fewest_0 5 rfl rfl)
theorem dX1_fewest_8 : decode cX1_fewest 8 = .ok (.iload_n 2, 1) := dk_28 (dk_at dksX1_fewest_0 8 rfl rfl)
theorem dX1_fewest_9 : decode cX1_fewest 9 = .ok (.invokestatic 261, 3) := dk_184 1 5 (dk_at dksX1_fewest_0 9 rfl rfl)
theorem dX1_fewest_12 : decode cX1_fewest 12 = .ok (.ifCond .ne 5, 3) := dk_154 0 5 (dk_at dksX1_fewest_0 12 rfl rfl)
theorem dX1_fewest_15 : decode cX1_fewest 15 = .ok (.iconst (-1), 1) := dk_2 (dk_at dksX1_fewest_0 15 rfl rfl)
theorem dX1_fewest_16 : decode cX1_fewest 16 = .ok (.ireturn, 1) := dk_172 (dk_at dksX1_fewest_0 16 rfl rfl)
theorem dX1_fewest_17 : decode cX1_fewest 17 = .ok (.iconst (-1), 1) := dk_2 (dk_at dksX1_fewest_0 17 rfl rfl)
theorem dX1_fewest_18 : decode cX1_fewest 18 = .ok (.istore_n 3, 1) := dk_62 (dk_at dksX1_fewest_0 18 rfl rfl)
theorem dX1_fewest_19 : decode cX1_fewest 19 = .ok (.iconst 0, 1) := dk_3 (dk_at dksX1_fewest_0 19 rfl rfl)
theorem dX1_fewest_20 : decode cX1_fewest 20 = .ok (.istore 4, 2) := dk_54 4 (dk_at dksX1_fewest_0 20 rfl rfl)
theorem dX1_fewest_22 : decode cX1_fewest 22 = .ok (.iload 4, 2) := dk_21 4 (dk_at dksX1_fewest_0 22 rfl rfl)
theorem dX1_fewest_24 : decode cX1_fewest 24 = .ok (.aload_n 0, 1) := dk_42 (dk_at dksX1_fewest_1 0 rfl rfl)
theorem dX1_fewest_25 : decode cX1_fewest 25 = .ok (.invokevirtual 374, 3) := dk_182 1 118 (dk_at dksX1_fewest_1 1 rfl rfl)
theorem dX1_fewest_28 : decode cX1_fewest 28 = .ok (.if_icmp .gt 45, 3) := dk_163 0 45 (dk_at dksX1_fewest_1 4 rfl rfl)
theorem dX1_fewest_31 : decode cX1_fewest 31 = .ok (.iload_n 3, 1) := dk_29 (dk_at dksX1_fewest_1 7 rfl rfl)
theorem dX1_fewest_32 : decode cX1_fewest 32 = .ok (.iconst (-1), 1) := dk_2 (dk_at dksX1_fewest_1 8 rfl rfl)
theorem dX1_fewest_33 : decode cX1_fewest 33 = .ok (.if_icmp .eq 17, 3) := dk_159 0 17 (dk_at dksX1_fewest_1 9 rfl rfl)
theorem dX1_fewest_36 : decode cX1_fewest 36 = .ok (.iload 4, 2) := dk_21 4 (dk_at dksX1_fewest_1 12 rfl rfl)
theorem dX1_fewest_38 : decode cX1_fewest 38 = .ok (.i2l, 1) := dk_133 (dk_at dksX1_fewest_1 14 rfl rfl)
theorem dX1_fewest_39 : decode cX1_fewest 39 = .ok (.invokestatic 244, 3) := dk_184 0 244 (dk_at dksX1_fewest_1 15 rfl rfl)
theorem dX1_fewest_42 : decode cX1_fewest 42 = .ok (.iload_n 3, 1) := dk_29 (dk_at dksX1_fewest_1 18 rfl rfl)
theorem dX1_fewest_43 : decode cX1_fewest 43 = .ok (.i2l, 1) := dk_133 (dk_at dksX1_fewest_1 19 rfl rfl)
theorem dX1_fewest_44 : decode cX1_fewest 44 = .ok (.invokestatic 244, 3) := dk_184 0 244 (dk_at dksX1_fewest_1 20 rfl rfl)
theorem dX1_fewest_47 : decode cX1_fewest 47 = .ok (.if_icmp .ge 20, 3) := dk_162 0 20 (dk_at dksX1_fewest_2 0 rfl rfl)
theorem dX1_fewest_50 : decode cX1_fewest 50 = .ok (.aload_n 0, 1) := dk_42 (dk_at dksX1_fewest_2 3 rfl rfl)
theorem dX1_fewest_51 : decode cX1_fewest 51 = .ok (.iload 4, 2) := dk_21 4 (dk_at dksX1_fewest_2 4 rfl rfl)
theorem dX1_fewest_53 : decode cX1_fewest 53 = .ok (.invokevirtual 377, 3) := dk_182 1 121 (dk_at dksX1_fewest_2 6 rfl rfl)
theorem dX1_fewest_56 : decode cX1_fewest 56 = .ok (.i2l, 1) := dk_133 (dk_at dksX1_fewest_2 9 rfl rfl)
theorem dX1_fewest_57 : decode cX1_fewest 57 = .ok (.iload_n 1, 1) := dk_27 (dk_at dksX1_fewest_2 10 rfl rfl)
theorem dX1_fewest_58 : decode cX1_fewest 58 = .ok (.invokestatic 172, 3) := dk_184 0 172 (dk_at dksX1_fewest_2 11 rfl rfl)
theorem dX1_fewest_61 : decode cX1_fewest 61 = .ok (.ifCond .eq 6, 3) := dk_153 0 6 (dk_at dksX1_fewest_2 14 rfl rfl)
theorem dX1_fewest_64 : decode cX1_fewest 64 = .ok (.iload 4, 2) := dk_21 4 (dk_at dksX1_fewest_2 17 rfl rfl)
theorem dX1_fewest_66 : decode cX1_fewest 66 = .ok (.istore_n 3, 1) := dk_62 (dk_at dksX1_fewest_2 19 rfl rfl)
theorem dX1_fewest_67 : decode cX1_fewest 67 = .ok (.iinc 4 1, 3) := dk_132 4 1 (dk_at dksX1_fewest_2 20 rfl rfl)
theorem dX1_fewest_70 : decode cX1_fewest 70 = .ok (.goto (-48), 3) := dk_167 255 208 (dk_at dksX1_fewest_3 0 rfl rfl)
theorem dX1_fewest_73 : decode cX1_fewest 73 = .ok (.iload_n 3, 1) := dk_29 (dk_at dksX1_fewest_3 3 rfl rfl)
theorem dX1_fewest_74 : decode cX1_fewest 74 = .ok (.iload_n 2, 1) := dk_28 (dk_at dksX1_fewest_3 4 rfl rfl)
theorem dX1_fewest_75 : decode cX1_fewest 75 = .ok (.invokestatic 278, 3) := dk_184 1 22 (dk_at dksX1_fewest_3 5 rfl rfl)
theorem dX1_fewest_78 : decode cX1_fewest 78 = .ok (.ireturn, 1) := dk_172 (dk_at dksX1_fewest_3 8 rfl rfl)
abbrev cX1_person : ByteArray := prog_1_method_76_code
def yX1_person : MethodName := ⟨RX1, "person", "(II)I"⟩
def dkwX1_person_3 : List UInt8 := [182, 0, 193, 172, 42, 180, 0, 20, 180, 0, 117, 27, 182, 0, 134, 192, 1, 42, 180, 1, 44, 172, 2, 172]
abbrev dktX1_person_3 : List UInt8 := dkwX1_person_3 ++ []
def dkwX1_person_2 : List UInt8 := [42, 180, 0, 20, 180, 0, 117, 27, 182, 0, 134, 192, 1, 42, 180, 1, 124, 172, 42, 180, 0, 20, 27]
abbrev dktX1_person_2 : List UInt8 := dkwX1_person_2 ++ dktX1_person_3
def dkwX1_person_1 : List UInt8 := [170, 0, 0, 0, 70, 0, 0, 0, 0, 0, 0, 0, 2, 0, 0, 0, 25, 0, 0, 0, 43, 0, 0, 0, 52]
abbrev dktX1_person_1 : List UInt8 := dkwX1_person_1 ++ dktX1_person_2
def dkwX1_person_0 : List UInt8 := [42, 27, 182, 0, 154, 154, 0, 5, 2, 172, 28]
abbrev dktX1_person_0 : List UInt8 := dkwX1_person_0 ++ dktX1_person_1
theorem dksX1_person_0 : cX1_person.data.toList.drop 0 = dktX1_person_0 := by decide +kernel
theorem dksX1_person_1 : cX1_person.data.toList.drop 11 = dktX1_person_1 := dk_seg dksX1_person_0 11 rfl rfl
theorem dksX1_person_2 : cX1_person.data.toList.drop 36 = dktX1_person_2 := dk_seg dksX1_person_1 25 rfl rfl
theorem dksX1_person_3 : cX1_person.data.toList.drop 59 = dktX1_person_3 := dk_seg dksX1_person_2 23 rfl rfl
theorem dX1_person_0 : decode cX1_person 0 = .ok (.aload_n 0, 1) := dk_42 (dk_at dksX1_person_0 0 rfl rfl)
theorem dX1_person_1 : decode cX1_person 1 = .ok (.iload_n 1, 1) := dk_27 (dk_at dksX1_person_0 1 rfl rfl)
theorem dX1_person_2 : decode cX1_person 2 = .ok (.invokevirtual 154, 3) := dk_182 0 154 (dk_at dksX1_person_0 2 rfl rfl)
theorem dX1_person_5 : decode cX1_person 5 = .ok (.ifCond .ne 5, 3) := dk_154 0 5 (dk_at dksX1_person_0 5 rfl rfl)
theorem dX1_person_8 : decode cX1_person 8 = .ok (.iconst (-1), 1) := dk_2 (dk_at dksX1_person_0 8 rfl rfl)
theorem dX1_person_9 : decode cX1_person 9 = .ok (.ireturn, 1) := dk_172 (dk_at dksX1_person_0 9 rfl rfl)
theorem dX1_person_10 : decode cX1_person 10 = .ok (.iload_n 2, 1) := dk_28 (dk_at dksX1_person_0 10 rfl rfl)
theorem dX1_person_11 : decode cX1_person 11 = .ok (.tableswitch 70 0 2 #[25, 43, 52], 25) := by decide +kernel
theorem dX1_person_36 : decode cX1_person 36 = .ok (.aload_n 0, 1) := dk_42 (dk_at dksX1_person_2 0 rfl rfl)
theorem dX1_person_37 : decode cX1_person 37 = .ok (.getfield 20, 3) := dk_180 0 20 (dk_at dksX1_person_2 1 rfl rfl)
theorem dX1_person_40 : decode cX1_person 40 = .ok (.getfield 117, 3) := dk_180 0 117 (dk_at dksX1_person_2 4 rfl rfl)
theorem dX1_person_43 : decode cX1_person 43 = .ok (.iload_n 1, 1) := dk_27 (dk_at dksX1_person_2 7 rfl rfl)
theorem dX1_person_44 : decode cX1_person 44 = .ok (.invokevirtual 134, 3) := dk_182 0 134 (dk_at dksX1_person_2 8 rfl rfl)
theorem dX1_person_47 : decode cX1_person 47 = .ok (.checkcast 298, 3) := dk_192 1 42 (dk_at dksX1_person_2 11 rfl rfl)
theorem dX1_person_50 : decode cX1_person 50 = .ok (.getfield 380, 3) := dk_180 1 124 (dk_at dksX1_person_2 14 rfl rfl)
theorem dX1_person_53 : decode cX1_person 53 = .ok (.ireturn, 1) := dk_172 (dk_at dksX1_person_2 17 rfl rfl)
theorem dX1_person_54 : decode cX1_person 54 = .ok (.aload_n 0, 1) := dk_42 (dk_at dksX1_person_2 18 rfl rfl)
theorem dX1_person_55 : decode cX1_person 55 = .ok (.getfield 20, 3) := dk_180 0 20 (dk_at dksX1_person_2 19 rfl rfl)
theorem dX1_person_58 : decode cX1_person 58 = .ok (.iload_n 1, 1) := dk_27 (dk_at dksX1_person_2 22 rfl rfl)
theorem dX1_person_59 : decode cX1_person 59 = .ok (.invokevirtual 193, 3) := dk_182 0 193 (dk_at dksX1_person_3 0 rfl rfl)
theorem dX1_person_62 : decode cX1_person 62 = .ok (.ireturn, 1) := dk_172 (dk_at dksX1_person_3 3 rfl rfl)
theorem dX1_person_63 : decode cX1_person 63 = .ok (.aload_n 0, 1) := dk_42 (dk_at dksX1_person_3 4 rfl rfl)
theorem dX1_person_64 : decode cX1_person 64 = .ok (.getfield 20, 3) := dk_180 0 20 (dk_at dksX1_person_3 5 rfl rfl)
theorem dX1_person_67 : decode cX1_person 67 = .ok (.getfield 117, 3) := dk_180 0 117 (dk_at dksX1_person_3 8 rfl rfl)
theorem dX1_person_70 : decode cX1_person 70 = .ok (.iload_n 1, 1) := dk_27 (dk_at dksX1_person_3 11 rfl rfl)
theorem dX1_person_71 : decode cX1_person 71 = .ok (.invokevirtual 134, 3) := dk_182 0 134 (dk_at dksX1_person_3 12 rfl rfl)
theorem dX1_person_74 : decode cX1_person 74 = .ok (.checkcast 298, 3) := dk_192 1 42 (dk_at dksX1_person_3 15 rfl rfl)
theorem dX1_person_77 : decode cX1_person 77 = .ok (.getfield 300, 3) := dk_180 1 44 (dk_at dksX1_person_3 18 rfl rfl)
theorem dX1_person_80 : decode cX1_person 80 = .ok (.ireturn, 1) := dk_172 (dk_at dksX1_person_3 21 rfl rfl)
theorem dX1_person_81 : decode cX1_person 81 = .ok (.iconst (-1), 1) := dk_2 (dk_at dksX1_person_3 22 rfl rfl)
theorem dX1_person_82 : decode cX1_person 82 = .ok (.ireturn, 1) := dk_172 (dk_at dksX1_person_3 23 rfl rfl)
abbrev cX1_lookout : ByteArray := prog_1_method_77_code
def yX1_lookout : MethodName := ⟨RX1, "lookout", "(III)I"⟩
def dkwX1_lookout_3 : List UInt8 := [163, 0, 17, 42, 180, 0, 59, 180, 1, 131, 29, 4, 100, 46, 167, 0, 4, 2, 172]
abbrev dktX1_lookout_3 : List UInt8 := dkwX1_lookout_3 ++ []
def dkwX1_lookout_2 : List UInt8 := [182, 1, 127, 54, 4, 29, 153, 0, 9, 21, 4, 2, 160, 0, 8, 21, 4, 167, 0, 24, 29, 21, 4]
abbrev dktX1_lookout_2 : List UInt8 := dkwX1_lookout_2 ++ dktX1_lookout_3
def dkwX1_lookout_1 : List UInt8 := [153, 0, 12, 42, 182, 0, 235, 9, 148, 154, 0, 5, 2, 172, 42, 180, 0, 59, 27, 42, 28, 182, 0, 241]
abbrev dktX1_lookout_1 : List UInt8 := dkwX1_lookout_1 ++ dktX1_lookout_2
def dkwX1_lookout_0 : List UInt8 := [42, 27, 182, 0, 197, 153, 0, 29, 42, 28, 182, 0, 238, 153, 0, 21, 29, 3, 6, 184, 0, 113]
abbrev dktX1_lookout_0 : List UInt8 := dkwX1_lookout_0 ++ dktX1_lookout_1
theorem dksX1_lookout_0 : cX1_lookout.data.toList.drop 0 = dktX1_lookout_0 := by decide +kernel
theorem dksX1_lookout_1 : cX1_lookout.data.toList.drop 22 = dktX1_lookout_1 := dk_seg dksX1_lookout_0 22 rfl rfl
theorem dksX1_lookout_2 : cX1_lookout.data.toList.drop 46 = dktX1_lookout_2 := dk_seg dksX1_lookout_1 24 rfl rfl
theorem dksX1_lookout_3 : cX1_lookout.data.toList.drop 69 = dktX1_lookout_3 := dk_seg dksX1_lookout_2 23 rfl rfl
theorem dX1_lookout_0 : decode cX1_lookout 0 = .ok (.aload_n 0, 1) := dk_42 (dk_at dksX1_lookout_0 0 rfl rfl)
theorem dX1_lookout_1 : decode cX1_lookout 1 = .ok (.iload_n 1, 1) := dk_27 (dk_at dksX1_lookout_0 1 rfl rfl)
theorem dX1_lookout_2 : decode cX1_lookout 2 = .ok (.invokevirtual 197, 3) := dk_182 0 197 (dk_at dksX1_lookout_0 2 rfl rfl)
theorem dX1_lookout_5 : decode cX1_lookout 5 = .ok (.ifCond .eq 29, 3) := dk_153 0 29 (dk_at dksX1_lookout_0 5 rfl rfl)
theorem dX1_lookout_8 : decode cX1_lookout 8 = .ok (.aload_n 0, 1) := dk_42 (dk_at dksX1_lookout_0 8 rfl rfl)
theorem dX1_lookout_9 : decode cX1_lookout 9 = .ok (.iload_n 2, 1) := dk_28 (dk_at dksX1_lookout_0 9 rfl rfl)
theorem dX1_lookout_10 : decode cX1_lookout 10 = .ok (.invokevirtual 238, 3) := dk_182 0 238 (dk_at dksX1_lookout_0 10 rfl rfl)
theorem dX1_lookout_13 : decode cX1_lookout 13 = .ok (.ifCond .eq 21, 3) := dk_153 0 21 (dk_at dksX1_lookout_0 13 rfl rfl)
theorem dX1_lookout_16 : decode cX1_lookout 16 = .ok (.iload_n 3, 1) := dk_29 (dk_at dksX1_lookout_0 16 rfl rfl)
theorem dX1_lookout_17 : decode cX1_lookout 17 = .ok (.iconst 0, 1) := dk_3 (dk_at dksX1_lookout_0 17 rfl rfl)
theorem dX1_lookout_18 : decode cX1_lookout 18 = .ok (.iconst 3, 1) := dk_6 (dk_at dksX1_lookout_0 18 rfl rfl)
theorem dX1_lookout_19 : decode cX1_lookout 19 = .ok (.invokestatic 113, 3) := dk_184 0 113 (dk_at dksX1_lookout_0 19 rfl rfl)
theorem dX1_lookout_22 : decode cX1_lookout 22 = .ok (.ifCond .eq 12, 3) := dk_153 0 12 (dk_at dksX1_lookout_1 0 rfl rfl)
theorem dX1_lookout_25 : decode cX1_lookout 25 = .ok (.aload_n 0, 1) := dk_42 (dk_at dksX1_lookout_1 3 rfl rfl)
theorem dX1_lookout_26 : decode cX1_lookout 26 = .ok (.invokevirtual 235, 3) := dk_182 0 235 (dk_at dksX1_lookout_1 4 rfl rfl)
theorem dX1_lookout_29 : decode cX1_lookout 29 = .ok (.lconst 0, 1) := dk_9 (dk_at dksX1_lookout_1 7 rfl rfl)
theorem dX1_lookout_30 : decode cX1_lookout 30 = .ok (.lcmp, 1) := dk_148 (dk_at dksX1_lookout_1 8 rfl rfl)
theorem dX1_lookout_31 : decode cX1_lookout 31 = .ok (.ifCond .ne 5, 3) := dk_154 0 5 (dk_at dksX1_lookout_1 9 rfl rfl)
theorem dX1_lookout_34 : decode cX1_lookout 34 = .ok (.iconst (-1), 1) := dk_2 (dk_at dksX1_lookout_1 12 rfl rfl)
theorem dX1_lookout_35 : decode cX1_lookout 35 = .ok (.ireturn, 1) := dk_172 (dk_at dksX1_lookout_1 13 rfl rfl)
theorem dX1_lookout_36 : decode cX1_lookout 36 = .ok (.aload_n 0, 1) := dk_42 (dk_at dksX1_lookout_1 14 rfl rfl)
theorem dX1_lookout_37 : decode cX1_lookout 37 = .ok (.getfield 59, 3) := dk_180 0 59 (dk_at dksX1_lookout_1 15 rfl rfl)
theorem dX1_lookout_40 : decode cX1_lookout 40 = .ok (.iload_n 1, 1) := dk_27 (dk_at dksX1_lookout_1 18 rfl rfl)
theorem dX1_lookout_41 : decode cX1_lookout 41 = .ok (.aload_n 0, 1) := dk_42 (dk_at dksX1_lookout_1 19 rfl rfl)
theorem dX1_lookout_42 : decode cX1_lookout 42 = .ok (.iload_n 2, 1) := dk_28 (dk_at dksX1_lookout_1 20 rfl rfl)
theorem dX1_lookout_43 : decode cX1_lookout 43 = .ok (.invokevirtual 241, 3) := dk_182 0 241 (dk_at dksX1_lookout_1 21 rfl rfl)
theorem dX1_lookout_46 : decode cX1_lookout 46 = .ok (.invokevirtual 383, 3) := dk_182 1 127 (dk_at dksX1_lookout_2 0 rfl rfl)
theorem dX1_lookout_49 : decode cX1_lookout 49 = .ok (.istore 4, 2) := dk_54 4 (dk_at dksX1_lookout_2 3 rfl rfl)
theorem dX1_lookout_51 : decode cX1_lookout 51 = .ok (.iload_n 3, 1) := dk_29 (dk_at dksX1_lookout_2 5 rfl rfl)
theorem dX1_lookout_52 : decode cX1_lookout 52 = .ok (.ifCond .eq 9, 3) := dk_153 0 9 (dk_at dksX1_lookout_2 6 rfl rfl)
theorem dX1_lookout_55 : decode cX1_lookout 55 = .ok (.iload 4, 2) := dk_21 4 (dk_at dksX1_lookout_2 9 rfl rfl)
theorem dX1_lookout_57 : decode cX1_lookout 57 = .ok (.iconst (-1), 1) := dk_2 (dk_at dksX1_lookout_2 11 rfl rfl)
theorem dX1_lookout_58 : decode cX1_lookout 58 = .ok (.if_icmp .ne 8, 3) := dk_160 0 8 (dk_at dksX1_lookout_2 12 rfl rfl)
theorem dX1_lookout_61 : decode cX1_lookout 61 = .ok (.iload 4, 2) := dk_21 4 (dk_at dksX1_lookout_2 15 rfl rfl)
theorem dX1_lookout_63 : decode cX1_lookout 63 = .ok (.goto 24, 3) := dk_167 0 24 (dk_at dksX1_lookout_2 17 rfl rfl)
theorem dX1_lookout_66 : decode cX1_lookout 66 = .ok (.iload_n 3, 1) := dk_29 (dk_at dksX1_lookout_2 20 rfl rfl)
theorem dX1_lookout_67 : decode cX1_lookout 67 = .ok (.iload 4, 2) := dk_21 4 (dk_at dksX1_lookout_2 21 rfl rfl)
theorem dX1_lookout_69 : decode cX1_lookout 69 = .ok (.if_icmp .gt 17, 3) := dk_163 0 17 (dk_at dksX1_lookout_3 0 rfl rfl)
theorem dX1_lookout_72 : decode cX1_lookout 72 = .ok (.aload_n 0, 1) := dk_42 (dk_at dksX1_lookout_3 3 rfl rfl)
theorem dX1_lookout_73 : decode cX1_lookout 73 = .ok (.getfield 59, 3) := dk_180 0 59 (dk_at dksX1_lookout_3 4 rfl rfl)
theorem dX1_lookout_76 : decode cX1_lookout 76 = .ok (.getfield 387, 3) := dk_180 1 131 (dk_at dksX1_lookout_3 7 rfl rfl)
theorem dX1_lookout_79 : decode cX1_lookout 79 = .ok (.iload_n 3, 1) := dk_29 (dk_at dksX1_lookout_3 10 rfl rfl)
theorem dX1_lookout_80 : decode cX1_lookout 80 = .ok (.iconst 1, 1) := dk_4 (dk_at dksX1_lookout_3 11 rfl rfl)
theorem dX1_lookout_81 : decode cX1_lookout 81 = .ok (.isub, 1) := dk_100 (dk_at dksX1_lookout_3 12 rfl rfl)
theorem dX1_lookout_82 : decode cX1_lookout 82 = .ok (.iaload, 1) := dk_46 (dk_at dksX1_lookout_3 13 rfl rfl)
theorem dX1_lookout_83 : decode cX1_lookout 83 = .ok (.goto 4, 3) := dk_167 0 4 (dk_at dksX1_lookout_3 14 rfl rfl)
theorem dX1_lookout_86 : decode cX1_lookout 86 = .ok (.iconst (-1), 1) := dk_2 (dk_at dksX1_lookout_3 17 rfl rfl)
theorem dX1_lookout_87 : decode cX1_lookout 87 = .ok (.ireturn, 1) := dk_172 (dk_at dksX1_lookout_3 18 rfl rfl)
abbrev cX1_move : ByteArray := prog_1_method_78_code
def yX1_move : MethodName := ⟨RX1, "move", "(II)I"⟩
def dkwX1_move_8 : List UInt8 := [21, 4, 96, 172, 132, 4, 1, 167, 255, 104, 132, 3, 1, 167, 255, 81, 2, 172]
abbrev dktX1_move_8 : List UInt8 := dkwX1_move_8 ++ []
def dkwX1_move_7 : List UInt8 := [180, 1, 44, 182, 1, 59, 42, 180, 0, 95, 184, 0, 172, 54, 7, 21, 7, 153, 0, 11, 16, 12, 29, 104]
abbrev dktX1_move_7 : List UInt8 := dkwX1_move_7 ++ dktX1_move_8
def dkwX1_move_6 : List UInt8 := [3, 167, 0, 36, 42, 180, 0, 20, 22, 5, 42, 180, 0, 20, 180, 0, 117, 29, 182, 0, 134, 192, 1, 42]
abbrev dktX1_move_6 : List UInt8 := dkwX1_move_6 ++ dktX1_move_7
def dkwX1_move_5 : List UInt8 := [27, 50, 180, 0, 179, 154, 0, 23, 22, 5, 42, 180, 0, 95, 184, 0, 172, 154, 0, 7, 4, 167, 0, 40]
abbrev dktX1_move_5 : List UInt8 := dkwX1_move_5 ++ dktX1_move_6
def dkwX1_move_4 : List UInt8 := [180, 0, 20, 187, 1, 51, 89, 4, 183, 1, 53, 182, 1, 56, 131, 55, 5, 42, 180, 0, 20, 180, 0, 72]
abbrev dktX1_move_4 : List UInt8 := dkwX1_move_4 ++ dktX1_move_5
def dkwX1_move_3 : List UInt8 := [154, 0, 14, 42, 21, 4, 5, 108, 182, 0, 241, 167, 0, 27, 42, 21, 4, 5, 108, 182, 0, 241, 42]
abbrev dktX1_move_3 : List UInt8 := dkwX1_move_3 ++ dktX1_move_4
def dkwX1_move_2 : List UInt8 := [180, 0, 20, 180, 0, 106, 182, 0, 109, 104, 162, 0, 141, 29, 28, 159, 0, 136, 21, 4, 5, 112]
abbrev dktX1_move_2 : List UInt8 := dkwX1_move_2 ++ dktX1_move_3
def dkwX1_move_1 : List UInt8 := [62, 29, 42, 180, 0, 20, 180, 0, 117, 182, 0, 109, 162, 0, 167, 3, 54, 4, 21, 4, 5, 42]
abbrev dktX1_move_1 : List UInt8 := dkwX1_move_1 ++ dktX1_move_2
def dkwX1_move_0 : List UInt8 := [42, 27, 182, 0, 197, 153, 0, 16, 28, 2, 159, 0, 13, 42, 28, 182, 0, 154, 154, 0, 5, 2, 172, 3]
abbrev dktX1_move_0 : List UInt8 := dkwX1_move_0 ++ dktX1_move_1
theorem dksX1_move_0 : cX1_move.data.toList.drop 0 = dktX1_move_0 := by decide +kernel
theorem dksX1_move_1 : cX1_move.data.toList.drop 24 = dktX1_move_1 := dk_seg dksX1_move_0 24 rfl rfl
theorem dksX1_move_2 : cX1_move.data.toList.drop 46 = dktX1_move_2 := dk_seg dksX1_move_1 22 rfl rfl
theorem dksX1_move_3 : cX1_move.data.toList.drop 68 = dktX1_move_3 := dk_seg dksX1_move_2 22 rfl rfl
theorem dksX1_move_4 : cX1_move.data.toList.drop 91 = dktX1_move_4 := dk_seg dksX1_move_3 23 rfl rfl
theorem dksX1_move_5 : cX1_move.data.toList.drop 115 = dktX1_move_5 := dk_seg dksX1_move_4 24 rfl rfl
theorem dksX1_move_6 : cX1_move.data.toList.drop 139 = dktX1_move_6 := dk_seg dksX1_move_5 24 rfl rfl
theorem dksX1_move_7 : cX1_move.data.toList.drop 163 = dktX1_move_7 := dk_seg dksX1_move_6 24 rfl rfl
theorem dksX1_move_8 : cX1_move.data.toList.drop 187 = dktX1_move_8 := dk_seg dksX1_move_7 24 rfl rfl
theorem dX1_move_0 : decode cX1_move 0 = .ok (.aload_n 0, 1) := dk_42 (dk_at dksX1_move_0 0 rfl rfl)
theorem dX1_move_1 : decode cX1_move 1 = .ok (.iload_n 1, 1) := dk_27 (dk_at dksX1_move_0 1 rfl rfl)
theorem dX1_move_2 : decode cX1_move 2 = .ok (.invokevirtual 197, 3) := dk_182 0 197 (dk_at dksX1_move_0 2 rfl rfl)
theorem dX1_move_5 : decode cX1_move 5 = .ok (.ifCond .eq 16, 3) := dk_153 0 16 (dk_at dksX1_move_0 5 rfl rfl)
theorem dX1_move_8 : decode cX1_move 8 = .ok (.iload_n 2, 1) := dk_28 (dk_at dksX1_move_0 8 rfl rfl)
theorem dX1_move_9 : decode cX1_move 9 = .ok (.iconst (-1), 1) := dk_2 (dk_at dksX1_move_0 9 rfl rfl)
theorem dX1_move_10 : decode cX1_move 10 = .ok (.if_icmp .eq 13, 3) := dk_159 0 13 (dk_at dksX1_move_0 10 rfl rfl)
theorem dX1_move_13 : decode cX1_move 13 = .ok (.aload_n 0, 1) := dk_42 (dk_at dksX1_move_0 13 rfl rfl)
theorem dX1_move_14 : decode cX1_move 14 = .ok (.iload_n 2, 1) := dk_28 (dk_at dksX1_move_0 14 rfl rfl)
theorem dX1_move_15 : decode cX1_move 15 = .ok (.invokevirtual 154, 3) := dk_182 0 154 (dk_at dksX1_move_0 15 rfl rfl)
theorem dX1_move_18 : decode cX1_move 18 = .ok (.ifCond .ne 5, 3) := dk_154 0 5 (dk_at dksX1_move_0 18 rfl rfl)
theorem dX1_move_21 : decode cX1_move 21 = .ok (.iconst (-1), 1) := dk_2 (dk_at dksX1_move_0 21 rfl rfl)
theorem dX1_move_22 : decode cX1_move 22 = .ok (.ireturn, 1) := dk_172 (dk_at dksX1_move_0 22 rfl rfl)
theorem dX1_move_23 : decode cX1_move 23 = .ok (.iconst 0, 1) := dk_3 (dk_at dksX1_move_0 23 rfl rfl)
theorem dX1_move_24 : decode cX1_move 24 = .ok (.istore_n 3, 1) := dk_62 (dk_at dksX1_move_1 0 rfl rfl)
theorem dX1_move_25 : decode cX1_move 25 = .ok (.iload_n 3, 1) := dk_29 (dk_at dksX1_move_1 1 rfl rfl)
theorem dX1_move_26 : decode cX1_move 26 = .ok (.aload_n 0, 1) := dk_42 (dk_at dksX1_move_1 2 rfl rfl)
theorem dX1_move_27 : decode cX1_move 27 = .ok (.getfield 20, 3) := dk_180 0 20 (dk_at dksX1_move_1 3 rfl rfl)
theorem dX1_move_30 : decode cX1_move 30 = .ok (.getfield 117, 3) := dk_180 0 117 (dk_at dksX1_move_1 6 rfl rfl)
theorem dX1_move_33 : decode cX1_move 33 = .ok (.invokevirtual 109, 3) := dk_182 0 109 (dk_at dksX1_move_1 9 rfl rfl)
theorem dX1_move_36 : decode cX1_move 36 = .ok (.if_icmp .ge 167, 3) := dk_162 0 167 (dk_at dksX1_move_1 12 rfl rfl)
theorem dX1_move_39 : decode cX1_move 39 = .ok (.iconst 0, 1) := dk_3 (dk_at dksX1_move_1 15 rfl rfl)
theorem dX1_move_40 : decode cX1_move 40 = .ok (.istore 4, 2) := dk_54 4 (dk_at dksX1_move_1 16 rfl rfl)
theorem dX1_move_42 : decode cX1_move 42 = .ok (.iload 4, 2) := dk_21 4 (dk_at dksX1_move_1 18 rfl rfl)
theorem dX1_move_44 : decode cX1_move 44 = .ok (.iconst 2, 1) := dk_5 (dk_at dksX1_move_1 20 rfl rfl)
theorem dX1_move_45 : decode cX1_move 45 = .ok (.aload_n 0, 1) := dk_42 (dk_at dksX1_move_1 21 rfl rfl)
theorem dX1_move_46 : decode cX1_move 46 = .ok (.getfield 20, 3) := dk_180 0 20 (dk_at dksX1_move_2 0 rfl rfl)
theorem dX1_move_49 : decode cX1_move 49 = .ok (.getfield 106, 3) := dk_180 0 106 (dk_at dksX1_move_2 3 rfl rfl)
theorem dX1_move_52 : decode cX1_move 52 = .ok (.invokevirtual 109, 3) := dk_182 0 109 (dk_at dksX1_move_2 6 rfl rfl)
theorem dX1_move_55 : decode cX1_move 55 = .ok (.imul, 1) := dk_104 (dk_at dksX1_move_2 9 rfl rfl)
theorem dX1_move_56 : decode cX1_move 56 = .ok (.if_icmp .ge 141, 3) := dk_162 0 141 (dk_at dksX1_move_2 10 rfl rfl)
theorem dX1_move_59 : decode cX1_move 59 = .ok (.iload_n 3, 1) := dk_29 (dk_at dksX1_move_2 13 rfl rfl)
theorem dX1_move_60 : decode cX1_move 60 = .ok (.iload_n 2, 1) := dk_28 (dk_at dksX1_move_2 14 rfl rfl)
theorem dX1_move_61 : decode cX1_move 61 = .ok (.if_icmp .eq 136, 3) := dk_159 0 136 (dk_at dksX1_move_2 15 rfl rfl)
theorem dX1_move_64 : decode cX1_move 64 = .ok (.iload 4, 2) := dk_21 4 (dk_at dksX1_move_2 18 rfl rfl)
theorem dX1_move_66 : decode cX1_move 66 = .ok (.iconst 2, 1) := dk_5 (dk_at dksX1_move_2 20 rfl rfl)
theorem dX1_move_67 : decode cX1_move 67 = .ok (.irem, 1) := dk_112 (dk_at dksX1_move_2 21 rfl rfl)
theorem dX1_move_68 : decode cX1_move 68 = .ok (.ifCond .ne 14, 3) := dk_154 0 14 (dk_at dksX1_move_3 0 rfl rfl)
theorem dX1_move_71 : decode cX1_move 71 = .ok (.aload_n 0, 1) := dk_42 (dk_at dksX1_move_3 3 rfl rfl)
theorem dX1_move_72 : decode cX1_move 72 = .ok (.iload 4, 2) := dk_21 4 (dk_at dksX1_move_3 4 rfl rfl)
theorem dX1_move_74 : decode cX1_move 74 = .ok (.iconst 2, 1) := dk_5 (dk_at dksX1_move_3 6 rfl rfl)
theorem dX1_move_75 : decode cX1_move 75 = .ok (.idiv, 1) := dk_108 (dk_at dksX1_move_3 7 rfl rfl)
theorem dX1_move_76 : decode cX1_move 76 = .ok (.invokevirtual 241, 3) := dk_182 0 241 (dk_at dksX1_move_3 8 rfl rfl)
theorem dX1_move_79 : decode cX1_move 79 = .ok (.goto 27, 3) := dk_167 0 27 (dk_at dksX1_move_3 11 rfl rfl)
theorem dX1_move_82 : decode cX1_move 82 = .ok (.aload_n 0, 1) := dk_42 (dk_at dksX1_move_3 14 rfl rfl)
theorem dX1_move_83 : decode cX1_move 83 = .ok (.iload 4, 2) := dk_21 4 (dk_at dksX1_move_3 15 rfl rfl)
theorem dX1_move_85 : decode cX1_move 85 = .ok (.iconst 2, 1) := dk_5 (dk_at dksX1_move_3 17 rfl rfl)
theorem dX1_move_86 : decode cX1_move 86 = .ok (.idiv, 1) := dk_108 (dk_at dksX1_move_3 18 rfl rfl)
theorem dX1_move_87 : decode cX1_move 87 = .ok (.invokevirtual 241, 3) := dk_182 0 241 (dk_at dksX1_move_3 19 rfl rfl)
theorem dX1_move_90 : decode cX1_move 90 = .ok (.aload_n 0, 1) := dk_42 (dk_at dksX1_move_3 22 rfl rfl)
theorem dX1_move_91 : decode cX1_move 91 = .ok (.getfield 20, 3) := dk_180 0 20 (dk_at dksX1_move_4 0 rfl rfl)
theorem dX1_move_94 : decode cX1_move 94 = .ok (.new 307, 3) := dk_187 1 51 (dk_at dksX1_move_4 3 rfl rfl)
theorem dX1_move_97 : decode cX1_move 97 = .ok (.dup, 1) := dk_89 (dk_at dksX1_move_4 6 rfl rfl)
theorem dX1_move_98 : decode cX1_move 98 = .ok (.iconst 1, 1) := dk_4 (dk_at dksX1_move_4 7 rfl rfl)
theorem dX1_move_99 : decode cX1_move 99 = .ok (.invokespecial 309, 3) := dk_183 1 53 (dk_at dksX1_move_4 8 rfl rfl)
theorem dX1_move_102 : decode cX1_move 102 = .ok (.invokevirtual 312, 3) := dk_182 1 56 (dk_at dksX1_move_4 11 rfl rfl)
theorem dX1_move_105 : decode cX1_move 105 = .ok (.lxor, 1) := dk_131 (dk_at dksX1_move_4 14 rfl rfl)
theorem dX1_move_106 : decode cX1_move 106 = .ok (.lstore 5, 2) := dk_55 5 (dk_at dksX1_move_4 15 rfl rfl)
theorem dX1_move_108 : decode cX1_move 108 = .ok (.aload_n 0, 1) := dk_42 (dk_at dksX1_move_4 17 rfl rfl)
theorem dX1_move_109 : decode cX1_move 109 = .ok (.getfield 20, 3) := dk_180 0 20 (dk_at dksX1_move_4 18 rfl rfl)
theorem dX1_move_112 : decode cX1_move 112 = .ok (.getfield 72, 3) := dk_180 0 72 (dk_at dksX1_move_4 21 rfl rfl)
theorem dX1_move_115 : decode cX1_move 115 = .ok (.iload_n 1, 1) := dk_27 (dk_at dksX1_move_5 0 rfl rfl)
theorem dX1_move_116 : decode cX1_move 116 = .ok (.aaload, 1) := dk_50 (dk_at dksX1_move_5 1 rfl rfl)
theorem dX1_move_117 : decode cX1_move 117 = .ok (.getfield 179, 3) := dk_180 0 179 (dk_at dksX1_move_5 2 rfl rfl)
theorem dX1_move_120 : decode cX1_move 120 = .ok (.ifCond .ne 23, 3) := dk_154 0 23 (dk_at dksX1_move_5 5 rfl rfl)
theorem dX1_move_123 : decode cX1_move 123 = .ok (.lload 5, 2) := dk_22 5 (dk_at dksX1_move_5 8 rfl rfl)
theorem dX1_move_125 : decode cX1_move 125 = .ok (.aload_n 0, 1) := dk_42 (dk_at dksX1_move_5 10 rfl rfl)
theorem dX1_move_126 : decode cX1_move 126 = .ok (.getfield 95, 3) := dk_180 0 95 (dk_at dksX1_move_5 11 rfl rfl)
theorem dX1_move_129 : decode cX1_move 129 = .ok (.invokestatic 172, 3) := dk_184 0 172 (dk_at dksX1_move_5 14 rfl rfl)
theorem dX1_move_132 : decode cX1_move 132 = .ok (.ifCond .ne 7, 3) := dk_154 0 7 (dk_at dksX1_move_5 17 rfl rfl)
theorem dX1_move_135 : decode cX1_move 135 = .ok (.iconst 1, 1) := dk_4 (dk_at dksX1_move_5 20 rfl rfl)
theorem dX1_move_136 : decode cX1_move 136 = .ok (.goto 40, 3) := dk_167 0 40 (dk_at dksX1_move_5 21 rfl rfl)
theorem dX1_move_139 : decode cX1_move 139 = .ok (.iconst 0, 1) := dk_3 (dk_at dksX1_move_6 0 rfl rfl)
theorem dX1_move_140 : decode cX1_move 140 = .ok (.goto 36, 3) := dk_167 0 36 (dk_at dksX1_move_6 1 rfl rfl)
theorem dX1_move_143 : decode cX1_move 143 = .ok (.aload_n 0, 1) := dk_42 (dk_at dksX1_move_6 4 rfl rfl)
theorem dX1_move_144 : decode cX1_move 144 = .ok (.getfield 20, 3) := dk_180 0 20 (dk_at dksX1_move_6 5 rfl rfl)
theorem dX1_move_147 : decode cX1_move 147 = .ok (.lload 5, 2) := dk_22 5 (dk_at dksX1_move_6 8 rfl rfl)
theorem dX1_move_149 : decode cX1_move 149 = .ok (.aload_n 0, 1) := dk_42 (dk_at dksX1_move_6 10 rfl rfl)
theorem dX1_move_150 : decode cX1_move 150 = .ok (.getfield 20, 3) := dk_180 0 20 (dk_at dksX1_move_6 11 rfl rfl)
theorem dX1_move_153 : decode cX1_move 153 = .ok (.getfield 117, 3) := dk_180 0 117 (dk_at dksX1_move_6 14 rfl rfl)
theorem dX1_move_156 : decode cX1_move 156 = .ok (.iload_n 3, 1) := dk_29 (dk_at dksX1_move_6 17 rfl rfl)
theorem dX1_move_157 : decode cX1_move 157 = .ok (.invokevirtual 134, 3) := dk_182 0 134 (dk_at dksX1_move_6 18 rfl rfl)
theorem dX1_move_160 : decode cX1_move 160 = .ok (.checkcast 298, 3) := dk_192 1 42 (dk_at dksX1_move_6 21 rfl rfl)
theorem dX1_move_163 : decode cX1_move 163 = .ok (.getfield 300, 3) := dk_180 1 44 (dk_at dksX1_move_7 0 rfl rfl)
theorem dX1_move_166 : decode cX1_move 166 = .ok (.invokevirtual 315, 3) := dk_182 1 59 (dk_at dksX1_move_7 3 rfl rfl)
theorem dX1_move_169 : decode cX1_move 169 = .ok (.aload_n 0, 1) := dk_42 (dk_at dksX1_move_7 6 rfl rfl)
theorem dX1_move_170 : decode cX1_move 170 = .ok (.getfield 95, 3) := dk_180 0 95 (dk_at dksX1_move_7 7 rfl rfl)
theorem dX1_move_173 : decode cX1_move 173 = .ok (.invokestatic 172, 3) := dk_184 0 172 (dk_at dksX1_move_7 10 rfl rfl)
theorem dX1_move_176 : decode cX1_move 176 = .ok (.istore 7, 2) := dk_54 7 (dk_at dksX1_move_7 13 rfl rfl)
theorem dX1_move_178 : decode cX1_move 178 = .ok (.iload 7, 2) := dk_21 7 (dk_at dksX1_move_7 15 rfl rfl)
theorem dX1_move_180 : decode cX1_move 180 = .ok (.ifCond .eq 11, 3) := dk_153 0 11 (dk_at dksX1_move_7 17 rfl rfl)
theorem dX1_move_183 : decode cX1_move 183 = .ok (.bipush 12, 2) := dk_16 12 (dk_at dksX1_move_7 20 rfl rfl)
theorem dX1_move_185 : decode cX1_move 185 = .ok (.iload_n 3, 1) := dk_29 (dk_at dksX1_move_7 22 rfl rfl)
theorem dX1_move_186 : decode cX1_move 186 = .ok (.imul, 1) := dk_104 (dk_at dksX1_move_7 23 rfl rfl)
theorem dX1_move_187 : decode cX1_move 187 = .ok (.iload 4, 2) := dk_21 4 (dk_at dksX1_move_8 0 rfl rfl)
theorem dX1_move_189 : decode cX1_move 189 = .ok (.iadd, 1) := dk_96 (dk_at dksX1_move_8 2 rfl rfl)
theorem dX1_move_190 : decode cX1_move 190 = .ok (.ireturn, 1) := dk_172 (dk_at dksX1_move_8 3 rfl rfl)
theorem dX1_move_191 : decode cX1_move 191 = .ok (.iinc 4 1, 3) := dk_132 4 1 (dk_at dksX1_move_8 4 rfl rfl)
theorem dX1_move_194 : decode cX1_move 194 = .ok (.goto (-152), 3) := dk_167 255 104 (dk_at dksX1_move_8 7 rfl rfl)
theorem dX1_move_197 : decode cX1_move 197 = .ok (.iinc 3 1, 3) := dk_132 3 1 (dk_at dksX1_move_8 10 rfl rfl)
theorem dX1_move_200 : decode cX1_move 200 = .ok (.goto (-175), 3) := dk_167 255 81 (dk_at dksX1_move_8 13 rfl rfl)
theorem dX1_move_203 : decode cX1_move 203 = .ok (.iconst (-1), 1) := dk_2 (dk_at dksX1_move_8 16 rfl rfl)
theorem dX1_move_204 : decode cX1_move 204 = .ok (.ireturn, 1) := dk_172 (dk_at dksX1_move_8 17 rfl rfl)
abbrev cX1_longest : ByteArray := prog_1_method_79_code
def yX1_longest : MethodName := ⟨RX1, "longest", "(IIII)I"⟩
def dkwX1_longest_5 : List UInt8 := [154, 0, 7, 2, 167, 0, 15, 21, 4, 154, 0, 8, 21, 5, 167, 0, 5, 21, 6, 172]
abbrev dktX1_longest_5 : List UInt8 := dkwX1_longest_5 ++ []
def dkwX1_longest_4 : List UInt8 := [163, 0, 6, 167, 0, 11, 21, 7, 54, 5, 21, 10, 54, 6, 132, 9, 1, 167, 255, 185, 21, 5]
abbrev dktX1_longest_4 : List UInt8 := dkwX1_longest_4 ++ dktX1_longest_5
def dkwX1_longest_3 : List UInt8 := [21, 8, 160, 0, 10, 21, 7, 4, 96, 167, 0, 4, 4, 54, 7, 21, 10, 54, 8, 21, 7, 21, 5]
abbrev dktX1_longest_3 : List UInt8 := dkwX1_longest_3 ++ dktX1_longest_4
def dkwX1_longest_2 : List UInt8 := [27, 21, 9, 42, 180, 0, 95, 182, 0, 189, 54, 10, 21, 10, 2, 160, 0, 7, 3, 167, 0, 18, 21, 10]
abbrev dktX1_longest_2 : List UInt8 := dkwX1_longest_2 ++ dktX1_longest_3
def dkwX1_longest_1 : List UInt8 := [2, 172, 3, 54, 5, 2, 54, 6, 3, 54, 7, 2, 54, 8, 28, 54, 9, 21, 9, 29, 163, 0, 71, 42]
abbrev dktX1_longest_1 : List UInt8 := dkwX1_longest_1 ++ dktX1_longest_2
def dkwX1_longest_0 : List UInt8 := [42, 27, 182, 0, 197, 153, 0, 19, 28, 29, 184, 1, 29, 153, 0, 11, 21, 4, 184, 1, 5, 154, 0, 5]
abbrev dktX1_longest_0 : List UInt8 := dkwX1_longest_0 ++ dktX1_longest_1
theorem dksX1_longest_0 : cX1_longest.data.toList.drop 0 = dktX1_longest_0 := by decide +kernel
theorem dksX1_longest_1 : cX1_longest.data.toList.drop 24 = dktX1_longest_1 := dk_seg dksX1_longest_0 24 rfl rfl
theorem dksX1_longest_2 : cX1_longest.data.toList.drop 48 = dktX1_longest_2 := dk_seg dksX1_longest_1 24 rfl rfl
theorem dksX1_longest_3 : cX1_longest.data.toList.drop 72 = dktX1_longest_3 := dk_seg dksX1_longest_2 24 rfl rfl
theorem dksX1_longest_4 : cX1_longest.data.toList.drop 95 = dktX1_longest_4 := dk_seg dksX1_longest_3 23 rfl rfl
theorem dksX1_longest_5 : cX1_longest.data.toList.drop 117 = dktX1_longest_5 := dk_seg dksX1_longest_4 22 rfl rfl
theorem dX1_longest_0 : decode cX1_longest 0 = .ok (.aload_n 0, 1) := dk_42 (dk_at dksX1_longest_0 0 rfl rfl)
theorem dX1_longest_1 : decode cX1_longest 1 = .ok (.iload_n 1, 1) := dk_27 (dk_at dksX1_longest_0 1 rfl rfl)
theorem dX1_longest_2 : decode cX1_longest 2 = .ok (.invokevirtual 197, 3) := dk_182 0 197 (dk_at dksX1_longest_0 2 rfl rfl)
theorem dX1_longest_5 : decode cX1_longest 5 = .ok (.ifCond .eq 19, 3) := dk_153 0 19 (dk_at dksX1_longest_0 5 rfl rfl)
theorem dX1_longest_8 : decode cX1_longest 8 = .ok (.iload_n 2, 1) := dk_28 (dk_at dksX1_longest_0 8 rfl rfl)
theorem dX1_longest_9 : decode cX1_longest 9 = .ok (.iload_n 3, 1) := dk_29 (dk_at dksX1_longest_0 9 rfl rfl)
theorem dX1_longest_10 : decode cX1_longest 10 = .ok (.invokestatic 285, 3) := dk_184 1 29 (dk_at dksX1_longest_0 10 rfl rfl)
theorem dX1_longest_13 : decode cX1_longest 13 = .ok (.ifCond .eq 11, 3) := dk_153 0 11 (dk_at dksX1_longest_0 13 rfl rfl)
theorem dX1_longest_16 : decode cX1_longest 16 = .ok (.iload 4, 2) := dk_21 4 (dk_at dksX1_longest_0 16 rfl rfl)
theorem dX1_longest_18 : decode cX1_longest 18 = .ok (.invokestatic 261, 3) := dk_184 1 5 (dk_at dksX1_longest_0 18 rfl rfl)
theorem dX1_longest_21 : decode cX1_longest 21 = .ok (.ifCond .ne 5, 3) := dk_154 0 5 (dk_at dksX1_longest_0 21 rfl rfl)
theorem dX1_longest_24 : decode cX1_longest 24 = .ok (.iconst (-1), 1) := dk_2 (dk_at dksX1_longest_1 0 rfl rfl)
theorem dX1_longest_25 : decode cX1_longest 25 = .ok (.ireturn, 1) := dk_172 (dk_at dksX1_longest_1 1 rfl rfl)
theorem dX1_longest_26 : decode cX1_longest 26 = .ok (.iconst 0, 1) := dk_3 (dk_at dksX1_longest_1 2 rfl rfl)
theorem dX1_longest_27 : decode cX1_longest 27 = .ok (.istore 5, 2) := dk_54 5 (dk_at dksX1_longest_1 3 rfl rfl)
theorem dX1_longest_29 : decode cX1_longest 29 = .ok (.iconst (-1), 1) := dk_2 (dk_at dksX1_longest_1 5 rfl rfl)
theorem dX1_longest_30 : decode cX1_longest 30 = .ok (.istore 6, 2) := dk_54 6 (dk_at dksX1_longest_1 6 rfl rfl)
theorem dX1_longest_32 : decode cX1_longest 32 = .ok (.iconst 0, 1) := dk_3 (dk_at dksX1_longest_1 8 rfl rfl)
theorem dX1_longest_33 : decode cX1_longest 33 = .ok (.istore 7, 2) := dk_54 7 (dk_at dksX1_longest_1 9 rfl rfl)
theorem dX1_longest_35 : decode cX1_longest 35 = .ok (.iconst (-1), 1) := dk_2 (dk_at dksX1_longest_1 11 rfl rfl)
theorem dX1_longest_36 : decode cX1_longest 36 = .ok (.istore 8, 2) := dk_54 8 (dk_at dksX1_longest_1 12 rfl rfl)
theorem dX1_longest_38 : decode cX1_longest 38 = .ok (.iload_n 2, 1) := dk_28 (dk_at dksX1_longest_1 14 rfl rfl)
theorem dX1_longest_39 : decode cX1_longest 39 = .ok (.istore 9, 2) := dk_54 9 (dk_at dksX1_longest_1 15 rfl rfl)
theorem dX1_longest_41 : decode cX1_longest 41 = .ok (.iload 9, 2) := dk_21 9 (dk_at dksX1_longest_1 17 rfl rfl)
theorem dX1_longest_43 : decode cX1_longest 43 = .ok (.iload_n 3, 1) := dk_29 (dk_at dksX1_longest_1 19 rfl rfl)
theorem dX1_longest_44 : decode cX1_longest 44 = .ok (.if_icmp .gt 71, 3) := dk_163 0 71 (dk_at dksX1_longest_1 20 rfl rfl)
theorem dX1_longest_47 : decode cX1_longest 47 = .ok (.aload_n 0, 1) := dk_42 (dk_at dksX1_longest_1 23 rfl rfl)
theorem dX1_longest_48 : decode cX1_longest 48 = .ok (.iload_n 1, 1) := dk_27 (dk_at dksX1_longest_2 0 rfl rfl)
theorem dX1_longest_49 : decode cX1_longest 49 = .ok (.iload 9, 2) := dk_21 9 (dk_at dksX1_longest_2 1 rfl rfl)
theorem dX1_longest_51 : decode cX1_longest 51 = .ok (.aload_n 0, 1) := dk_42 (dk_at dksX1_longest_2 3 rfl rfl)
theorem dX1_longest_52 : decode cX1_longest 52 = .ok (.getfield 95, 3) := dk_180 0 95 (dk_at dksX1_longest_2 4 rfl rfl)
theorem dX1_longest_55 : decode cX1_longest 55 = .ok (.invokevirtual 189, 3) := dk_182 0 189 (dk_at dksX1_longest_2 7 rfl rfl)
theorem dX1_longest_58 : decode cX1_longest 58 = .ok (.istore 10, 2) := dk_54 10 (dk_at dksX1_longest_2 10 rfl rfl)
theorem dX1_longest_60 : decode cX1_longest 60 = .ok (.iload 10, 2) := dk_21 10 (dk_at dksX1_longest_2 12 rfl rfl)
theorem dX1_longest_62 : decode cX1_longest 62 = .ok (.iconst (-1), 1) := dk_2 (dk_at dksX1_longest_2 14 rfl rfl)
theorem dX1_longest_63 : decode cX1_longest 63 = .ok (.if_icmp .ne 7, 3) := dk_160 0 7 (dk_at dksX1_longest_2 15 rfl rfl)
theorem dX1_longest_66 : decode cX1_longest 66 = .ok (.iconst 0, 1) := dk_3 (dk_at dksX1_longest_2 18 rfl rfl)
theorem dX1_longest_67 : decode cX1_longest 67 = .ok (.goto 18, 3) := dk_167 0 18 (dk_at dksX1_longest_2 19 rfl rfl)
theorem dX1_longest_70 : decode cX1_longest 70 = .ok (.iload 10, 2) := dk_21 10 (dk_at dksX1_longest_2 22 rfl rfl)
theorem dX1_longest_72 : decode cX1_longest 72 = .ok (.iload 8, 2) := dk_21 8 (dk_at dksX1_longest_3 0 rfl rfl)
theorem dX1_longest_74 : decode cX1_longest 74 = .ok (.if_icmp .ne 10, 3) := dk_160 0 10 (dk_at dksX1_longest_3 2 rfl rfl)
theorem dX1_longest_77 : decode cX1_longest 77 = .ok (.iload 7, 2) := dk_21 7 (dk_at dksX1_longest_3 5 rfl rfl)
theorem dX1_longest_79 : decode cX1_longest 79 = .ok (.iconst 1, 1) := dk_4 (dk_at dksX1_longest_3 7 rfl rfl)
theorem dX1_longest_80 : decode cX1_longest 80 = .ok (.iadd, 1) := dk_96 (dk_at dksX1_longest_3 8 rfl rfl)
theorem dX1_longest_81 : decode cX1_longest 81 = .ok (.goto 4, 3) := dk_167 0 4 (dk_at dksX1_longest_3 9 rfl rfl)
theorem dX1_longest_84 : decode cX1_longest 84 = .ok (.iconst 1, 1) := dk_4 (dk_at dksX1_longest_3 12 rfl rfl)
theorem dX1_longest_85 : decode cX1_longest 85 = .ok (.istore 7, 2) := dk_54 7 (dk_at dksX1_longest_3 13 rfl rfl)
theorem dX1_longest_87 : decode cX1_longest 87 = .ok (.iload 10, 2) := dk_21 10 (dk_at dksX1_longest_3 15 rfl rfl)
theorem dX1_longest_89 : decode cX1_longest 89 = .ok (.istore 8, 2) := dk_54 8 (dk_at dksX1_longest_3 17 rfl rfl)
theorem dX1_longest_91 : decode cX1_longest 91 = .ok (.iload 7, 2) := dk_21 7 (dk_at dksX1_longest_3 19 rfl rfl)
theorem dX1_longest_93 : decode cX1_longest 93 = .ok (.iload 5, 2) := dk_21 5 (dk_at dksX1_longest_3 21 rfl rfl)
theorem dX1_longest_95 : decode cX1_longest 95 = .ok (.if_icmp .gt 6, 3) := dk_163 0 6 (dk_at dksX1_longest_4 0 rfl rfl)
theorem dX1_longest_98 : decode cX1_longest 98 = .ok (.goto 11, 3) := dk_167 0 11 (dk_at dksX1_longest_4 3 rfl rfl)
theorem dX1_longest_101 : decode cX1_longest 101 = .ok (.iload 7, 2) := dk_21 7 (dk_at dksX1_longest_4 6 rfl rfl)
theorem dX1_longest_103 : decode cX1_longest 103 = .ok (.istore 5, 2) := dk_54 5 (dk_at dksX1_longest_4 8 rfl rfl)
theorem dX1_longest_105 : decode cX1_longest 105 = .ok (.iload 10, 2) := dk_21 10 (dk_at dksX1_longest_4 10 rfl rfl)
theorem dX1_longest_107 : decode cX1_longest 107 = .ok (.istore 6, 2) := dk_54 6 (dk_at dksX1_longest_4 12 rfl rfl)
theorem dX1_longest_109 : decode cX1_longest 109 = .ok (.iinc 9 1, 3) := dk_132 9 1 (dk_at dksX1_longest_4 14 rfl rfl)
theorem dX1_longest_112 : decode cX1_longest 112 = .ok (.goto (-71), 3) := dk_167 255 185 (dk_at dksX1_longest_4 17 rfl rfl)
theorem dX1_longest_115 : decode cX1_longest 115 = .ok (.iload 5, 2) := dk_21 5 (dk_at dksX1_longest_4 20 rfl rfl)
theorem dX1_longest_117 : decode cX1_longest 117 = .ok (.ifCond .ne 7, 3) := dk_154 0 7 (dk_at dksX1_longest_5 0 rfl rfl)
theorem dX1_longest_120 : decode cX1_longest 120 = .ok (.iconst (-1), 1) := dk_2 (dk_at dksX1_longest_5 3 rfl rfl)
theorem dX1_longest_121 : decode cX1_longest 121 = .ok (.goto 15, 3) := dk_167 0 15 (dk_at dksX1_longest_5 4 rfl rfl)
theorem dX1_longest_124 : decode cX1_longest 124 = .ok (.iload 4, 2) := dk_21 4 (dk_at dksX1_longest_5 7 rfl rfl)
theorem dX1_longest_126 : decode cX1_longest 126 = .ok (.ifCond .ne 8, 3) := dk_154 0 8 (dk_at dksX1_longest_5 9 rfl rfl)
theorem dX1_longest_129 : decode cX1_longest 129 = .ok (.iload 5, 2) := dk_21 5 (dk_at dksX1_longest_5 12 rfl rfl)
theorem dX1_longest_131 : decode cX1_longest 131 = .ok (.goto 5, 3) := dk_167 0 5 (dk_at dksX1_longest_5 14 rfl rfl)
theorem dX1_longest_134 : decode cX1_longest 134 = .ok (.iload 6, 2) := dk_21 6 (dk_at dksX1_longest_5 17 rfl rfl)
theorem dX1_longest_136 : decode cX1_longest 136 = .ok (.ireturn, 1) := dk_172 (dk_at dksX1_longest_5 19 rfl rfl)
abbrev cX1_differ : ByteArray := prog_1_method_80_code
def yX1_differ : MethodName := ⟨RX1, "differ", "(II)I"⟩
def dkwX1_differ_2 : List UInt8 := [180, 0, 95, 182, 0, 189, 159, 0, 6, 132, 3, 1, 132, 4, 1, 167, 255, 219, 29, 172]
abbrev dktX1_differ_2 : List UInt8 := dkwX1_differ_2 ++ []
def dkwX1_differ_1 : List UInt8 := [21, 4, 28, 163, 0, 37, 42, 3, 21, 4, 42, 180, 0, 95, 182, 0, 189, 42, 4, 21, 4, 42]
abbrev dktX1_differ_1 : List UInt8 := dkwX1_differ_1 ++ dktX1_differ_2
def dkwX1_differ_0 : List UInt8 := [42, 4, 182, 0, 197, 153, 0, 11, 27, 28, 184, 1, 29, 154, 0, 5, 2, 172, 3, 62, 27, 54, 4]
abbrev dktX1_differ_0 : List UInt8 := dkwX1_differ_0 ++ dktX1_differ_1
theorem dksX1_differ_0 : cX1_differ.data.toList.drop 0 = dktX1_differ_0 := by decide +kernel
theorem dksX1_differ_1 : cX1_differ.data.toList.drop 23 = dktX1_differ_1 := dk_seg dksX1_differ_0 23 rfl rfl
theorem dksX1_differ_2 : cX1_differ.data.toList.drop 45 = dktX1_differ_2 := dk_seg dksX1_differ_1 22 rfl rfl
theorem dX1_differ_0 : decode cX1_differ 0 = .ok (.aload_n 0, 1) := dk_42 (dk_at dksX1_differ_0 0 rfl rfl)
theorem dX1_differ_1 : decode cX1_differ 1 = .ok (.iconst 1, 1) := dk_4 (dk_at dksX1_differ_0 1 rfl rfl)
theorem dX1_differ_2 : decode cX1_differ 2 = .ok (.invokevirtual 197, 3) := dk_182 0 197 (dk_at dksX1_differ_0 2 rfl rfl)
theorem dX1_differ_5 : decode cX1_differ 5 = .ok (.ifCond .eq 11, 3) := dk_153 0 11 (dk_at dksX1_differ_0 5 rfl rfl)
theorem dX1_differ_8 : decode cX1_differ 8 = .ok (.iload_n 1, 1) := dk_27 (dk_at dksX1_differ_0 8 rfl rfl)
theorem dX1_differ_9 : decode cX1_differ 9 = .ok (.iload_n 2, 1) := dk_28 (dk_at dksX1_differ_0 9 rfl rfl)
theorem dX1_differ_10 : decode cX1_differ 10 = .ok (.invokestatic 285, 3) := dk_184 1 29 (dk_at dksX1_differ_0 10 rfl rfl)
theorem dX1_differ_13 : decode cX1_differ 13 = .ok (.ifCond .ne 5, 3) := dk_154 0 5 (dk_at dksX1_differ_0 13 rfl rfl)
theorem dX1_differ_16 : decode cX1_differ 16 = .ok (.iconst (-1), 1) := dk_2 (dk_at dksX1_differ_0 16 rfl rfl)
theorem dX1_differ_17 : decode cX1_differ 17 = .ok (.ireturn, 1) := dk_172 (dk_at dksX1_differ_0 17 rfl rfl)
theorem dX1_differ_18 : decode cX1_differ 18 = .ok (.iconst 0, 1) := dk_3 (dk_at dksX1_differ_0 18 rfl rfl)
theorem dX1_differ_19 : decode cX1_differ 19 = .ok (.istore_n 3, 1) := dk_62 (dk_at dksX1_differ_0 19 rfl rfl)
theorem dX1_differ_20 : decode cX1_differ 20 = .ok (.iload_n 1, 1) := dk_27 (dk_at dksX1_differ_0 20 rfl rfl)
theorem dX1_differ_21 : decode cX1_differ 21 = .ok (.istore 4, 2) := dk_54 4 (dk_at dksX1_differ_0 21 rfl rfl)
theorem dX1_differ_23 : decode cX1_differ 23 = .ok (.iload 4, 2) := dk_21 4 (dk_at dksX1_differ_1 0 rfl rfl)
theorem dX1_differ_25 : decode cX1_differ 25 = .ok (.iload_n 2, 1) := dk_28 (dk_at dksX1_differ_1 2 rfl rfl)
theorem dX1_differ_26 : decode cX1_differ 26 = .ok (.if_icmp .gt 37, 3) := dk_163 0 37 (dk_at dksX1_differ_1 3 rfl rfl)
theorem dX1_differ_29 : decode cX1_differ 29 = .ok (.aload_n 0, 1) := dk_42 (dk_at dksX1_differ_1 6 rfl rfl)
theorem dX1_differ_30 : decode cX1_differ 30 = .ok (.iconst 0, 1) := dk_3 (dk_at dksX1_differ_1 7 rfl rfl)
theorem dX1_differ_31 : decode cX1_differ 31 = .ok (.iload 4, 2) := dk_21 4 (dk_at dksX1_differ_1 8 rfl rfl)
theorem dX1_differ_33 : decode cX1_differ 33 = .ok (.aload_n 0, 1) := dk_42 (dk_at dksX1_differ_1 10 rfl rfl)
theorem dX1_differ_34 : decode cX1_differ 34 = .ok (.getfield 95, 3) := dk_180 0 95 (dk_at dksX1_differ_1 11 rfl rfl)
theorem dX1_differ_37 : decode cX1_differ 37 = .ok (.invokevirtual 189, 3) := dk_182 0 189 (dk_at dksX1_differ_1 14 rfl rfl)
theorem dX1_differ_40 : decode cX1_differ 40 = .ok (.aload_n 0, 1) := dk_42 (dk_at dksX1_differ_1 17 rfl rfl)
theorem dX1_differ_41 : decode cX1_differ 41 = .ok (.iconst 1, 1) := dk_4 (dk_at dksX1_differ_1 18 rfl rfl)
theorem dX1_differ_42 : decode cX1_differ 42 = .ok (.iload 4, 2) := dk_21 4 (dk_at dksX1_differ_1 19 rfl rfl)
theorem dX1_differ_44 : decode cX1_differ 44 = .ok (.aload_n 0, 1) := dk_42 (dk_at dksX1_differ_1 21 rfl rfl)
theorem dX1_differ_45 : decode cX1_differ 45 = .ok (.getfield 95, 3) := dk_180 0 95 (dk_at dksX1_differ_2 0 rfl rfl)
theorem dX1_differ_48 : decode cX1_differ 48 = .ok (.invokevirtual 189, 3) := dk_182 0 189 (dk_at dksX1_differ_2 3 rfl rfl)
theorem dX1_differ_51 : decode cX1_differ 51 = .ok (.if_icmp .eq 6, 3) := dk_159 0 6 (dk_at dksX1_differ_2 6 rfl rfl)
theorem dX1_differ_54 : decode cX1_differ 54 = .ok (.iinc 3 1, 3) := dk_132 3 1 (dk_at dksX1_differ_2 9 rfl rfl)
theorem dX1_differ_57 : decode cX1_differ 57 = .ok (.iinc 4 1, 3) := dk_132 4 1 (dk_at dksX1_differ_2 12 rfl rfl)
theorem dX1_differ_60 : decode cX1_differ 60 = .ok (.goto (-37), 3) := dk_167 255 219 (dk_at dksX1_differ_2 15 rfl rfl)
theorem dX1_differ_63 : decode cX1_differ 63 = .ok (.iload_n 3, 1) := dk_29 (dk_at dksX1_differ_2 18 rfl rfl)
theorem dX1_differ_64 : decode cX1_differ 64 = .ok (.ireturn, 1) := dk_172 (dk_at dksX1_differ_2 19 rfl rfl)
abbrev cX1_mark : ByteArray := prog_1_method_81_code
def yX1_mark : MethodName := ⟨RX1, "mark", "(IZ)Z"⟩
def dkwX1_mark_4 : List UInt8 := [180, 0, 34, 184, 1, 138, 45, 180, 1, 144, 42, 180, 0, 37, 184, 1, 138, 4, 172]
abbrev dktX1_mark_4 : List UInt8 := dkwX1_mark_4 ++ []
def dkwX1_mark_3 : List UInt8 := [180, 0, 27, 184, 1, 138, 45, 180, 1, 142, 42, 180, 0, 31, 184, 1, 138, 45, 180, 1, 143, 42]
abbrev dktX1_mark_3 : List UInt8 := dkwX1_mark_3 ++ dktX1_mark_4
def dkwX1_mark_2 : List UInt8 := [27, 50, 78, 42, 45, 180, 1, 135, 181, 0, 20, 42, 45, 180, 1, 136, 181, 0, 95, 45, 180, 1, 137, 42]
abbrev dktX1_mark_2 : List UInt8 := dkwX1_mark_2 ++ dktX1_mark_3
def dkwX1_mark_1 : List UInt8 := [28, 154, 0, 19, 42, 180, 0, 65, 27, 187, 0, 63, 89, 42, 183, 1, 134, 83, 4, 172, 42, 180, 0, 65]
abbrev dktX1_mark_1 : List UInt8 := dkwX1_mark_1 ++ dktX1_mark_2
def dkwX1_mark_0 : List UInt8 := [27, 3, 6, 184, 0, 113, 153, 0, 16, 28, 153, 0, 14, 42, 180, 0, 65, 27, 50, 199, 0, 5, 3, 172]
abbrev dktX1_mark_0 : List UInt8 := dkwX1_mark_0 ++ dktX1_mark_1
theorem dksX1_mark_0 : cX1_mark.data.toList.drop 0 = dktX1_mark_0 := by decide +kernel
theorem dksX1_mark_1 : cX1_mark.data.toList.drop 24 = dktX1_mark_1 := dk_seg dksX1_mark_0 24 rfl rfl
theorem dksX1_mark_2 : cX1_mark.data.toList.drop 48 = dktX1_mark_2 := dk_seg dksX1_mark_1 24 rfl rfl
theorem dksX1_mark_3 : cX1_mark.data.toList.drop 72 = dktX1_mark_3 := dk_seg dksX1_mark_2 24 rfl rfl
theorem dksX1_mark_4 : cX1_mark.data.toList.drop 94 = dktX1_mark_4 := dk_seg dksX1_mark_3 22 rfl rfl
theorem dX1_mark_0 : decode cX1_mark 0 = .ok (.iload_n 1, 1) := dk_27 (dk_at dksX1_mark_0 0 rfl rfl)
theorem dX1_mark_1 : decode cX1_mark 1 = .ok (.iconst 0, 1) := dk_3 (dk_at dksX1_mark_0 1 rfl rfl)
theorem dX1_mark_2 : decode cX1_mark 2 = .ok (.iconst 3, 1) := dk_6 (dk_at dksX1_mark_0 2 rfl rfl)
theorem dX1_mark_3 : decode cX1_mark 3 = .ok (.invokestatic 113, 3) := dk_184 0 113 (dk_at dksX1_mark_0 3 rfl rfl)
theorem dX1_mark_6 : decode cX1_mark 6 = .ok (.ifCond .eq 16, 3) := dk_153 0 16 (dk_at dksX1_mark_0 6 rfl rfl)
theorem dX1_mark_9 : decode cX1_mark 9 = .ok (.iload_n 2, 1) := dk_28 (dk_at dksX1_mark_0 9 rfl rfl)
theorem dX1_mark_10 : decode cX1_mark 10 = .ok (.ifCond .eq 14, 3) := dk_153 0 14 (dk_at dksX1_mark_0 10 rfl rfl)
theorem dX1_mark_13 : decode cX1_mark 13 = .ok (.aload_n 0, 1) := dk_42 (dk_at dksX1_mark_0 13 rfl rfl)
theorem dX1_mark_14 : decode cX1_mark 14 = .ok (.getfield 65, 3) := dk_180 0 65 (dk_at dksX1_mark_0 14 rfl rfl)
theorem dX1_mark_17 : decode cX1_mark 17 = .ok (.iload_n 1, 1) := dk_27 (dk_at dksX1_mark_0 17 rfl rfl)
theorem dX1_mark_18 : decode cX1_mark 18 = .ok (.aaload, 1) := dk_50 (dk_at dksX1_mark_0 18 rfl rfl)
theorem dX1_mark_19 : decode cX1_mark 19 = .ok (.ifnonnull 5, 3) := dk_199 0 5 (dk_at dksX1_mark_0 19 rfl rfl)
theorem dX1_mark_22 : decode cX1_mark 22 = .ok (.iconst 0, 1) := dk_3 (dk_at dksX1_mark_0 22 rfl rfl)
theorem dX1_mark_23 : decode cX1_mark 23 = .ok (.ireturn, 1) := dk_172 (dk_at dksX1_mark_0 23 rfl rfl)
theorem dX1_mark_24 : decode cX1_mark 24 = .ok (.iload_n 2, 1) := dk_28 (dk_at dksX1_mark_1 0 rfl rfl)
theorem dX1_mark_25 : decode cX1_mark 25 = .ok (.ifCond .ne 19, 3) := dk_154 0 19 (dk_at dksX1_mark_1 1 rfl rfl)
theorem dX1_mark_28 : decode cX1_mark 28 = .ok (.aload_n 0, 1) := dk_42 (dk_at dksX1_mark_1 4 rfl rfl)
theorem dX1_mark_29 : decode cX1_mark 29 = .ok (.getfield 65, 3) := dk_180 0 65 (dk_at dksX1_mark_1 5 rfl rfl)
theorem dX1_mark_32 : decode cX1_mark 32 = .ok (.iload_n 1, 1) := dk_27 (dk_at dksX1_mark_1 8 rfl rfl)
theorem dX1_mark_33 : decode cX1_mark 33 = .ok (.new 63, 3) := dk_187 0 63 (dk_at dksX1_mark_1 9 rfl rfl)
theorem dX1_mark_36 : decode cX1_mark 36 = .ok (.dup, 1) := dk_89 (dk_at dksX1_mark_1 12 rfl rfl)
theorem dX1_mark_37 : decode cX1_mark 37 = .ok (.aload_n 0, 1) := dk_42 (dk_at dksX1_mark_1 13 rfl rfl)
theorem dX1_mark_38 : decode cX1_mark 38 = .ok (.invokespecial 390, 3) := dk_183 1 134 (dk_at dksX1_mark_1 14 rfl rfl)
theorem dX1_mark_41 : decode cX1_mark 41 = .ok (.aastore, 1) := dk_83 (dk_at dksX1_mark_1 17 rfl rfl)
theorem dX1_mark_42 : decode cX1_mark 42 = .ok (.iconst 1, 1) := dk_4 (dk_at dksX1_mark_1 18 rfl rfl)
theorem dX1_mark_43 : decode cX1_mark 43 = .ok (.ireturn, 1) := dk_172 (dk_at dksX1_mark_1 19 rfl rfl)
theorem dX1_mark_44 : decode cX1_mark 44 = .ok (.aload_n 0, 1) := dk_42 (dk_at dksX1_mark_1 20 rfl rfl)
theorem dX1_mark_45 : decode cX1_mark 45 = .ok (.getfield 65, 3) := dk_180 0 65 (dk_at dksX1_mark_1 21 rfl rfl)
theorem dX1_mark_48 : decode cX1_mark 48 = .ok (.iload_n 1, 1) := dk_27 (dk_at dksX1_mark_2 0 rfl rfl)
theorem dX1_mark_49 : decode cX1_mark 49 = .ok (.aaload, 1) := dk_50 (dk_at dksX1_mark_2 1 rfl rfl)
theorem dX1_mark_50 : decode cX1_mark 50 = .ok (.astore_n 3, 1) := dk_78 (dk_at dksX1_mark_2 2 rfl rfl)
theorem dX1_mark_51 : decode cX1_mark 51 = .ok (.aload_n 0, 1) := dk_42 (dk_at dksX1_mark_2 3 rfl rfl)
theorem dX1_mark_52 : decode cX1_mark 52 = .ok (.aload_n 3, 1) := dk_45 (dk_at dksX1_mark_2 4 rfl rfl)
theorem dX1_mark_53 : decode cX1_mark 53 = .ok (.getfield 391, 3) := dk_180 1 135 (dk_at dksX1_mark_2 5 rfl rfl)
theorem dX1_mark_56 : decode cX1_mark 56 = .ok (.putfield 20, 3) := dk_181 0 20 (dk_at dksX1_mark_2 8 rfl rfl)
theorem dX1_mark_59 : decode cX1_mark 59 = .ok (.aload_n 0, 1) := dk_42 (dk_at dksX1_mark_2 11 rfl rfl)
theorem dX1_mark_60 : decode cX1_mark 60 = .ok (.aload_n 3, 1) := dk_45 (dk_at dksX1_mark_2 12 rfl rfl)
theorem dX1_mark_61 : decode cX1_mark 61 = .ok (.getfield 392, 3) := dk_180 1 136 (dk_at dksX1_mark_2 13 rfl rfl)
theorem dX1_mark_64 : decode cX1_mark 64 = .ok (.putfield 95, 3) := dk_181 0 95 (dk_at dksX1_mark_2 16 rfl rfl)
theorem dX1_mark_67 : decode cX1_mark 67 = .ok (.aload_n 3, 1) := dk_45 (dk_at dksX1_mark_2 19 rfl rfl)
theorem dX1_mark_68 : decode cX1_mark 68 = .ok (.getfield 393, 3) := dk_180 1 137 (dk_at dksX1_mark_2 20 rfl rfl)
theorem dX1_mark_71 : decode cX1_mark 71 = .ok (.aload_n 0, 1) := dk_42 (dk_at dksX1_mark_2 23 rfl rfl)
theorem dX1_mark_72 : decode cX1_mark 72 = .ok (.getfield 27, 3) := dk_180 0 27 (dk_at dksX1_mark_3 0 rfl rfl)
theorem dX1_mark_75 : decode cX1_mark 75 = .ok (.invokestatic 394, 3) := dk_184 1 138 (dk_at dksX1_mark_3 3 rfl rfl)
theorem dX1_mark_78 : decode cX1_mark 78 = .ok (.aload_n 3, 1) := dk_45 (dk_at dksX1_mark_3 6 rfl rfl)
theorem dX1_mark_79 : decode cX1_mark 79 = .ok (.getfield 398, 3) := dk_180 1 142 (dk_at dksX1_mark_3 7 rfl rfl)
theorem dX1_mark_82 : decode cX1_mark 82 = .ok (.aload_n 0, 1) := dk_42 (dk_at dksX1_mark_3 10 rfl rfl)
theorem dX1_mark_83 : decode cX1_mark 83 = .ok (.getfield 31, 3) := dk_180 0 31 (dk_at dksX1_mark_3 11 rfl rfl)
theorem dX1_mark_86 : decode cX1_mark 86 = .ok (.invokestatic 394, 3) := dk_184 1 138 (dk_at dksX1_mark_3 14 rfl rfl)
theorem dX1_mark_89 : decode cX1_mark 89 = .ok (.aload_n 3, 1) := dk_45 (dk_at dksX1_mark_3 17 rfl rfl)
theorem dX1_mark_90 : decode cX1_mark 90 = .ok (.getfield 399, 3) := dk_180 1 143 (dk_at dksX1_mark_3 18 rfl rfl)
theorem dX1_mark_93 : decode cX1_mark 93 = .ok (.aload_n 0, 1) := dk_42 (dk_at dksX1_mark_3 21 rfl rfl)
theorem dX1_mark_94 : decode cX1_mark 94 = .ok (.getfield 34, 3) := dk_180 0 34 (dk_at dksX1_mark_4 0 rfl rfl)
theorem dX1_mark_97 : decode cX1_mark 97 = .ok (.invokestatic 394, 3) := dk_184 1 138 (dk_at dksX1_mark_4 3 rfl rfl)
theorem dX1_mark_100 : decode cX1_mark 100 = .ok (.aload_n 3, 1) := dk_45 (dk_at dksX1_mark_4 6 rfl rfl)
theorem dX1_mark_101 : decode cX1_mark 101 = .ok (.getfield 400, 3) := dk_180 1 144 (dk_at dksX1_mark_4 7 rfl rfl)
theorem dX1_mark_104 : decode cX1_mark 104 = .ok (.aload_n 0, 1) := dk_42 (dk_at dksX1_mark_4 10 rfl rfl)
theorem dX1_mark_105 : decode cX1_mark 105 = .ok (.getfield 37, 3) := dk_180 0 37 (dk_at dksX1_mark_4 11 rfl rfl)
theorem dX1_mark_108 : decode cX1_mark 108 = .ok (.invokestatic 394, 3) := dk_184 1 138 (dk_at dksX1_mark_4 14 rfl rfl)
theorem dX1_mark_111 : decode cX1_mark 111 = .ok (.iconst 1, 1) := dk_4 (dk_at dksX1_mark_4 17 rfl rfl)
theorem dX1_mark_112 : decode cX1_mark 112 = .ok (.ireturn, 1) := dk_172 (dk_at dksX1_mark_4 18 rfl rfl)
abbrev cX1_count : ByteArray := prog_1_method_82_code
def yX1_count : MethodName := ⟨RX1, "count", "(I)I"⟩
def dkwX1_count_7 : List UInt8 := [172]
abbrev dktX1_count_7 : List UInt8 := dkwX1_count_7 ++ []
def dkwX1_count_6 : List UInt8 := [180, 0, 95, 172, 42, 180, 0, 10, 180, 0, 89, 172, 42, 180, 0, 20, 180, 0, 81, 184, 0, 244, 172, 2]
abbrev dktX1_count_6 : List UInt8 := dkwX1_count_6 ++ dktX1_count_7
def dkwX1_count_5 : List UInt8 := [180, 0, 34, 182, 0, 109, 172, 42, 180, 0, 31, 182, 0, 109, 172, 42, 180, 0, 37, 182, 0, 109, 172, 42]
abbrev dktX1_count_5 : List UInt8 := dkwX1_count_5 ++ dktX1_count_6
def dkwX1_count_4 : List UInt8 := [180, 0, 72, 4, 50, 199, 0, 7, 4, 167, 0, 4, 5, 172, 42, 180, 0, 27, 182, 0, 109, 172, 42]
abbrev dktX1_count_4 : List UInt8 := dkwX1_count_4 ++ dktX1_count_5
def dkwX1_count_3 : List UInt8 := [180, 0, 20, 180, 0, 117, 182, 0, 109, 172, 42, 180, 0, 20, 180, 1, 148, 172, 42, 180, 0, 20]
abbrev dktX1_count_3 : List UInt8 := dkwX1_count_3 ++ dktX1_count_4
def dkwX1_count_2 : List UInt8 := [42, 180, 0, 20, 180, 0, 106, 182, 0, 109, 172, 42, 180, 0, 20, 180, 1, 145, 182, 0, 109, 172, 42]
abbrev dktX1_count_2 : List UInt8 := dkwX1_count_2 ++ dktX1_count_3
def dkwX1_count_1 : List UInt8 := [170, 0, 0, 0, 0, 0, 178, 0, 0, 0, 0, 0, 0, 0, 11, 0, 0, 0, 63, 0, 0, 0, 74, 0, 0, 0, 85, 0, 0, 0, 96, 0, 0, 0, 104, 0, 0, 0, 122, 0, 0, 0, 130, 0, 0, 0, 138, 0, 0, 0, 146, 0, 0, 0, 154, 0, 0, 0, 159, 0, 0, 0, 167]
abbrev dktX1_count_1 : List UInt8 := dkwX1_count_1 ++ dktX1_count_2
def dkwX1_count_0 : List UInt8 := [27]
abbrev dktX1_count_0 : List UInt8 := dkwX1_count_0 ++ dktX1_count_1
theorem dksX1_count_0 : cX1_count.data.toList.drop 0 = dktX1_count_0 := by decide +kernel
theorem dksX1_count_1 : cX1_count.data.toList.drop 1 = dktX1_count_1 := dk_seg dksX1_count_0 1 rfl rfl
theorem dksX1_count_2 : cX1_count.data.toList.drop 64 = dktX1_count_2 := dk_seg dksX1_count_1 63 rfl rfl
theorem dksX1_count_3 : cX1_count.data.toList.drop 87 = dktX1_count_3 := dk_seg dksX1_count_2 23 rfl rfl
theorem dksX1_count_4 : cX1_count.data.toList.drop 109 = dktX1_count_4 := dk_seg dksX1_count_3 22 rfl rfl
theorem dksX1_count_5 : cX1_count.data.toList.drop 132 = dktX1_count_5 := dk_seg dksX1_count_4 23 rfl rfl
theorem dksX1_count_6 : cX1_count.data.toList.drop 156 = dktX1_count_6 := dk_seg dksX1_count_5 24 rfl rfl
theorem dksX1_count_7 : cX1_count.data.toList.drop 180 = dktX1_count_7 := dk_seg dksX1_count_6 24 rfl rfl
theorem dX1_count_0 : decode cX1_count 0 = .ok (.iload_n 1, 1) := dk_27 (dk_at dksX1_count_0 0 rfl rfl)
theorem dX1_count_1 : decode cX1_count 1 = .ok (.tableswitch 178 0 11 #[63, 74, 85, 96, 104, 122, 130, 138, 146, 154, 159, 167], 63) := by decide +kernel
theorem dX1_count_64 : decode cX1_count 64 = .ok (.aload_n 0, 1) := dk_42 (dk_at dksX1_count_2 0 rfl rfl)
theorem dX1_count_65 : decode cX1_count 65 = .ok (.getfield 20, 3) := dk_180 0 20 (dk_at dksX1_count_2 1 rfl rfl)
theorem dX1_count_68 : decode cX1_count 68 = .ok (.getfield 106, 3) := dk_180 0 106 (dk_at dksX1_count_2 4 rfl rfl)
theorem dX1_count_71 : decode cX1_count 71 = .ok (.invokevirtual 109, 3) := dk_182 0 109 (dk_at dksX1_count_2 7 rfl rfl)
theorem dX1_count_74 : decode cX1_count 74 = .ok (.ireturn, 1) := dk_172 (dk_at dksX1_count_2 10 rfl rfl)
theorem dX1_count_75 : decode cX1_count 75 = .ok (.aload_n 0, 1) := dk_42 (dk_at dksX1_count_2 11 rfl rfl)
theorem dX1_count_76 : decode cX1_count 76 = .ok (.getfield 20, 3) := dk_180 0 20 (dk_at dksX1_count_2 12 rfl rfl)
theorem dX1_count_79 : decode cX1_count 79 = .ok (.getfield 401, 3) := dk_180 1 145 (dk_at dksX1_count_2 15 rfl rfl)
theorem dX1_count_82 : decode cX1_count 82 = .ok (.invokevirtual 109, 3) := dk_182 0 109 (dk_at dksX1_count_2 18 rfl rfl)
theorem dX1_count_85 : decode cX1_count 85 = .ok (.ireturn, 1) := dk_172 (dk_at dksX1_count_2 21 rfl rfl)
theorem dX1_count_86 : decode cX1_count 86 = .ok (.aload_n 0, 1) := dk_42 (dk_at dksX1_count_2 22 rfl rfl)
theorem dX1_count_87 : decode cX1_count 87 = .ok (.getfield 20, 3) := dk_180 0 20 (dk_at dksX1_count_3 0 rfl rfl)
theorem dX1_count_90 : decode cX1_count 90 = .ok (.getfield 117, 3) := dk_180 0 117 (dk_at dksX1_count_3 3 rfl rfl)
theorem dX1_count_93 : decode cX1_count 93 = .ok (.invokevirtual 109, 3) := dk_182 0 109 (dk_at dksX1_count_3 6 rfl rfl)
theorem dX1_count_96 : decode cX1_count 96 = .ok (.ireturn, 1) := dk_172 (dk_at dksX1_count_3 9 rfl rfl)
theorem dX1_count_97 : decode cX1_count 97 = .ok (.aload_n 0, 1) := dk_42 (dk_at dksX1_count_3 10 rfl rfl)
theorem dX1_count_98 : decode cX1_count 98 = .ok (.getfield 20, 3) := dk_180 0 20 (dk_at dksX1_count_3 11 rfl rfl)
theorem dX1_count_101 : decode cX1_count 101 = .ok (.getfield 404, 3) := dk_180 1 148 (dk_at dksX1_count_3 14 rfl rfl)
theorem dX1_count_104 : decode cX1_count 104 = .ok (.ireturn, 1) := dk_172 (dk_at dksX1_count_3 17 rfl rfl)
theorem dX1_count_105 : decode cX1_count 105 = .ok (.aload_n 0, 1) := dk_42 (dk_at dksX1_count_3 18 rfl rfl)
theorem dX1_count_106 : decode cX1_count 106 = .ok (.getfield 20, 3) := dk_180 0 20 (dk_at dksX1_count_3 19 rfl rfl)
theorem dX1_count_109 : decode cX1_count 109 = .ok (.getfield 72, 3) := dk_180 0 72 (dk_at dksX1_count_4 0 rfl rfl)
theorem dX1_count_112 : decode cX1_count 112 = .ok (.iconst 1, 1) := dk_4 (dk_at dksX1_count_4 3 rfl rfl)
theorem dX1_count_113 : decode cX1_count 113 = .ok (.aaload, 1) := dk_50 (dk_at dksX1_count_4 4 rfl rfl)
theorem dX1_count_114 : decode cX1_count 114 = .ok (.ifnonnull 7, 3) := dk_199 0 7 (dk_at dksX1_count_4 5 rfl rfl)
theorem dX1_count_117 : decode cX1_count 117 = .ok (.iconst 1, 1) := dk_4 (dk_at dksX1_count_4 8 rfl rfl)
theorem dX1_count_118 : decode cX1_count 118 = .ok (.goto 4, 3) := dk_167 0 4 (dk_at dksX1_count_4 9 rfl rfl)
theorem dX1_count_121 : decode cX1_count 121 = .ok (.iconst 2, 1) := dk_5 (dk_at dksX1_count_4 12 rfl rfl)
theorem dX1_count_122 : decode cX1_count 122 = .ok (.ireturn, 1) := dk_172 (dk_at dksX1_count_4 13 rfl rfl)
theorem dX1_count_123 : decode cX1_count 123 = .ok (.aload_n 0, 1) := dk_42 (dk_at dksX1_count_4 14 rfl rfl)
theorem dX1_count_124 : decode cX1_count 124 = .ok (.getfield 27, 3) := dk_180 0 27 (dk_at dksX1_count_4 15 rfl rfl)
theorem dX1_count_127 : decode cX1_count 127 = .ok (.invokevirtual 109, 3) := dk_182 0 109 (dk_at dksX1_count_4 18 rfl rfl)
theorem dX1_count_130 : decode cX1_count 130 = .ok (.ireturn, 1) := dk_172 (dk_at dksX1_count_4 21 rfl rfl)
theorem dX1_count_131 : decode cX1_count 131 = .ok (.aload_n 0, 1) := dk_42 (dk_at dksX1_count_4 22 rfl rfl)
theorem dX1_count_132 : decode cX1_count 132 = .ok (.getfield 34, 3) := dk_180 0 34 (dk_at dksX1_count_5 0 rfl rfl)
theorem dX1_count_135 : decode cX1_count 135 = .ok (.invokevirtual 109, 3) := dk_182 0 109 (dk_at dksX1_count_5 3 rfl rfl)
theorem dX1_count_138 : decode cX1_count 138 = .ok (.ireturn, 1) := dk_172 (dk_at dksX1_count_5 6 rfl rfl)
theorem dX1_count_139 : decode cX1_count 139 = .ok (.aload_n 0, 1) := dk_42 (dk_at dksX1_count_5 7 rfl rfl)
theorem dX1_count_140 : decode cX1_count 140 = .ok (.getfield 31, 3) := dk_180 0 31 (dk_at dksX1_count_5 8 rfl rfl)
theorem dX1_count_143 : decode cX1_count 143 = .ok (.invokevirtual 109, 3) := dk_182 0 109 (dk_at dksX1_count_5 11 rfl rfl)
theorem dX1_count_146 : decode cX1_count 146 = .ok (.ireturn, 1) := dk_172 (dk_at dksX1_count_5 14 rfl rfl)
theorem dX1_count_147 : decode cX1_count 147 = .ok (.aload_n 0, 1) := dk_42 (dk_at dksX1_count_5 15 rfl rfl)
theorem dX1_count_148 : decode cX1_count 148 = .ok (.getfield 37, 3) := dk_180 0 37 (dk_at dksX1_count_5 16 rfl rfl)
theorem dX1_count_151 : decode cX1_count 151 = .ok (.invokevirtual 109, 3) := dk_182 0 109 (dk_at dksX1_count_5 19 rfl rfl)
theorem dX1_count_154 : decode cX1_count 154 = .ok (.ireturn, 1) := dk_172 (dk_at dksX1_count_5 22 rfl rfl)
theorem dX1_count_155 : decode cX1_count 155 = .ok (.aload_n 0, 1) := dk_42 (dk_at dksX1_count_5 23 rfl rfl)
theorem dX1_count_156 : decode cX1_count 156 = .ok (.getfield 95, 3) := dk_180 0 95 (dk_at dksX1_count_6 0 rfl rfl)
theorem dX1_count_159 : decode cX1_count 159 = .ok (.ireturn, 1) := dk_172 (dk_at dksX1_count_6 3 rfl rfl)
theorem dX1_count_160 : decode cX1_count 160 = .ok (.aload_n 0, 1) := dk_42 (dk_at dksX1_count_6 4 rfl rfl)
theorem dX1_count_161 : decode cX1_count 161 = .ok (.getfield 10, 3) := dk_180 0 10 (dk_at dksX1_count_6 5 rfl rfl)
theorem dX1_count_164 : decode cX1_count 164 = .ok (.getfield 89, 3) := dk_180 0 89 (dk_at dksX1_count_6 8 rfl rfl)
theorem dX1_count_167 : decode cX1_count 167 = .ok (.ireturn, 1) := dk_172 (dk_at dksX1_count_6 11 rfl rfl)
theorem dX1_count_168 : decode cX1_count 168 = .ok (.aload_n 0, 1) := dk_42 (dk_at dksX1_count_6 12 rfl rfl)
theorem dX1_count_169 : decode cX1_count 169 = .ok (.getfield 20, 3) := dk_180 0 20 (dk_at dksX1_count_6 13 rfl rfl)
theorem dX1_count_172 : decode cX1_count 172 = .ok (.getfield 81, 3) := dk_180 0 81 (dk_at dksX1_count_6 16 rfl rfl)
theorem dX1_count_175 : decode cX1_count 175 = .ok (.invokestatic 244, 3) := dk_184 0 244 (dk_at dksX1_count_6 19 rfl rfl)
theorem dX1_count_178 : decode cX1_count 178 = .ok (.ireturn, 1) := dk_172 (dk_at dksX1_count_6 22 rfl rfl)
theorem dX1_count_179 : decode cX1_count 179 = .ok (.iconst (-1), 1) := dk_2 (dk_at dksX1_count_6 23 rfl rfl)
theorem dX1_count_180 : decode cX1_count 180 = .ok (.ireturn, 1) := dk_172 (dk_at dksX1_count_7 0 rfl rfl)
abbrev cX1_secret : ByteArray := prog_1_method_66_code
def yX1_secret : MethodName := ⟨RX1, "secret", "(IIIII)J"⟩
def dkwX1_secret_8 : List UInt8 := [20, 1, 101, 105, 55, 10, 132, 12, 1, 167, 255, 203, 22, 8, 22, 10, 21, 5, 184, 1, 11, 173]
abbrev dktX1_secret_8 : List UInt8 := dkwX1_secret_8 ++ []
def dkwX1_secret_7 : List UInt8 := [25, 6, 180, 0, 176, 159, 0, 6, 167, 0, 21, 22, 8, 16, 10, 29, 100, 133, 105, 55, 8, 22, 10]
abbrev dktX1_secret_7 : List UInt8 := dkwX1_secret_7 ++ dktX1_secret_8
def dkwX1_secret_6 : List UInt8 := [54, 12, 21, 12, 21, 7, 21, 4, 96, 162, 0, 49, 42, 28, 21, 12, 42, 180, 0, 95, 182, 0, 189]
abbrev dktX1_secret_6 : List UInt8 := dkwX1_secret_6 ++ dktX1_secret_7
def dkwX1_secret_5 : List UInt8 := [100, 17, 5, 159, 164, 0, 11, 187, 1, 98, 89, 183, 1, 100, 191, 10, 55, 8, 10, 55, 10, 21, 7]
abbrev dktX1_secret_5 : List UInt8 := dkwX1_secret_5 ++ dktX1_secret_6
def dkwX1_secret_4 : List UInt8 := [180, 0, 72, 28, 50, 180, 0, 179, 42, 180, 0, 95, 182, 0, 164, 153, 0, 16, 21, 7, 21, 4, 96, 4]
abbrev dktX1_secret_4 : List UInt8 := dkwX1_secret_4 ++ dktX1_secret_5
def dkwX1_secret_3 : List UInt8 := [180, 0, 140, 42, 180, 0, 20, 180, 0, 72, 28, 50, 180, 0, 182, 96, 54, 7, 25, 6, 42, 180, 0, 20]
abbrev dktX1_secret_3 : List UInt8 := dkwX1_secret_3 ++ dktX1_secret_4
def dkwX1_secret_2 : List UInt8 := [187, 1, 98, 89, 183, 1, 100, 191, 42, 180, 0, 27, 27, 182, 0, 134, 192, 0, 138, 58, 6, 25, 6]
abbrev dktX1_secret_2 : List UInt8 := dkwX1_secret_2 ++ dktX1_secret_3
def dkwX1_secret_1 : List UInt8 := [153, 0, 22, 21, 4, 4, 16, 15, 184, 0, 113, 153, 0, 11, 21, 5, 184, 1, 5, 154, 0, 11]
abbrev dktX1_secret_1 : List UInt8 := dkwX1_secret_1 ++ dktX1_secret_2
def dkwX1_secret_0 : List UInt8 := [42, 27, 182, 0, 200, 153, 0, 40, 42, 28, 182, 0, 197, 153, 0, 32, 29, 4, 16, 9, 184, 0, 113]
abbrev dktX1_secret_0 : List UInt8 := dkwX1_secret_0 ++ dktX1_secret_1
theorem dksX1_secret_0 : cX1_secret.data.toList.drop 0 = dktX1_secret_0 := by decide +kernel
theorem dksX1_secret_1 : cX1_secret.data.toList.drop 23 = dktX1_secret_1 := dk_seg dksX1_secret_0 23 rfl rfl
theorem dksX1_secret_2 : cX1_secret.data.toList.drop 45 = dktX1_secret_2 := dk_seg dksX1_secret_1 22 rfl rfl
theorem dksX1_secret_3 : cX1_secret.data.toList.drop 68 = dktX1_secret_3 := dk_seg dksX1_secret_2 23 rfl rfl
theorem dksX1_secret_4 : cX1_secret.data.toList.drop 92 = dktX1_secret_4 := dk_seg dksX1_secret_3 24 rfl rfl
theorem dksX1_secret_5 : cX1_secret.data.toList.drop 116 = dktX1_secret_5 := dk_seg dksX1_secret_4 24 rfl rfl
theorem dksX1_secret_6 : cX1_secret.data.toList.drop 139 = dktX1_secret_6 := dk_seg dksX1_secret_5 23 rfl rfl
theorem dksX1_secret_7 : cX1_secret.data.toList.drop 162 = dktX1_secret_7 := dk_seg dksX1_secret_6 23 rfl rfl
theorem dksX1_secret_8 : cX1_secret.data.toList.drop 185 = dktX1_secret_8 := dk_seg dksX1_secret_7 23 rfl rfl
theorem dX1_secret_0 : decode cX1_secret 0 = .ok (.aload_n 0, 1) := dk_42 (dk_at dksX1_secret_0 0 rfl rfl)
theorem dX1_secret_1 : decode cX1_secret 1 = .ok (.iload_n 1, 1) := dk_27 (dk_at dksX1_secret_0 1 rfl rfl)
theorem dX1_secret_2 : decode cX1_secret 2 = .ok (.invokevirtual 200, 3) := dk_182 0 200 (dk_at dksX1_secret_0 2 rfl rfl)
theorem dX1_secret_5 : decode cX1_secret 5 = .ok (.ifCond .eq 40, 3) := dk_153 0 40 (dk_at dksX1_secret_0 5 rfl rfl)
theorem dX1_secret_8 : decode cX1_secret 8 = .ok (.aload_n 0, 1) := dk_42 (dk_at dksX1_secret_0 8 rfl rfl)
theorem dX1_secret_9 : decode cX1_secret 9 = .ok (.iload_n 2, 1) := dk_28 (dk_at dksX1_secret_0 9 rfl rfl)
theorem dX1_secret_10 : decode cX1_secret 10 = .ok (.invokevirtual 197, 3) := dk_182 0 197 (dk_at dksX1_secret_0 10 rfl rfl)
theorem dX1_secret_13 : decode cX1_secret 13 = .ok (.ifCond .eq 32, 3) := dk_153 0 32 (dk_at dksX1_secret_0 13 rfl rfl)
theorem dX1_secret_16 : decode cX1_secret 16 = .ok (.iload_n 3, 1) := dk_29 (dk_at dksX1_secret_0 16 rfl rfl)
theorem dX1_secret_17 : decode cX1_secret 17 = .ok (.iconst 1, 1) := dk_4 (dk_at dksX1_secret_0 17 rfl rfl)
theorem dX1_secret_18 : decode cX1_secret 18 = .ok (.bipush 9, 2) := dk_16 9 (dk_at dksX1_secret_0 18 rfl rfl)
theorem dX1_secret_20 : decode cX1_secret 20 = .ok (.invokestatic 113, 3) := dk_184 0 113 (dk_at dksX1_secret_0 20 rfl rfl)
theorem dX1_secret_23 : decode cX1_secret 23 = .ok (.ifCond .eq 22, 3) := dk_153 0 22 (dk_at dksX1_secret_1 0 rfl rfl)
theorem dX1_secret_26 : decode cX1_secret 26 = .ok (.iload 4, 2) := dk_21 4 (dk_at dksX1_secret_1 3 rfl rfl)
theorem dX1_secret_28 : decode cX1_secret 28 = .ok (.iconst 1, 1) := dk_4 (dk_at dksX1_secret_1 5 rfl rfl)
theorem dX1_secret_29 : decode cX1_secret 29 = .ok (.bipush 15, 2) := dk_16 15 (dk_at dksX1_secret_1 6 rfl rfl)
theorem dX1_secret_31 : decode cX1_secret 31 = .ok (.invokestatic 113, 3) := dk_184 0 113 (dk_at dksX1_secret_1 8 rfl rfl)
theorem dX1_secret_34 : decode cX1_secret 34 = .ok (.ifCond .eq 11, 3) := dk_153 0 11 (dk_at dksX1_secret_1 11 rfl rfl)
theorem dX1_secret_37 : decode cX1_secret 37 = .ok (.iload 5, 2) := dk_21 5 (dk_at dksX1_secret_1 14 rfl rfl)
theorem dX1_secret_39 : decode cX1_secret 39 = .ok (.invokestatic 261, 3) := dk_184 1 5 (dk_at dksX1_secret_1 16 rfl rfl)
theorem dX1_secret_42 : decode cX1_secret 42 = .ok (.ifCond .ne 11, 3) := dk_154 0 11 (dk_at dksX1_secret_1 19 rfl rfl)
theorem dX1_secret_45 : decode cX1_secret 45 = .ok (.new 354, 3) := dk_187 1 98 (dk_at dksX1_secret_2 0 rfl rfl)
theorem dX1_secret_48 : decode cX1_secret 48 = .ok (.dup, 1) := dk_89 (dk_at dksX1_secret_2 3 rfl rfl)
theorem dX1_secret_49 : decode cX1_secret 49 = .ok (.invokespecial 356, 3) := dk_183 1 100 (dk_at dksX1_secret_2 4 rfl rfl)
theorem dX1_secret_52 : decode cX1_secret 52 = .ok (.athrow, 1) := dk_191 (dk_at dksX1_secret_2 7 rfl rfl)
theorem dX1_secret_53 : decode cX1_secret 53 = .ok (.aload_n 0, 1) := dk_42 (dk_at dksX1_secret_2 8 rfl rfl)
theorem dX1_secret_54 : decode cX1_secret 54 = .ok (.getfield 27, 3) := dk_180 0 27 (dk_at dksX1_secret_2 9 rfl rfl)
theorem dX1_secret_57 : decode cX1_secret 57 = .ok (.iload_n 1, 1) := dk_27 (dk_at dksX1_secret_2 12 rfl rfl)
theorem dX1_secret_58 : decode cX1_secret 58 = .ok (.invokevirtual 134, 3) := dk_182 0 134 (dk_at dksX1_secret_2 13 rfl rfl)
theorem dX1_secret_61 : decode cX1_secret 61 = .ok (.checkcast 138, 3) := dk_192 0 138 (dk_at dksX1_secret_2 16 rfl rfl)
theorem dX1_secret_64 : decode cX1_secret 64 = .ok (.astore 6, 2) := dk_58 6 (dk_at dksX1_secret_2 19 rfl rfl)
theorem dX1_secret_66 : decode cX1_secret 66 = .ok (.aload 6, 2) := dk_25 6 (dk_at dksX1_secret_2 21 rfl rfl)
theorem dX1_secret_68 : decode cX1_secret 68 = .ok (.getfield 140, 3) := dk_180 0 140 (dk_at dksX1_secret_3 0 rfl rfl)
theorem dX1_secret_71 : decode cX1_secret 71 = .ok (.aload_n 0, 1) := dk_42 (dk_at dksX1_secret_3 3 rfl rfl)
theorem dX1_secret_72 : decode cX1_secret 72 = .ok (.getfield 20, 3) := dk_180 0 20 (dk_at dksX1_secret_3 4 rfl rfl)
theorem dX1_secret_75 : decode cX1_secret 75 = .ok (.getfield 72, 3) := dk_180 0 72 (dk_at dksX1_secret_3 7 rfl rfl)
theorem dX1_secret_78 : decode cX1_secret 78 = .ok (.iload_n 2, 1) := dk_28 (dk_at dksX1_secret_3 10 rfl rfl)
theorem dX1_secret_79 : decode cX1_secret 79 = .ok (.aaload, 1) := dk_50 (dk_at dksX1_secret_3 11 rfl rfl)
theorem dX1_secret_80 : decode cX1_secret 80 = .ok (.getfield 182, 3) := dk_180 0 182 (dk_at dksX1_secret_3 12 rfl rfl)
theorem dX1_secret_83 : decode cX1_secret 83 = .ok (.iadd, 1) := dk_96 (dk_at dksX1_secret_3 15 rfl rfl)
theorem dX1_secret_84 : decode cX1_secret 84 = .ok (.istore 7, 2) := dk_54 7 (dk_at dksX1_secret_3 16 rfl rfl)
theorem dX1_secret_86 : decode cX1_secret 86 = .ok (.aload 6, 2) := dk_25 6 (dk_at dksX1_secret_3 18 rfl rfl)
theorem dX1_secret_88 : decode cX1_secret 88 = .ok (.aload_n 0, 1) := dk_42 (dk_at dksX1_secret_3 20 rfl rfl)
theorem dX1_secret_89 : decode cX1_secret 89 = .ok (.getfield 20, 3) := dk_180 0 20 (dk_at dksX1_secret_3 21 rfl rfl)
theorem dX1_secret_92 : decode cX1_secret 92 = .ok (.getfield 72, 3) := dk_180 0 72 (dk_at dksX1_secret_4 0 rfl rfl)
theorem dX1_secret_95 : decode cX1_secret 95 = .ok (.iload_n 2, 1) := dk_28 (dk_at dksX1_secret_4 3 rfl rfl)
theorem dX1_secret_96 : decode cX1_secret 96 = .ok (.aaload, 1) := dk_50 (dk_at dksX1_secret_4 4 rfl rfl)
theorem dX1_secret_97 : decode cX1_secret 97 = .ok (.getfield 179, 3) := dk_180 0 179 (dk_at dksX1_secret_4 5 rfl rfl)
theorem dX1_secret_100 : decode cX1_secret 100 = .ok (.aload_n 0, 1) := dk_42 (dk_at dksX1_secret_4 8 rfl rfl)
theorem dX1_secret_101 : decode cX1_secret 101 = .ok (.getfield 95, 3) := dk_180 0 95 (dk_at dksX1_secret_4 9 rfl rfl)
theorem dX1_secret_104 : decode cX1_secret 104 = .ok (.invokevirtual 164, 3) := dk_182 0 164 (dk_at dksX1_secret_4 12 rfl rfl)
theorem dX1_secret_107 : decode cX1_secret 107 = .ok (.ifCond .eq 16, 3) := dk_153 0 16 (dk_at dksX1_secret_4 15 rfl rfl)
theorem dX1_secret_110 : decode cX1_secret 110 = .ok (.iload 7, 2) := dk_21 7 (dk_at dksX1_secret_4 18 rfl rfl)
theorem dX1_secret_112 : decode cX1_secret 112 = .ok (.iload 4, 2) := dk_21 4 (dk_at dksX1_secret_4 20 rfl rfl)
theorem dX1_secret_114 : decode cX1_secret 114 = .ok (.iadd, 1) := dk_96 (dk_at dksX1_secret_4 22 rfl rfl)
theorem dX1_secret_115 : decode cX1_secret 115 = .ok (.iconst 1, 1) := dk_4 (dk_at dksX1_secret_4 23 rfl rfl)
theorem dX1_secret_116 : decode cX1_secret 116 = .ok (.isub, 1) := dk_100 (dk_at dksX1_secret_5 0 rfl rfl)
theorem dX1_secret_117 : decode cX1_secret 117 = .ok (.sipush 1439, 3) := dk_17 5 159 (dk_at dksX1_secret_5 1 rfl rfl)
theorem dX1_secret_120 : decode cX1_secret 120 = .ok (.if_icmp .le 11, 3) := dk_164 0 11 (dk_at dksX1_secret_5 4 rfl rfl)
theorem dX1_secret_123 : decode cX1_secret 123 = .ok (.new 354, 3) := dk_187 1 98 (dk_at dksX1_secret_5 7 rfl rfl)
theorem dX1_secret_126 : decode cX1_secret 126 = .ok (.dup, 1) := dk_89 (dk_at dksX1_secret_5 10 rfl rfl)
theorem dX1_secret_127 : decode cX1_secret 127 = .ok (.invokespecial 356, 3) := dk_183 1 100 (dk_at dksX1_secret_5 11 rfl rfl)
theorem dX1_secret_130 : decode cX1_secret 130 = .ok (.athrow, 1) := dk_191 (dk_at dksX1_secret_5 14 rfl rfl)
theorem dX1_secret_131 : decode cX1_secret 131 = .ok (.lconst 1, 1) := dk_10 (dk_at dksX1_secret_5 15 rfl rfl)
theorem dX1_secret_132 : decode cX1_secret 132 = .ok (.lstore 8, 2) := dk_55 8 (dk_at dksX1_secret_5 16 rfl rfl)
theorem dX1_secret_134 : decode cX1_secret 134 = .ok (.lconst 1, 1) := dk_10 (dk_at dksX1_secret_5 18 rfl rfl)
theorem dX1_secret_135 : decode cX1_secret 135 = .ok (.lstore 10, 2) := dk_55 10 (dk_at dksX1_secret_5 19 rfl rfl)
theorem dX1_secret_137 : decode cX1_secret 137 = .ok (.iload 7, 2) := dk_21 7 (dk_at dksX1_secret_5 21 rfl rfl)
theorem dX1_secret_139 : decode cX1_secret 139 = .ok (.istore 12, 2) := dk_54 12 (dk_at dksX1_secret_6 0 rfl rfl)
theorem dX1_secret_141 : decode cX1_secret 141 = .ok (.iload 12, 2) := dk_21 12 (dk_at dksX1_secret_6 2 rfl rfl)
theorem dX1_secret_143 : decode cX1_secret 143 = .ok (.iload 7, 2) := dk_21 7 (dk_at dksX1_secret_6 4 rfl rfl)
theorem dX1_secret_145 : decode cX1_secret 145 = .ok (.iload 4, 2) := dk_21 4 (dk_at dksX1_secret_6 6 rfl rfl)
theorem dX1_secret_147 : decode cX1_secret 147 = .ok (.iadd, 1) := dk_96 (dk_at dksX1_secret_6 8 rfl rfl)
theorem dX1_secret_148 : decode cX1_secret 148 = .ok (.if_icmp .ge 49, 3) := dk_162 0 49 (dk_at dksX1_secret_6 9 rfl rfl)
theorem dX1_secret_151 : decode cX1_secret 151 = .ok (.aload_n 0, 1) := dk_42 (dk_at dksX1_secret_6 12 rfl rfl)
theorem dX1_secret_152 : decode cX1_secret 152 = .ok (.iload_n 2, 1) := dk_28 (dk_at dksX1_secret_6 13 rfl rfl)
theorem dX1_secret_153 : decode cX1_secret 153 = .ok (.iload 12, 2) := dk_21 12 (dk_at dksX1_secret_6 14 rfl rfl)
theorem dX1_secret_155 : decode cX1_secret 155 = .ok (.aload_n 0, 1) := dk_42 (dk_at dksX1_secret_6 16 rfl rfl)
theorem dX1_secret_156 : decode cX1_secret 156 = .ok (.getfield 95, 3) := dk_180 0 95 (dk_at dksX1_secret_6 17 rfl rfl)
theorem dX1_secret_159 : decode cX1_secret 159 = .ok (.invokevirtual 189, 3) := dk_182 0 189 (dk_at dksX1_secret_6 20 rfl rfl)
theorem dX1_secret_162 : decode cX1_secret 162 = .ok (.aload 6, 2) := dk_25 6 (dk_at dksX1_secret_7 0 rfl rfl)
theorem dX1_secret_164 : decode cX1_secret 164 = .ok (.getfield 176, 3) := dk_180 0 176 (dk_at dksX1_secret_7 2 rfl rfl)
theorem dX1_secret_167 : decode cX1_secret 167 = .ok (.if_icmp .eq 6, 3) := dk_159 0 6 (dk_at dksX1_secret_7 5 rfl rfl)
theorem dX1_secret_170 : decode cX1_secret 170 = .ok (.goto 21, 3) := dk_167 0 21 (dk_at dksX1_secret_7 8 rfl rfl)
theorem dX1_secret_173 : decode cX1_secret 173 = .ok (.lload 8, 2) := dk_22 8 (dk_at dksX1_secret_7 11 rfl rfl)
theorem dX1_secret_175 : decode cX1_secret 175 = .ok (.bipush 10, 2) := dk_16 10 (dk_at dksX1_secret_7 13 rfl rfl)
theorem dX1_secret_177 : decode cX1_secret 177 = .ok (.iload_n 3, 1) := dk_29 (dk_at dksX1_secret_7 15 rfl rfl)
theorem dX1_secret_178 : decode cX1_secret 178 = .ok (.isub, 1) := dk_100 (dk_at dksX1_secret_7 16 rfl rfl)
theorem dX1_secret_179 : decode cX1_secret 179 = .ok (.i2l, 1) := dk_133 (dk_at dksX1_secret_7 17 rfl rfl)
theorem dX1_secret_180 : decode cX1_secret 180 = .ok (.lmul, 1) := dk_105 (dk_at dksX1_secret_7 18 rfl rfl)
theorem dX1_secret_181 : decode cX1_secret 181 = .ok (.lstore 8, 2) := dk_55 8 (dk_at dksX1_secret_7 19 rfl rfl)
theorem dX1_secret_183 : decode cX1_secret 183 = .ok (.lload 10, 2) := dk_22 10 (dk_at dksX1_secret_7 21 rfl rfl)
theorem dX1_secret_185 : decode cX1_secret 185 = .ok (.ldc2_w 357, 3) := dk_20 1 101 (dk_at dksX1_secret_8 0 rfl rfl)
theorem dX1_secret_188 : decode cX1_secret 188 = .ok (.lmul, 1) := dk_105 (dk_at dksX1_secret_8 3 rfl rfl)
theorem dX1_secret_189 : decode cX1_secret 189 = .ok (.lstore 10, 2) := dk_55 10 (dk_at dksX1_secret_8 4 rfl rfl)
theorem dX1_secret_191 : decode cX1_secret 191 = .ok (.iinc 12 1, 3) := dk_132 12 1 (dk_at dksX1_secret_8 6 rfl rfl)
theorem dX1_secret_194 : decode cX1_secret 194 = .ok (.goto (-53), 3) := dk_167 255 203 (dk_at dksX1_secret_8 9 rfl rfl)
theorem dX1_secret_197 : decode cX1_secret 197 = .ok (.lload 8, 2) := dk_22 8 (dk_at dksX1_secret_8 12 rfl rfl)
theorem dX1_secret_199 : decode cX1_secret 199 = .ok (.lload 10, 2) := dk_22 10 (dk_at dksX1_secret_8 14 rfl rfl)
theorem dX1_secret_201 : decode cX1_secret 201 = .ok (.iload 5, 2) := dk_21 5 (dk_at dksX1_secret_8 16 rfl rfl)
theorem dX1_secret_203 : decode cX1_secret 203 = .ok (.invokestatic 267, 3) := dk_184 1 11 (dk_at dksX1_secret_8 18 rfl rfl)
theorem dX1_secret_206 : decode cX1_secret 206 = .ok (.lreturn, 1) := dk_173 (dk_at dksX1_secret_8 21 rfl rfl)
theorem q119 : (Jvm.Cond.initialized "LiarsCock") ∈ lw_all := lw_g (lw_at lw_m1 1 rfl) rfl
theorem q167 : (Jvm.Cond.instantiable "LiarsCock" (11 : Nat)) ∈ lw_all := lw_g (lw_at lw_m1 49 rfl) rfl
theorem q169 : (Jvm.Cond.instanceMethod ({ cls := "LiarsCock", name := "<init>", desc := "()V" } : Jvm.MethodName)) ∈ lw_all := lw_g (lw_at lw_m1 51 rfl) rfl
theorem q170 : (Jvm.Cond.code ({ cls := "LiarsCock", name := "<init>", desc := "()V" } : Jvm.MethodName) prog_1_method_1_code (1 : Nat) (Option.none : Option Jvm.ClassFile.FieldType)) ∈ lw_all := lw_g (lw_at lw_m1 52 rfl) rfl
theorem q171 : (Jvm.Cond.methodLink "LiarsCock" (1 : Nat) ({ cls := "java/lang/Object", name := "<init>", desc := "()V" } : Jvm.MethodName)) ∈ lw_all := lw_g (lw_at lw_m1 53 rfl) rfl
theorem q174 : (Jvm.Cond.classLink "LiarsCock" (7 : Nat) "LiarsCock$Reader") ∈ lw_all := lw_g (lw_at lw_m1 56 rfl) rfl
theorem q176 : (Jvm.Cond.methodLinkNest "LiarsCock" (9 : Nat) ({ cls := "LiarsCock$Reader", name := "<init>", desc := "()V" } : Jvm.MethodName) "LiarsCock") ∈ lw_tbl := lw_at lw_m1 58 rfl
theorem q200 : (Jvm.Cond.fieldLink "LiarsCock" (89 : Nat) "LiarsCock$Reader" "taped" "I") ∈ lw_all := lw_g (lw_at lw_m1 82 rfl) rfl
theorem q228 : (Jvm.Cond.methodLink "LiarsCock" (16 : Nat) ({ cls := "LiarsCock", name := "none", desc := "()LLiarsCock$Parish;" } : Jvm.MethodName)) ∈ lw_all := lw_g (lw_at lw_m1 110 rfl) rfl
theorem q229 : (Jvm.Cond.static ({ cls := "LiarsCock", name := "none", desc := "()LLiarsCock$Parish;" } : Jvm.MethodName)) ∈ lw_all := lw_g (lw_at lw_m1 111 rfl) rfl
theorem q230 : (Jvm.Cond.code ({ cls := "LiarsCock", name := "none", desc := "()LLiarsCock$Parish;" } : Jvm.MethodName) prog_1_method_5_code (1 : Nat) (Option.some (Jvm.ClassFile.FieldType.object "LiarsCock$Parish"))) ∈ lw_all := lw_g (lw_at lw_m1 112 rfl) rfl
theorem q231 : (Jvm.Cond.classLink "LiarsCock" (69 : Nat) "LiarsCock$Parish") ∈ lw_all := lw_g (lw_at lw_m1 113 rfl) rfl
theorem q233 : (Jvm.Cond.methodLinkNest "LiarsCock" (71 : Nat) ({ cls := "LiarsCock$Parish", name := "<init>", desc := "()V" } : Jvm.MethodName) "LiarsCock") ∈ lw_tbl := lw_at lw_m1 115 rfl
theorem q279 : (Jvm.Cond.fieldLink "LiarsCock" (106 : Nat) "LiarsCock$Parish" "facts" "Ljava/util/ArrayList;") ∈ lw_all := lw_g (lw_at lw_m1 161 rfl) rfl
theorem q283 : (Jvm.Cond.fieldLink "LiarsCock" (401 : Nat) "LiarsCock$Parish" "places" "Ljava/util/ArrayList;") ∈ lw_all := lw_g (lw_at lw_m1 165 rfl) rfl
theorem q288 : (Jvm.Cond.fieldLink "LiarsCock" (117 : Nat) "LiarsCock$Parish" "people" "Ljava/util/ArrayList;") ∈ lw_all := lw_g (lw_at lw_m1 170 rfl) rfl
theorem q292 : (Jvm.Cond.fieldLink "LiarsCock" (257 : Nat) "LiarsCock$Parish" "chances" "[I") ∈ lw_all := lw_g (lw_at lw_m1 174 rfl) rfl
theorem q296 : (Jvm.Cond.fieldLink "LiarsCock" (72 : Nat) "LiarsCock$Parish" "cocks" "[LLiarsCock$Cock;") ∈ lw_all := lw_g (lw_at lw_m1 178 rfl) rfl
theorem q299 : (Jvm.Cond.fieldLink "LiarsCock" (404 : Nat) "LiarsCock$Parish" "commons" "I") ∈ lw_all := lw_g (lw_at lw_m1 181 rfl) rfl
theorem q301 : (Jvm.Cond.fieldLink "LiarsCock" (81 : Nat) "LiarsCock$Parish" "common" "J") ∈ lw_all := lw_g (lw_at lw_m1 183 rfl) rfl
theorem q326 : (Jvm.Cond.classLink "LiarsCock" (76 : Nat) "LiarsCock$Cock") ∈ lw_all := lw_g (lw_at lw_m1 208 rfl) rfl
theorem q328 : (Jvm.Cond.methodLink "LiarsCock" (78 : Nat) ({ cls := "LiarsCock$Cock", name := "<init>", desc := "(II)V" } : Jvm.MethodName)) ∈ lw_all := lw_g (lw_at lw_m1 210 rfl) rfl
theorem q333 : (Jvm.Cond.fieldLink "LiarsCock" (179 : Nat) "LiarsCock$Cock" "law" "I") ∈ lw_all := lw_g (lw_at lw_m1 215 rfl) rfl
theorem q335 : (Jvm.Cond.fieldLink "LiarsCock" (182 : Nat) "LiarsCock$Cock" "late" "I") ∈ lw_all := lw_g (lw_at lw_m1 217 rfl) rfl
theorem q341 : (Jvm.Cond.classLink "LiarsCock" (24 : Nat) "java/util/ArrayList") ∈ lw_all := lw_g (lw_at lw_m1 223 rfl) rfl
theorem q342 : (Jvm.Cond.methodLink "LiarsCock" (26 : Nat) ({ cls := "java/util/ArrayList", name := "<init>", desc := "()V" } : Jvm.MethodName)) ∈ lw_all := lw_g (lw_at lw_m1 224 rfl) rfl
theorem q347 : (Jvm.Cond.classLink "LiarsCock" (40 : Nat) "LiarsCock$Sets") ∈ lw_all := lw_g (lw_at lw_m1 229 rfl) rfl
theorem q349 : (Jvm.Cond.methodLinkNest "LiarsCock" (42 : Nat) ({ cls := "LiarsCock$Sets", name := "<init>", desc := "(LLiarsCock;)V" } : Jvm.MethodName) "LiarsCock") ∈ lw_tbl := lw_at lw_m1 231 rfl
theorem q363 : (Jvm.Cond.classLink "LiarsCock" (49 : Nat) "LiarsCock$Bearings") ∈ lw_all := lw_g (lw_at lw_m2 5 rfl) rfl
theorem q365 : (Jvm.Cond.methodLinkNest "LiarsCock" (51 : Nat) ({ cls := "LiarsCock$Bearings", name := "<init>", desc := "(LLiarsCock;)V" } : Jvm.MethodName) "LiarsCock") ∈ lw_tbl := lw_at lw_m2 7 rfl
theorem q371 : (Jvm.Cond.fieldLink "LiarsCock" (292 : Nat) "LiarsCock$Bearings" "most" "I") ∈ lw_all := lw_g (lw_at lw_m2 13 rfl) rfl
theorem q373 : (Jvm.Cond.fieldLink "LiarsCock" (295 : Nat) "LiarsCock$Bearings" "many" "I") ∈ lw_all := lw_g (lw_at lw_m2 15 rfl) rfl
theorem q384 : (Jvm.Cond.classLink "LiarsCock" (56 : Nat) "LiarsCock$Lookout") ∈ lw_all := lw_g (lw_at lw_m2 26 rfl) rfl
theorem q386 : (Jvm.Cond.methodLinkNest "LiarsCock" (58 : Nat) ({ cls := "LiarsCock$Lookout", name := "<init>", desc := "(LLiarsCock;)V" } : Jvm.MethodName) "LiarsCock") ∈ lw_tbl := lw_at lw_m2 28 rfl
theorem q393 : (Jvm.Cond.fieldLink "LiarsCock" (387 : Nat) "LiarsCock$Lookout" "at" "[I") ∈ lw_all := lw_g (lw_at lw_m2 35 rfl) rfl
theorem q413 : (Jvm.Cond.classLink "LiarsCock" (63 : Nat) "LiarsCock$Mark") ∈ lw_all := lw_g (lw_at lw_m2 55 rfl) rfl
theorem q415 : (Jvm.Cond.fieldLink "LiarsCock" (10 : Nat) "LiarsCock" "reader" "LLiarsCock$Reader;") ∈ lw_all := lw_g (lw_at lw_m2 57 rfl) rfl
theorem q417 : (Jvm.Cond.fieldLink "LiarsCock" (20 : Nat) "LiarsCock" "parish" "LLiarsCock$Parish;") ∈ lw_all := lw_g (lw_at lw_m2 59 rfl) rfl
theorem q422 : (Jvm.Cond.fieldLink "LiarsCock" (95 : Nat) "LiarsCock" "truth" "I") ∈ lw_all := lw_g (lw_at lw_m2 64 rfl) rfl
theorem q424 : (Jvm.Cond.fieldLink "LiarsCock" (27 : Nat) "LiarsCock" "sayings" "Ljava/util/ArrayList;") ∈ lw_all := lw_g (lw_at lw_m2 66 rfl) rfl
theorem q426 : (Jvm.Cond.fieldLink "LiarsCock" (31 : Nat) "LiarsCock" "offers" "Ljava/util/ArrayList;") ∈ lw_all := lw_g (lw_at lw_m2 68 rfl) rfl
theorem q428 : (Jvm.Cond.fieldLink "LiarsCock" (34 : Nat) "LiarsCock" "looks" "Ljava/util/ArrayList;") ∈ lw_all := lw_g (lw_at lw_m2 70 rfl) rfl
theorem q431 : (Jvm.Cond.fieldLink "LiarsCock" (37 : Nat) "LiarsCock" "watches" "Ljava/util/ArrayList;") ∈ lw_all := lw_g (lw_at lw_m2 73 rfl) rfl
theorem q432 : (Jvm.Cond.fieldLink "LiarsCock" (45 : Nat) "LiarsCock" "sets" "LLiarsCock$Sets;") ∈ lw_all := lw_g (lw_at lw_m2 74 rfl) rfl
theorem q433 : (Jvm.Cond.fieldLink "LiarsCock" (52 : Nat) "LiarsCock" "bearings" "LLiarsCock$Bearings;") ∈ lw_all := lw_g (lw_at lw_m2 75 rfl) rfl
theorem q434 : (Jvm.Cond.fieldLink "LiarsCock" (59 : Nat) "LiarsCock" "lookout" "LLiarsCock$Lookout;") ∈ lw_all := lw_g (lw_at lw_m2 76 rfl) rfl
theorem q435 : (Jvm.Cond.fieldLink "LiarsCock" (65 : Nat) "LiarsCock" "marks" "[LLiarsCock$Mark;") ∈ lw_all := lw_g (lw_at lw_m2 77 rfl) rfl
theorem q436 : (Jvm.Cond.laysFinal "LiarsCock" "LiarsCock" "reader" "LLiarsCock$Reader;") ∈ lw_all := lw_g (lw_at lw_m2 78 rfl) rfl
theorem q437 : (Jvm.Cond.soleField "LiarsCock" "reader") ∈ lw_all := lw_g (lw_at lw_m2 79 rfl) rfl
theorem q438 : (Jvm.Cond.lays "LiarsCock" "LiarsCock" "parish" "LLiarsCock$Parish;") ∈ lw_all := lw_g (lw_at lw_m2 80 rfl) rfl
theorem q439 : (Jvm.Cond.soleField "LiarsCock" "parish") ∈ lw_all := lw_g (lw_at lw_m2 81 rfl) rfl
theorem q440 : (Jvm.Cond.lays "LiarsCock" "LiarsCock" "truth" "I") ∈ lw_all := lw_g (lw_at lw_m2 82 rfl) rfl
theorem q441 : (Jvm.Cond.soleField "LiarsCock" "truth") ∈ lw_all := lw_g (lw_at lw_m2 83 rfl) rfl
theorem q442 : (Jvm.Cond.laysFinal "LiarsCock" "LiarsCock" "sayings" "Ljava/util/ArrayList;") ∈ lw_all := lw_g (lw_at lw_m2 84 rfl) rfl
theorem q443 : (Jvm.Cond.soleField "LiarsCock" "sayings") ∈ lw_all := lw_g (lw_at lw_m2 85 rfl) rfl
theorem q444 : (Jvm.Cond.laysFinal "LiarsCock" "LiarsCock" "offers" "Ljava/util/ArrayList;") ∈ lw_all := lw_g (lw_at lw_m2 86 rfl) rfl
theorem q445 : (Jvm.Cond.soleField "LiarsCock" "offers") ∈ lw_all := lw_g (lw_at lw_m2 87 rfl) rfl
theorem q446 : (Jvm.Cond.laysFinal "LiarsCock" "LiarsCock" "looks" "Ljava/util/ArrayList;") ∈ lw_all := lw_g (lw_at lw_m2 88 rfl) rfl
theorem q447 : (Jvm.Cond.soleField "LiarsCock" "looks") ∈ lw_all := lw_g (lw_at lw_m2 89 rfl) rfl
theorem q448 : (Jvm.Cond.laysFinal "LiarsCock" "LiarsCock" "watches" "Ljava/util/ArrayList;") ∈ lw_all := lw_g (lw_at lw_m2 90 rfl) rfl
theorem q449 : (Jvm.Cond.soleField "LiarsCock" "watches") ∈ lw_all := lw_g (lw_at lw_m2 91 rfl) rfl
theorem q450 : (Jvm.Cond.laysFinal "LiarsCock" "LiarsCock" "sets" "LLiarsCock$Sets;") ∈ lw_all := lw_g (lw_at lw_m2 92 rfl) rfl
theorem q451 : (Jvm.Cond.soleField "LiarsCock" "sets") ∈ lw_all := lw_g (lw_at lw_m2 93 rfl) rfl
theorem q452 : (Jvm.Cond.laysFinal "LiarsCock" "LiarsCock" "bearings" "LLiarsCock$Bearings;") ∈ lw_all := lw_g (lw_at lw_m2 94 rfl) rfl
theorem q453 : (Jvm.Cond.soleField "LiarsCock" "bearings") ∈ lw_all := lw_g (lw_at lw_m2 95 rfl) rfl
theorem q454 : (Jvm.Cond.laysFinal "LiarsCock" "LiarsCock" "lookout" "LLiarsCock$Lookout;") ∈ lw_all := lw_g (lw_at lw_m2 96 rfl) rfl
theorem q455 : (Jvm.Cond.soleField "LiarsCock" "lookout") ∈ lw_all := lw_g (lw_at lw_m2 97 rfl) rfl
theorem q456 : (Jvm.Cond.laysFinal "LiarsCock" "LiarsCock" "marks" "[LLiarsCock$Mark;") ∈ lw_all := lw_g (lw_at lw_m2 98 rfl) rfl
theorem q457 : (Jvm.Cond.soleField "LiarsCock" "marks") ∈ lw_all := lw_g (lw_at lw_m2 99 rfl) rfl
theorem q458 : (Jvm.Cond.superclass "LiarsCock" "java/lang/Object") ∈ lw_all := lw_g (lw_at lw_m2 100 rfl) rfl
theorem q460 : (Jvm.Cond.instanceMethod ({ cls := "LiarsCock", name := "feed", desc := "(JJJ)I" } : Jvm.MethodName)) ∈ lw_all := lw_g (lw_at lw_m2 102 rfl) rfl
theorem q461 : (Jvm.Cond.selects "LiarsCock" ({ cls := "LiarsCock", name := "feed", desc := "(JJJ)I" } : Jvm.MethodName) ({ cls := "LiarsCock", name := "feed", desc := "(JJJ)I" } : Jvm.MethodName)) ∈ lw_all := lw_g (lw_at lw_m2 103 rfl) rfl
theorem q462 : (Jvm.Cond.code ({ cls := "LiarsCock", name := "feed", desc := "(JJJ)I" } : Jvm.MethodName) prog_1_method_6_code (7 : Nat) (Option.some Jvm.ClassFile.FieldType.int)) ∈ lw_all := lw_g (lw_at lw_m2 104 rfl) rfl
theorem q463 : (Jvm.Cond.methodLink "LiarsCock" (85 : Nat) ({ cls := "LiarsCock$Reader", name := "feed", desc := "(J)V" } : Jvm.MethodName)) ∈ lw_all := lw_g (lw_at lw_m2 105 rfl) rfl
theorem q469 : (Jvm.Cond.static ({ cls := "LiarsCock", name := "within", desc := "(III)Z" } : Jvm.MethodName)) ∈ lw_all := lw_g (lw_at lw_m2 111 rfl) rfl
theorem q470 : (Jvm.Cond.code ({ cls := "LiarsCock", name := "within", desc := "(III)Z" } : Jvm.MethodName) prog_1_method_2_code (3 : Nat) (Option.some Jvm.ClassFile.FieldType.boolean)) ∈ lw_all := lw_g (lw_at lw_m2 112 rfl) rfl
theorem q472 : (Jvm.Cond.instanceMethod ({ cls := "LiarsCock", name := "parish", desc := "()I" } : Jvm.MethodName)) ∈ lw_all := lw_g (lw_at lw_m2 114 rfl) rfl
theorem q473 : (Jvm.Cond.selects "LiarsCock" ({ cls := "LiarsCock", name := "parish", desc := "()I" } : Jvm.MethodName) ({ cls := "LiarsCock", name := "parish", desc := "()I" } : Jvm.MethodName)) ∈ lw_all := lw_g (lw_at lw_m2 115 rfl) rfl
theorem q474 : (Jvm.Cond.codeWith ({ cls := "LiarsCock", name := "parish", desc := "()I" } : Jvm.MethodName) prog_1_method_7_code (2 : Nat) (Option.some Jvm.ClassFile.FieldType.int) [((0 : Nat), (45 : Nat), (46 : Nat), (101 : Nat))]) ∈ lw_all := lw_g (lw_at lw_m2 116 rfl) rfl
theorem q475 : (Jvm.Cond.classLink "LiarsCock" (101 : Nat) "LiarsCock$Wrong") ∈ lw_all := lw_g (lw_at lw_m2 117 rfl) rfl
theorem q476 : (Jvm.Cond.methodLink "LiarsCock" (93 : Nat) ({ cls := "LiarsCock$Reader", name := "parish", desc := "()LLiarsCock$Parish;" } : Jvm.MethodName)) ∈ lw_all := lw_g (lw_at lw_m2 118 rfl) rfl
theorem q675 : (Jvm.Cond.fieldLink "LiarsCock" (103 : Nat) "LiarsCock$Wrong" "fault" "I") ∈ lw_all := lw_g (lw_at lw_m3 77 rfl) rfl
theorem q777 : (Jvm.Cond.selects "LiarsCock" ({ cls := "java/lang/Object", name := "getClass", desc := "()Ljava/lang/Class;" } : Jvm.MethodName) ({ cls := "java/lang/Object", name := "getClass", desc := "()Ljava/lang/Class;" } : Jvm.MethodName)) ∈ lw_all := lw_g (lw_at lw_m3 179 rfl) rfl
theorem q845 : (Jvm.Cond.fieldLink "LiarsCock" (380 : Nat) "LiarsCock$Person" "place" "I") ∈ lw_all := lw_g (lw_at lw_m4 7 rfl) rfl
theorem q848 : (Jvm.Cond.fieldLink "LiarsCock" (300 : Nat) "LiarsCock$Person" "knows" "I") ∈ lw_all := lw_g (lw_at lw_m4 10 rfl) rfl
theorem q855 : (Jvm.Cond.static ({ cls := "LiarsCock", name := "has", desc := "(JI)Z" } : Jvm.MethodName)) ∈ lw_all := lw_g (lw_at lw_m4 17 rfl) rfl
theorem q856 : (Jvm.Cond.code ({ cls := "LiarsCock", name := "has", desc := "(JI)Z" } : Jvm.MethodName) prog_1_method_3_code (3 : Nat) (Option.some Jvm.ClassFile.FieldType.boolean)) ∈ lw_all := lw_g (lw_at lw_m4 18 rfl) rfl
theorem q1088 : (Jvm.Cond.methodLink "LiarsCock" (98 : Nat) ({ cls := "java/util/ArrayList", name := "clear", desc := "()V" } : Jvm.MethodName)) ∈ lw_all := lw_g (lw_at lw_m5 10 rfl) rfl
theorem q1093 : (Jvm.Cond.instanceMethod ({ cls := "LiarsCock", name := "truth", desc := "(I)Z" } : Jvm.MethodName)) ∈ lw_all := lw_g (lw_at lw_m5 15 rfl) rfl
theorem q1094 : (Jvm.Cond.selects "LiarsCock" ({ cls := "LiarsCock", name := "truth", desc := "(I)Z" } : Jvm.MethodName) ({ cls := "LiarsCock", name := "truth", desc := "(I)Z" } : Jvm.MethodName)) ∈ lw_all := lw_g (lw_at lw_m5 16 rfl) rfl
theorem q1095 : (Jvm.Cond.code ({ cls := "LiarsCock", name := "truth", desc := "(I)Z" } : Jvm.MethodName) prog_1_method_16_code (2 : Nat) (Option.some Jvm.ClassFile.FieldType.boolean)) ∈ lw_all := lw_g (lw_at lw_m5 17 rfl) rfl
theorem q1096 : (Jvm.Cond.methodLink "LiarsCock" (127 : Nat) ({ cls := "LiarsCock", name := "isWorld", desc := "(I)Z" } : Jvm.MethodName)) ∈ lw_all := lw_g (lw_at lw_m5 18 rfl) rfl
theorem q1097 : (Jvm.Cond.privateMethod ({ cls := "LiarsCock", name := "isWorld", desc := "(I)Z" } : Jvm.MethodName)) ∈ lw_tbl := lw_at lw_m5 19 rfl
theorem q1098 : (Jvm.Cond.instanceMethod ({ cls := "LiarsCock", name := "isWorld", desc := "(I)Z" } : Jvm.MethodName)) ∈ lw_all := lw_g (lw_at lw_m5 20 rfl) rfl
theorem q1099 : (Jvm.Cond.code ({ cls := "LiarsCock", name := "isWorld", desc := "(I)Z" } : Jvm.MethodName) prog_1_method_11_code (2 : Nat) (Option.some Jvm.ClassFile.FieldType.boolean)) ∈ lw_all := lw_g (lw_at lw_m5 21 rfl) rfl
theorem q1100 : (Jvm.Cond.methodLink "LiarsCock" (120 : Nat) ({ cls := "LiarsCock$Parish", name := "worlds", desc := "()I" } : Jvm.MethodName)) ∈ lw_all := lw_g (lw_at lw_m5 22 rfl) rfl
theorem q1101 : (Jvm.Cond.methodLink "LiarsCock" (113 : Nat) ({ cls := "LiarsCock", name := "within", desc := "(III)Z" } : Jvm.MethodName)) ∈ lw_all := lw_g (lw_at lw_m5 23 rfl) rfl
theorem q1103 : (Jvm.Cond.instanceMethod ({ cls := "LiarsCock", name := "say", desc := "(II)I" } : Jvm.MethodName)) ∈ lw_all := lw_g (lw_at lw_m5 25 rfl) rfl
theorem q1104 : (Jvm.Cond.selects "LiarsCock" ({ cls := "LiarsCock", name := "say", desc := "(II)I" } : Jvm.MethodName) ({ cls := "LiarsCock", name := "say", desc := "(II)I" } : Jvm.MethodName)) ∈ lw_all := lw_g (lw_at lw_m5 26 rfl) rfl
theorem q1105 : (Jvm.Cond.code ({ cls := "LiarsCock", name := "say", desc := "(II)I" } : Jvm.MethodName) prog_1_method_19_code (3 : Nat) (Option.some Jvm.ClassFile.FieldType.int)) ∈ lw_all := lw_g (lw_at lw_m5 27 rfl) rfl
theorem q1106 : (Jvm.Cond.methodLink "LiarsCock" (154 : Nat) ({ cls := "LiarsCock", name := "isPerson", desc := "(I)Z" } : Jvm.MethodName)) ∈ lw_all := lw_g (lw_at lw_m5 28 rfl) rfl
theorem q1107 : (Jvm.Cond.privateMethod ({ cls := "LiarsCock", name := "isPerson", desc := "(I)Z" } : Jvm.MethodName)) ∈ lw_tbl := lw_at lw_m5 29 rfl
theorem q1108 : (Jvm.Cond.instanceMethod ({ cls := "LiarsCock", name := "isPerson", desc := "(I)Z" } : Jvm.MethodName)) ∈ lw_all := lw_g (lw_at lw_m5 30 rfl) rfl
theorem q1109 : (Jvm.Cond.code ({ cls := "LiarsCock", name := "isPerson", desc := "(I)Z" } : Jvm.MethodName) prog_1_method_9_code (2 : Nat) (Option.some Jvm.ClassFile.FieldType.boolean)) ∈ lw_all := lw_g (lw_at lw_m5 31 rfl) rfl
theorem q1110 : (Jvm.Cond.methodLink "LiarsCock" (109 : Nat) ({ cls := "java/util/ArrayList", name := "size", desc := "()I" } : Jvm.MethodName)) ∈ lw_all := lw_g (lw_at lw_m5 32 rfl) rfl
theorem q1111 : (Jvm.Cond.methodLink "LiarsCock" (123 : Nat) ({ cls := "LiarsCock", name := "isMinute", desc := "(I)Z" } : Jvm.MethodName)) ∈ lw_all := lw_g (lw_at lw_m5 33 rfl) rfl
theorem q1112 : (Jvm.Cond.static ({ cls := "LiarsCock", name := "isMinute", desc := "(I)Z" } : Jvm.MethodName)) ∈ lw_all := lw_g (lw_at lw_m5 34 rfl) rfl
theorem q1113 : (Jvm.Cond.code ({ cls := "LiarsCock", name := "isMinute", desc := "(I)Z" } : Jvm.MethodName) prog_1_method_12_code (1 : Nat) (Option.some Jvm.ClassFile.FieldType.boolean)) ∈ lw_all := lw_g (lw_at lw_m5 35 rfl) rfl
theorem q1114 : (Jvm.Cond.methodLink "LiarsCock" (157 : Nat) ({ cls := "LiarsCock", name := "last", desc := "()I" } : Jvm.MethodName)) ∈ lw_all := lw_g (lw_at lw_m5 36 rfl) rfl
theorem q1115 : (Jvm.Cond.privateMethod ({ cls := "LiarsCock", name := "last", desc := "()I" } : Jvm.MethodName)) ∈ lw_tbl := lw_at lw_m5 37 rfl
theorem q1116 : (Jvm.Cond.instanceMethod ({ cls := "LiarsCock", name := "last", desc := "()I" } : Jvm.MethodName)) ∈ lw_all := lw_g (lw_at lw_m5 38 rfl) rfl
theorem q1117 : (Jvm.Cond.code ({ cls := "LiarsCock", name := "last", desc := "()I" } : Jvm.MethodName) prog_1_method_17_code (1 : Nat) (Option.some Jvm.ClassFile.FieldType.int)) ∈ lw_all := lw_g (lw_at lw_m5 39 rfl) rfl
theorem q1118 : (Jvm.Cond.methodLink "LiarsCock" (130 : Nat) ({ cls := "java/util/ArrayList", name := "isEmpty", desc := "()Z" } : Jvm.MethodName)) ∈ lw_all := lw_g (lw_at lw_m5 40 rfl) rfl
theorem q1122 : (Jvm.Cond.methodLink "LiarsCock" (134 : Nat) ({ cls := "java/util/ArrayList", name := "get", desc := "(I)Ljava/lang/Object;" } : Jvm.MethodName)) ∈ lw_all := lw_g (lw_at lw_m5 44 rfl) rfl
theorem q1123 : (Jvm.Cond.classLink "LiarsCock" (138 : Nat) "LiarsCock$Saying") ∈ lw_all := lw_g (lw_at lw_m5 45 rfl) rfl
theorem q1124 : (Jvm.Cond.methodLink "LiarsCock" (160 : Nat) ({ cls := "LiarsCock", name := "told", desc := "(Ljava/util/ArrayList;ZII)I" } : Jvm.MethodName)) ∈ lw_all := lw_g (lw_at lw_m5 46 rfl) rfl
theorem q1125 : (Jvm.Cond.privateMethod ({ cls := "LiarsCock", name := "told", desc := "(Ljava/util/ArrayList;ZII)I" } : Jvm.MethodName)) ∈ lw_tbl := lw_at lw_m5 47 rfl
theorem q1126 : (Jvm.Cond.instanceMethod ({ cls := "LiarsCock", name := "told", desc := "(Ljava/util/ArrayList;ZII)I" } : Jvm.MethodName)) ∈ lw_all := lw_g (lw_at lw_m5 48 rfl) rfl
theorem q1127 : (Jvm.Cond.codeWith ({ cls := "LiarsCock", name := "told", desc := "(Ljava/util/ArrayList;ZII)I" } : Jvm.MethodName) prog_1_method_18_code (6 : Nat) (Option.some Jvm.ClassFile.FieldType.int) [((14 : Nat), (45 : Nat), (46 : Nat), (101 : Nat))]) ∈ lw_all := lw_g (lw_at lw_m5 49 rfl) rfl
theorem q1129 : (Jvm.Cond.methodLink "LiarsCock" (143 : Nat) ({ cls := "LiarsCock$Reader", name := "saying", desc := "(LLiarsCock$Parish;)LLiarsCock$Expression;" } : Jvm.MethodName)) ∈ lw_all := lw_g (lw_at lw_m5 51 rfl) rfl
theorem q1133 : (Jvm.Cond.methodLink "LiarsCock" (147 : Nat) ({ cls := "LiarsCock$Saying", name := "<init>", desc := "(LLiarsCock$Parish;IILLiarsCock$Expression;)V" } : Jvm.MethodName)) ∈ lw_all := lw_g (lw_at lw_m5 55 rfl) rfl
theorem q1152 : (Jvm.Cond.fieldLink "LiarsCock" (176 : Nat) "LiarsCock$Saying" "person" "I") ∈ lw_all := lw_g (lw_at lw_m5 74 rfl) rfl
theorem q1154 : (Jvm.Cond.fieldLink "LiarsCock" (140 : Nat) "LiarsCock$Saying" "minute" "I") ∈ lw_all := lw_g (lw_at lw_m5 76 rfl) rfl
theorem q1156 : (Jvm.Cond.fieldLink "LiarsCock" (203 : Nat) "LiarsCock$Saying" "so" "J") ∈ lw_all := lw_g (lw_at lw_m5 78 rfl) rfl
theorem q1167 : (Jvm.Cond.methodLink "LiarsCock" (150 : Nat) ({ cls := "java/util/ArrayList", name := "add", desc := "(Ljava/lang/Object;)Z" } : Jvm.MethodName)) ∈ lw_all := lw_g (lw_at lw_m5 89 rfl) rfl
theorem q1169 : (Jvm.Cond.instanceMethod ({ cls := "LiarsCock", name := "offer", desc := "(II)I" } : Jvm.MethodName)) ∈ lw_all := lw_g (lw_at lw_m5 91 rfl) rfl
theorem q1170 : (Jvm.Cond.selects "LiarsCock" ({ cls := "LiarsCock", name := "offer", desc := "(II)I" } : Jvm.MethodName) ({ cls := "LiarsCock", name := "offer", desc := "(II)I" } : Jvm.MethodName)) ∈ lw_all := lw_g (lw_at lw_m5 92 rfl) rfl
theorem q1171 : (Jvm.Cond.code ({ cls := "LiarsCock", name := "offer", desc := "(II)I" } : Jvm.MethodName) prog_1_method_20_code (3 : Nat) (Option.some Jvm.ClassFile.FieldType.int)) ∈ lw_all := lw_g (lw_at lw_m5 93 rfl) rfl
theorem q1173 : (Jvm.Cond.instanceMethod ({ cls := "LiarsCock", name := "points", desc := "(III)I" } : Jvm.MethodName)) ∈ lw_all := lw_g (lw_at lw_m5 95 rfl) rfl
theorem q1174 : (Jvm.Cond.selects "LiarsCock" ({ cls := "LiarsCock", name := "points", desc := "(III)I" } : Jvm.MethodName) ({ cls := "LiarsCock", name := "points", desc := "(III)I" } : Jvm.MethodName)) ∈ lw_all := lw_g (lw_at lw_m5 96 rfl) rfl
theorem q1175 : (Jvm.Cond.code ({ cls := "LiarsCock", name := "points", desc := "(III)I" } : Jvm.MethodName) prog_1_method_26_code (4 : Nat) (Option.some Jvm.ClassFile.FieldType.int)) ∈ lw_all := lw_g (lw_at lw_m5 97 rfl) rfl
theorem q1176 : (Jvm.Cond.methodLink "LiarsCock" (197 : Nat) ({ cls := "LiarsCock", name := "isCock", desc := "(I)Z" } : Jvm.MethodName)) ∈ lw_all := lw_g (lw_at lw_m5 98 rfl) rfl
theorem q1177 : (Jvm.Cond.privateMethod ({ cls := "LiarsCock", name := "isCock", desc := "(I)Z" } : Jvm.MethodName)) ∈ lw_tbl := lw_at lw_m5 99 rfl
theorem q1178 : (Jvm.Cond.instanceMethod ({ cls := "LiarsCock", name := "isCock", desc := "(I)Z" } : Jvm.MethodName)) ∈ lw_all := lw_g (lw_at lw_m5 100 rfl) rfl
theorem q1179 : (Jvm.Cond.code ({ cls := "LiarsCock", name := "isCock", desc := "(I)Z" } : Jvm.MethodName) prog_1_method_10_code (2 : Nat) (Option.some Jvm.ClassFile.FieldType.boolean)) ∈ lw_all := lw_g (lw_at lw_m5 101 rfl) rfl
theorem q1180 : (Jvm.Cond.methodLink "LiarsCock" (189 : Nat) ({ cls := "LiarsCock", name := "pointsAt", desc := "(III)I" } : Jvm.MethodName)) ∈ lw_all := lw_g (lw_at lw_m5 102 rfl) rfl
theorem q1181 : (Jvm.Cond.privateMethod ({ cls := "LiarsCock", name := "pointsAt", desc := "(III)I" } : Jvm.MethodName)) ∈ lw_tbl := lw_at lw_m5 103 rfl
theorem q1182 : (Jvm.Cond.instanceMethod ({ cls := "LiarsCock", name := "pointsAt", desc := "(III)I" } : Jvm.MethodName)) ∈ lw_all := lw_g (lw_at lw_m5 104 rfl) rfl
theorem q1183 : (Jvm.Cond.code ({ cls := "LiarsCock", name := "pointsAt", desc := "(III)I" } : Jvm.MethodName) prog_1_method_24_code (4 : Nat) (Option.some Jvm.ClassFile.FieldType.int)) ∈ lw_all := lw_g (lw_at lw_m5 105 rfl) rfl
theorem q1184 : (Jvm.Cond.methodLink "LiarsCock" (168 : Nat) ({ cls := "LiarsCock", name := "lastLie", desc := "(III)LLiarsCock$Saying;" } : Jvm.MethodName)) ∈ lw_all := lw_g (lw_at lw_m5 106 rfl) rfl
theorem q1185 : (Jvm.Cond.privateMethod ({ cls := "LiarsCock", name := "lastLie", desc := "(III)LLiarsCock$Saying;" } : Jvm.MethodName)) ∈ lw_tbl := lw_at lw_m5 107 rfl
theorem q1186 : (Jvm.Cond.instanceMethod ({ cls := "LiarsCock", name := "lastLie", desc := "(III)LLiarsCock$Saying;" } : Jvm.MethodName)) ∈ lw_all := lw_g (lw_at lw_m5 108 rfl) rfl
theorem q1187 : (Jvm.Cond.code ({ cls := "LiarsCock", name := "lastLie", desc := "(III)LLiarsCock$Saying;" } : Jvm.MethodName) prog_1_method_21_code (5 : Nat) (Option.some (Jvm.ClassFile.FieldType.object "LiarsCock$Saying"))) ∈ lw_all := lw_g (lw_at lw_m5 109 rfl) rfl
theorem q1188 : (Jvm.Cond.methodLink "LiarsCock" (164 : Nat) ({ cls := "LiarsCock$Saying", name := "isLie", desc := "(II)Z" } : Jvm.MethodName)) ∈ lw_all := lw_g (lw_at lw_m5 110 rfl) rfl
theorem q1193 : (Jvm.Cond.methodLink "LiarsCock" (185 : Nat) ({ cls := "LiarsCock", name := "who", desc := "(LLiarsCock$Saying;)I" } : Jvm.MethodName)) ∈ lw_all := lw_g (lw_at lw_m5 115 rfl) rfl
theorem q1194 : (Jvm.Cond.static ({ cls := "LiarsCock", name := "who", desc := "(LLiarsCock$Saying;)I" } : Jvm.MethodName)) ∈ lw_all := lw_g (lw_at lw_m5 116 rfl) rfl
theorem q1195 : (Jvm.Cond.code ({ cls := "LiarsCock", name := "who", desc := "(LLiarsCock$Saying;)I" } : Jvm.MethodName) prog_1_method_23_code (1 : Nat) (Option.some Jvm.ClassFile.FieldType.int)) ∈ lw_all := lw_g (lw_at lw_m5 117 rfl) rfl
theorem q1197 : (Jvm.Cond.instanceMethod ({ cls := "LiarsCock", name := "lie", desc := "(II)I" } : Jvm.MethodName)) ∈ lw_all := lw_g (lw_at lw_m5 119 rfl) rfl
theorem q1198 : (Jvm.Cond.selects "LiarsCock" ({ cls := "LiarsCock", name := "lie", desc := "(II)I" } : Jvm.MethodName) ({ cls := "LiarsCock", name := "lie", desc := "(II)I" } : Jvm.MethodName)) ∈ lw_all := lw_g (lw_at lw_m5 120 rfl) rfl
theorem q1199 : (Jvm.Cond.code ({ cls := "LiarsCock", name := "lie", desc := "(II)I" } : Jvm.MethodName) prog_1_method_28_code (4 : Nat) (Option.some Jvm.ClassFile.FieldType.int)) ∈ lw_all := lw_g (lw_at lw_m5 121 rfl) rfl
theorem q1200 : (Jvm.Cond.methodLink "LiarsCock" (200 : Nat) ({ cls := "LiarsCock", name := "isSaying", desc := "(I)Z" } : Jvm.MethodName)) ∈ lw_all := lw_g (lw_at lw_m5 122 rfl) rfl
theorem q1201 : (Jvm.Cond.privateMethod ({ cls := "LiarsCock", name := "isSaying", desc := "(I)Z" } : Jvm.MethodName)) ∈ lw_tbl := lw_at lw_m5 123 rfl
theorem q1202 : (Jvm.Cond.instanceMethod ({ cls := "LiarsCock", name := "isSaying", desc := "(I)Z" } : Jvm.MethodName)) ∈ lw_all := lw_g (lw_at lw_m5 124 rfl) rfl
theorem q1203 : (Jvm.Cond.code ({ cls := "LiarsCock", name := "isSaying", desc := "(I)Z" } : Jvm.MethodName) prog_1_method_27_code (2 : Nat) (Option.some Jvm.ClassFile.FieldType.boolean)) ∈ lw_all := lw_g (lw_at lw_m5 125 rfl) rfl
theorem q1204 : (Jvm.Cond.methodLink "LiarsCock" (172 : Nat) ({ cls := "LiarsCock", name := "has", desc := "(JI)Z" } : Jvm.MethodName)) ∈ lw_all := lw_g (lw_at lw_m5 126 rfl) rfl
theorem q1206 : (Jvm.Cond.instanceMethod ({ cls := "LiarsCock", name := "look", desc := "(IIII)I" } : Jvm.MethodName)) ∈ lw_all := lw_g (lw_at lw_m5 128 rfl) rfl
theorem q1207 : (Jvm.Cond.selects "LiarsCock" ({ cls := "LiarsCock", name := "look", desc := "(IIII)I" } : Jvm.MethodName) ({ cls := "LiarsCock", name := "look", desc := "(IIII)I" } : Jvm.MethodName)) ∈ lw_all := lw_g (lw_at lw_m5 129 rfl) rfl
theorem q1208 : (Jvm.Cond.code ({ cls := "LiarsCock", name := "look", desc := "(IIII)I" } : Jvm.MethodName) prog_1_method_30_code (5 : Nat) (Option.some Jvm.ClassFile.FieldType.int)) ∈ lw_all := lw_g (lw_at lw_m5 130 rfl) rfl
theorem q1209 : (Jvm.Cond.methodLink "LiarsCock" (206 : Nat) ({ cls := "LiarsCock", name := "isBearing", desc := "(I)Z" } : Jvm.MethodName)) ∈ lw_all := lw_g (lw_at lw_m5 131 rfl) rfl
theorem q1210 : (Jvm.Cond.static ({ cls := "LiarsCock", name := "isBearing", desc := "(I)Z" } : Jvm.MethodName)) ∈ lw_all := lw_g (lw_at lw_m5 132 rfl) rfl
theorem q1211 : (Jvm.Cond.code ({ cls := "LiarsCock", name := "isBearing", desc := "(I)Z" } : Jvm.MethodName) prog_1_method_14_code (1 : Nat) (Option.some Jvm.ClassFile.FieldType.boolean)) ∈ lw_all := lw_g (lw_at lw_m5 133 rfl) rfl
theorem q1212 : (Jvm.Cond.classLink "LiarsCock" (209 : Nat) "LiarsCock$Look") ∈ lw_all := lw_g (lw_at lw_m5 134 rfl) rfl
theorem q1214 : (Jvm.Cond.methodLink "LiarsCock" (211 : Nat) ({ cls := "LiarsCock$Look", name := "<init>", desc := "(IIII)V" } : Jvm.MethodName)) ∈ lw_all := lw_g (lw_at lw_m5 136 rfl) rfl
theorem q1219 : (Jvm.Cond.fieldLink "LiarsCock" (214 : Nat) "LiarsCock$Look" "cock" "I") ∈ lw_all := lw_g (lw_at lw_m5 141 rfl) rfl
theorem q1221 : (Jvm.Cond.fieldLink "LiarsCock" (217 : Nat) "LiarsCock$Look" "minute" "I") ∈ lw_all := lw_g (lw_at lw_m5 143 rfl) rfl
theorem q1234 : (Jvm.Cond.instanceMethod ({ cls := "LiarsCock", name := "watch", desc := "(II)I" } : Jvm.MethodName)) ∈ lw_all := lw_g (lw_at lw_m5 156 rfl) rfl
theorem q1235 : (Jvm.Cond.selects "LiarsCock" ({ cls := "LiarsCock", name := "watch", desc := "(II)I" } : Jvm.MethodName) ({ cls := "LiarsCock", name := "watch", desc := "(II)I" } : Jvm.MethodName)) ∈ lw_all := lw_g (lw_at lw_m5 157 rfl) rfl
theorem q1236 : (Jvm.Cond.code ({ cls := "LiarsCock", name := "watch", desc := "(II)I" } : Jvm.MethodName) prog_1_method_31_code (3 : Nat) (Option.some Jvm.ClassFile.FieldType.int)) ∈ lw_all := lw_g (lw_at lw_m5 158 rfl) rfl
theorem q1238 : (Jvm.Cond.instanceMethod ({ cls := "LiarsCock", name := "world", desc := "(I)I" } : Jvm.MethodName)) ∈ lw_all := lw_g (lw_at lw_m5 160 rfl) rfl
theorem q1239 : (Jvm.Cond.selects "LiarsCock" ({ cls := "LiarsCock", name := "world", desc := "(I)I" } : Jvm.MethodName) ({ cls := "LiarsCock", name := "world", desc := "(I)I" } : Jvm.MethodName)) ∈ lw_all := lw_g (lw_at lw_m5 161 rfl) rfl
theorem q1240 : (Jvm.Cond.code ({ cls := "LiarsCock", name := "world", desc := "(I)I" } : Jvm.MethodName) prog_1_method_36_code (2 : Nat) (Option.some Jvm.ClassFile.FieldType.int)) ∈ lw_all := lw_g (lw_at lw_m5 162 rfl) rfl
theorem q1241 : (Jvm.Cond.methodLink "LiarsCock" (235 : Nat) ({ cls := "LiarsCock", name := "canBe", desc := "()J" } : Jvm.MethodName)) ∈ lw_all := lw_g (lw_at lw_m5 163 rfl) rfl
theorem q1242 : (Jvm.Cond.privateMethod ({ cls := "LiarsCock", name := "canBe", desc := "()J" } : Jvm.MethodName)) ∈ lw_tbl := lw_at lw_m5 164 rfl
theorem q1243 : (Jvm.Cond.instanceMethod ({ cls := "LiarsCock", name := "canBe", desc := "()J" } : Jvm.MethodName)) ∈ lw_all := lw_g (lw_at lw_m5 165 rfl) rfl
theorem q1244 : (Jvm.Cond.code ({ cls := "LiarsCock", name := "canBe", desc := "()J" } : Jvm.MethodName) prog_1_method_35_code (1 : Nat) (Option.some Jvm.ClassFile.FieldType.long)) ∈ lw_all := lw_g (lw_at lw_m5 166 rfl) rfl
theorem q1245 : (Jvm.Cond.methodLink "LiarsCock" (228 : Nat) ({ cls := "LiarsCock", name := "allLooks", desc := "()I" } : Jvm.MethodName)) ∈ lw_all := lw_g (lw_at lw_m5 167 rfl) rfl
theorem q1246 : (Jvm.Cond.privateMethod ({ cls := "LiarsCock", name := "allLooks", desc := "()I" } : Jvm.MethodName)) ∈ lw_tbl := lw_at lw_m5 168 rfl
theorem q1247 : (Jvm.Cond.instanceMethod ({ cls := "LiarsCock", name := "allLooks", desc := "()I" } : Jvm.MethodName)) ∈ lw_all := lw_g (lw_at lw_m5 169 rfl) rfl
theorem q1248 : (Jvm.Cond.code ({ cls := "LiarsCock", name := "allLooks", desc := "()I" } : Jvm.MethodName) prog_1_method_34_code (1 : Nat) (Option.some Jvm.ClassFile.FieldType.int)) ∈ lw_all := lw_g (lw_at lw_m5 170 rfl) rfl
theorem q1249 : (Jvm.Cond.methodLink "LiarsCock" (231 : Nat) ({ cls := "LiarsCock", name := "canBe", desc := "(I)J" } : Jvm.MethodName)) ∈ lw_all := lw_g (lw_at lw_m5 171 rfl) rfl
theorem q1250 : (Jvm.Cond.privateMethod ({ cls := "LiarsCock", name := "canBe", desc := "(I)J" } : Jvm.MethodName)) ∈ lw_tbl := lw_at lw_m5 172 rfl
theorem q1251 : (Jvm.Cond.instanceMethod ({ cls := "LiarsCock", name := "canBe", desc := "(I)J" } : Jvm.MethodName)) ∈ lw_all := lw_g (lw_at lw_m5 173 rfl) rfl
theorem q1252 : (Jvm.Cond.code ({ cls := "LiarsCock", name := "canBe", desc := "(I)J" } : Jvm.MethodName) prog_1_method_33_code (5 : Nat) (Option.some Jvm.ClassFile.FieldType.long)) ∈ lw_all := lw_g (lw_at lw_m5 174 rfl) rfl
theorem q1253 : (Jvm.Cond.methodLink "LiarsCock" (224 : Nat) ({ cls := "LiarsCock", name := "fits", desc := "(LLiarsCock$Look;)J" } : Jvm.MethodName)) ∈ lw_all := lw_g (lw_at lw_m5 175 rfl) rfl
theorem q1254 : (Jvm.Cond.privateMethod ({ cls := "LiarsCock", name := "fits", desc := "(LLiarsCock$Look;)J" } : Jvm.MethodName)) ∈ lw_tbl := lw_at lw_m5 176 rfl
theorem q1255 : (Jvm.Cond.instanceMethod ({ cls := "LiarsCock", name := "fits", desc := "(LLiarsCock$Look;)J" } : Jvm.MethodName)) ∈ lw_all := lw_g (lw_at lw_m5 177 rfl) rfl
theorem q1256 : (Jvm.Cond.code ({ cls := "LiarsCock", name := "fits", desc := "(LLiarsCock$Look;)J" } : Jvm.MethodName) prog_1_method_32_code (5 : Nat) (Option.some Jvm.ClassFile.FieldType.long)) ∈ lw_all := lw_g (lw_at lw_m5 178 rfl) rfl
theorem q1257 : (Jvm.Cond.methodLink "LiarsCock" (218 : Nat) ({ cls := "LiarsCock", name := "bearingAt", desc := "(III)I" } : Jvm.MethodName)) ∈ lw_all := lw_g (lw_at lw_m5 179 rfl) rfl
theorem q1258 : (Jvm.Cond.privateMethod ({ cls := "LiarsCock", name := "bearingAt", desc := "(III)I" } : Jvm.MethodName)) ∈ lw_tbl := lw_at lw_m5 180 rfl
theorem q1259 : (Jvm.Cond.instanceMethod ({ cls := "LiarsCock", name := "bearingAt", desc := "(III)I" } : Jvm.MethodName)) ∈ lw_all := lw_g (lw_at lw_m5 181 rfl) rfl
theorem q1260 : (Jvm.Cond.code ({ cls := "LiarsCock", name := "bearingAt", desc := "(III)I" } : Jvm.MethodName) prog_1_method_25_code (4 : Nat) (Option.some Jvm.ClassFile.FieldType.int)) ∈ lw_all := lw_g (lw_at lw_m5 182 rfl) rfl
theorem q1261 : (Jvm.Cond.methodLink "LiarsCock" (193 : Nat) ({ cls := "LiarsCock$Parish", name := "bearing", desc := "(I)I" } : Jvm.MethodName)) ∈ lw_all := lw_g (lw_at lw_m5 183 rfl) rfl
theorem q1266 : (Jvm.Cond.methodLink "LiarsCock" (221 : Nat) ({ cls := "LiarsCock$Look", name := "holds", desc := "(I)Z" } : Jvm.MethodName)) ∈ lw_all := lw_g (lw_at lw_m5 188 rfl) rfl
theorem q1271 : (Jvm.Cond.static ({ cls := "LiarsCock", name := "isIn", desc := "(III)Z" } : Jvm.MethodName)) ∈ lw_all := lw_g (lw_at lw_m5 193 rfl) rfl
theorem q1272 : (Jvm.Cond.code ({ cls := "LiarsCock", name := "isIn", desc := "(III)Z" } : Jvm.MethodName) prog_1_method_29_code (3 : Nat) (Option.some Jvm.ClassFile.FieldType.boolean)) ∈ lw_all := lw_g (lw_at lw_m5 194 rfl) rfl
theorem q1274 : (Jvm.Cond.instanceMethod ({ cls := "LiarsCock", name := "worlds", desc := "(I)I" } : Jvm.MethodName)) ∈ lw_all := lw_g (lw_at lw_m5 196 rfl) rfl
theorem q1275 : (Jvm.Cond.selects "LiarsCock" ({ cls := "LiarsCock", name := "worlds", desc := "(I)I" } : Jvm.MethodName) ({ cls := "LiarsCock", name := "worlds", desc := "(I)I" } : Jvm.MethodName)) ∈ lw_all := lw_g (lw_at lw_m5 197 rfl) rfl
theorem q1276 : (Jvm.Cond.code ({ cls := "LiarsCock", name := "worlds", desc := "(I)I" } : Jvm.MethodName) prog_1_method_38_code (2 : Nat) (Option.some Jvm.ClassFile.FieldType.int)) ∈ lw_all := lw_g (lw_at lw_m5 198 rfl) rfl
theorem q1277 : (Jvm.Cond.methodLink "LiarsCock" (238 : Nat) ({ cls := "LiarsCock", name := "isFact", desc := "(I)Z" } : Jvm.MethodName)) ∈ lw_all := lw_g (lw_at lw_m5 199 rfl) rfl
theorem q1278 : (Jvm.Cond.privateMethod ({ cls := "LiarsCock", name := "isFact", desc := "(I)Z" } : Jvm.MethodName)) ∈ lw_tbl := lw_at lw_m5 200 rfl
theorem q1279 : (Jvm.Cond.instanceMethod ({ cls := "LiarsCock", name := "isFact", desc := "(I)Z" } : Jvm.MethodName)) ∈ lw_all := lw_g (lw_at lw_m5 201 rfl) rfl
theorem q1280 : (Jvm.Cond.code ({ cls := "LiarsCock", name := "isFact", desc := "(I)Z" } : Jvm.MethodName) prog_1_method_8_code (2 : Nat) (Option.some Jvm.ClassFile.FieldType.boolean)) ∈ lw_all := lw_g (lw_at lw_m5 202 rfl) rfl
theorem q1281 : (Jvm.Cond.methodLink "LiarsCock" (241 : Nat) ({ cls := "LiarsCock", name := "with", desc := "(I)J" } : Jvm.MethodName)) ∈ lw_all := lw_g (lw_at lw_m5 203 rfl) rfl
theorem q1282 : (Jvm.Cond.privateMethod ({ cls := "LiarsCock", name := "with", desc := "(I)J" } : Jvm.MethodName)) ∈ lw_tbl := lw_at lw_m5 204 rfl
theorem q1283 : (Jvm.Cond.instanceMethod ({ cls := "LiarsCock", name := "with", desc := "(I)J" } : Jvm.MethodName)) ∈ lw_all := lw_g (lw_at lw_m5 205 rfl) rfl
theorem q1284 : (Jvm.Cond.code ({ cls := "LiarsCock", name := "with", desc := "(I)J" } : Jvm.MethodName) prog_1_method_37_code (5 : Nat) (Option.some Jvm.ClassFile.FieldType.long)) ∈ lw_all := lw_g (lw_at lw_m5 206 rfl) rfl
theorem q1285 : (Jvm.Cond.methodLink "LiarsCock" (244 : Nat) ({ cls := "LiarsCock", name := "bits", desc := "(J)I" } : Jvm.MethodName)) ∈ lw_all := lw_g (lw_at lw_m5 207 rfl) rfl
theorem q1286 : (Jvm.Cond.static ({ cls := "LiarsCock", name := "bits", desc := "(J)I" } : Jvm.MethodName)) ∈ lw_all := lw_g (lw_at lw_m5 208 rfl) rfl
theorem q1287 : (Jvm.Cond.code ({ cls := "LiarsCock", name := "bits", desc := "(J)I" } : Jvm.MethodName) prog_1_method_4_code (5 : Nat) (Option.some Jvm.ClassFile.FieldType.int)) ∈ lw_all := lw_g (lw_at lw_m5 209 rfl) rfl
theorem q1289 : (Jvm.Cond.instanceMethod ({ cls := "LiarsCock", name := "sureFact", desc := "(I)I" } : Jvm.MethodName)) ∈ lw_all := lw_g (lw_at lw_m5 211 rfl) rfl
theorem q1290 : (Jvm.Cond.selects "LiarsCock" ({ cls := "LiarsCock", name := "sureFact", desc := "(I)I" } : Jvm.MethodName) ({ cls := "LiarsCock", name := "sureFact", desc := "(I)I" } : Jvm.MethodName)) ∈ lw_all := lw_g (lw_at lw_m5 212 rfl) rfl
theorem q1291 : (Jvm.Cond.code ({ cls := "LiarsCock", name := "sureFact", desc := "(I)I" } : Jvm.MethodName) prog_1_method_40_code (2 : Nat) (Option.some Jvm.ClassFile.FieldType.int)) ∈ lw_all := lw_g (lw_at lw_m5 213 rfl) rfl
theorem q1292 : (Jvm.Cond.methodLink "LiarsCock" (250 : Nat) ({ cls := "LiarsCock", name := "sureBy", desc := "(JJ)I" } : Jvm.MethodName)) ∈ lw_all := lw_g (lw_at lw_m5 214 rfl) rfl
theorem q1293 : (Jvm.Cond.static ({ cls := "LiarsCock", name := "sureBy", desc := "(JJ)I" } : Jvm.MethodName)) ∈ lw_all := lw_g (lw_at lw_m5 215 rfl) rfl
theorem q1294 : (Jvm.Cond.code ({ cls := "LiarsCock", name := "sureBy", desc := "(JJ)I" } : Jvm.MethodName) prog_1_method_39_code (4 : Nat) (Option.some Jvm.ClassFile.FieldType.int)) ∈ lw_all := lw_g (lw_at lw_m5 216 rfl) rfl
theorem q1295 : (Jvm.Cond.constantLong "LiarsCock" (248 : Nat) (-1 : Int64)) ∈ lw_all := lw_g (lw_at lw_m5 217 rfl) rfl
theorem q1297 : (Jvm.Cond.instanceMethod ({ cls := "LiarsCock", name := "sure", desc := "(I)I" } : Jvm.MethodName)) ∈ lw_all := lw_g (lw_at lw_m5 219 rfl) rfl
theorem q1298 : (Jvm.Cond.selects "LiarsCock" ({ cls := "LiarsCock", name := "sure", desc := "(I)I" } : Jvm.MethodName) ({ cls := "LiarsCock", name := "sure", desc := "(I)I" } : Jvm.MethodName)) ∈ lw_all := lw_g (lw_at lw_m5 220 rfl) rfl
theorem q1299 : (Jvm.Cond.code ({ cls := "LiarsCock", name := "sure", desc := "(I)I" } : Jvm.MethodName) prog_1_method_41_code (2 : Nat) (Option.some Jvm.ClassFile.FieldType.int)) ∈ lw_all := lw_g (lw_at lw_m5 221 rfl) rfl
theorem q1301 : (Jvm.Cond.instanceMethod ({ cls := "LiarsCock", name := "odds", desc := "(II)J" } : Jvm.MethodName)) ∈ lw_all := lw_g (lw_at lw_m5 223 rfl) rfl
theorem q1302 : (Jvm.Cond.selects "LiarsCock" ({ cls := "LiarsCock", name := "odds", desc := "(II)J" } : Jvm.MethodName) ({ cls := "LiarsCock", name := "odds", desc := "(II)J" } : Jvm.MethodName)) ∈ lw_all := lw_g (lw_at lw_m5 224 rfl) rfl
theorem q1303 : (Jvm.Cond.code ({ cls := "LiarsCock", name := "odds", desc := "(II)J" } : Jvm.MethodName) prog_1_method_45_code (10 : Nat) (Option.some Jvm.ClassFile.FieldType.long)) ∈ lw_all := lw_g (lw_at lw_m5 225 rfl) rfl
theorem q1304 : (Jvm.Cond.methodLink "LiarsCock" (261 : Nat) ({ cls := "LiarsCock", name := "isWhat", desc := "(I)Z" } : Jvm.MethodName)) ∈ lw_all := lw_g (lw_at lw_m5 226 rfl) rfl
theorem q1305 : (Jvm.Cond.static ({ cls := "LiarsCock", name := "isWhat", desc := "(I)Z" } : Jvm.MethodName)) ∈ lw_all := lw_g (lw_at lw_m5 227 rfl) rfl
theorem q1306 : (Jvm.Cond.code ({ cls := "LiarsCock", name := "isWhat", desc := "(I)Z" } : Jvm.MethodName) prog_1_method_15_code (1 : Nat) (Option.some Jvm.ClassFile.FieldType.boolean)) ∈ lw_all := lw_g (lw_at lw_m5 228 rfl) rfl
theorem q1307 : (Jvm.Cond.methodLink "LiarsCock" (264 : Nat) ({ cls := "LiarsCock", name := "weight", desc := "(I)J" } : Jvm.MethodName)) ∈ lw_all := lw_g (lw_at lw_m5 229 rfl) rfl
theorem q1308 : (Jvm.Cond.privateMethod ({ cls := "LiarsCock", name := "weight", desc := "(I)J" } : Jvm.MethodName)) ∈ lw_tbl := lw_at lw_m5 230 rfl
theorem q1309 : (Jvm.Cond.instanceMethod ({ cls := "LiarsCock", name := "weight", desc := "(I)J" } : Jvm.MethodName)) ∈ lw_all := lw_g (lw_at lw_m5 231 rfl) rfl
theorem q1310 : (Jvm.Cond.code ({ cls := "LiarsCock", name := "weight", desc := "(I)J" } : Jvm.MethodName) prog_1_method_44_code (5 : Nat) (Option.some Jvm.ClassFile.FieldType.long)) ∈ lw_all := lw_g (lw_at lw_m5 232 rfl) rfl
theorem q1311 : (Jvm.Cond.methodLink "LiarsCock" (267 : Nat) ({ cls := "LiarsCock", name := "lowest", desc := "(JJI)J" } : Jvm.MethodName)) ∈ lw_all := lw_g (lw_at lw_m5 233 rfl) rfl
theorem q1312 : (Jvm.Cond.static ({ cls := "LiarsCock", name := "lowest", desc := "(JJI)J" } : Jvm.MethodName)) ∈ lw_all := lw_g (lw_at lw_m5 234 rfl) rfl
theorem q1313 : (Jvm.Cond.code ({ cls := "LiarsCock", name := "lowest", desc := "(JJI)J" } : Jvm.MethodName) prog_1_method_43_code (7 : Nat) (Option.some Jvm.ClassFile.FieldType.long)) ∈ lw_all := lw_g (lw_at lw_m5 235 rfl) rfl
theorem q1314 : (Jvm.Cond.methodLink "LiarsCock" (254 : Nat) ({ cls := "LiarsCock", name := "common", desc := "(JJ)J" } : Jvm.MethodName)) ∈ lw_all := lw_g (lw_at lw_m5 236 rfl) rfl
theorem q1315 : (Jvm.Cond.static ({ cls := "LiarsCock", name := "common", desc := "(JJ)J" } : Jvm.MethodName)) ∈ lw_all := lw_g (lw_at lw_m5 237 rfl) rfl
theorem q1316 : (Jvm.Cond.code ({ cls := "LiarsCock", name := "common", desc := "(JJ)J" } : Jvm.MethodName) prog_1_method_42_code (10 : Nat) (Option.some Jvm.ClassFile.FieldType.long)) ∈ lw_all := lw_g (lw_at lw_m5 238 rfl) rfl
theorem q1318 : (Jvm.Cond.instanceMethod ({ cls := "LiarsCock", name := "proof", desc := "(II)I" } : Jvm.MethodName)) ∈ lw_all := lw_g (lw_at lw_m6 0 rfl) rfl
theorem q1319 : (Jvm.Cond.selects "LiarsCock" ({ cls := "LiarsCock", name := "proof", desc := "(II)I" } : Jvm.MethodName) ({ cls := "LiarsCock", name := "proof", desc := "(II)I" } : Jvm.MethodName)) ∈ lw_all := lw_g (lw_at lw_m6 1 rfl) rfl
theorem q1320 : (Jvm.Cond.code ({ cls := "LiarsCock", name := "proof", desc := "(II)I" } : Jvm.MethodName) prog_1_method_47_code (3 : Nat) (Option.some Jvm.ClassFile.FieldType.int)) ∈ lw_all := lw_g (lw_at lw_m6 2 rfl) rfl
theorem q1321 : (Jvm.Cond.methodLink "LiarsCock" (271 : Nat) ({ cls := "LiarsCock", name := "sure", desc := "(I)I" } : Jvm.MethodName)) ∈ lw_all := lw_g (lw_at lw_m6 3 rfl) rfl
theorem q1322 : (Jvm.Cond.methodLink "LiarsCock" (274 : Nat) ({ cls := "LiarsCock$Sets", name := "first", desc := "(JI)I" } : Jvm.MethodName)) ∈ lw_all := lw_g (lw_at lw_m6 4 rfl) rfl
theorem q1338 : (Jvm.Cond.methodLink "LiarsCock" (278 : Nat) ({ cls := "LiarsCock", name := "told", desc := "(II)I" } : Jvm.MethodName)) ∈ lw_all := lw_g (lw_at lw_m6 20 rfl) rfl
theorem q1339 : (Jvm.Cond.static ({ cls := "LiarsCock", name := "told", desc := "(II)I" } : Jvm.MethodName)) ∈ lw_all := lw_g (lw_at lw_m6 21 rfl) rfl
theorem q1340 : (Jvm.Cond.code ({ cls := "LiarsCock", name := "told", desc := "(II)I" } : Jvm.MethodName) prog_1_method_46_code (2 : Nat) (Option.some Jvm.ClassFile.FieldType.int)) ∈ lw_all := lw_g (lw_at lw_m6 22 rfl) rfl
theorem q1342 : (Jvm.Cond.instanceMethod ({ cls := "LiarsCock", name := "clash", desc := "(I)I" } : Jvm.MethodName)) ∈ lw_all := lw_g (lw_at lw_m6 24 rfl) rfl
theorem q1343 : (Jvm.Cond.selects "LiarsCock" ({ cls := "LiarsCock", name := "clash", desc := "(I)I" } : Jvm.MethodName) ({ cls := "LiarsCock", name := "clash", desc := "(I)I" } : Jvm.MethodName)) ∈ lw_all := lw_g (lw_at lw_m6 25 rfl) rfl
theorem q1344 : (Jvm.Cond.code ({ cls := "LiarsCock", name := "clash", desc := "(I)I" } : Jvm.MethodName) prog_1_method_48_code (2 : Nat) (Option.some Jvm.ClassFile.FieldType.int)) ∈ lw_all := lw_g (lw_at lw_m6 26 rfl) rfl
theorem q1346 : (Jvm.Cond.instanceMethod ({ cls := "LiarsCock", name := "next", desc := "(IIII)I" } : Jvm.MethodName)) ∈ lw_all := lw_g (lw_at lw_m6 28 rfl) rfl
theorem q1347 : (Jvm.Cond.selects "LiarsCock" ({ cls := "LiarsCock", name := "next", desc := "(IIII)I" } : Jvm.MethodName) ({ cls := "LiarsCock", name := "next", desc := "(IIII)I" } : Jvm.MethodName)) ∈ lw_all := lw_g (lw_at lw_m6 29 rfl) rfl
theorem q1348 : (Jvm.Cond.code ({ cls := "LiarsCock", name := "next", desc := "(IIII)I" } : Jvm.MethodName) prog_1_method_49_code (5 : Nat) (Option.some Jvm.ClassFile.FieldType.int)) ∈ lw_all := lw_g (lw_at lw_m6 30 rfl) rfl
theorem q1349 : (Jvm.Cond.methodLink "LiarsCock" (281 : Nat) ({ cls := "LiarsCock", name := "when", desc := "(IIIIZ)I" } : Jvm.MethodName)) ∈ lw_all := lw_g (lw_at lw_m6 31 rfl) rfl
theorem q1350 : (Jvm.Cond.privateMethod ({ cls := "LiarsCock", name := "when", desc := "(IIIIZ)I" } : Jvm.MethodName)) ∈ lw_tbl := lw_at lw_m6 32 rfl
theorem q1351 : (Jvm.Cond.instanceMethod ({ cls := "LiarsCock", name := "when", desc := "(IIIIZ)I" } : Jvm.MethodName)) ∈ lw_all := lw_g (lw_at lw_m6 33 rfl) rfl
theorem q1352 : (Jvm.Cond.code ({ cls := "LiarsCock", name := "when", desc := "(IIIIZ)I" } : Jvm.MethodName) prog_1_method_51_code (11 : Nat) (Option.some Jvm.ClassFile.FieldType.int)) ∈ lw_all := lw_g (lw_at lw_m6 34 rfl) rfl
theorem q1353 : (Jvm.Cond.methodLink "LiarsCock" (285 : Nat) ({ cls := "LiarsCock", name := "areMinutes", desc := "(II)Z" } : Jvm.MethodName)) ∈ lw_all := lw_g (lw_at lw_m6 35 rfl) rfl
theorem q1354 : (Jvm.Cond.static ({ cls := "LiarsCock", name := "areMinutes", desc := "(II)Z" } : Jvm.MethodName)) ∈ lw_all := lw_g (lw_at lw_m6 36 rfl) rfl
theorem q1355 : (Jvm.Cond.code ({ cls := "LiarsCock", name := "areMinutes", desc := "(II)Z" } : Jvm.MethodName) prog_1_method_13_code (2 : Nat) (Option.some Jvm.ClassFile.FieldType.boolean)) ∈ lw_all := lw_g (lw_at lw_m6 37 rfl) rfl
theorem q1356 : (Jvm.Cond.methodLink "LiarsCock" (288 : Nat) ({ cls := "LiarsCock$Bearings", name := "find", desc := "(JII)V" } : Jvm.MethodName)) ∈ lw_all := lw_g (lw_at lw_m6 38 rfl) rfl
theorem q1365 : (Jvm.Cond.instanceMethod ({ cls := "LiarsCock", name := "fog", desc := "(IIII)I" } : Jvm.MethodName)) ∈ lw_all := lw_g (lw_at lw_m6 47 rfl) rfl
theorem q1366 : (Jvm.Cond.selects "LiarsCock" ({ cls := "LiarsCock", name := "fog", desc := "(IIII)I" } : Jvm.MethodName) ({ cls := "LiarsCock", name := "fog", desc := "(IIII)I" } : Jvm.MethodName)) ∈ lw_all := lw_g (lw_at lw_m6 48 rfl) rfl
theorem q1367 : (Jvm.Cond.code ({ cls := "LiarsCock", name := "fog", desc := "(IIII)I" } : Jvm.MethodName) prog_1_method_50_code (5 : Nat) (Option.some Jvm.ClassFile.FieldType.int)) ∈ lw_all := lw_g (lw_at lw_m6 49 rfl) rfl
theorem q1369 : (Jvm.Cond.instanceMethod ({ cls := "LiarsCock", name := "learns", desc := "(IIZII)I" } : Jvm.MethodName)) ∈ lw_all := lw_g (lw_at lw_m6 51 rfl) rfl
theorem q1370 : (Jvm.Cond.selects "LiarsCock" ({ cls := "LiarsCock", name := "learns", desc := "(IIZII)I" } : Jvm.MethodName) ({ cls := "LiarsCock", name := "learns", desc := "(IIZII)I" } : Jvm.MethodName)) ∈ lw_all := lw_g (lw_at lw_m6 52 rfl) rfl
theorem q1371 : (Jvm.Cond.code ({ cls := "LiarsCock", name := "learns", desc := "(IIZII)I" } : Jvm.MethodName) prog_1_method_52_code (14 : Nat) (Option.some Jvm.ClassFile.FieldType.int)) ∈ lw_all := lw_g (lw_at lw_m6 53 rfl) rfl
theorem q1372 : (Jvm.Cond.classLink "LiarsCock" (298 : Nat) "LiarsCock$Person") ∈ lw_all := lw_g (lw_at lw_m6 54 rfl) rfl
theorem q1373 : (Jvm.Cond.methodLink "LiarsCock" (303 : Nat) ({ cls := "LiarsCock$Parish", name := "alike", desc := "(II)J" } : Jvm.MethodName)) ∈ lw_all := lw_g (lw_at lw_m6 55 rfl) rfl
theorem q1374 : (Jvm.Cond.classLink "LiarsCock" (307 : Nat) "LiarsCock$Plain") ∈ lw_all := lw_g (lw_at lw_m6 56 rfl) rfl
theorem q1375 : (Jvm.Cond.methodLink "LiarsCock" (309 : Nat) ({ cls := "LiarsCock$Plain", name := "<init>", desc := "(I)V" } : Jvm.MethodName)) ∈ lw_all := lw_g (lw_at lw_m6 57 rfl) rfl
theorem q1376 : (Jvm.Cond.methodLink "LiarsCock" (312 : Nat) ({ cls := "LiarsCock$Parish", name := "so", desc := "(LLiarsCock$Expression;)J" } : Jvm.MethodName)) ∈ lw_all := lw_g (lw_at lw_m6 58 rfl) rfl
theorem q1377 : (Jvm.Cond.methodLink "LiarsCock" (315 : Nat) ({ cls := "LiarsCock$Parish", name := "known", desc := "(JI)J" } : Jvm.MethodName)) ∈ lw_all := lw_g (lw_at lw_m6 59 rfl) rfl
theorem q1378 : (Jvm.Cond.methodLink "LiarsCock" (319 : Nat) ({ cls := "LiarsCock", name := "seen", desc := "(JIIII)I" } : Jvm.MethodName)) ∈ lw_all := lw_g (lw_at lw_m6 60 rfl) rfl
theorem q1379 : (Jvm.Cond.privateMethod ({ cls := "LiarsCock", name := "seen", desc := "(JIIII)I" } : Jvm.MethodName)) ∈ lw_tbl := lw_at lw_m6 61 rfl
theorem q1380 : (Jvm.Cond.instanceMethod ({ cls := "LiarsCock", name := "seen", desc := "(JIIII)I" } : Jvm.MethodName)) ∈ lw_all := lw_g (lw_at lw_m6 62 rfl) rfl
theorem q1381 : (Jvm.Cond.code ({ cls := "LiarsCock", name := "seen", desc := "(JIIII)I" } : Jvm.MethodName) prog_1_method_53_code (7 : Nat) (Option.some Jvm.ClassFile.FieldType.int)) ∈ lw_all := lw_g (lw_at lw_m6 63 rfl) rfl
theorem q1383 : (Jvm.Cond.instanceMethod ({ cls := "LiarsCock", name := "judged", desc := "()I" } : Jvm.MethodName)) ∈ lw_all := lw_g (lw_at lw_m6 65 rfl) rfl
theorem q1384 : (Jvm.Cond.selects "LiarsCock" ({ cls := "LiarsCock", name := "judged", desc := "()I" } : Jvm.MethodName) ({ cls := "LiarsCock", name := "judged", desc := "()I" } : Jvm.MethodName)) ∈ lw_all := lw_g (lw_at lw_m6 66 rfl) rfl
theorem q1385 : (Jvm.Cond.code ({ cls := "LiarsCock", name := "judged", desc := "()I" } : Jvm.MethodName) prog_1_method_54_code (3 : Nat) (Option.some Jvm.ClassFile.FieldType.int)) ∈ lw_all := lw_g (lw_at lw_m6 67 rfl) rfl
theorem q1387 : (Jvm.Cond.instanceMethod ({ cls := "LiarsCock", name := "turned", desc := "(II)I" } : Jvm.MethodName)) ∈ lw_all := lw_g (lw_at lw_m6 69 rfl) rfl
theorem q1388 : (Jvm.Cond.selects "LiarsCock" ({ cls := "LiarsCock", name := "turned", desc := "(II)I" } : Jvm.MethodName) ({ cls := "LiarsCock", name := "turned", desc := "(II)I" } : Jvm.MethodName)) ∈ lw_all := lw_g (lw_at lw_m6 70 rfl) rfl
theorem q1389 : (Jvm.Cond.code ({ cls := "LiarsCock", name := "turned", desc := "(II)I" } : Jvm.MethodName) prog_1_method_55_code (7 : Nat) (Option.some Jvm.ClassFile.FieldType.int)) ∈ lw_all := lw_g (lw_at lw_m6 71 rfl) rfl
theorem q1391 : (Jvm.Cond.instanceMethod ({ cls := "LiarsCock", name := "pointed", desc := "(IIII)I" } : Jvm.MethodName)) ∈ lw_all := lw_g (lw_at lw_m6 73 rfl) rfl
theorem q1392 : (Jvm.Cond.selects "LiarsCock" ({ cls := "LiarsCock", name := "pointed", desc := "(IIII)I" } : Jvm.MethodName) ({ cls := "LiarsCock", name := "pointed", desc := "(IIII)I" } : Jvm.MethodName)) ∈ lw_all := lw_g (lw_at lw_m6 74 rfl) rfl
theorem q1393 : (Jvm.Cond.code ({ cls := "LiarsCock", name := "pointed", desc := "(IIII)I" } : Jvm.MethodName) prog_1_method_56_code (7 : Nat) (Option.some Jvm.ClassFile.FieldType.int)) ∈ lw_all := lw_g (lw_at lw_m6 75 rfl) rfl
theorem q1395 : (Jvm.Cond.instanceMethod ({ cls := "LiarsCock", name := "round", desc := "(II)I" } : Jvm.MethodName)) ∈ lw_all := lw_g (lw_at lw_m6 77 rfl) rfl
theorem q1396 : (Jvm.Cond.selects "LiarsCock" ({ cls := "LiarsCock", name := "round", desc := "(II)I" } : Jvm.MethodName) ({ cls := "LiarsCock", name := "round", desc := "(II)I" } : Jvm.MethodName)) ∈ lw_all := lw_g (lw_at lw_m6 78 rfl) rfl
theorem q1397 : (Jvm.Cond.code ({ cls := "LiarsCock", name := "round", desc := "(II)I" } : Jvm.MethodName) prog_1_method_58_code (7 : Nat) (Option.some Jvm.ClassFile.FieldType.int)) ∈ lw_all := lw_g (lw_at lw_m6 79 rfl) rfl
theorem q1398 : (Jvm.Cond.methodLink "LiarsCock" (331 : Nat) ({ cls := "LiarsCock", name := "apart", desc := "(II)I" } : Jvm.MethodName)) ∈ lw_all := lw_g (lw_at lw_m6 80 rfl) rfl
theorem q1399 : (Jvm.Cond.static ({ cls := "LiarsCock", name := "apart", desc := "(II)I" } : Jvm.MethodName)) ∈ lw_all := lw_g (lw_at lw_m6 81 rfl) rfl
theorem q1400 : (Jvm.Cond.code ({ cls := "LiarsCock", name := "apart", desc := "(II)I" } : Jvm.MethodName) prog_1_method_57_code (3 : Nat) (Option.some Jvm.ClassFile.FieldType.int)) ∈ lw_all := lw_g (lw_at lw_m6 82 rfl) rfl
theorem q1401 : (Jvm.Cond.methodLink "LiarsCock" (323 : Nat) ({ cls := "java/lang/Math", name := "abs", desc := "(I)I" } : Jvm.MethodName)) ∈ lw_all := lw_g (lw_at lw_m6 83 rfl) rfl
theorem q1404 : (Jvm.Cond.methodLink "LiarsCock" (328 : Nat) ({ cls := "java/lang/Math", name := "min", desc := "(II)I" } : Jvm.MethodName)) ∈ lw_all := lw_g (lw_at lw_m6 86 rfl) rfl
theorem q1406 : (Jvm.Cond.instanceMethod ({ cls := "LiarsCock", name := "hidden", desc := "(II)I" } : Jvm.MethodName)) ∈ lw_all := lw_g (lw_at lw_m6 88 rfl) rfl
theorem q1407 : (Jvm.Cond.selects "LiarsCock" ({ cls := "LiarsCock", name := "hidden", desc := "(II)I" } : Jvm.MethodName) ({ cls := "LiarsCock", name := "hidden", desc := "(II)I" } : Jvm.MethodName)) ∈ lw_all := lw_g (lw_at lw_m6 89 rfl) rfl
theorem q1408 : (Jvm.Cond.code ({ cls := "LiarsCock", name := "hidden", desc := "(II)I" } : Jvm.MethodName) prog_1_method_64_code (3 : Nat) (Option.some Jvm.ClassFile.FieldType.int)) ∈ lw_all := lw_g (lw_at lw_m6 90 rfl) rfl
theorem q1409 : (Jvm.Cond.methodLink "LiarsCock" (345 : Nat) ({ cls := "LiarsCock", name := "isHidable", desc := "(I)Z" } : Jvm.MethodName)) ∈ lw_all := lw_g (lw_at lw_m6 91 rfl) rfl
theorem q1410 : (Jvm.Cond.privateMethod ({ cls := "LiarsCock", name := "isHidable", desc := "(I)Z" } : Jvm.MethodName)) ∈ lw_tbl := lw_at lw_m6 92 rfl
theorem q1411 : (Jvm.Cond.instanceMethod ({ cls := "LiarsCock", name := "isHidable", desc := "(I)Z" } : Jvm.MethodName)) ∈ lw_all := lw_g (lw_at lw_m6 93 rfl) rfl
theorem q1412 : (Jvm.Cond.code ({ cls := "LiarsCock", name := "isHidable", desc := "(I)Z" } : Jvm.MethodName) prog_1_method_59_code (2 : Nat) (Option.some Jvm.ClassFile.FieldType.boolean)) ∈ lw_all := lw_g (lw_at lw_m6 94 rfl) rfl
theorem q1413 : (Jvm.Cond.methodLink "LiarsCock" (348 : Nat) ({ cls := "LiarsCock", name := "areOffers", desc := "(I)Z" } : Jvm.MethodName)) ∈ lw_all := lw_g (lw_at lw_m6 95 rfl) rfl
theorem q1414 : (Jvm.Cond.privateMethod ({ cls := "LiarsCock", name := "areOffers", desc := "(I)Z" } : Jvm.MethodName)) ∈ lw_tbl := lw_at lw_m6 96 rfl
theorem q1415 : (Jvm.Cond.instanceMethod ({ cls := "LiarsCock", name := "areOffers", desc := "(I)Z" } : Jvm.MethodName)) ∈ lw_all := lw_g (lw_at lw_m6 97 rfl) rfl
theorem q1416 : (Jvm.Cond.code ({ cls := "LiarsCock", name := "areOffers", desc := "(I)Z" } : Jvm.MethodName) prog_1_method_63_code (2 : Nat) (Option.some Jvm.ClassFile.FieldType.boolean)) ∈ lw_all := lw_g (lw_at lw_m6 98 rfl) rfl
theorem q1417 : (Jvm.Cond.methodLink "LiarsCock" (351 : Nat) ({ cls := "LiarsCock", name := "isHidden", desc := "(II)Z" } : Jvm.MethodName)) ∈ lw_all := lw_g (lw_at lw_m6 99 rfl) rfl
theorem q1418 : (Jvm.Cond.privateMethod ({ cls := "LiarsCock", name := "isHidden", desc := "(II)Z" } : Jvm.MethodName)) ∈ lw_tbl := lw_at lw_m6 100 rfl
theorem q1419 : (Jvm.Cond.instanceMethod ({ cls := "LiarsCock", name := "isHidden", desc := "(II)Z" } : Jvm.MethodName)) ∈ lw_all := lw_g (lw_at lw_m6 101 rfl) rfl
theorem q1420 : (Jvm.Cond.code ({ cls := "LiarsCock", name := "isHidden", desc := "(II)Z" } : Jvm.MethodName) prog_1_method_62_code (5 : Nat) (Option.some Jvm.ClassFile.FieldType.boolean)) ∈ lw_all := lw_g (lw_at lw_m6 102 rfl) rfl
theorem q1421 : (Jvm.Cond.methodLink "LiarsCock" (342 : Nat) ({ cls := "LiarsCock", name := "isAlike", desc := "(II)Z" } : Jvm.MethodName)) ∈ lw_all := lw_g (lw_at lw_m6 103 rfl) rfl
theorem q1422 : (Jvm.Cond.privateMethod ({ cls := "LiarsCock", name := "isAlike", desc := "(II)Z" } : Jvm.MethodName)) ∈ lw_tbl := lw_at lw_m6 104 rfl
theorem q1423 : (Jvm.Cond.instanceMethod ({ cls := "LiarsCock", name := "isAlike", desc := "(II)Z" } : Jvm.MethodName)) ∈ lw_all := lw_g (lw_at lw_m6 105 rfl) rfl
theorem q1424 : (Jvm.Cond.code ({ cls := "LiarsCock", name := "isAlike", desc := "(II)Z" } : Jvm.MethodName) prog_1_method_61_code (4 : Nat) (Option.some Jvm.ClassFile.FieldType.boolean)) ∈ lw_all := lw_g (lw_at lw_m6 106 rfl) rfl
theorem q1425 : (Jvm.Cond.methodLink "LiarsCock" (338 : Nat) ({ cls := "LiarsCock", name := "watched", desc := "(LLiarsCock$Look;II)I" } : Jvm.MethodName)) ∈ lw_all := lw_g (lw_at lw_m6 107 rfl) rfl
theorem q1426 : (Jvm.Cond.privateMethod ({ cls := "LiarsCock", name := "watched", desc := "(LLiarsCock$Look;II)I" } : Jvm.MethodName)) ∈ lw_tbl := lw_at lw_m6 108 rfl
theorem q1427 : (Jvm.Cond.instanceMethod ({ cls := "LiarsCock", name := "watched", desc := "(LLiarsCock$Look;II)I" } : Jvm.MethodName)) ∈ lw_all := lw_g (lw_at lw_m6 109 rfl) rfl
theorem q1428 : (Jvm.Cond.code ({ cls := "LiarsCock", name := "watched", desc := "(LLiarsCock$Look;II)I" } : Jvm.MethodName) prog_1_method_60_code (5 : Nat) (Option.some Jvm.ClassFile.FieldType.int)) ∈ lw_all := lw_g (lw_at lw_m6 110 rfl) rfl
theorem q1429 : (Jvm.Cond.methodLink "LiarsCock" (334 : Nat) ({ cls := "LiarsCock", name := "lastWith", desc := "(IIII)LLiarsCock$Saying;" } : Jvm.MethodName)) ∈ lw_all := lw_g (lw_at lw_m6 111 rfl) rfl
theorem q1430 : (Jvm.Cond.privateMethod ({ cls := "LiarsCock", name := "lastWith", desc := "(IIII)LLiarsCock$Saying;" } : Jvm.MethodName)) ∈ lw_tbl := lw_at lw_m6 112 rfl
theorem q1431 : (Jvm.Cond.instanceMethod ({ cls := "LiarsCock", name := "lastWith", desc := "(IIII)LLiarsCock$Saying;" } : Jvm.MethodName)) ∈ lw_all := lw_g (lw_at lw_m6 113 rfl) rfl
theorem q1432 : (Jvm.Cond.code ({ cls := "LiarsCock", name := "lastWith", desc := "(IIII)LLiarsCock$Saying;" } : Jvm.MethodName) prog_1_method_22_code (8 : Nat) (Option.some (Jvm.ClassFile.FieldType.object "LiarsCock$Saying"))) ∈ lw_all := lw_g (lw_at lw_m6 114 rfl) rfl
theorem q1434 : (Jvm.Cond.instanceMethod ({ cls := "LiarsCock", name := "hide", desc := "(II)I" } : Jvm.MethodName)) ∈ lw_all := lw_g (lw_at lw_m6 116 rfl) rfl
theorem q1435 : (Jvm.Cond.selects "LiarsCock" ({ cls := "LiarsCock", name := "hide", desc := "(II)I" } : Jvm.MethodName) ({ cls := "LiarsCock", name := "hide", desc := "(II)I" } : Jvm.MethodName)) ∈ lw_all := lw_g (lw_at lw_m6 117 rfl) rfl
theorem q1436 : (Jvm.Cond.code ({ cls := "LiarsCock", name := "hide", desc := "(II)I" } : Jvm.MethodName) prog_1_method_65_code (5 : Nat) (Option.some Jvm.ClassFile.FieldType.int)) ∈ lw_all := lw_g (lw_at lw_m6 118 rfl) rfl
theorem q1438 : (Jvm.Cond.instanceMethod ({ cls := "LiarsCock", name := "sector", desc := "(II)I" } : Jvm.MethodName)) ∈ lw_all := lw_g (lw_at lw_m6 120 rfl) rfl
theorem q1439 : (Jvm.Cond.selects "LiarsCock" ({ cls := "LiarsCock", name := "sector", desc := "(II)I" } : Jvm.MethodName) ({ cls := "LiarsCock", name := "sector", desc := "(II)I" } : Jvm.MethodName)) ∈ lw_all := lw_g (lw_at lw_m6 121 rfl) rfl
theorem q1440 : (Jvm.Cond.code ({ cls := "LiarsCock", name := "sector", desc := "(II)I" } : Jvm.MethodName) prog_1_method_67_code (5 : Nat) (Option.some Jvm.ClassFile.FieldType.int)) ∈ lw_all := lw_g (lw_at lw_m6 122 rfl) rfl
theorem q1441 : (Jvm.Cond.methodLink "LiarsCock" (359 : Nat) ({ cls := "LiarsCock", name := "isIn", desc := "(III)Z" } : Jvm.MethodName)) ∈ lw_all := lw_g (lw_at lw_m6 123 rfl) rfl
theorem q1443 : (Jvm.Cond.instanceMethod ({ cls := "LiarsCock", name := "blind", desc := "(II)I" } : Jvm.MethodName)) ∈ lw_all := lw_g (lw_at lw_m6 125 rfl) rfl
theorem q1444 : (Jvm.Cond.selects "LiarsCock" ({ cls := "LiarsCock", name := "blind", desc := "(II)I" } : Jvm.MethodName) ({ cls := "LiarsCock", name := "blind", desc := "(II)I" } : Jvm.MethodName)) ∈ lw_all := lw_g (lw_at lw_m6 126 rfl) rfl
theorem q1445 : (Jvm.Cond.code ({ cls := "LiarsCock", name := "blind", desc := "(II)I" } : Jvm.MethodName) prog_1_method_70_code (6 : Nat) (Option.some Jvm.ClassFile.FieldType.int)) ∈ lw_all := lw_g (lw_at lw_m6 127 rfl) rfl
theorem q1446 : (Jvm.Cond.methodLink "LiarsCock" (365 : Nat) ({ cls := "LiarsCock", name := "crowd", desc := "(II)I" } : Jvm.MethodName)) ∈ lw_all := lw_g (lw_at lw_m6 128 rfl) rfl
theorem q1447 : (Jvm.Cond.privateMethod ({ cls := "LiarsCock", name := "crowd", desc := "(II)I" } : Jvm.MethodName)) ∈ lw_tbl := lw_at lw_m6 129 rfl
theorem q1448 : (Jvm.Cond.instanceMethod ({ cls := "LiarsCock", name := "crowd", desc := "(II)I" } : Jvm.MethodName)) ∈ lw_all := lw_g (lw_at lw_m6 130 rfl) rfl
theorem q1449 : (Jvm.Cond.code ({ cls := "LiarsCock", name := "crowd", desc := "(II)I" } : Jvm.MethodName) prog_1_method_69_code (7 : Nat) (Option.some Jvm.ClassFile.FieldType.int)) ∈ lw_all := lw_g (lw_at lw_m6 131 rfl) rfl
theorem q1450 : (Jvm.Cond.methodLink "LiarsCock" (362 : Nat) ({ cls := "LiarsCock", name := "areBlind", desc := "(III)Z" } : Jvm.MethodName)) ∈ lw_all := lw_g (lw_at lw_m6 132 rfl) rfl
theorem q1451 : (Jvm.Cond.privateMethod ({ cls := "LiarsCock", name := "areBlind", desc := "(III)Z" } : Jvm.MethodName)) ∈ lw_tbl := lw_at lw_m6 133 rfl
theorem q1452 : (Jvm.Cond.instanceMethod ({ cls := "LiarsCock", name := "areBlind", desc := "(III)Z" } : Jvm.MethodName)) ∈ lw_all := lw_g (lw_at lw_m6 134 rfl) rfl
theorem q1453 : (Jvm.Cond.code ({ cls := "LiarsCock", name := "areBlind", desc := "(III)Z" } : Jvm.MethodName) prog_1_method_68_code (4 : Nat) (Option.some Jvm.ClassFile.FieldType.boolean)) ∈ lw_all := lw_g (lw_at lw_m6 135 rfl) rfl
theorem q1454 : (Jvm.Cond.methodLink "LiarsCock" (368 : Nat) ({ cls := "java/lang/Math", name := "max", desc := "(II)I" } : Jvm.MethodName)) ∈ lw_all := lw_g (lw_at lw_m6 136 rfl) rfl
theorem q1456 : (Jvm.Cond.instanceMethod ({ cls := "LiarsCock", name := "told", desc := "(I)I" } : Jvm.MethodName)) ∈ lw_all := lw_g (lw_at lw_m6 138 rfl) rfl
theorem q1457 : (Jvm.Cond.selects "LiarsCock" ({ cls := "LiarsCock", name := "told", desc := "(I)I" } : Jvm.MethodName) ({ cls := "LiarsCock", name := "told", desc := "(I)I" } : Jvm.MethodName)) ∈ lw_all := lw_g (lw_at lw_m6 139 rfl) rfl
theorem q1458 : (Jvm.Cond.code ({ cls := "LiarsCock", name := "told", desc := "(I)I" } : Jvm.MethodName) prog_1_method_74_code (2 : Nat) (Option.some Jvm.ClassFile.FieldType.int)) ∈ lw_all := lw_g (lw_at lw_m6 140 rfl) rfl
theorem q1459 : (Jvm.Cond.methodLink "LiarsCock" (374 : Nat) ({ cls := "LiarsCock", name := "everybody", desc := "()I" } : Jvm.MethodName)) ∈ lw_all := lw_g (lw_at lw_m6 141 rfl) rfl
theorem q1460 : (Jvm.Cond.privateMethod ({ cls := "LiarsCock", name := "everybody", desc := "()I" } : Jvm.MethodName)) ∈ lw_tbl := lw_at lw_m6 142 rfl
theorem q1461 : (Jvm.Cond.instanceMethod ({ cls := "LiarsCock", name := "everybody", desc := "()I" } : Jvm.MethodName)) ∈ lw_all := lw_g (lw_at lw_m6 143 rfl) rfl
theorem q1462 : (Jvm.Cond.code ({ cls := "LiarsCock", name := "everybody", desc := "()I" } : Jvm.MethodName) prog_1_method_73_code (1 : Nat) (Option.some Jvm.ClassFile.FieldType.int)) ∈ lw_all := lw_g (lw_at lw_m6 144 rfl) rfl
theorem q1463 : (Jvm.Cond.methodLink "LiarsCock" (377 : Nat) ({ cls := "LiarsCock", name := "toldBy", desc := "(I)I" } : Jvm.MethodName)) ∈ lw_all := lw_g (lw_at lw_m6 145 rfl) rfl
theorem q1464 : (Jvm.Cond.privateMethod ({ cls := "LiarsCock", name := "toldBy", desc := "(I)I" } : Jvm.MethodName)) ∈ lw_tbl := lw_at lw_m6 146 rfl
theorem q1465 : (Jvm.Cond.instanceMethod ({ cls := "LiarsCock", name := "toldBy", desc := "(I)I" } : Jvm.MethodName)) ∈ lw_all := lw_g (lw_at lw_m6 147 rfl) rfl
theorem q1466 : (Jvm.Cond.code ({ cls := "LiarsCock", name := "toldBy", desc := "(I)I" } : Jvm.MethodName) prog_1_method_72_code (6 : Nat) (Option.some Jvm.ClassFile.FieldType.int)) ∈ lw_all := lw_g (lw_at lw_m6 148 rfl) rfl
theorem q1467 : (Jvm.Cond.methodLink "LiarsCock" (371 : Nat) ({ cls := "LiarsCock", name := "knownBy", desc := "(I)I" } : Jvm.MethodName)) ∈ lw_all := lw_g (lw_at lw_m6 149 rfl) rfl
theorem q1468 : (Jvm.Cond.privateMethod ({ cls := "LiarsCock", name := "knownBy", desc := "(I)I" } : Jvm.MethodName)) ∈ lw_tbl := lw_at lw_m6 150 rfl
theorem q1469 : (Jvm.Cond.instanceMethod ({ cls := "LiarsCock", name := "knownBy", desc := "(I)I" } : Jvm.MethodName)) ∈ lw_all := lw_g (lw_at lw_m6 151 rfl) rfl
theorem q1470 : (Jvm.Cond.code ({ cls := "LiarsCock", name := "knownBy", desc := "(I)I" } : Jvm.MethodName) prog_1_method_71_code (4 : Nat) (Option.some Jvm.ClassFile.FieldType.int)) ∈ lw_all := lw_g (lw_at lw_m6 152 rfl) rfl
theorem q1472 : (Jvm.Cond.instanceMethod ({ cls := "LiarsCock", name := "fewest", desc := "(II)I" } : Jvm.MethodName)) ∈ lw_all := lw_g (lw_at lw_m6 154 rfl) rfl
theorem q1473 : (Jvm.Cond.selects "LiarsCock" ({ cls := "LiarsCock", name := "fewest", desc := "(II)I" } : Jvm.MethodName) ({ cls := "LiarsCock", name := "fewest", desc := "(II)I" } : Jvm.MethodName)) ∈ lw_all := lw_g (lw_at lw_m6 155 rfl) rfl
theorem q1474 : (Jvm.Cond.code ({ cls := "LiarsCock", name := "fewest", desc := "(II)I" } : Jvm.MethodName) prog_1_method_75_code (5 : Nat) (Option.some Jvm.ClassFile.FieldType.int)) ∈ lw_all := lw_g (lw_at lw_m6 156 rfl) rfl
theorem q1476 : (Jvm.Cond.instanceMethod ({ cls := "LiarsCock", name := "person", desc := "(II)I" } : Jvm.MethodName)) ∈ lw_all := lw_g (lw_at lw_m6 158 rfl) rfl
theorem q1477 : (Jvm.Cond.selects "LiarsCock" ({ cls := "LiarsCock", name := "person", desc := "(II)I" } : Jvm.MethodName) ({ cls := "LiarsCock", name := "person", desc := "(II)I" } : Jvm.MethodName)) ∈ lw_all := lw_g (lw_at lw_m6 159 rfl) rfl
theorem q1478 : (Jvm.Cond.code ({ cls := "LiarsCock", name := "person", desc := "(II)I" } : Jvm.MethodName) prog_1_method_76_code (3 : Nat) (Option.some Jvm.ClassFile.FieldType.int)) ∈ lw_all := lw_g (lw_at lw_m6 160 rfl) rfl
theorem q1480 : (Jvm.Cond.instanceMethod ({ cls := "LiarsCock", name := "lookout", desc := "(III)I" } : Jvm.MethodName)) ∈ lw_all := lw_g (lw_at lw_m6 162 rfl) rfl
theorem q1481 : (Jvm.Cond.selects "LiarsCock" ({ cls := "LiarsCock", name := "lookout", desc := "(III)I" } : Jvm.MethodName) ({ cls := "LiarsCock", name := "lookout", desc := "(III)I" } : Jvm.MethodName)) ∈ lw_all := lw_g (lw_at lw_m6 163 rfl) rfl
theorem q1482 : (Jvm.Cond.code ({ cls := "LiarsCock", name := "lookout", desc := "(III)I" } : Jvm.MethodName) prog_1_method_77_code (5 : Nat) (Option.some Jvm.ClassFile.FieldType.int)) ∈ lw_all := lw_g (lw_at lw_m6 164 rfl) rfl
theorem q1483 : (Jvm.Cond.methodLink "LiarsCock" (383 : Nat) ({ cls := "LiarsCock$Lookout", name := "fewest", desc := "(IJ)I" } : Jvm.MethodName)) ∈ lw_all := lw_g (lw_at lw_m6 165 rfl) rfl
theorem q1514 : (Jvm.Cond.instanceMethod ({ cls := "LiarsCock", name := "move", desc := "(II)I" } : Jvm.MethodName)) ∈ lw_all := lw_g (lw_at lw_m6 196 rfl) rfl
theorem q1515 : (Jvm.Cond.selects "LiarsCock" ({ cls := "LiarsCock", name := "move", desc := "(II)I" } : Jvm.MethodName) ({ cls := "LiarsCock", name := "move", desc := "(II)I" } : Jvm.MethodName)) ∈ lw_all := lw_g (lw_at lw_m6 197 rfl) rfl
theorem q1516 : (Jvm.Cond.code ({ cls := "LiarsCock", name := "move", desc := "(II)I" } : Jvm.MethodName) prog_1_method_78_code (8 : Nat) (Option.some Jvm.ClassFile.FieldType.int)) ∈ lw_all := lw_g (lw_at lw_m6 198 rfl) rfl
theorem q1518 : (Jvm.Cond.instanceMethod ({ cls := "LiarsCock", name := "longest", desc := "(IIII)I" } : Jvm.MethodName)) ∈ lw_all := lw_g (lw_at lw_m6 200 rfl) rfl
theorem q1519 : (Jvm.Cond.selects "LiarsCock" ({ cls := "LiarsCock", name := "longest", desc := "(IIII)I" } : Jvm.MethodName) ({ cls := "LiarsCock", name := "longest", desc := "(IIII)I" } : Jvm.MethodName)) ∈ lw_all := lw_g (lw_at lw_m6 201 rfl) rfl
theorem q1520 : (Jvm.Cond.code ({ cls := "LiarsCock", name := "longest", desc := "(IIII)I" } : Jvm.MethodName) prog_1_method_79_code (11 : Nat) (Option.some Jvm.ClassFile.FieldType.int)) ∈ lw_all := lw_g (lw_at lw_m6 202 rfl) rfl
theorem q1522 : (Jvm.Cond.instanceMethod ({ cls := "LiarsCock", name := "differ", desc := "(II)I" } : Jvm.MethodName)) ∈ lw_all := lw_g (lw_at lw_m6 204 rfl) rfl
theorem q1523 : (Jvm.Cond.selects "LiarsCock" ({ cls := "LiarsCock", name := "differ", desc := "(II)I" } : Jvm.MethodName) ({ cls := "LiarsCock", name := "differ", desc := "(II)I" } : Jvm.MethodName)) ∈ lw_all := lw_g (lw_at lw_m6 205 rfl) rfl
theorem q1524 : (Jvm.Cond.code ({ cls := "LiarsCock", name := "differ", desc := "(II)I" } : Jvm.MethodName) prog_1_method_80_code (5 : Nat) (Option.some Jvm.ClassFile.FieldType.int)) ∈ lw_all := lw_g (lw_at lw_m6 206 rfl) rfl
theorem q1526 : (Jvm.Cond.instanceMethod ({ cls := "LiarsCock", name := "mark", desc := "(IZ)Z" } : Jvm.MethodName)) ∈ lw_all := lw_g (lw_at lw_m6 208 rfl) rfl
theorem q1527 : (Jvm.Cond.selects "LiarsCock" ({ cls := "LiarsCock", name := "mark", desc := "(IZ)Z" } : Jvm.MethodName) ({ cls := "LiarsCock", name := "mark", desc := "(IZ)Z" } : Jvm.MethodName)) ∈ lw_all := lw_g (lw_at lw_m6 209 rfl) rfl
theorem q1528 : (Jvm.Cond.code ({ cls := "LiarsCock", name := "mark", desc := "(IZ)Z" } : Jvm.MethodName) prog_1_method_81_code (4 : Nat) (Option.some Jvm.ClassFile.FieldType.boolean)) ∈ lw_all := lw_g (lw_at lw_m6 210 rfl) rfl
theorem q1530 : (Jvm.Cond.methodLink "LiarsCock" (390 : Nat) ({ cls := "LiarsCock$Mark", name := "<init>", desc := "(LLiarsCock;)V" } : Jvm.MethodName)) ∈ lw_all := lw_g (lw_at lw_m6 212 rfl) rfl
theorem q1543 : (Jvm.Cond.fieldLink "LiarsCock" (391 : Nat) "LiarsCock$Mark" "parish" "LLiarsCock$Parish;") ∈ lw_all := lw_g (lw_at lw_m6 225 rfl) rfl
theorem q1545 : (Jvm.Cond.fieldLink "LiarsCock" (392 : Nat) "LiarsCock$Mark" "truth" "I") ∈ lw_all := lw_g (lw_at lw_m6 227 rfl) rfl
theorem q1547 : (Jvm.Cond.fieldLink "LiarsCock" (393 : Nat) "LiarsCock$Mark" "sayings" "Ljava/util/ArrayList;") ∈ lw_all := lw_g (lw_at lw_m6 229 rfl) rfl
theorem q1549 : (Jvm.Cond.fieldLink "LiarsCock" (398 : Nat) "LiarsCock$Mark" "offers" "Ljava/util/ArrayList;") ∈ lw_all := lw_g (lw_at lw_m6 231 rfl) rfl
theorem q1551 : (Jvm.Cond.fieldLink "LiarsCock" (399 : Nat) "LiarsCock$Mark" "looks" "Ljava/util/ArrayList;") ∈ lw_all := lw_g (lw_at lw_m6 233 rfl) rfl
theorem q1553 : (Jvm.Cond.fieldLink "LiarsCock" (400 : Nat) "LiarsCock$Mark" "watches" "Ljava/util/ArrayList;") ∈ lw_all := lw_g (lw_at lw_m6 235 rfl) rfl
theorem q1567 : (Jvm.Cond.methodLink "LiarsCock" (394 : Nat) ({ cls := "LiarsCock$Mark", name := "lay", desc := "(Ljava/util/ArrayList;Ljava/util/ArrayList;)V" } : Jvm.MethodName)) ∈ lw_all := lw_g (lw_at lw_m7 9 rfl) rfl
theorem q1572 : (Jvm.Cond.instanceMethod ({ cls := "LiarsCock", name := "count", desc := "(I)I" } : Jvm.MethodName)) ∈ lw_all := lw_g (lw_at lw_m7 14 rfl) rfl
theorem q1573 : (Jvm.Cond.selects "LiarsCock" ({ cls := "LiarsCock", name := "count", desc := "(I)I" } : Jvm.MethodName) ({ cls := "LiarsCock", name := "count", desc := "(I)I" } : Jvm.MethodName)) ∈ lw_all := lw_g (lw_at lw_m7 15 rfl) rfl
theorem q1574 : (Jvm.Cond.code ({ cls := "LiarsCock", name := "count", desc := "(I)I" } : Jvm.MethodName) prog_1_method_82_code (2 : Nat) (Option.some Jvm.ClassFile.FieldType.int)) ∈ lw_all := lw_g (lw_at lw_m7 16 rfl) rfl
theorem q1580 : (Jvm.Cond.instanceMethod ({ cls := "LiarsCock", name := "secret", desc := "(IIIII)J" } : Jvm.MethodName)) ∈ lw_all := lw_g (lw_at lw_m7 22 rfl) rfl
theorem q1581 : (Jvm.Cond.selects "LiarsCock" ({ cls := "LiarsCock", name := "secret", desc := "(IIIII)J" } : Jvm.MethodName) ({ cls := "LiarsCock", name := "secret", desc := "(IIIII)J" } : Jvm.MethodName)) ∈ lw_all := lw_g (lw_at lw_m7 23 rfl) rfl
theorem q1582 : (Jvm.Cond.code ({ cls := "LiarsCock", name := "secret", desc := "(IIIII)J" } : Jvm.MethodName) prog_1_method_66_code (13 : Nat) (Option.some Jvm.ClassFile.FieldType.long)) ∈ lw_all := lw_g (lw_at lw_m7 24 rfl) rfl
theorem q1583 : (Jvm.Cond.classLink "LiarsCock" (354 : Nat) "java/util/NoSuchElementException") ∈ lw_all := lw_g (lw_at lw_m7 25 rfl) rfl
theorem q1594 : (Jvm.Cond.methodLink "LiarsCock" (356 : Nat) ({ cls := "java/util/NoSuchElementException", name := "<init>", desc := "()V" } : Jvm.MethodName)) ∈ lw_all := lw_g (lw_at lw_m7 36 rfl) rfl
theorem q1603 : (Jvm.Cond.constantLong "LiarsCock" (357 : Nat) (10 : Int64)) ∈ lw_all := lw_g (lw_at lw_m7 45 rfl) rfl
theorem q2259 : (Jvm.Cond.castable "LiarsCock" "java/lang/Object") ∈ lw_tbl := lw_at lw_m9 221 rfl
theorem in_X1 : ∀ w ∈ wsX10, w ∈ lw_all := lw_in wsX10 [436, 438, 440, 442, 444, 446, 448, 450, 452, 454, 456] (by decide +kernel) (by decide +kernel)
