/-! LiarsCock$Reader -/
set_option maxRecDepth 100000
def RX2 : String := "LiarsCock$Reader"
def TX2 : u_T := fun k => match k with
  | 0 => ("LiarsCock$Reader", "kept", "[Ljava/lang/String;", true)
  | 1 => ("LiarsCock$Reader", "draft", "LLiarsCock$Parish;", false)
  | 2 => ("LiarsCock$Reader", "tape", "[I", true)
  | 3 => ("LiarsCock$Reader", "taped", "I", false)
  | 4 => ("LiarsCock$Reader", "sort", "[I", true)
  | 5 => ("LiarsCock$Reader", "value", "[J", true)
  | 6 => ("LiarsCock$Reader", "place", "[I", true)
  | 7 => ("LiarsCock$Reader", "at", "I", false)
  | _ => ("LiarsCock$Reader", "deep", "I", false)
def tyX2 : Nat → FieldType := fun k => match k with
  | 0 => .array (.object "java/lang/String")
  | 1 => .object "LiarsCock$Parish"
  | 2 => .array .int
  | 3 => .int
  | 4 => .array .int
  | 5 => .array .long
  | 6 => .array .int
  | 7 => .int
  | _ => .int
abbrev wsX20 : List Cond := u_ws RX2 TX2 9
theorem nmX2 : ∀ a, a < 9 → ∀ b, b < 9 → a ≠ b → (TX2 a).2.1 ≠ (TX2 b).2.1 := by decide +kernel
theorem tyX2_ok : ∀ k, k < 9 → parseFieldDescriptor (TX2 k).2.2.1 = some (tyX2 k) := by decide +kernel
abbrev cX2_init : ByteArray := prog_21_method_1_code
def yX2_init : MethodName := ⟨RX2, "<init>", "()V"⟩
def dkwX2_init_5 : List UInt8 := [17, 3, 233, 188, 10, 181, 0, 56, 177]
abbrev dktX2_init_5 : List UInt8 := dkwX2_init_5 ++ []
def dkwX2_init_4 : List UInt8 := [188, 10, 181, 0, 45, 42, 17, 3, 233, 188, 10, 181, 0, 49, 42, 17, 3, 233, 188, 11, 181, 0, 52, 42]
abbrev dktX2_init_4 : List UInt8 := dkwX2_init_4 ++ dktX2_init_5
def dkwX2_init_3 : List UInt8 := [16, 11, 18, 33, 83, 89, 16, 12, 18, 35, 83, 89, 16, 13, 18, 37, 83, 181, 0, 39, 42, 17, 3, 232]
abbrev dktX2_init_3 : List UInt8 := dkwX2_init_3 ++ dktX2_init_4
def dkwX2_init_2 : List UInt8 := [16, 7, 18, 25, 83, 89, 16, 8, 18, 27, 83, 89, 16, 9, 18, 29, 83, 89, 16, 10, 18, 31, 83, 89]
abbrev dktX2_init_2 : List UInt8 := dkwX2_init_2 ++ dktX2_init_3
def dkwX2_init_1 : List UInt8 := [83, 89, 6, 18, 17, 83, 89, 7, 18, 19, 83, 89, 8, 18, 21, 83, 89, 16, 6, 18, 23, 83, 89]
abbrev dktX2_init_1 : List UInt8 := dkwX2_init_1 ++ dktX2_init_2
def dkwX2_init_0 : List UInt8 := [42, 183, 0, 3, 42, 16, 14, 189, 0, 9, 89, 3, 18, 11, 83, 89, 4, 18, 13, 83, 89, 5, 18, 15]
abbrev dktX2_init_0 : List UInt8 := dkwX2_init_0 ++ dktX2_init_1
theorem dksX2_init_0 : cX2_init.data.toList.drop 0 = dktX2_init_0 := by decide +kernel
theorem dksX2_init_1 : cX2_init.data.toList.drop 24 = dktX2_init_1 := dk_seg dksX2_init_0 24 rfl rfl
theorem dksX2_init_2 : cX2_init.data.toList.drop 47 = dktX2_init_2 := dk_seg dksX2_init_1 23 rfl rfl
theorem dksX2_init_3 : cX2_init.data.toList.drop 71 = dktX2_init_3 := dk_seg dksX2_init_2 24 rfl rfl
theorem dksX2_init_4 : cX2_init.data.toList.drop 95 = dktX2_init_4 := dk_seg dksX2_init_3 24 rfl rfl
theorem dksX2_init_5 : cX2_init.data.toList.drop 119 = dktX2_init_5 := dk_seg dksX2_init_4 24 rfl rfl
theorem dX2_init_0 : decode cX2_init 0 = .ok (.aload_n 0, 1) := dk_42 (dk_at dksX2_init_0 0 rfl rfl)
theorem dX2_init_1 : decode cX2_init 1 = .ok (.invokespecial 3, 3) := dk_183 0 3 (dk_at dksX2_init_0 1 rfl rfl)
theorem dX2_init_4 : decode cX2_init 4 = .ok (.aload_n 0, 1) := dk_42 (dk_at dksX2_init_0 4 rfl rfl)
theorem dX2_init_5 : decode cX2_init 5 = .ok (.bipush 14, 2) := dk_16 14 (dk_at dksX2_init_0 5 rfl rfl)
theorem dX2_init_7 : decode cX2_init 7 = .ok (.anewarray 9, 3) := dk_189 0 9 (dk_at dksX2_init_0 7 rfl rfl)
theorem dX2_init_10 : decode cX2_init 10 = .ok (.dup, 1) := dk_89 (dk_at dksX2_init_0 10 rfl rfl)
theorem dX2_init_11 : decode cX2_init 11 = .ok (.iconst 0, 1) := dk_3 (dk_at dksX2_init_0 11 rfl rfl)
theorem dX2_init_12 : decode cX2_init 12 = .ok (.ldc 11, 2) := dk_18 11 (dk_at dksX2_init_0 12 rfl rfl)
theorem dX2_init_14 : decode cX2_init 14 = .ok (.aastore, 1) := dk_83 (dk_at dksX2_init_0 14 rfl rfl)
theorem dX2_init_15 : decode cX2_init 15 = .ok (.dup, 1) := dk_89 (dk_at dksX2_init_0 15 rfl rfl)
theorem dX2_init_16 : decode cX2_init 16 = .ok (.iconst 1, 1) := dk_4 (dk_at dksX2_init_0 16 rfl rfl)
theorem dX2_init_17 : decode cX2_init 17 = .ok (.ldc 13, 2) := dk_18 13 (dk_at dksX2_init_0 17 rfl rfl)
theorem dX2_init_19 : decode cX2_init 19 = .ok (.aastore, 1) := dk_83 (dk_at dksX2_init_0 19 rfl rfl)
theorem dX2_init_20 : decode cX2_init 20 = .ok (.dup, 1) := dk_89 (dk_at dksX2_init_0 20 rfl rfl)
theorem dX2_init_21 : decode cX2_init 21 = .ok (.iconst 2, 1) := dk_5 (dk_at dksX2_init_0 21 rfl rfl)
theorem dX2_init_22 : decode cX2_init 22 = .ok (.ldc 15, 2) := dk_18 15 (dk_at dksX2_init_0 22 rfl rfl)
theorem dX2_init_24 : decode cX2_init 24 = .ok (.aastore, 1) := dk_83 (dk_at dksX2_init_1 0 rfl rfl)
theorem dX2_init_25 : decode cX2_init 25 = .ok (.dup, 1) := dk_89 (dk_at dksX2_init_1 1 rfl rfl)
theorem dX2_init_26 : decode cX2_init 26 = .ok (.iconst 3, 1) := dk_6 (dk_at dksX2_init_1 2 rfl rfl)
theorem dX2_init_27 : decode cX2_init 27 = .ok (.ldc 17, 2) := dk_18 17 (dk_at dksX2_init_1 3 rfl rfl)
theorem dX2_init_29 : decode cX2_init 29 = .ok (.aastore, 1) := dk_83 (dk_at dksX2_init_1 5 rfl rfl)
theorem dX2_init_30 : decode cX2_init 30 = .ok (.dup, 1) := dk_89 (dk_at dksX2_init_1 6 rfl rfl)
theorem dX2_init_31 : decode cX2_init 31 = .ok (.iconst 4, 1) := dk_7 (dk_at dksX2_init_1 7 rfl rfl)
theorem dX2_init_32 : decode cX2_init 32 = .ok (.ldc 19, 2) := dk_18 19 (dk_at dksX2_init_1 8 rfl rfl)
theorem dX2_init_34 : decode cX2_init 34 = .ok (.aastore, 1) := dk_83 (dk_at dksX2_init_1 10 rfl rfl)
theorem dX2_init_35 : decode cX2_init 35 = .ok (.dup, 1) := dk_89 (dk_at dksX2_init_1 11 rfl rfl)
theorem dX2_init_36 : decode cX2_init 36 = .ok (.iconst 5, 1) := dk_8 (dk_at dksX2_init_1 12 rfl rfl)
theorem dX2_init_37 : decode cX2_init 37 = .ok (.ldc 21, 2) := dk_18 21 (dk_at dksX2_init_1 13 rfl rfl)
theorem dX2_init_39 : decode cX2_init 39 = .ok (.aastore, 1) := dk_83 (dk_at dksX2_init_1 15 rfl rfl)
theorem dX2_init_40 : decode cX2_init 40 = .ok (.dup, 1) := dk_89 (dk_at dksX2_init_1 16 rfl rfl)
theorem dX2_init_41 : decode cX2_init 41 = .ok (.bipush 6, 2) := dk_16 6 (dk_at dksX2_init_1 17 rfl rfl)
theorem dX2_init_43 : decode cX2_init 43 = .ok (.ldc 23, 2) := dk_18 23 (dk_at dksX2_init_1 19 rfl rfl)
theorem dX2_init_45 : decode cX2_init 45 = .ok (.aastore, 1) := dk_83 (dk_at dksX2_init_1 21 rfl rfl)
theorem dX2_init_46 : decode cX2_init 46 = .ok (.dup, 1) := dk_89 (dk_at dksX2_init_1 22 rfl rfl)
theorem dX2_init_47 : decode cX2_init 47 = .ok (.bipush 7, 2) := dk_16 7 (dk_at dksX2_init_2 0 rfl rfl)
theorem dX2_init_49 : decode cX2_init 49 = .ok (.ldc 25, 2) := dk_18 25 (dk_at dksX2_init_2 2 rfl rfl)
theorem dX2_init_51 : decode cX2_init 51 = .ok (.aastore, 1) := dk_83 (dk_at dksX2_init_2 4 rfl rfl)
theorem dX2_init_52 : decode cX2_init 52 = .ok (.dup, 1) := dk_89 (dk_at dksX2_init_2 5 rfl rfl)
theorem dX2_init_53 : decode cX2_init 53 = .ok (.bipush 8, 2) := dk_16 8 (dk_at dksX2_init_2 6 rfl rfl)
theorem dX2_init_55 : decode cX2_init 55 = .ok (.ldc 27, 2) := dk_18 27 (dk_at dksX2_init_2 8 rfl rfl)
theorem dX2_init_57 : decode cX2_init 57 = .ok (.aastore, 1) := dk_83 (dk_at dksX2_init_2 10 rfl rfl)
theorem dX2_init_58 : decode cX2_init 58 = .ok (.dup, 1) := dk_89 (dk_at dksX2_init_2 11 rfl rfl)
theorem dX2_init_59 : decode cX2_init 59 = .ok (.bipush 9, 2) := dk_16 9 (dk_at dksX2_init_2 12 rfl rfl)
theorem dX2_init_61 : decode cX2_init 61 = .ok (.ldc 29, 2) := dk_18 29 (dk_at dksX2_init_2 14 rfl rfl)
theorem dX2_init_63 : decode cX2_init 63 = .ok (.aastore, 1) := dk_83 (dk_at dksX2_init_2 16 rfl rfl)
theorem dX2_init_64 : decode cX2_init 64 = .ok (.dup, 1) := dk_89 (dk_at dksX2_init_2 17 rfl rfl)
theorem dX2_init_65 : decode cX2_init 65 = .ok (.bipush 10, 2) := dk_16 10 (dk_at dksX2_init_2 18 rfl rfl)
theorem dX2_init_67 : decode cX2_init 67 = .ok (.ldc 31, 2) := dk_18 31 (dk_at dksX2_init_2 20 rfl rfl)
theorem dX2_init_69 : decode cX2_init 69 = .ok (.aastore, 1) := dk_83 (dk_at dksX2_init_2 22 rfl rfl)
theorem dX2_init_70 : decode cX2_init 70 = .ok (.dup, 1) := dk_89 (dk_at dksX2_init_2 23 rfl rfl)
theorem dX2_init_71 : decode cX2_init 71 = .ok (.bipush 11, 2) := dk_16 11 (dk_at dksX2_init_3 0 rfl rfl)
theorem dX2_init_73 : decode cX2_init 73 = .ok (.ldc 33, 2) := dk_18 33 (dk_at dksX2_init_3 2 rfl rfl)
theorem dX2_init_75 : decode cX2_init 75 = .ok (.aastore, 1) := dk_83 (dk_at dksX2_init_3 4 rfl rfl)
theorem dX2_init_76 : decode cX2_init 76 = .ok (.dup, 1) := dk_89 (dk_at dksX2_init_3 5 rfl rfl)
theorem dX2_init_77 : decode cX2_init 77 = .ok (.bipush 12, 2) := dk_16 12 (dk_at dksX2_init_3 6 rfl rfl)
theorem dX2_init_79 : decode cX2_init 79 = .ok (.ldc 35, 2) := dk_18 35 (dk_at dksX2_init_3 8 rfl rfl)
theorem dX2_init_81 : decode cX2_init 81 = .ok (.aastore, 1) := dk_83 (dk_at dksX2_init_3 10 rfl rfl)
theorem dX2_init_82 : decode cX2_init 82 = .ok (.dup, 1) := dk_89 (dk_at dksX2_init_3 11 rfl rfl)
theorem dX2_init_83 : decode cX2_init 83 = .ok (.bipush 13, 2) := dk_16 13 (dk_at dksX2_init_3 12 rfl rfl)
theorem dX2_init_85 : decode cX2_init 85 = .ok (.ldc 37, 2) := dk_18 37 (dk_at dksX2_init_3 14 rfl rfl)
theorem dX2_init_87 : decode cX2_init 87 = .ok (.aastore, 1) := dk_83 (dk_at dksX2_init_3 16 rfl rfl)
theorem dX2_init_88 : decode cX2_init 88 = .ok (.putfield 39, 3) := dk_181 0 39 (dk_at dksX2_init_3 17 rfl rfl)
theorem dX2_init_91 : decode cX2_init 91 = .ok (.aload_n 0, 1) := dk_42 (dk_at dksX2_init_3 20 rfl rfl)
theorem dX2_init_92 : decode cX2_init 92 = .ok (.sipush 1000, 3) := dk_17 3 232 (dk_at dksX2_init_3 21 rfl rfl)
theorem dX2_init_95 : decode cX2_init 95 = .ok (.newarray .int, 2) := dk_188_10 (dk_at dksX2_init_4 0 rfl rfl)
theorem dX2_init_97 : decode cX2_init 97 = .ok (.putfield 45, 3) := dk_181 0 45 (dk_at dksX2_init_4 2 rfl rfl)
theorem dX2_init_100 : decode cX2_init 100 = .ok (.aload_n 0, 1) := dk_42 (dk_at dksX2_init_4 5 rfl rfl)
theorem dX2_init_101 : decode cX2_init 101 = .ok (.sipush 1001, 3) := dk_17 3 233 (dk_at dksX2_init_4 6 rfl rfl)
theorem dX2_init_104 : decode cX2_init 104 = .ok (.newarray .int, 2) := dk_188_10 (dk_at dksX2_init_4 9 rfl rfl)
theorem dX2_init_106 : decode cX2_init 106 = .ok (.putfield 49, 3) := dk_181 0 49 (dk_at dksX2_init_4 11 rfl rfl)
theorem dX2_init_109 : decode cX2_init 109 = .ok (.aload_n 0, 1) := dk_42 (dk_at dksX2_init_4 14 rfl rfl)
theorem dX2_init_110 : decode cX2_init 110 = .ok (.sipush 1001, 3) := dk_17 3 233 (dk_at dksX2_init_4 15 rfl rfl)
theorem dX2_init_113 : decode cX2_init 113 = .ok (.newarray .long, 2) := dk_188_11 (dk_at dksX2_init_4 18 rfl rfl)
theorem dX2_init_115 : decode cX2_init 115 = .ok (.putfield 52, 3) := dk_181 0 52 (dk_at dksX2_init_4 20 rfl rfl)
theorem dX2_init_118 : decode cX2_init 118 = .ok (.aload_n 0, 1) := dk_42 (dk_at dksX2_init_4 23 rfl rfl)
theorem dX2_init_119 : decode cX2_init 119 = .ok (.sipush 1001, 3) := dk_17 3 233 (dk_at dksX2_init_5 0 rfl rfl)
theorem dX2_init_122 : decode cX2_init 122 = .ok (.newarray .int, 2) := dk_188_10 (dk_at dksX2_init_5 3 rfl rfl)
theorem dX2_init_124 : decode cX2_init 124 = .ok (.putfield 56, 3) := dk_181 0 56 (dk_at dksX2_init_5 5 rfl rfl)
theorem dX2_init_127 : decode cX2_init 127 = .ok (.return_, 1) := dk_177 (dk_at dksX2_init_5 8 rfl rfl)
abbrev cX2_feed : ByteArray := prog_21_method_2_code
def yX2_feed : MethodName := ⟨RX2, "feed", "(J)V"⟩
def dkwX2_feed_3 : List UInt8 := [167, 255, 189, 177]
abbrev dktX2_feed_3 : List UInt8 := dkwX2_feed_3 ++ []
def dkwX2_feed_2 : List UInt8 := [180, 0, 45, 42, 180, 0, 64, 21, 4, 79, 42, 89, 180, 0, 64, 4, 96, 181, 0, 64, 132, 3, 248]
abbrev dktX2_feed_2 : List UInt8 := dkwX2_feed_2 ++ dktX2_feed_3
def dkwX2_feed_1 : List UInt8 := [21, 4, 16, 32, 16, 126, 184, 0, 60, 153, 0, 34, 42, 180, 0, 64, 17, 3, 232, 162, 0, 24, 42]
abbrev dktX2_feed_1 : List UInt8 := dkwX2_feed_1 ++ dktX2_feed_2
def dkwX2_feed_0 : List UInt8 := [16, 56, 62, 29, 155, 0, 69, 31, 29, 125, 20, 0, 58, 127, 136, 54, 4, 21, 4, 16, 10, 159, 0, 15]
abbrev dktX2_feed_0 : List UInt8 := dkwX2_feed_0 ++ dktX2_feed_1
theorem dksX2_feed_0 : cX2_feed.data.toList.drop 0 = dktX2_feed_0 := by decide +kernel
theorem dksX2_feed_1 : cX2_feed.data.toList.drop 24 = dktX2_feed_1 := dk_seg dksX2_feed_0 24 rfl rfl
theorem dksX2_feed_2 : cX2_feed.data.toList.drop 47 = dktX2_feed_2 := dk_seg dksX2_feed_1 23 rfl rfl
theorem dksX2_feed_3 : cX2_feed.data.toList.drop 70 = dktX2_feed_3 := dk_seg dksX2_feed_2 23 rfl rfl
theorem dX2_feed_0 : decode cX2_feed 0 = .ok (.bipush 56, 2) := dk_16 56 (dk_at dksX2_feed_0 0 rfl rfl)
theorem dX2_feed_2 : decode cX2_feed 2 = .ok (.istore_n 3, 1) := dk_62 (dk_at dksX2_feed_0 2 rfl rfl)
theorem dX2_feed_3 : decode cX2_feed 3 = .ok (.iload_n 3, 1) := dk_29 (dk_at dksX2_feed_0 3 rfl rfl)
theorem dX2_feed_4 : decode cX2_feed 4 = .ok (.ifCond .lt 69, 3) := dk_155 0 69 (dk_at dksX2_feed_0 4 rfl rfl)
theorem dX2_feed_7 : decode cX2_feed 7 = .ok (.lload_n 1, 1) := dk_31 (dk_at dksX2_feed_0 7 rfl rfl)
theorem dX2_feed_8 : decode cX2_feed 8 = .ok (.iload_n 3, 1) := dk_29 (dk_at dksX2_feed_0 8 rfl rfl)
theorem dX2_feed_9 : decode cX2_feed 9 = .ok (.lushr, 1) := dk_125 (dk_at dksX2_feed_0 9 rfl rfl)
theorem dX2_feed_10 : decode cX2_feed 10 = .ok (.ldc2_w 58, 3) := dk_20 0 58 (dk_at dksX2_feed_0 10 rfl rfl)
theorem dX2_feed_13 : decode cX2_feed 13 = .ok (.land, 1) := dk_127 (dk_at dksX2_feed_0 13 rfl rfl)
theorem dX2_feed_14 : decode cX2_feed 14 = .ok (.l2i, 1) := dk_136 (dk_at dksX2_feed_0 14 rfl rfl)
theorem dX2_feed_15 : decode cX2_feed 15 = .ok (.istore 4, 2) := dk_54 4 (dk_at dksX2_feed_0 15 rfl rfl)
theorem dX2_feed_17 : decode cX2_feed 17 = .ok (.iload 4, 2) := dk_21 4 (dk_at dksX2_feed_0 17 rfl rfl)
theorem dX2_feed_19 : decode cX2_feed 19 = .ok (.bipush 10, 2) := dk_16 10 (dk_at dksX2_feed_0 19 rfl rfl)
theorem dX2_feed_21 : decode cX2_feed 21 = .ok (.if_icmp .eq 15, 3) := dk_159 0 15 (dk_at dksX2_feed_0 21 rfl rfl)
theorem dX2_feed_24 : decode cX2_feed 24 = .ok (.iload 4, 2) := dk_21 4 (dk_at dksX2_feed_1 0 rfl rfl)
theorem dX2_feed_26 : decode cX2_feed 26 = .ok (.bipush 32, 2) := dk_16 32 (dk_at dksX2_feed_1 2 rfl rfl)
theorem dX2_feed_28 : decode cX2_feed 28 = .ok (.bipush 126, 2) := dk_16 126 (dk_at dksX2_feed_1 4 rfl rfl)
theorem dX2_feed_30 : decode cX2_feed 30 = .ok (.invokestatic 60, 3) := dk_184 0 60 (dk_at dksX2_feed_1 6 rfl rfl)
theorem dX2_feed_33 : decode cX2_feed 33 = .ok (.ifCond .eq 34, 3) := dk_153 0 34 (dk_at dksX2_feed_1 9 rfl rfl)
theorem dX2_feed_36 : decode cX2_feed 36 = .ok (.aload_n 0, 1) := dk_42 (dk_at dksX2_feed_1 12 rfl rfl)
theorem dX2_feed_37 : decode cX2_feed 37 = .ok (.getfield 64, 3) := dk_180 0 64 (dk_at dksX2_feed_1 13 rfl rfl)
theorem dX2_feed_40 : decode cX2_feed 40 = .ok (.sipush 1000, 3) := dk_17 3 232 (dk_at dksX2_feed_1 16 rfl rfl)
theorem dX2_feed_43 : decode cX2_feed 43 = .ok (.if_icmp .ge 24, 3) := dk_162 0 24 (dk_at dksX2_feed_1 19 rfl rfl)
theorem dX2_feed_46 : decode cX2_feed 46 = .ok (.aload_n 0, 1) := dk_42 (dk_at dksX2_feed_1 22 rfl rfl)
theorem dX2_feed_47 : decode cX2_feed 47 = .ok (.getfield 45, 3) := dk_180 0 45 (dk_at dksX2_feed_2 0 rfl rfl)
theorem dX2_feed_50 : decode cX2_feed 50 = .ok (.aload_n 0, 1) := dk_42 (dk_at dksX2_feed_2 3 rfl rfl)
theorem dX2_feed_51 : decode cX2_feed 51 = .ok (.getfield 64, 3) := dk_180 0 64 (dk_at dksX2_feed_2 4 rfl rfl)
theorem dX2_feed_54 : decode cX2_feed 54 = .ok (.iload 4, 2) := dk_21 4 (dk_at dksX2_feed_2 7 rfl rfl)
theorem dX2_feed_56 : decode cX2_feed 56 = .ok (.iastore, 1) := dk_79 (dk_at dksX2_feed_2 9 rfl rfl)
theorem dX2_feed_57 : decode cX2_feed 57 = .ok (.aload_n 0, 1) := dk_42 (dk_at dksX2_feed_2 10 rfl rfl)
theorem dX2_feed_58 : decode cX2_feed 58 = .ok (.dup, 1) := dk_89 (dk_at dksX2_feed_2 11 rfl rfl)
theorem dX2_feed_59 : decode cX2_feed 59 = .ok (.getfield 64, 3) := dk_180 0 64 (dk_at dksX2_feed_2 12 rfl rfl)
theorem dX2_feed_62 : decode cX2_feed 62 = .ok (.iconst 1, 1) := dk_4 (dk_at dksX2_feed_2 15 rfl rfl)
theorem dX2_feed_63 : decode cX2_feed 63 = .ok (.iadd, 1) := dk_96 (dk_at dksX2_feed_2 16 rfl rfl)
theorem dX2_feed_64 : decode cX2_feed 64 = .ok (.putfield 64, 3) := dk_181 0 64 (dk_at dksX2_feed_2 17 rfl rfl)
theorem dX2_feed_67 : decode cX2_feed 67 = .ok (.iinc 3 (-8), 3) := dk_132 3 248 (dk_at dksX2_feed_2 20 rfl rfl)
theorem dX2_feed_70 : decode cX2_feed 70 = .ok (.goto (-67), 3) := dk_167 255 189 (dk_at dksX2_feed_3 0 rfl rfl)
theorem dX2_feed_73 : decode cX2_feed 73 = .ok (.return_, 1) := dk_177 (dk_at dksX2_feed_3 3 rfl rfl)
abbrev cX2_parish : ByteArray := prog_21_method_16_code
def yX2_parish : MethodName := ⟨RX2, "parish", "()LLiarsCock$Parish;"⟩
def dkwX2_parish_10 : List UInt8 := [132, 2, 1, 167, 255, 218, 42, 180, 0, 132, 176]
abbrev dktX2_parish_10 : List UInt8 := dkwX2_parish_10 ++ []
def dkwX2_parish_9 : List UInt8 := [180, 0, 175, 42, 180, 0, 132, 43, 28, 182, 0, 178, 192, 0, 182, 182, 0, 171, 127, 181, 0, 175]
abbrev dktX2_parish_9 : List UInt8 := dkwX2_parish_9 ++ dktX2_parish_10
def dkwX2_parish_8 : List UInt8 := [183, 0, 170, 182, 0, 171, 181, 0, 175, 3, 61, 28, 43, 182, 0, 162, 162, 0, 36, 42, 180, 0, 132, 89]
abbrev dktX2_parish_8 : List UInt8 := dkwX2_parish_8 ++ dktX2_parish_9
def dkwX2_parish_7 : List UInt8 := [180, 0, 132, 43, 182, 0, 162, 181, 0, 165, 42, 180, 0, 132, 42, 180, 0, 132, 187, 0, 168, 89, 4]
abbrev dktX2_parish_7 : List UInt8 := dkwX2_parish_7 ++ dktX2_parish_8
def dkwX2_parish_6 : List UInt8 := [199, 0, 21, 42, 180, 0, 132, 180, 0, 153, 3, 187, 0, 157, 89, 3, 3, 183, 0, 159, 83, 42]
abbrev dktX2_parish_6 : List UInt8 := dkwX2_parish_6 ++ dktX2_parish_7
def dkwX2_parish_5 : List UInt8 := [42, 4, 182, 0, 118, 191, 42, 16, 59, 182, 0, 150, 167, 255, 151, 42, 180, 0, 132, 180, 0, 153, 3, 50]
abbrev dktX2_parish_5 : List UInt8 := dkwX2_parish_5 ++ dktX2_parish_6
def dkwX2_parish_4 : List UInt8 := [42, 43, 182, 0, 145, 167, 0, 25, 42, 18, 27, 182, 0, 108, 153, 0, 10, 42, 182, 0, 148, 167, 0, 9]
abbrev dktX2_parish_4 : List UInt8 := dkwX2_parish_4 ++ dktX2_parish_5
def dkwX2_parish_3 : List UInt8 := [18, 19, 182, 0, 108, 153, 0, 10, 42, 182, 0, 143, 167, 0, 42, 42, 18, 25, 182, 0, 108, 153, 0, 11]
abbrev dktX2_parish_3 : List UInt8 := dkwX2_parish_3 ++ dktX2_parish_4
def dkwX2_parish_2 : List UInt8 := [182, 0, 139, 167, 0, 74, 42, 18, 15, 182, 0, 108, 153, 0, 10, 42, 182, 0, 141, 167, 0, 58, 42]
abbrev dktX2_parish_2 : List UInt8 := dkwX2_parish_2 ++ dktX2_parish_3
def dkwX2_parish_1 : List UInt8 := [42, 180, 0, 49, 42, 180, 0, 97, 46, 153, 0, 99, 42, 18, 11, 182, 0, 108, 153, 0, 10, 42]
abbrev dktX2_parish_1 : List UInt8 := dkwX2_parish_1 ++ dktX2_parish_2
def dkwX2_parish_0 : List UInt8 := [42, 182, 0, 126, 42, 187, 0, 129, 89, 183, 0, 131, 181, 0, 132, 187, 0, 136, 89, 4, 183, 0, 138, 76]
abbrev dktX2_parish_0 : List UInt8 := dkwX2_parish_0 ++ dktX2_parish_1
theorem dksX2_parish_0 : cX2_parish.data.toList.drop 0 = dktX2_parish_0 := by decide +kernel
theorem dksX2_parish_1 : cX2_parish.data.toList.drop 24 = dktX2_parish_1 := dk_seg dksX2_parish_0 24 rfl rfl
theorem dksX2_parish_2 : cX2_parish.data.toList.drop 46 = dktX2_parish_2 := dk_seg dksX2_parish_1 22 rfl rfl
theorem dksX2_parish_3 : cX2_parish.data.toList.drop 69 = dktX2_parish_3 := dk_seg dksX2_parish_2 23 rfl rfl
theorem dksX2_parish_4 : cX2_parish.data.toList.drop 93 = dktX2_parish_4 := dk_seg dksX2_parish_3 24 rfl rfl
theorem dksX2_parish_5 : cX2_parish.data.toList.drop 117 = dktX2_parish_5 := dk_seg dksX2_parish_4 24 rfl rfl
theorem dksX2_parish_6 : cX2_parish.data.toList.drop 141 = dktX2_parish_6 := dk_seg dksX2_parish_5 24 rfl rfl
theorem dksX2_parish_7 : cX2_parish.data.toList.drop 163 = dktX2_parish_7 := dk_seg dksX2_parish_6 22 rfl rfl
theorem dksX2_parish_8 : cX2_parish.data.toList.drop 186 = dktX2_parish_8 := dk_seg dksX2_parish_7 23 rfl rfl
theorem dksX2_parish_9 : cX2_parish.data.toList.drop 210 = dktX2_parish_9 := dk_seg dksX2_parish_8 24 rfl rfl
theorem dksX2_parish_10 : cX2_parish.data.toList.drop 232 = dktX2_parish_10 := dk_seg dksX2_parish_9 22 rfl rfl
theorem dX2_parish_0 : decode cX2_parish 0 = .ok (.aload_n 0, 1) := dk_42 (dk_at dksX2_parish_0 0 rfl rfl)
theorem dX2_parish_1 : decode cX2_parish 1 = .ok (.invokevirtual 126, 3) := dk_182 0 126 (dk_at dksX2_parish_0 1 rfl rfl)
theorem dX2_parish_4 : decode cX2_parish 4 = .ok (.aload_n 0, 1) := dk_42 (dk_at dksX2_parish_0 4 rfl rfl)
theorem dX2_parish_5 : decode cX2_parish 5 = .ok (.new 129, 3) := dk_187 0 129 (dk_at dksX2_parish_0 5 rfl rfl)
theorem dX2_parish_8 : decode cX2_parish 8 = .ok (.dup, 1) := dk_89 (dk_at dksX2_parish_0 8 rfl rfl)
theorem dX2_parish_9 : decode cX2_parish 9 = .ok (.invokespecial 131, 3) := dk_183 0 131 (dk_at dksX2_parish_0 9 rfl rfl)
theorem dX2_parish_12 : decode cX2_parish 12 = .ok (.putfield 132, 3) := dk_181 0 132 (dk_at dksX2_parish_0 12 rfl rfl)
theorem dX2_parish_15 : decode cX2_parish 15 = .ok (.new 136, 3) := dk_187 0 136 (dk_at dksX2_parish_0 15 rfl rfl)
theorem dX2_parish_18 : decode cX2_parish 18 = .ok (.dup, 1) := dk_89 (dk_at dksX2_parish_0 18 rfl rfl)
theorem dX2_parish_19 : decode cX2_parish 19 = .ok (.iconst 1, 1) := dk_4 (dk_at dksX2_parish_0 19 rfl rfl)
theorem dX2_parish_20 : decode cX2_parish 20 = .ok (.invokespecial 138, 3) := dk_183 0 138 (dk_at dksX2_parish_0 20 rfl rfl)
theorem dX2_parish_23 : decode cX2_parish 23 = .ok (.astore_n 1, 1) := dk_76 (dk_at dksX2_parish_0 23 rfl rfl)
theorem dX2_parish_24 : decode cX2_parish 24 = .ok (.aload_n 0, 1) := dk_42 (dk_at dksX2_parish_1 0 rfl rfl)
theorem dX2_parish_25 : decode cX2_parish 25 = .ok (.getfield 49, 3) := dk_180 0 49 (dk_at dksX2_parish_1 1 rfl rfl)
theorem dX2_parish_28 : decode cX2_parish 28 = .ok (.aload_n 0, 1) := dk_42 (dk_at dksX2_parish_1 4 rfl rfl)
theorem dX2_parish_29 : decode cX2_parish 29 = .ok (.getfield 97, 3) := dk_180 0 97 (dk_at dksX2_parish_1 5 rfl rfl)
theorem dX2_parish_32 : decode cX2_parish 32 = .ok (.iaload, 1) := dk_46 (dk_at dksX2_parish_1 8 rfl rfl)
theorem dX2_parish_33 : decode cX2_parish 33 = .ok (.ifCond .eq 99, 3) := dk_153 0 99 (dk_at dksX2_parish_1 9 rfl rfl)
theorem dX2_parish_36 : decode cX2_parish 36 = .ok (.aload_n 0, 1) := dk_42 (dk_at dksX2_parish_1 12 rfl rfl)
theorem dX2_parish_37 : decode cX2_parish 37 = .ok (.ldc 11, 2) := dk_18 11 (dk_at dksX2_parish_1 13 rfl rfl)
theorem dX2_parish_39 : decode cX2_parish 39 = .ok (.invokevirtual 108, 3) := dk_182 0 108 (dk_at dksX2_parish_1 15 rfl rfl)
theorem dX2_parish_42 : decode cX2_parish 42 = .ok (.ifCond .eq 10, 3) := dk_153 0 10 (dk_at dksX2_parish_1 18 rfl rfl)
theorem dX2_parish_45 : decode cX2_parish 45 = .ok (.aload_n 0, 1) := dk_42 (dk_at dksX2_parish_1 21 rfl rfl)
theorem dX2_parish_46 : decode cX2_parish 46 = .ok (.invokevirtual 139, 3) := dk_182 0 139 (dk_at dksX2_parish_2 0 rfl rfl)
theorem dX2_parish_49 : decode cX2_parish 49 = .ok (.goto 74, 3) := dk_167 0 74 (dk_at dksX2_parish_2 3 rfl rfl)
theorem dX2_parish_52 : decode cX2_parish 52 = .ok (.aload_n 0, 1) := dk_42 (dk_at dksX2_parish_2 6 rfl rfl)
theorem dX2_parish_53 : decode cX2_parish 53 = .ok (.ldc 15, 2) := dk_18 15 (dk_at dksX2_parish_2 7 rfl rfl)
theorem dX2_parish_55 : decode cX2_parish 55 = .ok (.invokevirtual 108, 3) := dk_182 0 108 (dk_at dksX2_parish_2 9 rfl rfl)
theorem dX2_parish_58 : decode cX2_parish 58 = .ok (.ifCond .eq 10, 3) := dk_153 0 10 (dk_at dksX2_parish_2 12 rfl rfl)
theorem dX2_parish_61 : decode cX2_parish 61 = .ok (.aload_n 0, 1) := dk_42 (dk_at dksX2_parish_2 15 rfl rfl)
theorem dX2_parish_62 : decode cX2_parish 62 = .ok (.invokevirtual 141, 3) := dk_182 0 141 (dk_at dksX2_parish_2 16 rfl rfl)
theorem dX2_parish_65 : decode cX2_parish 65 = .ok (.goto 58, 3) := dk_167 0 58 (dk_at dksX2_parish_2 19 rfl rfl)
theorem dX2_parish_68 : decode cX2_parish 68 = .ok (.aload_n 0, 1) := dk_42 (dk_at dksX2_parish_2 22 rfl rfl)
theorem dX2_parish_69 : decode cX2_parish 69 = .ok (.ldc 19, 2) := dk_18 19 (dk_at dksX2_parish_3 0 rfl rfl)
theorem dX2_parish_71 : decode cX2_parish 71 = .ok (.invokevirtual 108, 3) := dk_182 0 108 (dk_at dksX2_parish_3 2 rfl rfl)
theorem dX2_parish_74 : decode cX2_parish 74 = .ok (.ifCond .eq 10, 3) := dk_153 0 10 (dk_at dksX2_parish_3 5 rfl rfl)
theorem dX2_parish_77 : decode cX2_parish 77 = .ok (.aload_n 0, 1) := dk_42 (dk_at dksX2_parish_3 8 rfl rfl)
theorem dX2_parish_78 : decode cX2_parish 78 = .ok (.invokevirtual 143, 3) := dk_182 0 143 (dk_at dksX2_parish_3 9 rfl rfl)
theorem dX2_parish_81 : decode cX2_parish 81 = .ok (.goto 42, 3) := dk_167 0 42 (dk_at dksX2_parish_3 12 rfl rfl)
theorem dX2_parish_84 : decode cX2_parish 84 = .ok (.aload_n 0, 1) := dk_42 (dk_at dksX2_parish_3 15 rfl rfl)
theorem dX2_parish_85 : decode cX2_parish 85 = .ok (.ldc 25, 2) := dk_18 25 (dk_at dksX2_parish_3 16 rfl rfl)
theorem dX2_parish_87 : decode cX2_parish 87 = .ok (.invokevirtual 108, 3) := dk_182 0 108 (dk_at dksX2_parish_3 18 rfl rfl)
theorem dX2_parish_90 : decode cX2_parish 90 = .ok (.ifCond .eq 11, 3) := dk_153 0 11 (dk_at dksX2_parish_3 21 rfl rfl)
theorem dX2_parish_93 : decode cX2_parish 93 = .ok (.aload_n 0, 1) := dk_42 (dk_at dksX2_parish_4 0 rfl rfl)
theorem dX2_parish_94 : decode cX2_parish 94 = .ok (.aload_n 1, 1) := dk_43 (dk_at dksX2_parish_4 1 rfl rfl)
theorem dX2_parish_95 : decode cX2_parish 95 = .ok (.invokevirtual 145, 3) := dk_182 0 145 (dk_at dksX2_parish_4 2 rfl rfl)
theorem dX2_parish_98 : decode cX2_parish 98 = .ok (.goto 25, 3) := dk_167 0 25 (dk_at dksX2_parish_4 5 rfl rfl)
theorem dX2_parish_101 : decode cX2_parish 101 = .ok (.aload_n 0, 1) := dk_42 (dk_at dksX2_parish_4 8 rfl rfl)
theorem dX2_parish_102 : decode cX2_parish 102 = .ok (.ldc 27, 2) := dk_18 27 (dk_at dksX2_parish_4 9 rfl rfl)
theorem dX2_parish_104 : decode cX2_parish 104 = .ok (.invokevirtual 108, 3) := dk_182 0 108 (dk_at dksX2_parish_4 11 rfl rfl)
theorem dX2_parish_107 : decode cX2_parish 107 = .ok (.ifCond .eq 10, 3) := dk_153 0 10 (dk_at dksX2_parish_4 14 rfl rfl)
theorem dX2_parish_110 : decode cX2_parish 110 = .ok (.aload_n 0, 1) := dk_42 (dk_at dksX2_parish_4 17 rfl rfl)
theorem dX2_parish_111 : decode cX2_parish 111 = .ok (.invokevirtual 148, 3) := dk_182 0 148 (dk_at dksX2_parish_4 18 rfl rfl)
theorem dX2_parish_114 : decode cX2_parish 114 = .ok (.goto 9, 3) := dk_167 0 9 (dk_at dksX2_parish_4 21 rfl rfl)
theorem dX2_parish_117 : decode cX2_parish 117 = .ok (.aload_n 0, 1) := dk_42 (dk_at dksX2_parish_5 0 rfl rfl)
theorem dX2_parish_118 : decode cX2_parish 118 = .ok (.iconst 1, 1) := dk_4 (dk_at dksX2_parish_5 1 rfl rfl)
theorem dX2_parish_119 : decode cX2_parish 119 = .ok (.invokevirtual 118, 3) := dk_182 0 118 (dk_at dksX2_parish_5 2 rfl rfl)
theorem dX2_parish_122 : decode cX2_parish 122 = .ok (.athrow, 1) := dk_191 (dk_at dksX2_parish_5 5 rfl rfl)
theorem dX2_parish_123 : decode cX2_parish 123 = .ok (.aload_n 0, 1) := dk_42 (dk_at dksX2_parish_5 6 rfl rfl)
theorem dX2_parish_124 : decode cX2_parish 124 = .ok (.bipush 59, 2) := dk_16 59 (dk_at dksX2_parish_5 7 rfl rfl)
theorem dX2_parish_126 : decode cX2_parish 126 = .ok (.invokevirtual 150, 3) := dk_182 0 150 (dk_at dksX2_parish_5 9 rfl rfl)
theorem dX2_parish_129 : decode cX2_parish 129 = .ok (.goto (-105), 3) := dk_167 255 151 (dk_at dksX2_parish_5 12 rfl rfl)
theorem dX2_parish_132 : decode cX2_parish 132 = .ok (.aload_n 0, 1) := dk_42 (dk_at dksX2_parish_5 15 rfl rfl)
theorem dX2_parish_133 : decode cX2_parish 133 = .ok (.getfield 132, 3) := dk_180 0 132 (dk_at dksX2_parish_5 16 rfl rfl)
theorem dX2_parish_136 : decode cX2_parish 136 = .ok (.getfield 153, 3) := dk_180 0 153 (dk_at dksX2_parish_5 19 rfl rfl)
theorem dX2_parish_139 : decode cX2_parish 139 = .ok (.iconst 0, 1) := dk_3 (dk_at dksX2_parish_5 22 rfl rfl)
theorem dX2_parish_140 : decode cX2_parish 140 = .ok (.aaload, 1) := dk_50 (dk_at dksX2_parish_5 23 rfl rfl)
theorem dX2_parish_141 : decode cX2_parish 141 = .ok (.ifnonnull 21, 3) := dk_199 0 21 (dk_at dksX2_parish_6 0 rfl rfl)
theorem dX2_parish_144 : decode cX2_parish 144 = .ok (.aload_n 0, 1) := dk_42 (dk_at dksX2_parish_6 3 rfl rfl)
theorem dX2_parish_145 : decode cX2_parish 145 = .ok (.getfield 132, 3) := dk_180 0 132 (dk_at dksX2_parish_6 4 rfl rfl)
theorem dX2_parish_148 : decode cX2_parish 148 = .ok (.getfield 153, 3) := dk_180 0 153 (dk_at dksX2_parish_6 7 rfl rfl)
theorem dX2_parish_151 : decode cX2_parish 151 = .ok (.iconst 0, 1) := dk_3 (dk_at dksX2_parish_6 10 rfl rfl)
theorem dX2_parish_152 : decode cX2_parish 152 = .ok (.new 157, 3) := dk_187 0 157 (dk_at dksX2_parish_6 11 rfl rfl)
theorem dX2_parish_155 : decode cX2_parish 155 = .ok (.dup, 1) := dk_89 (dk_at dksX2_parish_6 14 rfl rfl)
theorem dX2_parish_156 : decode cX2_parish 156 = .ok (.iconst 0, 1) := dk_3 (dk_at dksX2_parish_6 15 rfl rfl)
theorem dX2_parish_157 : decode cX2_parish 157 = .ok (.iconst 0, 1) := dk_3 (dk_at dksX2_parish_6 16 rfl rfl)
theorem dX2_parish_158 : decode cX2_parish 158 = .ok (.invokespecial 159, 3) := dk_183 0 159 (dk_at dksX2_parish_6 17 rfl rfl)
theorem dX2_parish_161 : decode cX2_parish 161 = .ok (.aastore, 1) := dk_83 (dk_at dksX2_parish_6 20 rfl rfl)
theorem dX2_parish_162 : decode cX2_parish 162 = .ok (.aload_n 0, 1) := dk_42 (dk_at dksX2_parish_6 21 rfl rfl)
theorem dX2_parish_163 : decode cX2_parish 163 = .ok (.getfield 132, 3) := dk_180 0 132 (dk_at dksX2_parish_7 0 rfl rfl)
theorem dX2_parish_166 : decode cX2_parish 166 = .ok (.aload_n 1, 1) := dk_43 (dk_at dksX2_parish_7 3 rfl rfl)
theorem dX2_parish_167 : decode cX2_parish 167 = .ok (.invokevirtual 162, 3) := dk_182 0 162 (dk_at dksX2_parish_7 4 rfl rfl)
theorem dX2_parish_170 : decode cX2_parish 170 = .ok (.putfield 165, 3) := dk_181 0 165 (dk_at dksX2_parish_7 7 rfl rfl)
theorem dX2_parish_173 : decode cX2_parish 173 = .ok (.aload_n 0, 1) := dk_42 (dk_at dksX2_parish_7 10 rfl rfl)
theorem dX2_parish_174 : decode cX2_parish 174 = .ok (.getfield 132, 3) := dk_180 0 132 (dk_at dksX2_parish_7 11 rfl rfl)
theorem dX2_parish_177 : decode cX2_parish 177 = .ok (.aload_n 0, 1) := dk_42 (dk_at dksX2_parish_7 14 rfl rfl)
theorem dX2_parish_178 : decode cX2_parish 178 = .ok (.getfield 132, 3) := dk_180 0 132 (dk_at dksX2_parish_7 15 rfl rfl)
theorem dX2_parish_181 : decode cX2_parish 181 = .ok (.new 168, 3) := dk_187 0 168 (dk_at dksX2_parish_7 18 rfl rfl)
theorem dX2_parish_184 : decode cX2_parish 184 = .ok (.dup, 1) := dk_89 (dk_at dksX2_parish_7 21 rfl rfl)
theorem dX2_parish_185 : decode cX2_parish 185 = .ok (.iconst 1, 1) := dk_4 (dk_at dksX2_parish_7 22 rfl rfl)
theorem dX2_parish_186 : decode cX2_parish 186 = .ok (.invokespecial 170, 3) := dk_183 0 170 (dk_at dksX2_parish_8 0 rfl rfl)
theorem dX2_parish_189 : decode cX2_parish 189 = .ok (.invokevirtual 171, 3) := dk_182 0 171 (dk_at dksX2_parish_8 3 rfl rfl)
theorem dX2_parish_192 : decode cX2_parish 192 = .ok (.putfield 175, 3) := dk_181 0 175 (dk_at dksX2_parish_8 6 rfl rfl)
theorem dX2_parish_195 : decode cX2_parish 195 = .ok (.iconst 0, 1) := dk_3 (dk_at dksX2_parish_8 9 rfl rfl)
theorem dX2_parish_196 : decode cX2_parish 196 = .ok (.istore_n 2, 1) := dk_61 (dk_at dksX2_parish_8 10 rfl rfl)
theorem dX2_parish_197 : decode cX2_parish 197 = .ok (.iload_n 2, 1) := dk_28 (dk_at dksX2_parish_8 11 rfl rfl)
theorem dX2_parish_198 : decode cX2_parish 198 = .ok (.aload_n 1, 1) := dk_43 (dk_at dksX2_parish_8 12 rfl rfl)
theorem dX2_parish_199 : decode cX2_parish 199 = .ok (.invokevirtual 162, 3) := dk_182 0 162 (dk_at dksX2_parish_8 13 rfl rfl)
theorem dX2_parish_202 : decode cX2_parish 202 = .ok (.if_icmp .ge 36, 3) := dk_162 0 36 (dk_at dksX2_parish_8 16 rfl rfl)
theorem dX2_parish_205 : decode cX2_parish 205 = .ok (.aload_n 0, 1) := dk_42 (dk_at dksX2_parish_8 19 rfl rfl)
theorem dX2_parish_206 : decode cX2_parish 206 = .ok (.getfield 132, 3) := dk_180 0 132 (dk_at dksX2_parish_8 20 rfl rfl)
theorem dX2_parish_209 : decode cX2_parish 209 = .ok (.dup, 1) := dk_89 (dk_at dksX2_parish_8 23 rfl rfl)
theorem dX2_parish_210 : decode cX2_parish 210 = .ok (.getfield 175, 3) := dk_180 0 175 (dk_at dksX2_parish_9 0 rfl rfl)
theorem dX2_parish_213 : decode cX2_parish 213 = .ok (.aload_n 0, 1) := dk_42 (dk_at dksX2_parish_9 3 rfl rfl)
theorem dX2_parish_214 : decode cX2_parish 214 = .ok (.getfield 132, 3) := dk_180 0 132 (dk_at dksX2_parish_9 4 rfl rfl)
theorem dX2_parish_217 : decode cX2_parish 217 = .ok (.aload_n 1, 1) := dk_43 (dk_at dksX2_parish_9 7 rfl rfl)
theorem dX2_parish_218 : decode cX2_parish 218 = .ok (.iload_n 2, 1) := dk_28 (dk_at dksX2_parish_9 8 rfl rfl)
theorem dX2_parish_219 : decode cX2_parish 219 = .ok (.invokevirtual 178, 3) := dk_182 0 178 (dk_at dksX2_parish_9 9 rfl rfl)
theorem dX2_parish_222 : decode cX2_parish 222 = .ok (.checkcast 182, 3) := dk_192 0 182 (dk_at dksX2_parish_9 12 rfl rfl)
theorem dX2_parish_225 : decode cX2_parish 225 = .ok (.invokevirtual 171, 3) := dk_182 0 171 (dk_at dksX2_parish_9 15 rfl rfl)
theorem dX2_parish_228 : decode cX2_parish 228 = .ok (.land, 1) := dk_127 (dk_at dksX2_parish_9 18 rfl rfl)
theorem dX2_parish_229 : decode cX2_parish 229 = .ok (.putfield 175, 3) := dk_181 0 175 (dk_at dksX2_parish_9 19 rfl rfl)
theorem dX2_parish_232 : decode cX2_parish 232 = .ok (.iinc 2 1, 3) := dk_132 2 1 (dk_at dksX2_parish_10 0 rfl rfl)
theorem dX2_parish_235 : decode cX2_parish 235 = .ok (.goto (-38), 3) := dk_167 255 218 (dk_at dksX2_parish_10 3 rfl rfl)
theorem dX2_parish_238 : decode cX2_parish 238 = .ok (.aload_n 0, 1) := dk_42 (dk_at dksX2_parish_10 6 rfl rfl)
theorem dX2_parish_239 : decode cX2_parish 239 = .ok (.getfield 132, 3) := dk_180 0 132 (dk_at dksX2_parish_10 7 rfl rfl)
theorem dX2_parish_242 : decode cX2_parish 242 = .ok (.areturn, 1) := dk_176 (dk_at dksX2_parish_10 10 rfl rfl)
abbrev cX2_cut : ByteArray := prog_21_method_6_code
def yX2_cut : MethodName := ⟨RX2, "cut", "()V"⟩
def dkwX2_cut_12 : List UInt8 := [181, 0, 97, 177]
abbrev dktX2_cut_12 : List UInt8 := dkwX2_cut_12 ++ []
def dkwX2_cut_11 : List UInt8 := [79, 132, 2, 1, 167, 255, 5, 42, 180, 0, 49, 28, 3, 79, 42, 180, 0, 56, 28, 27, 79, 42, 3]
abbrev dktX2_cut_11 : List UInt8 := dkwX2_cut_11 ++ dktX2_cut_12
def dkwX2_cut_10 : List UInt8 := [155, 0, 7, 6, 167, 0, 4, 7, 79, 42, 180, 0, 52, 28, 22, 6, 80, 42, 180, 0, 56, 28, 21, 5]
abbrev dktX2_cut_10 : List UInt8 := dkwX2_cut_10 ++ dktX2_cut_11
def dkwX2_cut_9 : List UInt8 := [79, 167, 0, 32, 21, 4, 133, 55, 6, 132, 3, 1, 42, 180, 0, 49, 28, 18, 91, 21, 4, 182, 0, 93]
abbrev dktX2_cut_9 : List UInt8 := dkwX2_cut_9 ++ dktX2_cut_10
def dkwX2_cut_8 : List UInt8 := [132, 3, 1, 167, 255, 208, 42, 180, 0, 49, 28, 29, 21, 5, 100, 7, 164, 0, 7, 7, 167, 0, 4, 5]
abbrev dktX2_cut_8 : List UInt8 := dkwX2_cut_8 ++ dktX2_cut_9
def dkwX2_cut_7 : List UInt8 := [7, 162, 0, 23, 20, 0, 87, 22, 6, 105, 42, 180, 0, 45, 29, 46, 133, 97, 20, 0, 89, 101, 55, 6]
abbrev dktX2_cut_7 : List UInt8 := dkwX2_cut_7 ++ dktX2_cut_8
def dkwX2_cut_6 : List UInt8 := [153, 0, 76, 29, 27, 162, 0, 49, 42, 180, 0, 45, 29, 46, 184, 0, 84, 153, 0, 37, 29, 21, 5, 100]
abbrev dktX2_cut_6 : List UInt8 := dkwX2_cut_6 ++ dktX2_cut_7
def dkwX2_cut_5 : List UInt8 := [29, 21, 5, 100, 16, 8, 164, 0, 7, 7, 167, 0, 4, 4, 79, 167, 0, 113, 21, 4, 184, 0, 84]
abbrev dktX2_cut_5 : List UInt8 := dkwX2_cut_5 ++ dktX2_cut_6
def dkwX2_cut_4 : List UInt8 := [180, 0, 45, 29, 46, 133, 97, 20, 0, 78, 101, 55, 6, 132, 3, 1, 167, 255, 207, 42, 180, 0, 49, 28]
abbrev dktX2_cut_4 : List UInt8 := dkwX2_cut_4 ++ dktX2_cut_5
def dkwX2_cut_3 : List UInt8 := [184, 0, 80, 153, 0, 38, 29, 21, 5, 100, 16, 8, 162, 0, 23, 20, 0, 72, 22, 6, 105, 42]
abbrev dktX2_cut_3 : List UInt8 := dkwX2_cut_3 ++ dktX2_cut_4
def dkwX2_cut_2 : List UInt8 := [54, 5, 9, 55, 6, 21, 4, 184, 0, 80, 153, 0, 78, 29, 27, 162, 0, 50, 42, 180, 0, 45, 29, 46]
abbrev dktX2_cut_2 : List UInt8 := dkwX2_cut_2 ++ dktX2_cut_3
def dkwX2_cut_1 : List UInt8 := [46, 54, 4, 21, 4, 16, 10, 159, 0, 10, 21, 4, 16, 32, 160, 0, 9, 132, 3, 1, 167, 255, 226, 29]
abbrev dktX2_cut_1 : List UInt8 := dkwX2_cut_1 ++ dktX2_cut_2
def dkwX2_cut_0 : List UInt8 := [42, 180, 0, 64, 60, 42, 3, 181, 0, 64, 3, 61, 3, 62, 29, 27, 162, 0, 252, 42, 180, 0, 45, 29]
abbrev dktX2_cut_0 : List UInt8 := dkwX2_cut_0 ++ dktX2_cut_1
theorem dksX2_cut_0 : cX2_cut.data.toList.drop 0 = dktX2_cut_0 := by decide +kernel
theorem dksX2_cut_1 : cX2_cut.data.toList.drop 24 = dktX2_cut_1 := dk_seg dksX2_cut_0 24 rfl rfl
theorem dksX2_cut_2 : cX2_cut.data.toList.drop 48 = dktX2_cut_2 := dk_seg dksX2_cut_1 24 rfl rfl
theorem dksX2_cut_3 : cX2_cut.data.toList.drop 72 = dktX2_cut_3 := dk_seg dksX2_cut_2 24 rfl rfl
theorem dksX2_cut_4 : cX2_cut.data.toList.drop 94 = dktX2_cut_4 := dk_seg dksX2_cut_3 22 rfl rfl
theorem dksX2_cut_5 : cX2_cut.data.toList.drop 118 = dktX2_cut_5 := dk_seg dksX2_cut_4 24 rfl rfl
theorem dksX2_cut_6 : cX2_cut.data.toList.drop 141 = dktX2_cut_6 := dk_seg dksX2_cut_5 23 rfl rfl
theorem dksX2_cut_7 : cX2_cut.data.toList.drop 165 = dktX2_cut_7 := dk_seg dksX2_cut_6 24 rfl rfl
theorem dksX2_cut_8 : cX2_cut.data.toList.drop 189 = dktX2_cut_8 := dk_seg dksX2_cut_7 24 rfl rfl
theorem dksX2_cut_9 : cX2_cut.data.toList.drop 213 = dktX2_cut_9 := dk_seg dksX2_cut_8 24 rfl rfl
theorem dksX2_cut_10 : cX2_cut.data.toList.drop 237 = dktX2_cut_10 := dk_seg dksX2_cut_9 24 rfl rfl
theorem dksX2_cut_11 : cX2_cut.data.toList.drop 261 = dktX2_cut_11 := dk_seg dksX2_cut_10 24 rfl rfl
theorem dksX2_cut_12 : cX2_cut.data.toList.drop 284 = dktX2_cut_12 := dk_seg dksX2_cut_11 23 rfl rfl
theorem dX2_cut_0 : decode cX2_cut 0 = .ok (.aload_n 0, 1) := dk_42 (dk_at dksX2_cut_0 0 rfl rfl)
theorem dX2_cut_1 : decode cX2_cut 1 = .ok (.getfield 64, 3) := dk_180 0 64 (dk_at dksX2_cut_0 1 rfl rfl)
theorem dX2_cut_4 : decode cX2_cut 4 = .ok (.istore_n 1, 1) := dk_60 (dk_at dksX2_cut_0 4 rfl rfl)
theorem dX2_cut_5 : decode cX2_cut 5 = .ok (.aload_n 0, 1) := dk_42 (dk_at dksX2_cut_0 5 rfl rfl)
theorem dX2_cut_6 : decode cX2_cut 6 = .ok (.iconst 0, 1) := dk_3 (dk_at dksX2_cut_0 6 rfl rfl)
theorem dX2_cut_7 : decode cX2_cut 7 = .ok (.putfield 64, 3) := dk_181 0 64 (dk_at dksX2_cut_0 7 rfl rfl)
theorem dX2_cut_10 : decode cX2_cut 10 = .ok (.iconst 0, 1) := dk_3 (dk_at dksX2_cut_0 10 rfl rfl)
theorem dX2_cut_11 : decode cX2_cut 11 = .ok (.istore_n 2, 1) := dk_61 (dk_at dksX2_cut_0 11 rfl rfl)
theorem dX2_cut_12 : decode cX2_cut 12 = .ok (.iconst 0, 1) := dk_3 (dk_at dksX2_cut_0 12 rfl rfl)
theorem dX2_cut_13 : decode cX2_cut 13 = .ok (.istore_n 3, 1) := dk_62 (dk_at dksX2_cut_0 13 rfl rfl)
theorem dX2_cut_14 : decode cX2_cut 14 = .ok (.iload_n 3, 1) := dk_29 (dk_at dksX2_cut_0 14 rfl rfl)
theorem dX2_cut_15 : decode cX2_cut 15 = .ok (.iload_n 1, 1) := dk_27 (dk_at dksX2_cut_0 15 rfl rfl)
theorem dX2_cut_16 : decode cX2_cut 16 = .ok (.if_icmp .ge 252, 3) := dk_162 0 252 (dk_at dksX2_cut_0 16 rfl rfl)
theorem dX2_cut_19 : decode cX2_cut 19 = .ok (.aload_n 0, 1) := dk_42 (dk_at dksX2_cut_0 19 rfl rfl)
theorem dX2_cut_20 : decode cX2_cut 20 = .ok (.getfield 45, 3) := dk_180 0 45 (dk_at dksX2_cut_0 20 rfl rfl)
theorem dX2_cut_23 : decode cX2_cut 23 = .ok (.iload_n 3, 1) := dk_29 (dk_at dksX2_cut_0 23 rfl rfl)
theorem dX2_cut_24 : decode cX2_cut 24 = .ok (.iaload, 1) := dk_46 (dk_at dksX2_cut_1 0 rfl rfl)
theorem dX2_cut_25 : decode cX2_cut 25 = .ok (.istore 4, 2) := dk_54 4 (dk_at dksX2_cut_1 1 rfl rfl)
theorem dX2_cut_27 : decode cX2_cut 27 = .ok (.iload 4, 2) := dk_21 4 (dk_at dksX2_cut_1 3 rfl rfl)
theorem dX2_cut_29 : decode cX2_cut 29 = .ok (.bipush 10, 2) := dk_16 10 (dk_at dksX2_cut_1 5 rfl rfl)
theorem dX2_cut_31 : decode cX2_cut 31 = .ok (.if_icmp .eq 10, 3) := dk_159 0 10 (dk_at dksX2_cut_1 7 rfl rfl)
theorem dX2_cut_34 : decode cX2_cut 34 = .ok (.iload 4, 2) := dk_21 4 (dk_at dksX2_cut_1 10 rfl rfl)
theorem dX2_cut_36 : decode cX2_cut 36 = .ok (.bipush 32, 2) := dk_16 32 (dk_at dksX2_cut_1 12 rfl rfl)
theorem dX2_cut_38 : decode cX2_cut 38 = .ok (.if_icmp .ne 9, 3) := dk_160 0 9 (dk_at dksX2_cut_1 14 rfl rfl)
theorem dX2_cut_41 : decode cX2_cut 41 = .ok (.iinc 3 1, 3) := dk_132 3 1 (dk_at dksX2_cut_1 17 rfl rfl)
theorem dX2_cut_44 : decode cX2_cut 44 = .ok (.goto (-30), 3) := dk_167 255 226 (dk_at dksX2_cut_1 20 rfl rfl)
theorem dX2_cut_47 : decode cX2_cut 47 = .ok (.iload_n 3, 1) := dk_29 (dk_at dksX2_cut_1 23 rfl rfl)
theorem dX2_cut_48 : decode cX2_cut 48 = .ok (.istore 5, 2) := dk_54 5 (dk_at dksX2_cut_2 0 rfl rfl)
theorem dX2_cut_50 : decode cX2_cut 50 = .ok (.lconst 0, 1) := dk_9 (dk_at dksX2_cut_2 2 rfl rfl)
theorem dX2_cut_51 : decode cX2_cut 51 = .ok (.lstore 6, 2) := dk_55 6 (dk_at dksX2_cut_2 3 rfl rfl)
theorem dX2_cut_53 : decode cX2_cut 53 = .ok (.iload 4, 2) := dk_21 4 (dk_at dksX2_cut_2 5 rfl rfl)
theorem dX2_cut_55 : decode cX2_cut 55 = .ok (.invokestatic 80, 3) := dk_184 0 80 (dk_at dksX2_cut_2 7 rfl rfl)
theorem dX2_cut_58 : decode cX2_cut 58 = .ok (.ifCond .eq 78, 3) := dk_153 0 78 (dk_at dksX2_cut_2 10 rfl rfl)
theorem dX2_cut_61 : decode cX2_cut 61 = .ok (.iload_n 3, 1) := dk_29 (dk_at dksX2_cut_2 13 rfl rfl)
theorem dX2_cut_62 : decode cX2_cut 62 = .ok (.iload_n 1, 1) := dk_27 (dk_at dksX2_cut_2 14 rfl rfl)
theorem dX2_cut_63 : decode cX2_cut 63 = .ok (.if_icmp .ge 50, 3) := dk_162 0 50 (dk_at dksX2_cut_2 15 rfl rfl)
theorem dX2_cut_66 : decode cX2_cut 66 = .ok (.aload_n 0, 1) := dk_42 (dk_at dksX2_cut_2 18 rfl rfl)
theorem dX2_cut_67 : decode cX2_cut 67 = .ok (.getfield 45, 3) := dk_180 0 45 (dk_at dksX2_cut_2 19 rfl rfl)
theorem dX2_cut_70 : decode cX2_cut 70 = .ok (.iload_n 3, 1) := dk_29 (dk_at dksX2_cut_2 22 rfl rfl)
theorem dX2_cut_71 : decode cX2_cut 71 = .ok (.iaload, 1) := dk_46 (dk_at dksX2_cut_2 23 rfl rfl)
theorem dX2_cut_72 : decode cX2_cut 72 = .ok (.invokestatic 80, 3) := dk_184 0 80 (dk_at dksX2_cut_3 0 rfl rfl)
theorem dX2_cut_75 : decode cX2_cut 75 = .ok (.ifCond .eq 38, 3) := dk_153 0 38 (dk_at dksX2_cut_3 3 rfl rfl)
theorem dX2_cut_78 : decode cX2_cut 78 = .ok (.iload_n 3, 1) := dk_29 (dk_at dksX2_cut_3 6 rfl rfl)
theorem dX2_cut_79 : decode cX2_cut 79 = .ok (.iload 5, 2) := dk_21 5 (dk_at dksX2_cut_3 7 rfl rfl)
theorem dX2_cut_81 : decode cX2_cut 81 = .ok (.isub, 1) := dk_100 (dk_at dksX2_cut_3 9 rfl rfl)
theorem dX2_cut_82 : decode cX2_cut 82 = .ok (.bipush 8, 2) := dk_16 8 (dk_at dksX2_cut_3 10 rfl rfl)
theorem dX2_cut_84 : decode cX2_cut 84 = .ok (.if_icmp .ge 23, 3) := dk_162 0 23 (dk_at dksX2_cut_3 12 rfl rfl)
theorem dX2_cut_87 : decode cX2_cut 87 = .ok (.ldc2_w 72, 3) := dk_20 0 72 (dk_at dksX2_cut_3 15 rfl rfl)
theorem dX2_cut_90 : decode cX2_cut 90 = .ok (.lload 6, 2) := dk_22 6 (dk_at dksX2_cut_3 18 rfl rfl)
theorem dX2_cut_92 : decode cX2_cut 92 = .ok (.lmul, 1) := dk_105 (dk_at dksX2_cut_3 20 rfl rfl)
theorem dX2_cut_93 : decode cX2_cut 93 = .ok (.aload_n 0, 1) := dk_42 (dk_at dksX2_cut_3 21 rfl rfl)
theorem dX2_cut_94 : decode cX2_cut 94 = .ok (.getfield 45, 3) := dk_180 0 45 (dk_at dksX2_cut_4 0 rfl rfl)
theorem dX2_cut_97 : decode cX2_cut 97 = .ok (.iload_n 3, 1) := dk_29 (dk_at dksX2_cut_4 3 rfl rfl)
theorem dX2_cut_98 : decode cX2_cut 98 = .ok (.iaload, 1) := dk_46 (dk_at dksX2_cut_4 4 rfl rfl)
theorem dX2_cut_99 : decode cX2_cut 99 = .ok (.i2l, 1) := dk_133 (dk_at dksX2_cut_4 5 rfl rfl)
theorem dX2_cut_100 : decode cX2_cut 100 = .ok (.ladd, 1) := dk_97 (dk_at dksX2_cut_4 6 rfl rfl)
theorem dX2_cut_101 : decode cX2_cut 101 = .ok (.ldc2_w 78, 3) := dk_20 0 78 (dk_at dksX2_cut_4 7 rfl rfl)
theorem dX2_cut_104 : decode cX2_cut 104 = .ok (.lsub, 1) := dk_101 (dk_at dksX2_cut_4 10 rfl rfl)
theorem dX2_cut_105 : decode cX2_cut 105 = .ok (.lstore 6, 2) := dk_55 6 (dk_at dksX2_cut_4 11 rfl rfl)
theorem dX2_cut_107 : decode cX2_cut 107 = .ok (.iinc 3 1, 3) := dk_132 3 1 (dk_at dksX2_cut_4 13 rfl rfl)
theorem dX2_cut_110 : decode cX2_cut 110 = .ok (.goto (-49), 3) := dk_167 255 207 (dk_at dksX2_cut_4 16 rfl rfl)
theorem dX2_cut_113 : decode cX2_cut 113 = .ok (.aload_n 0, 1) := dk_42 (dk_at dksX2_cut_4 19 rfl rfl)
theorem dX2_cut_114 : decode cX2_cut 114 = .ok (.getfield 49, 3) := dk_180 0 49 (dk_at dksX2_cut_4 20 rfl rfl)
theorem dX2_cut_117 : decode cX2_cut 117 = .ok (.iload_n 2, 1) := dk_28 (dk_at dksX2_cut_4 23 rfl rfl)
theorem dX2_cut_118 : decode cX2_cut 118 = .ok (.iload_n 3, 1) := dk_29 (dk_at dksX2_cut_5 0 rfl rfl)
theorem dX2_cut_119 : decode cX2_cut 119 = .ok (.iload 5, 2) := dk_21 5 (dk_at dksX2_cut_5 1 rfl rfl)
theorem dX2_cut_121 : decode cX2_cut 121 = .ok (.isub, 1) := dk_100 (dk_at dksX2_cut_5 3 rfl rfl)
theorem dX2_cut_122 : decode cX2_cut 122 = .ok (.bipush 8, 2) := dk_16 8 (dk_at dksX2_cut_5 4 rfl rfl)
theorem dX2_cut_124 : decode cX2_cut 124 = .ok (.if_icmp .le 7, 3) := dk_164 0 7 (dk_at dksX2_cut_5 6 rfl rfl)
theorem dX2_cut_127 : decode cX2_cut 127 = .ok (.iconst 4, 1) := dk_7 (dk_at dksX2_cut_5 9 rfl rfl)
theorem dX2_cut_128 : decode cX2_cut 128 = .ok (.goto 4, 3) := dk_167 0 4 (dk_at dksX2_cut_5 10 rfl rfl)
theorem dX2_cut_131 : decode cX2_cut 131 = .ok (.iconst 1, 1) := dk_4 (dk_at dksX2_cut_5 13 rfl rfl)
theorem dX2_cut_132 : decode cX2_cut 132 = .ok (.iastore, 1) := dk_79 (dk_at dksX2_cut_5 14 rfl rfl)
theorem dX2_cut_133 : decode cX2_cut 133 = .ok (.goto 113, 3) := dk_167 0 113 (dk_at dksX2_cut_5 15 rfl rfl)
theorem dX2_cut_136 : decode cX2_cut 136 = .ok (.iload 4, 2) := dk_21 4 (dk_at dksX2_cut_5 18 rfl rfl)
theorem dX2_cut_138 : decode cX2_cut 138 = .ok (.invokestatic 84, 3) := dk_184 0 84 (dk_at dksX2_cut_5 20 rfl rfl)
theorem dX2_cut_141 : decode cX2_cut 141 = .ok (.ifCond .eq 76, 3) := dk_153 0 76 (dk_at dksX2_cut_6 0 rfl rfl)
theorem dX2_cut_144 : decode cX2_cut 144 = .ok (.iload_n 3, 1) := dk_29 (dk_at dksX2_cut_6 3 rfl rfl)
theorem dX2_cut_145 : decode cX2_cut 145 = .ok (.iload_n 1, 1) := dk_27 (dk_at dksX2_cut_6 4 rfl rfl)
theorem dX2_cut_146 : decode cX2_cut 146 = .ok (.if_icmp .ge 49, 3) := dk_162 0 49 (dk_at dksX2_cut_6 5 rfl rfl)
theorem dX2_cut_149 : decode cX2_cut 149 = .ok (.aload_n 0, 1) := dk_42 (dk_at dksX2_cut_6 8 rfl rfl)
theorem dX2_cut_150 : decode cX2_cut 150 = .ok (.getfield 45, 3) := dk_180 0 45 (dk_at dksX2_cut_6 9 rfl rfl)
theorem dX2_cut_153 : decode cX2_cut 153 = .ok (.iload_n 3, 1) := dk_29 (dk_at dksX2_cut_6 12 rfl rfl)
theorem dX2_cut_154 : decode cX2_cut 154 = .ok (.iaload, 1) := dk_46 (dk_at dksX2_cut_6 13 rfl rfl)
theorem dX2_cut_155 : decode cX2_cut 155 = .ok (.invokestatic 84, 3) := dk_184 0 84 (dk_at dksX2_cut_6 14 rfl rfl)
theorem dX2_cut_158 : decode cX2_cut 158 = .ok (.ifCond .eq 37, 3) := dk_153 0 37 (dk_at dksX2_cut_6 17 rfl rfl)
theorem dX2_cut_161 : decode cX2_cut 161 = .ok (.iload_n 3, 1) := dk_29 (dk_at dksX2_cut_6 20 rfl rfl)
theorem dX2_cut_162 : decode cX2_cut 162 = .ok (.iload 5, 2) := dk_21 5 (dk_at dksX2_cut_6 21 rfl rfl)
theorem dX2_cut_164 : decode cX2_cut 164 = .ok (.isub, 1) := dk_100 (dk_at dksX2_cut_6 23 rfl rfl)
theorem dX2_cut_165 : decode cX2_cut 165 = .ok (.iconst 4, 1) := dk_7 (dk_at dksX2_cut_7 0 rfl rfl)
theorem dX2_cut_166 : decode cX2_cut 166 = .ok (.if_icmp .ge 23, 3) := dk_162 0 23 (dk_at dksX2_cut_7 1 rfl rfl)
theorem dX2_cut_169 : decode cX2_cut 169 = .ok (.ldc2_w 87, 3) := dk_20 0 87 (dk_at dksX2_cut_7 4 rfl rfl)
theorem dX2_cut_172 : decode cX2_cut 172 = .ok (.lload 6, 2) := dk_22 6 (dk_at dksX2_cut_7 7 rfl rfl)
theorem dX2_cut_174 : decode cX2_cut 174 = .ok (.lmul, 1) := dk_105 (dk_at dksX2_cut_7 9 rfl rfl)
theorem dX2_cut_175 : decode cX2_cut 175 = .ok (.aload_n 0, 1) := dk_42 (dk_at dksX2_cut_7 10 rfl rfl)
theorem dX2_cut_176 : decode cX2_cut 176 = .ok (.getfield 45, 3) := dk_180 0 45 (dk_at dksX2_cut_7 11 rfl rfl)
theorem dX2_cut_179 : decode cX2_cut 179 = .ok (.iload_n 3, 1) := dk_29 (dk_at dksX2_cut_7 14 rfl rfl)
theorem dX2_cut_180 : decode cX2_cut 180 = .ok (.iaload, 1) := dk_46 (dk_at dksX2_cut_7 15 rfl rfl)
theorem dX2_cut_181 : decode cX2_cut 181 = .ok (.i2l, 1) := dk_133 (dk_at dksX2_cut_7 16 rfl rfl)
theorem dX2_cut_182 : decode cX2_cut 182 = .ok (.ladd, 1) := dk_97 (dk_at dksX2_cut_7 17 rfl rfl)
theorem dX2_cut_183 : decode cX2_cut 183 = .ok (.ldc2_w 89, 3) := dk_20 0 89 (dk_at dksX2_cut_7 18 rfl rfl)
theorem dX2_cut_186 : decode cX2_cut 186 = .ok (.lsub, 1) := dk_101 (dk_at dksX2_cut_7 21 rfl rfl)
theorem dX2_cut_187 : decode cX2_cut 187 = .ok (.lstore 6, 2) := dk_55 6 (dk_at dksX2_cut_7 22 rfl rfl)
theorem dX2_cut_189 : decode cX2_cut 189 = .ok (.iinc 3 1, 3) := dk_132 3 1 (dk_at dksX2_cut_8 0 rfl rfl)
theorem dX2_cut_192 : decode cX2_cut 192 = .ok (.goto (-48), 3) := dk_167 255 208 (dk_at dksX2_cut_8 3 rfl rfl)
theorem dX2_cut_195 : decode cX2_cut 195 = .ok (.aload_n 0, 1) := dk_42 (dk_at dksX2_cut_8 6 rfl rfl)
theorem dX2_cut_196 : decode cX2_cut 196 = .ok (.getfield 49, 3) := dk_180 0 49 (dk_at dksX2_cut_8 7 rfl rfl)
theorem dX2_cut_199 : decode cX2_cut 199 = .ok (.iload_n 2, 1) := dk_28 (dk_at dksX2_cut_8 10 rfl rfl)
theorem dX2_cut_200 : decode cX2_cut 200 = .ok (.iload_n 3, 1) := dk_29 (dk_at dksX2_cut_8 11 rfl rfl)
theorem dX2_cut_201 : decode cX2_cut 201 = .ok (.iload 5, 2) := dk_21 5 (dk_at dksX2_cut_8 12 rfl rfl)
theorem dX2_cut_203 : decode cX2_cut 203 = .ok (.isub, 1) := dk_100 (dk_at dksX2_cut_8 14 rfl rfl)
theorem dX2_cut_204 : decode cX2_cut 204 = .ok (.iconst 4, 1) := dk_7 (dk_at dksX2_cut_8 15 rfl rfl)
theorem dX2_cut_205 : decode cX2_cut 205 = .ok (.if_icmp .le 7, 3) := dk_164 0 7 (dk_at dksX2_cut_8 16 rfl rfl)
theorem dX2_cut_208 : decode cX2_cut 208 = .ok (.iconst 4, 1) := dk_7 (dk_at dksX2_cut_8 19 rfl rfl)
theorem dX2_cut_209 : decode cX2_cut 209 = .ok (.goto 4, 3) := dk_167 0 4 (dk_at dksX2_cut_8 20 rfl rfl)
theorem dX2_cut_212 : decode cX2_cut 212 = .ok (.iconst 2, 1) := dk_5 (dk_at dksX2_cut_8 23 rfl rfl)
theorem dX2_cut_213 : decode cX2_cut 213 = .ok (.iastore, 1) := dk_79 (dk_at dksX2_cut_9 0 rfl rfl)
theorem dX2_cut_214 : decode cX2_cut 214 = .ok (.goto 32, 3) := dk_167 0 32 (dk_at dksX2_cut_9 1 rfl rfl)
theorem dX2_cut_217 : decode cX2_cut 217 = .ok (.iload 4, 2) := dk_21 4 (dk_at dksX2_cut_9 4 rfl rfl)
theorem dX2_cut_219 : decode cX2_cut 219 = .ok (.i2l, 1) := dk_133 (dk_at dksX2_cut_9 6 rfl rfl)
theorem dX2_cut_220 : decode cX2_cut 220 = .ok (.lstore 6, 2) := dk_55 6 (dk_at dksX2_cut_9 7 rfl rfl)
theorem dX2_cut_222 : decode cX2_cut 222 = .ok (.iinc 3 1, 3) := dk_132 3 1 (dk_at dksX2_cut_9 9 rfl rfl)
theorem dX2_cut_225 : decode cX2_cut 225 = .ok (.aload_n 0, 1) := dk_42 (dk_at dksX2_cut_9 12 rfl rfl)
theorem dX2_cut_226 : decode cX2_cut 226 = .ok (.getfield 49, 3) := dk_180 0 49 (dk_at dksX2_cut_9 13 rfl rfl)
theorem dX2_cut_229 : decode cX2_cut 229 = .ok (.iload_n 2, 1) := dk_28 (dk_at dksX2_cut_9 16 rfl rfl)
theorem dX2_cut_230 : decode cX2_cut 230 = .ok (.ldc 91, 2) := dk_18 91 (dk_at dksX2_cut_9 17 rfl rfl)
theorem dX2_cut_232 : decode cX2_cut 232 = .ok (.iload 4, 2) := dk_21 4 (dk_at dksX2_cut_9 19 rfl rfl)
theorem dX2_cut_234 : decode cX2_cut 234 = .ok (.invokevirtual 93, 3) := dk_182 0 93 (dk_at dksX2_cut_9 21 rfl rfl)
theorem dX2_cut_237 : decode cX2_cut 237 = .ok (.ifCond .lt 7, 3) := dk_155 0 7 (dk_at dksX2_cut_10 0 rfl rfl)
theorem dX2_cut_240 : decode cX2_cut 240 = .ok (.iconst 3, 1) := dk_6 (dk_at dksX2_cut_10 3 rfl rfl)
theorem dX2_cut_241 : decode cX2_cut 241 = .ok (.goto 4, 3) := dk_167 0 4 (dk_at dksX2_cut_10 4 rfl rfl)
theorem dX2_cut_244 : decode cX2_cut 244 = .ok (.iconst 4, 1) := dk_7 (dk_at dksX2_cut_10 7 rfl rfl)
theorem dX2_cut_245 : decode cX2_cut 245 = .ok (.iastore, 1) := dk_79 (dk_at dksX2_cut_10 8 rfl rfl)
theorem dX2_cut_246 : decode cX2_cut 246 = .ok (.aload_n 0, 1) := dk_42 (dk_at dksX2_cut_10 9 rfl rfl)
theorem dX2_cut_247 : decode cX2_cut 247 = .ok (.getfield 52, 3) := dk_180 0 52 (dk_at dksX2_cut_10 10 rfl rfl)
theorem dX2_cut_250 : decode cX2_cut 250 = .ok (.iload_n 2, 1) := dk_28 (dk_at dksX2_cut_10 13 rfl rfl)
theorem dX2_cut_251 : decode cX2_cut 251 = .ok (.lload 6, 2) := dk_22 6 (dk_at dksX2_cut_10 14 rfl rfl)
theorem dX2_cut_253 : decode cX2_cut 253 = .ok (.lastore, 1) := dk_80 (dk_at dksX2_cut_10 16 rfl rfl)
theorem dX2_cut_254 : decode cX2_cut 254 = .ok (.aload_n 0, 1) := dk_42 (dk_at dksX2_cut_10 17 rfl rfl)
theorem dX2_cut_255 : decode cX2_cut 255 = .ok (.getfield 56, 3) := dk_180 0 56 (dk_at dksX2_cut_10 18 rfl rfl)
theorem dX2_cut_258 : decode cX2_cut 258 = .ok (.iload_n 2, 1) := dk_28 (dk_at dksX2_cut_10 21 rfl rfl)
theorem dX2_cut_259 : decode cX2_cut 259 = .ok (.iload 5, 2) := dk_21 5 (dk_at dksX2_cut_10 22 rfl rfl)
theorem dX2_cut_261 : decode cX2_cut 261 = .ok (.iastore, 1) := dk_79 (dk_at dksX2_cut_11 0 rfl rfl)
theorem dX2_cut_262 : decode cX2_cut 262 = .ok (.iinc 2 1, 3) := dk_132 2 1 (dk_at dksX2_cut_11 1 rfl rfl)
theorem dX2_cut_265 : decode cX2_cut 265 = .ok (.goto (-251), 3) := dk_167 255 5 (dk_at dksX2_cut_11 4 rfl rfl)
theorem dX2_cut_268 : decode cX2_cut 268 = .ok (.aload_n 0, 1) := dk_42 (dk_at dksX2_cut_11 7 rfl rfl)
theorem dX2_cut_269 : decode cX2_cut 269 = .ok (.getfield 49, 3) := dk_180 0 49 (dk_at dksX2_cut_11 8 rfl rfl)
theorem dX2_cut_272 : decode cX2_cut 272 = .ok (.iload_n 2, 1) := dk_28 (dk_at dksX2_cut_11 11 rfl rfl)
theorem dX2_cut_273 : decode cX2_cut 273 = .ok (.iconst 0, 1) := dk_3 (dk_at dksX2_cut_11 12 rfl rfl)
theorem dX2_cut_274 : decode cX2_cut 274 = .ok (.iastore, 1) := dk_79 (dk_at dksX2_cut_11 13 rfl rfl)
theorem dX2_cut_275 : decode cX2_cut 275 = .ok (.aload_n 0, 1) := dk_42 (dk_at dksX2_cut_11 14 rfl rfl)
theorem dX2_cut_276 : decode cX2_cut 276 = .ok (.getfield 56, 3) := dk_180 0 56 (dk_at dksX2_cut_11 15 rfl rfl)
theorem dX2_cut_279 : decode cX2_cut 279 = .ok (.iload_n 2, 1) := dk_28 (dk_at dksX2_cut_11 18 rfl rfl)
theorem dX2_cut_280 : decode cX2_cut 280 = .ok (.iload_n 1, 1) := dk_27 (dk_at dksX2_cut_11 19 rfl rfl)
theorem dX2_cut_281 : decode cX2_cut 281 = .ok (.iastore, 1) := dk_79 (dk_at dksX2_cut_11 20 rfl rfl)
theorem dX2_cut_282 : decode cX2_cut 282 = .ok (.aload_n 0, 1) := dk_42 (dk_at dksX2_cut_11 21 rfl rfl)
theorem dX2_cut_283 : decode cX2_cut 283 = .ok (.iconst 0, 1) := dk_3 (dk_at dksX2_cut_11 22 rfl rfl)
theorem dX2_cut_284 : decode cX2_cut 284 = .ok (.putfield 97, 3) := dk_181 0 97 (dk_at dksX2_cut_12 0 rfl rfl)
theorem dX2_cut_287 : decode cX2_cut 287 = .ok (.return_, 1) := dk_177 (dk_at dksX2_cut_12 3 rfl rfl)
abbrev cX2_isLetter : ByteArray := prog_21_method_4_code
def yX2_isLetter : MethodName := ⟨RX2, "isLetter", "(I)Z"⟩
def dkwX2_isLetter_0 : List UInt8 := [26, 16, 97, 16, 122, 184, 0, 60, 172]
abbrev dktX2_isLetter_0 : List UInt8 := dkwX2_isLetter_0 ++ []
theorem dksX2_isLetter_0 : cX2_isLetter.data.toList.drop 0 = dktX2_isLetter_0 := by decide +kernel
theorem dX2_isLetter_0 : decode cX2_isLetter 0 = .ok (.iload_n 0, 1) := dk_26 (dk_at dksX2_isLetter_0 0 rfl rfl)
theorem dX2_isLetter_1 : decode cX2_isLetter 1 = .ok (.bipush 97, 2) := dk_16 97 (dk_at dksX2_isLetter_0 1 rfl rfl)
theorem dX2_isLetter_3 : decode cX2_isLetter 3 = .ok (.bipush 122, 2) := dk_16 122 (dk_at dksX2_isLetter_0 3 rfl rfl)
theorem dX2_isLetter_5 : decode cX2_isLetter 5 = .ok (.invokestatic 60, 3) := dk_184 0 60 (dk_at dksX2_isLetter_0 5 rfl rfl)
theorem dX2_isLetter_8 : decode cX2_isLetter 8 = .ok (.ireturn, 1) := dk_172 (dk_at dksX2_isLetter_0 8 rfl rfl)
abbrev cX2_isDigit : ByteArray := prog_21_method_5_code
def yX2_isDigit : MethodName := ⟨RX2, "isDigit", "(I)Z"⟩
def dkwX2_isDigit_0 : List UInt8 := [26, 16, 48, 16, 57, 184, 0, 60, 172]
abbrev dktX2_isDigit_0 : List UInt8 := dkwX2_isDigit_0 ++ []
theorem dksX2_isDigit_0 : cX2_isDigit.data.toList.drop 0 = dktX2_isDigit_0 := by decide +kernel
theorem dX2_isDigit_0 : decode cX2_isDigit 0 = .ok (.iload_n 0, 1) := dk_26 (dk_at dksX2_isDigit_0 0 rfl rfl)
theorem dX2_isDigit_1 : decode cX2_isDigit 1 = .ok (.bipush 48, 2) := dk_16 48 (dk_at dksX2_isDigit_0 1 rfl rfl)
theorem dX2_isDigit_3 : decode cX2_isDigit 3 = .ok (.bipush 57, 2) := dk_16 57 (dk_at dksX2_isDigit_0 3 rfl rfl)
theorem dX2_isDigit_5 : decode cX2_isDigit 5 = .ok (.invokestatic 60, 3) := dk_184 0 60 (dk_at dksX2_isDigit_0 5 rfl rfl)
theorem dX2_isDigit_8 : decode cX2_isDigit 8 = .ok (.ireturn, 1) := dk_172 (dk_at dksX2_isDigit_0 8 rfl rfl)
abbrev cX2_isWord : ByteArray := prog_21_method_8_code
def yX2_isWord : MethodName := ⟨RX2, "isWord", "(Ljava/lang/String;)Z"⟩
def dkwX2_isWord_1 : List UInt8 := [184, 0, 104, 148, 154, 0, 7, 4, 167, 0, 4, 3, 172]
abbrev dktX2_isWord_1 : List UInt8 := dkwX2_isWord_1 ++ []
def dkwX2_isWord_0 : List UInt8 := [42, 180, 0, 49, 42, 180, 0, 97, 46, 4, 160, 0, 24, 42, 180, 0, 52, 42, 180, 0, 97, 47, 43]
abbrev dktX2_isWord_0 : List UInt8 := dkwX2_isWord_0 ++ dktX2_isWord_1
theorem dksX2_isWord_0 : cX2_isWord.data.toList.drop 0 = dktX2_isWord_0 := by decide +kernel
theorem dksX2_isWord_1 : cX2_isWord.data.toList.drop 23 = dktX2_isWord_1 := dk_seg dksX2_isWord_0 23 rfl rfl
theorem dX2_isWord_0 : decode cX2_isWord 0 = .ok (.aload_n 0, 1) := dk_42 (dk_at dksX2_isWord_0 0 rfl rfl)
theorem dX2_isWord_1 : decode cX2_isWord 1 = .ok (.getfield 49, 3) := dk_180 0 49 (dk_at dksX2_isWord_0 1 rfl rfl)
theorem dX2_isWord_4 : decode cX2_isWord 4 = .ok (.aload_n 0, 1) := dk_42 (dk_at dksX2_isWord_0 4 rfl rfl)
theorem dX2_isWord_5 : decode cX2_isWord 5 = .ok (.getfield 97, 3) := dk_180 0 97 (dk_at dksX2_isWord_0 5 rfl rfl)
theorem dX2_isWord_8 : decode cX2_isWord 8 = .ok (.iaload, 1) := dk_46 (dk_at dksX2_isWord_0 8 rfl rfl)
theorem dX2_isWord_9 : decode cX2_isWord 9 = .ok (.iconst 1, 1) := dk_4 (dk_at dksX2_isWord_0 9 rfl rfl)
theorem dX2_isWord_10 : decode cX2_isWord 10 = .ok (.if_icmp .ne 24, 3) := dk_160 0 24 (dk_at dksX2_isWord_0 10 rfl rfl)
theorem dX2_isWord_13 : decode cX2_isWord 13 = .ok (.aload_n 0, 1) := dk_42 (dk_at dksX2_isWord_0 13 rfl rfl)
theorem dX2_isWord_14 : decode cX2_isWord 14 = .ok (.getfield 52, 3) := dk_180 0 52 (dk_at dksX2_isWord_0 14 rfl rfl)
theorem dX2_isWord_17 : decode cX2_isWord 17 = .ok (.aload_n 0, 1) := dk_42 (dk_at dksX2_isWord_0 17 rfl rfl)
theorem dX2_isWord_18 : decode cX2_isWord 18 = .ok (.getfield 97, 3) := dk_180 0 97 (dk_at dksX2_isWord_0 18 rfl rfl)
theorem dX2_isWord_21 : decode cX2_isWord 21 = .ok (.laload, 1) := dk_47 (dk_at dksX2_isWord_0 21 rfl rfl)
theorem dX2_isWord_22 : decode cX2_isWord 22 = .ok (.aload_n 1, 1) := dk_43 (dk_at dksX2_isWord_0 22 rfl rfl)
theorem dX2_isWord_23 : decode cX2_isWord 23 = .ok (.invokestatic 104, 3) := dk_184 0 104 (dk_at dksX2_isWord_1 0 rfl rfl)
theorem dX2_isWord_26 : decode cX2_isWord 26 = .ok (.lcmp, 1) := dk_148 (dk_at dksX2_isWord_1 3 rfl rfl)
theorem dX2_isWord_27 : decode cX2_isWord 27 = .ok (.ifCond .ne 7, 3) := dk_154 0 7 (dk_at dksX2_isWord_1 4 rfl rfl)
theorem dX2_isWord_30 : decode cX2_isWord 30 = .ok (.iconst 1, 1) := dk_4 (dk_at dksX2_isWord_1 7 rfl rfl)
theorem dX2_isWord_31 : decode cX2_isWord 31 = .ok (.goto 4, 3) := dk_167 0 4 (dk_at dksX2_isWord_1 8 rfl rfl)
theorem dX2_isWord_34 : decode cX2_isWord 34 = .ok (.iconst 0, 1) := dk_3 (dk_at dksX2_isWord_1 11 rfl rfl)
theorem dX2_isWord_35 : decode cX2_isWord 35 = .ok (.ireturn, 1) := dk_172 (dk_at dksX2_isWord_1 12 rfl rfl)
abbrev cX2_word : ByteArray := prog_21_method_3_code
def yX2_word : MethodName := ⟨RX2, "word", "(Ljava/lang/String;)J"⟩
def dkwX2_word_1 : List UInt8 := [20, 0, 78, 101, 64, 132, 3, 1, 167, 255, 228, 31, 173]
abbrev dktX2_word_1 : List UInt8 := dkwX2_word_1 ++ []
def dkwX2_word_0 : List UInt8 := [9, 64, 3, 62, 29, 42, 182, 0, 68, 162, 0, 26, 20, 0, 72, 31, 105, 42, 29, 182, 0, 74, 133, 97]
abbrev dktX2_word_0 : List UInt8 := dkwX2_word_0 ++ dktX2_word_1
theorem dksX2_word_0 : cX2_word.data.toList.drop 0 = dktX2_word_0 := by decide +kernel
theorem dksX2_word_1 : cX2_word.data.toList.drop 24 = dktX2_word_1 := dk_seg dksX2_word_0 24 rfl rfl
theorem dX2_word_0 : decode cX2_word 0 = .ok (.lconst 0, 1) := dk_9 (dk_at dksX2_word_0 0 rfl rfl)
theorem dX2_word_1 : decode cX2_word 1 = .ok (.lstore_n 1, 1) := dk_64 (dk_at dksX2_word_0 1 rfl rfl)
theorem dX2_word_2 : decode cX2_word 2 = .ok (.iconst 0, 1) := dk_3 (dk_at dksX2_word_0 2 rfl rfl)
theorem dX2_word_3 : decode cX2_word 3 = .ok (.istore_n 3, 1) := dk_62 (dk_at dksX2_word_0 3 rfl rfl)
theorem dX2_word_4 : decode cX2_word 4 = .ok (.iload_n 3, 1) := dk_29 (dk_at dksX2_word_0 4 rfl rfl)
theorem dX2_word_5 : decode cX2_word 5 = .ok (.aload_n 0, 1) := dk_42 (dk_at dksX2_word_0 5 rfl rfl)
theorem dX2_word_6 : decode cX2_word 6 = .ok (.invokevirtual 68, 3) := dk_182 0 68 (dk_at dksX2_word_0 6 rfl rfl)
theorem dX2_word_9 : decode cX2_word 9 = .ok (.if_icmp .ge 26, 3) := dk_162 0 26 (dk_at dksX2_word_0 9 rfl rfl)
theorem dX2_word_12 : decode cX2_word 12 = .ok (.ldc2_w 72, 3) := dk_20 0 72 (dk_at dksX2_word_0 12 rfl rfl)
theorem dX2_word_15 : decode cX2_word 15 = .ok (.lload_n 1, 1) := dk_31 (dk_at dksX2_word_0 15 rfl rfl)
theorem dX2_word_16 : decode cX2_word 16 = .ok (.lmul, 1) := dk_105 (dk_at dksX2_word_0 16 rfl rfl)
theorem dX2_word_17 : decode cX2_word 17 = .ok (.aload_n 0, 1) := dk_42 (dk_at dksX2_word_0 17 rfl rfl)
theorem dX2_word_18 : decode cX2_word 18 = .ok (.iload_n 3, 1) := dk_29 (dk_at dksX2_word_0 18 rfl rfl)
theorem dX2_word_19 : decode cX2_word 19 = .ok (.invokevirtual 74, 3) := dk_182 0 74 (dk_at dksX2_word_0 19 rfl rfl)
theorem dX2_word_22 : decode cX2_word 22 = .ok (.i2l, 1) := dk_133 (dk_at dksX2_word_0 22 rfl rfl)
theorem dX2_word_23 : decode cX2_word 23 = .ok (.ladd, 1) := dk_97 (dk_at dksX2_word_0 23 rfl rfl)
theorem dX2_word_24 : decode cX2_word 24 = .ok (.ldc2_w 78, 3) := dk_20 0 78 (dk_at dksX2_word_1 0 rfl rfl)
theorem dX2_word_27 : decode cX2_word 27 = .ok (.lsub, 1) := dk_101 (dk_at dksX2_word_1 3 rfl rfl)
theorem dX2_word_28 : decode cX2_word 28 = .ok (.lstore_n 1, 1) := dk_64 (dk_at dksX2_word_1 4 rfl rfl)
theorem dX2_word_29 : decode cX2_word 29 = .ok (.iinc 3 1, 3) := dk_132 3 1 (dk_at dksX2_word_1 5 rfl rfl)
theorem dX2_word_32 : decode cX2_word 32 = .ok (.goto (-28), 3) := dk_167 255 228 (dk_at dksX2_word_1 8 rfl rfl)
theorem dX2_word_35 : decode cX2_word 35 = .ok (.lload_n 1, 1) := dk_31 (dk_at dksX2_word_1 11 rfl rfl)
theorem dX2_word_36 : decode cX2_word 36 = .ok (.lreturn, 1) := dk_173 (dk_at dksX2_word_1 12 rfl rfl)
abbrev cX2_fact : ByteArray := prog_21_method_19_code
def yX2_fact : MethodName := ⟨RX2, "fact", "()V"⟩
def dkwX2_fact_3 : List UInt8 := [79, 42, 180, 0, 132, 180, 0, 196, 31, 184, 0, 211, 182, 0, 217, 87, 177]
abbrev dktX2_fact_3 : List UInt8 := dkwX2_fact_3 ++ []
def dkwX2_fact_2 : List UInt8 := [16, 10, 182, 0, 204, 62, 42, 180, 0, 132, 180, 0, 208, 42, 180, 0, 132, 180, 0, 196, 182, 0, 162, 29]
abbrev dktX2_fact_2 : List UInt8 := dkwX2_fact_2 ++ dktX2_fact_3
def dkwX2_fact_1 : List UInt8 := [64, 8, 62, 42, 18, 13, 182, 0, 108, 153, 0, 21, 42, 89, 180, 0, 97, 4, 96, 181, 0, 97, 42, 3]
abbrev dktX2_fact_1 : List UInt8 := dkwX2_fact_1 ++ dktX2_fact_2
def dkwX2_fact_0 : List UInt8 := [42, 42, 180, 0, 132, 180, 0, 196, 182, 0, 162, 16, 6, 160, 0, 7, 4, 167, 0, 4, 3, 182, 0, 200]
abbrev dktX2_fact_0 : List UInt8 := dkwX2_fact_0 ++ dktX2_fact_1
theorem dksX2_fact_0 : cX2_fact.data.toList.drop 0 = dktX2_fact_0 := by decide +kernel
theorem dksX2_fact_1 : cX2_fact.data.toList.drop 24 = dktX2_fact_1 := dk_seg dksX2_fact_0 24 rfl rfl
theorem dksX2_fact_2 : cX2_fact.data.toList.drop 48 = dktX2_fact_2 := dk_seg dksX2_fact_1 24 rfl rfl
theorem dksX2_fact_3 : cX2_fact.data.toList.drop 72 = dktX2_fact_3 := dk_seg dksX2_fact_2 24 rfl rfl
theorem dX2_fact_0 : decode cX2_fact 0 = .ok (.aload_n 0, 1) := dk_42 (dk_at dksX2_fact_0 0 rfl rfl)
theorem dX2_fact_1 : decode cX2_fact 1 = .ok (.aload_n 0, 1) := dk_42 (dk_at dksX2_fact_0 1 rfl rfl)
theorem dX2_fact_2 : decode cX2_fact 2 = .ok (.getfield 132, 3) := dk_180 0 132 (dk_at dksX2_fact_0 2 rfl rfl)
theorem dX2_fact_5 : decode cX2_fact 5 = .ok (.getfield 196, 3) := dk_180 0 196 (dk_at dksX2_fact_0 5 rfl rfl)
theorem dX2_fact_8 : decode cX2_fact 8 = .ok (.invokevirtual 162, 3) := dk_182 0 162 (dk_at dksX2_fact_0 8 rfl rfl)
theorem dX2_fact_11 : decode cX2_fact 11 = .ok (.bipush 6, 2) := dk_16 6 (dk_at dksX2_fact_0 11 rfl rfl)
theorem dX2_fact_13 : decode cX2_fact 13 = .ok (.if_icmp .ne 7, 3) := dk_160 0 7 (dk_at dksX2_fact_0 13 rfl rfl)
theorem dX2_fact_16 : decode cX2_fact 16 = .ok (.iconst 1, 1) := dk_4 (dk_at dksX2_fact_0 16 rfl rfl)
theorem dX2_fact_17 : decode cX2_fact 17 = .ok (.goto 4, 3) := dk_167 0 4 (dk_at dksX2_fact_0 17 rfl rfl)
theorem dX2_fact_20 : decode cX2_fact 20 = .ok (.iconst 0, 1) := dk_3 (dk_at dksX2_fact_0 20 rfl rfl)
theorem dX2_fact_21 : decode cX2_fact 21 = .ok (.invokevirtual 200, 3) := dk_182 0 200 (dk_at dksX2_fact_0 21 rfl rfl)
theorem dX2_fact_24 : decode cX2_fact 24 = .ok (.lstore_n 1, 1) := dk_64 (dk_at dksX2_fact_1 0 rfl rfl)
theorem dX2_fact_25 : decode cX2_fact 25 = .ok (.iconst 5, 1) := dk_8 (dk_at dksX2_fact_1 1 rfl rfl)
theorem dX2_fact_26 : decode cX2_fact 26 = .ok (.istore_n 3, 1) := dk_62 (dk_at dksX2_fact_1 2 rfl rfl)
theorem dX2_fact_27 : decode cX2_fact 27 = .ok (.aload_n 0, 1) := dk_42 (dk_at dksX2_fact_1 3 rfl rfl)
theorem dX2_fact_28 : decode cX2_fact 28 = .ok (.ldc 13, 2) := dk_18 13 (dk_at dksX2_fact_1 4 rfl rfl)
theorem dX2_fact_30 : decode cX2_fact 30 = .ok (.invokevirtual 108, 3) := dk_182 0 108 (dk_at dksX2_fact_1 6 rfl rfl)
theorem dX2_fact_33 : decode cX2_fact 33 = .ok (.ifCond .eq 21, 3) := dk_153 0 21 (dk_at dksX2_fact_1 9 rfl rfl)
theorem dX2_fact_36 : decode cX2_fact 36 = .ok (.aload_n 0, 1) := dk_42 (dk_at dksX2_fact_1 12 rfl rfl)
theorem dX2_fact_37 : decode cX2_fact 37 = .ok (.dup, 1) := dk_89 (dk_at dksX2_fact_1 13 rfl rfl)
theorem dX2_fact_38 : decode cX2_fact 38 = .ok (.getfield 97, 3) := dk_180 0 97 (dk_at dksX2_fact_1 14 rfl rfl)
theorem dX2_fact_41 : decode cX2_fact 41 = .ok (.iconst 1, 1) := dk_4 (dk_at dksX2_fact_1 17 rfl rfl)
theorem dX2_fact_42 : decode cX2_fact 42 = .ok (.iadd, 1) := dk_96 (dk_at dksX2_fact_1 18 rfl rfl)
theorem dX2_fact_43 : decode cX2_fact 43 = .ok (.putfield 97, 3) := dk_181 0 97 (dk_at dksX2_fact_1 19 rfl rfl)
theorem dX2_fact_46 : decode cX2_fact 46 = .ok (.aload_n 0, 1) := dk_42 (dk_at dksX2_fact_1 22 rfl rfl)
theorem dX2_fact_47 : decode cX2_fact 47 = .ok (.iconst 0, 1) := dk_3 (dk_at dksX2_fact_1 23 rfl rfl)
theorem dX2_fact_48 : decode cX2_fact 48 = .ok (.bipush 10, 2) := dk_16 10 (dk_at dksX2_fact_2 0 rfl rfl)
theorem dX2_fact_50 : decode cX2_fact 50 = .ok (.invokevirtual 204, 3) := dk_182 0 204 (dk_at dksX2_fact_2 2 rfl rfl)
theorem dX2_fact_53 : decode cX2_fact 53 = .ok (.istore_n 3, 1) := dk_62 (dk_at dksX2_fact_2 5 rfl rfl)
theorem dX2_fact_54 : decode cX2_fact 54 = .ok (.aload_n 0, 1) := dk_42 (dk_at dksX2_fact_2 6 rfl rfl)
theorem dX2_fact_55 : decode cX2_fact 55 = .ok (.getfield 132, 3) := dk_180 0 132 (dk_at dksX2_fact_2 7 rfl rfl)
theorem dX2_fact_58 : decode cX2_fact 58 = .ok (.getfield 208, 3) := dk_180 0 208 (dk_at dksX2_fact_2 10 rfl rfl)
theorem dX2_fact_61 : decode cX2_fact 61 = .ok (.aload_n 0, 1) := dk_42 (dk_at dksX2_fact_2 13 rfl rfl)
theorem dX2_fact_62 : decode cX2_fact 62 = .ok (.getfield 132, 3) := dk_180 0 132 (dk_at dksX2_fact_2 14 rfl rfl)
theorem dX2_fact_65 : decode cX2_fact 65 = .ok (.getfield 196, 3) := dk_180 0 196 (dk_at dksX2_fact_2 17 rfl rfl)
theorem dX2_fact_68 : decode cX2_fact 68 = .ok (.invokevirtual 162, 3) := dk_182 0 162 (dk_at dksX2_fact_2 20 rfl rfl)
theorem dX2_fact_71 : decode cX2_fact 71 = .ok (.iload_n 3, 1) := dk_29 (dk_at dksX2_fact_2 23 rfl rfl)
theorem dX2_fact_72 : decode cX2_fact 72 = .ok (.iastore, 1) := dk_79 (dk_at dksX2_fact_3 0 rfl rfl)
theorem dX2_fact_73 : decode cX2_fact 73 = .ok (.aload_n 0, 1) := dk_42 (dk_at dksX2_fact_3 1 rfl rfl)
theorem dX2_fact_74 : decode cX2_fact 74 = .ok (.getfield 132, 3) := dk_180 0 132 (dk_at dksX2_fact_3 2 rfl rfl)
theorem dX2_fact_77 : decode cX2_fact 77 = .ok (.getfield 196, 3) := dk_180 0 196 (dk_at dksX2_fact_3 5 rfl rfl)
theorem dX2_fact_80 : decode cX2_fact 80 = .ok (.lload_n 1, 1) := dk_31 (dk_at dksX2_fact_3 8 rfl rfl)
theorem dX2_fact_81 : decode cX2_fact 81 = .ok (.invokestatic 211, 3) := dk_184 0 211 (dk_at dksX2_fact_3 9 rfl rfl)
theorem dX2_fact_84 : decode cX2_fact 84 = .ok (.invokevirtual 217, 3) := dk_182 0 217 (dk_at dksX2_fact_3 12 rfl rfl)
theorem dX2_fact_87 : decode cX2_fact 87 = .ok (.pop, 1) := dk_87 (dk_at dksX2_fact_3 15 rfl rfl)
theorem dX2_fact_88 : decode cX2_fact 88 = .ok (.return_, 1) := dk_177 (dk_at dksX2_fact_3 16 rfl rfl)
abbrev cX2_newName : ByteArray := prog_21_method_17_code
def yX2_newName : MethodName := ⟨RX2, "newName", "(Z)J"⟩
def dkwX2_newName_3 : List UInt8 := [180, 0, 52, 42, 180, 0, 97, 4, 100, 47, 173]
abbrev dktX2_newName_3 : List UInt8 := dkwX2_newName_3 ++ []
def dkwX2_newName_2 : List UInt8 := [182, 0, 188, 153, 0, 9, 42, 6, 182, 0, 118, 191, 42, 89, 180, 0, 97, 4, 96, 181, 0, 97, 42]
abbrev dktX2_newName_2 : List UInt8 := dkwX2_newName_2 ++ dktX2_newName_3
def dkwX2_newName_1 : List UInt8 := [154, 0, 9, 42, 4, 182, 0, 118, 191, 42, 180, 0, 132, 42, 180, 0, 52, 42, 180, 0, 97, 47]
abbrev dktX2_newName_1 : List UInt8 := dkwX2_newName_1 ++ dktX2_newName_2
def dkwX2_newName_0 : List UInt8 := [27, 153, 0, 9, 42, 8, 182, 0, 118, 191, 42, 89, 180, 0, 97, 4, 96, 181, 0, 97, 42, 182, 0, 184]
abbrev dktX2_newName_0 : List UInt8 := dkwX2_newName_0 ++ dktX2_newName_1
theorem dksX2_newName_0 : cX2_newName.data.toList.drop 0 = dktX2_newName_0 := by decide +kernel
theorem dksX2_newName_1 : cX2_newName.data.toList.drop 24 = dktX2_newName_1 := dk_seg dksX2_newName_0 24 rfl rfl
theorem dksX2_newName_2 : cX2_newName.data.toList.drop 46 = dktX2_newName_2 := dk_seg dksX2_newName_1 22 rfl rfl
theorem dksX2_newName_3 : cX2_newName.data.toList.drop 69 = dktX2_newName_3 := dk_seg dksX2_newName_2 23 rfl rfl
theorem dX2_newName_0 : decode cX2_newName 0 = .ok (.iload_n 1, 1) := dk_27 (dk_at dksX2_newName_0 0 rfl rfl)
theorem dX2_newName_1 : decode cX2_newName 1 = .ok (.ifCond .eq 9, 3) := dk_153 0 9 (dk_at dksX2_newName_0 1 rfl rfl)
theorem dX2_newName_4 : decode cX2_newName 4 = .ok (.aload_n 0, 1) := dk_42 (dk_at dksX2_newName_0 4 rfl rfl)
theorem dX2_newName_5 : decode cX2_newName 5 = .ok (.iconst 5, 1) := dk_8 (dk_at dksX2_newName_0 5 rfl rfl)
theorem dX2_newName_6 : decode cX2_newName 6 = .ok (.invokevirtual 118, 3) := dk_182 0 118 (dk_at dksX2_newName_0 6 rfl rfl)
theorem dX2_newName_9 : decode cX2_newName 9 = .ok (.athrow, 1) := dk_191 (dk_at dksX2_newName_0 9 rfl rfl)
theorem dX2_newName_10 : decode cX2_newName 10 = .ok (.aload_n 0, 1) := dk_42 (dk_at dksX2_newName_0 10 rfl rfl)
theorem dX2_newName_11 : decode cX2_newName 11 = .ok (.dup, 1) := dk_89 (dk_at dksX2_newName_0 11 rfl rfl)
theorem dX2_newName_12 : decode cX2_newName 12 = .ok (.getfield 97, 3) := dk_180 0 97 (dk_at dksX2_newName_0 12 rfl rfl)
theorem dX2_newName_15 : decode cX2_newName 15 = .ok (.iconst 1, 1) := dk_4 (dk_at dksX2_newName_0 15 rfl rfl)
theorem dX2_newName_16 : decode cX2_newName 16 = .ok (.iadd, 1) := dk_96 (dk_at dksX2_newName_0 16 rfl rfl)
theorem dX2_newName_17 : decode cX2_newName 17 = .ok (.putfield 97, 3) := dk_181 0 97 (dk_at dksX2_newName_0 17 rfl rfl)
theorem dX2_newName_20 : decode cX2_newName 20 = .ok (.aload_n 0, 1) := dk_42 (dk_at dksX2_newName_0 20 rfl rfl)
theorem dX2_newName_21 : decode cX2_newName 21 = .ok (.invokevirtual 184, 3) := dk_182 0 184 (dk_at dksX2_newName_0 21 rfl rfl)
theorem dX2_newName_24 : decode cX2_newName 24 = .ok (.ifCond .ne 9, 3) := dk_154 0 9 (dk_at dksX2_newName_1 0 rfl rfl)
theorem dX2_newName_27 : decode cX2_newName 27 = .ok (.aload_n 0, 1) := dk_42 (dk_at dksX2_newName_1 3 rfl rfl)
theorem dX2_newName_28 : decode cX2_newName 28 = .ok (.iconst 1, 1) := dk_4 (dk_at dksX2_newName_1 4 rfl rfl)
theorem dX2_newName_29 : decode cX2_newName 29 = .ok (.invokevirtual 118, 3) := dk_182 0 118 (dk_at dksX2_newName_1 5 rfl rfl)
theorem dX2_newName_32 : decode cX2_newName 32 = .ok (.athrow, 1) := dk_191 (dk_at dksX2_newName_1 8 rfl rfl)
theorem dX2_newName_33 : decode cX2_newName 33 = .ok (.aload_n 0, 1) := dk_42 (dk_at dksX2_newName_1 9 rfl rfl)
theorem dX2_newName_34 : decode cX2_newName 34 = .ok (.getfield 132, 3) := dk_180 0 132 (dk_at dksX2_newName_1 10 rfl rfl)
theorem dX2_newName_37 : decode cX2_newName 37 = .ok (.aload_n 0, 1) := dk_42 (dk_at dksX2_newName_1 13 rfl rfl)
theorem dX2_newName_38 : decode cX2_newName 38 = .ok (.getfield 52, 3) := dk_180 0 52 (dk_at dksX2_newName_1 14 rfl rfl)
theorem dX2_newName_41 : decode cX2_newName 41 = .ok (.aload_n 0, 1) := dk_42 (dk_at dksX2_newName_1 17 rfl rfl)
theorem dX2_newName_42 : decode cX2_newName 42 = .ok (.getfield 97, 3) := dk_180 0 97 (dk_at dksX2_newName_1 18 rfl rfl)
theorem dX2_newName_45 : decode cX2_newName 45 = .ok (.laload, 1) := dk_47 (dk_at dksX2_newName_1 21 rfl rfl)
theorem dX2_newName_46 : decode cX2_newName 46 = .ok (.invokevirtual 188, 3) := dk_182 0 188 (dk_at dksX2_newName_2 0 rfl rfl)
theorem dX2_newName_49 : decode cX2_newName 49 = .ok (.ifCond .eq 9, 3) := dk_153 0 9 (dk_at dksX2_newName_2 3 rfl rfl)
theorem dX2_newName_52 : decode cX2_newName 52 = .ok (.aload_n 0, 1) := dk_42 (dk_at dksX2_newName_2 6 rfl rfl)
theorem dX2_newName_53 : decode cX2_newName 53 = .ok (.iconst 3, 1) := dk_6 (dk_at dksX2_newName_2 7 rfl rfl)
theorem dX2_newName_54 : decode cX2_newName 54 = .ok (.invokevirtual 118, 3) := dk_182 0 118 (dk_at dksX2_newName_2 8 rfl rfl)
theorem dX2_newName_57 : decode cX2_newName 57 = .ok (.athrow, 1) := dk_191 (dk_at dksX2_newName_2 11 rfl rfl)
theorem dX2_newName_58 : decode cX2_newName 58 = .ok (.aload_n 0, 1) := dk_42 (dk_at dksX2_newName_2 12 rfl rfl)
theorem dX2_newName_59 : decode cX2_newName 59 = .ok (.dup, 1) := dk_89 (dk_at dksX2_newName_2 13 rfl rfl)
theorem dX2_newName_60 : decode cX2_newName 60 = .ok (.getfield 97, 3) := dk_180 0 97 (dk_at dksX2_newName_2 14 rfl rfl)
theorem dX2_newName_63 : decode cX2_newName 63 = .ok (.iconst 1, 1) := dk_4 (dk_at dksX2_newName_2 17 rfl rfl)
theorem dX2_newName_64 : decode cX2_newName 64 = .ok (.iadd, 1) := dk_96 (dk_at dksX2_newName_2 18 rfl rfl)
theorem dX2_newName_65 : decode cX2_newName 65 = .ok (.putfield 97, 3) := dk_181 0 97 (dk_at dksX2_newName_2 19 rfl rfl)
theorem dX2_newName_68 : decode cX2_newName 68 = .ok (.aload_n 0, 1) := dk_42 (dk_at dksX2_newName_2 22 rfl rfl)
theorem dX2_newName_69 : decode cX2_newName 69 = .ok (.getfield 52, 3) := dk_180 0 52 (dk_at dksX2_newName_3 0 rfl rfl)
theorem dX2_newName_72 : decode cX2_newName 72 = .ok (.aload_n 0, 1) := dk_42 (dk_at dksX2_newName_3 3 rfl rfl)
theorem dX2_newName_73 : decode cX2_newName 73 = .ok (.getfield 97, 3) := dk_180 0 97 (dk_at dksX2_newName_3 4 rfl rfl)
theorem dX2_newName_76 : decode cX2_newName 76 = .ok (.iconst 1, 1) := dk_4 (dk_at dksX2_newName_3 7 rfl rfl)
theorem dX2_newName_77 : decode cX2_newName 77 = .ok (.isub, 1) := dk_100 (dk_at dksX2_newName_3 8 rfl rfl)
theorem dX2_newName_78 : decode cX2_newName 78 = .ok (.laload, 1) := dk_47 (dk_at dksX2_newName_3 9 rfl rfl)
theorem dX2_newName_79 : decode cX2_newName 79 = .ok (.lreturn, 1) := dk_173 (dk_at dksX2_newName_3 10 rfl rfl)
abbrev cX2_wrong : ByteArray := prog_21_method_7_code
def yX2_wrong : MethodName := ⟨RX2, "wrong", "(I)LLiarsCock$Wrong;"⟩
def dkwX2_wrong_0 : List UInt8 := [187, 0, 99, 89, 27, 16, 16, 42, 180, 0, 56, 42, 180, 0, 97, 46, 104, 96, 183, 0, 101, 176]
abbrev dktX2_wrong_0 : List UInt8 := dkwX2_wrong_0 ++ []
theorem dksX2_wrong_0 : cX2_wrong.data.toList.drop 0 = dktX2_wrong_0 := by decide +kernel
theorem dX2_wrong_0 : decode cX2_wrong 0 = .ok (.new 99, 3) := dk_187 0 99 (dk_at dksX2_wrong_0 0 rfl rfl)
theorem dX2_wrong_3 : decode cX2_wrong 3 = .ok (.dup, 1) := dk_89 (dk_at dksX2_wrong_0 3 rfl rfl)
theorem dX2_wrong_4 : decode cX2_wrong 4 = .ok (.iload_n 1, 1) := dk_27 (dk_at dksX2_wrong_0 4 rfl rfl)
theorem dX2_wrong_5 : decode cX2_wrong 5 = .ok (.bipush 16, 2) := dk_16 16 (dk_at dksX2_wrong_0 5 rfl rfl)
theorem dX2_wrong_7 : decode cX2_wrong 7 = .ok (.aload_n 0, 1) := dk_42 (dk_at dksX2_wrong_0 7 rfl rfl)
theorem dX2_wrong_8 : decode cX2_wrong 8 = .ok (.getfield 56, 3) := dk_180 0 56 (dk_at dksX2_wrong_0 8 rfl rfl)
theorem dX2_wrong_11 : decode cX2_wrong 11 = .ok (.aload_n 0, 1) := dk_42 (dk_at dksX2_wrong_0 11 rfl rfl)
theorem dX2_wrong_12 : decode cX2_wrong 12 = .ok (.getfield 97, 3) := dk_180 0 97 (dk_at dksX2_wrong_0 12 rfl rfl)
theorem dX2_wrong_15 : decode cX2_wrong 15 = .ok (.iaload, 1) := dk_46 (dk_at dksX2_wrong_0 15 rfl rfl)
theorem dX2_wrong_16 : decode cX2_wrong 16 = .ok (.imul, 1) := dk_104 (dk_at dksX2_wrong_0 16 rfl rfl)
theorem dX2_wrong_17 : decode cX2_wrong 17 = .ok (.iadd, 1) := dk_96 (dk_at dksX2_wrong_0 17 rfl rfl)
theorem dX2_wrong_18 : decode cX2_wrong 18 = .ok (.invokespecial 101, 3) := dk_183 0 101 (dk_at dksX2_wrong_0 18 rfl rfl)
theorem dX2_wrong_21 : decode cX2_wrong 21 = .ok (.areturn, 1) := dk_176 (dk_at dksX2_wrong_0 21 rfl rfl)
abbrev cX2_isName : ByteArray := prog_21_method_15_code
def yX2_isName : MethodName := ⟨RX2, "isName", "()Z"⟩
def dkwX2_isName_1 : List UInt8 := [160, 0, 7, 4, 167, 0, 4, 3, 172]
abbrev dktX2_isName_1 : List UInt8 := dkwX2_isName_1 ++ []
def dkwX2_isName_0 : List UInt8 := [42, 180, 0, 49, 42, 180, 0, 97, 46, 4, 160, 0, 19, 42, 42, 180, 0, 39, 182, 0, 122, 2]
abbrev dktX2_isName_0 : List UInt8 := dkwX2_isName_0 ++ dktX2_isName_1
theorem dksX2_isName_0 : cX2_isName.data.toList.drop 0 = dktX2_isName_0 := by decide +kernel
theorem dksX2_isName_1 : cX2_isName.data.toList.drop 22 = dktX2_isName_1 := dk_seg dksX2_isName_0 22 rfl rfl
theorem dX2_isName_0 : decode cX2_isName 0 = .ok (.aload_n 0, 1) := dk_42 (dk_at dksX2_isName_0 0 rfl rfl)
theorem dX2_isName_1 : decode cX2_isName 1 = .ok (.getfield 49, 3) := dk_180 0 49 (dk_at dksX2_isName_0 1 rfl rfl)
theorem dX2_isName_4 : decode cX2_isName 4 = .ok (.aload_n 0, 1) := dk_42 (dk_at dksX2_isName_0 4 rfl rfl)
theorem dX2_isName_5 : decode cX2_isName 5 = .ok (.getfield 97, 3) := dk_180 0 97 (dk_at dksX2_isName_0 5 rfl rfl)
theorem dX2_isName_8 : decode cX2_isName 8 = .ok (.iaload, 1) := dk_46 (dk_at dksX2_isName_0 8 rfl rfl)
theorem dX2_isName_9 : decode cX2_isName 9 = .ok (.iconst 1, 1) := dk_4 (dk_at dksX2_isName_0 9 rfl rfl)
theorem dX2_isName_10 : decode cX2_isName 10 = .ok (.if_icmp .ne 19, 3) := dk_160 0 19 (dk_at dksX2_isName_0 10 rfl rfl)
theorem dX2_isName_13 : decode cX2_isName 13 = .ok (.aload_n 0, 1) := dk_42 (dk_at dksX2_isName_0 13 rfl rfl)
theorem dX2_isName_14 : decode cX2_isName 14 = .ok (.aload_n 0, 1) := dk_42 (dk_at dksX2_isName_0 14 rfl rfl)
theorem dX2_isName_15 : decode cX2_isName 15 = .ok (.getfield 39, 3) := dk_180 0 39 (dk_at dksX2_isName_0 15 rfl rfl)
theorem dX2_isName_18 : decode cX2_isName 18 = .ok (.invokevirtual 122, 3) := dk_182 0 122 (dk_at dksX2_isName_0 18 rfl rfl)
theorem dX2_isName_21 : decode cX2_isName 21 = .ok (.iconst (-1), 1) := dk_2 (dk_at dksX2_isName_0 21 rfl rfl)
theorem dX2_isName_22 : decode cX2_isName 22 = .ok (.if_icmp .ne 7, 3) := dk_160 0 7 (dk_at dksX2_isName_1 0 rfl rfl)
theorem dX2_isName_25 : decode cX2_isName 25 = .ok (.iconst 1, 1) := dk_4 (dk_at dksX2_isName_1 3 rfl rfl)
theorem dX2_isName_26 : decode cX2_isName 26 = .ok (.goto 4, 3) := dk_167 0 4 (dk_at dksX2_isName_1 4 rfl rfl)
theorem dX2_isName_29 : decode cX2_isName 29 = .ok (.iconst 0, 1) := dk_3 (dk_at dksX2_isName_1 7 rfl rfl)
theorem dX2_isName_30 : decode cX2_isName 30 = .ok (.ireturn, 1) := dk_172 (dk_at dksX2_isName_1 8 rfl rfl)
abbrev cX2_which : ByteArray := prog_21_method_10_code
def yX2_which : MethodName := ⟨RX2, "which", "([Ljava/lang/String;)I"⟩
def dkwX2_which_1 : List UInt8 := [167, 255, 235, 2, 172]
abbrev dktX2_which_1 : List UInt8 := dkwX2_which_1 ++ []
def dkwX2_which_0 : List UInt8 := [3, 61, 28, 43, 190, 162, 0, 21, 42, 43, 28, 50, 182, 0, 108, 153, 0, 5, 28, 172, 132, 2, 1]
abbrev dktX2_which_0 : List UInt8 := dkwX2_which_0 ++ dktX2_which_1
theorem dksX2_which_0 : cX2_which.data.toList.drop 0 = dktX2_which_0 := by decide +kernel
theorem dksX2_which_1 : cX2_which.data.toList.drop 23 = dktX2_which_1 := dk_seg dksX2_which_0 23 rfl rfl
theorem dX2_which_0 : decode cX2_which 0 = .ok (.iconst 0, 1) := dk_3 (dk_at dksX2_which_0 0 rfl rfl)
theorem dX2_which_1 : decode cX2_which 1 = .ok (.istore_n 2, 1) := dk_61 (dk_at dksX2_which_0 1 rfl rfl)
theorem dX2_which_2 : decode cX2_which 2 = .ok (.iload_n 2, 1) := dk_28 (dk_at dksX2_which_0 2 rfl rfl)
theorem dX2_which_3 : decode cX2_which 3 = .ok (.aload_n 1, 1) := dk_43 (dk_at dksX2_which_0 3 rfl rfl)
theorem dX2_which_4 : decode cX2_which 4 = .ok (.arraylength, 1) := dk_190 (dk_at dksX2_which_0 4 rfl rfl)
theorem dX2_which_5 : decode cX2_which 5 = .ok (.if_icmp .ge 21, 3) := dk_162 0 21 (dk_at dksX2_which_0 5 rfl rfl)
theorem dX2_which_8 : decode cX2_which 8 = .ok (.aload_n 0, 1) := dk_42 (dk_at dksX2_which_0 8 rfl rfl)
theorem dX2_which_9 : decode cX2_which 9 = .ok (.aload_n 1, 1) := dk_43 (dk_at dksX2_which_0 9 rfl rfl)
theorem dX2_which_10 : decode cX2_which 10 = .ok (.iload_n 2, 1) := dk_28 (dk_at dksX2_which_0 10 rfl rfl)
theorem dX2_which_11 : decode cX2_which 11 = .ok (.aaload, 1) := dk_50 (dk_at dksX2_which_0 11 rfl rfl)
theorem dX2_which_12 : decode cX2_which 12 = .ok (.invokevirtual 108, 3) := dk_182 0 108 (dk_at dksX2_which_0 12 rfl rfl)
theorem dX2_which_15 : decode cX2_which 15 = .ok (.ifCond .eq 5, 3) := dk_153 0 5 (dk_at dksX2_which_0 15 rfl rfl)
theorem dX2_which_18 : decode cX2_which 18 = .ok (.iload_n 2, 1) := dk_28 (dk_at dksX2_which_0 18 rfl rfl)
theorem dX2_which_19 : decode cX2_which 19 = .ok (.ireturn, 1) := dk_172 (dk_at dksX2_which_0 19 rfl rfl)
theorem dX2_which_20 : decode cX2_which 20 = .ok (.iinc 2 1, 3) := dk_132 2 1 (dk_at dksX2_which_0 20 rfl rfl)
theorem dX2_which_23 : decode cX2_which 23 = .ok (.goto (-21), 3) := dk_167 255 235 (dk_at dksX2_which_1 0 rfl rfl)
theorem dX2_which_26 : decode cX2_which 26 = .ok (.iconst (-1), 1) := dk_2 (dk_at dksX2_which_1 3 rfl rfl)
theorem dX2_which_27 : decode cX2_which 27 = .ok (.ireturn, 1) := dk_172 (dk_at dksX2_which_1 4 rfl rfl)
abbrev cX2_number : ByteArray := prog_21_method_14_code
def yX2_number : MethodName := ⟨RX2, "number", "(II)I"⟩
def dkwX2_number_3 : List UInt8 := [180, 0, 97, 4, 100, 47, 136, 172]
abbrev dktX2_number_3 : List UInt8 := dkwX2_number_3 ++ []
def dkwX2_number_2 : List UInt8 := [158, 0, 9, 42, 7, 182, 0, 118, 191, 42, 89, 180, 0, 97, 4, 96, 181, 0, 97, 42, 180, 0, 52, 42]
abbrev dktX2_number_2 : List UInt8 := dkwX2_number_2 ++ dktX2_number_3
def dkwX2_number_1 : List UInt8 := [180, 0, 97, 47, 27, 133, 148, 155, 0, 18, 42, 180, 0, 52, 42, 180, 0, 97, 47, 28, 133, 148]
abbrev dktX2_number_1 : List UInt8 := dkwX2_number_1 ++ dktX2_number_2
def dkwX2_number_0 : List UInt8 := [42, 180, 0, 49, 42, 180, 0, 97, 46, 5, 159, 0, 9, 42, 4, 182, 0, 118, 191, 42, 180, 0, 52, 42]
abbrev dktX2_number_0 : List UInt8 := dkwX2_number_0 ++ dktX2_number_1
theorem dksX2_number_0 : cX2_number.data.toList.drop 0 = dktX2_number_0 := by decide +kernel
theorem dksX2_number_1 : cX2_number.data.toList.drop 24 = dktX2_number_1 := dk_seg dksX2_number_0 24 rfl rfl
theorem dksX2_number_2 : cX2_number.data.toList.drop 46 = dktX2_number_2 := dk_seg dksX2_number_1 22 rfl rfl
theorem dksX2_number_3 : cX2_number.data.toList.drop 70 = dktX2_number_3 := dk_seg dksX2_number_2 24 rfl rfl
theorem dX2_number_0 : decode cX2_number 0 = .ok (.aload_n 0, 1) := dk_42 (dk_at dksX2_number_0 0 rfl rfl)
theorem dX2_number_1 : decode cX2_number 1 = .ok (.getfield 49, 3) := dk_180 0 49 (dk_at dksX2_number_0 1 rfl rfl)
theorem dX2_number_4 : decode cX2_number 4 = .ok (.aload_n 0, 1) := dk_42 (dk_at dksX2_number_0 4 rfl rfl)
theorem dX2_number_5 : decode cX2_number 5 = .ok (.getfield 97, 3) := dk_180 0 97 (dk_at dksX2_number_0 5 rfl rfl)
theorem dX2_number_8 : decode cX2_number 8 = .ok (.iaload, 1) := dk_46 (dk_at dksX2_number_0 8 rfl rfl)
theorem dX2_number_9 : decode cX2_number 9 = .ok (.iconst 2, 1) := dk_5 (dk_at dksX2_number_0 9 rfl rfl)
theorem dX2_number_10 : decode cX2_number 10 = .ok (.if_icmp .eq 9, 3) := dk_159 0 9 (dk_at dksX2_number_0 10 rfl rfl)
theorem dX2_number_13 : decode cX2_number 13 = .ok (.aload_n 0, 1) := dk_42 (dk_at dksX2_number_0 13 rfl rfl)
theorem dX2_number_14 : decode cX2_number 14 = .ok (.iconst 1, 1) := dk_4 (dk_at dksX2_number_0 14 rfl rfl)
theorem dX2_number_15 : decode cX2_number 15 = .ok (.invokevirtual 118, 3) := dk_182 0 118 (dk_at dksX2_number_0 15 rfl rfl)
theorem dX2_number_18 : decode cX2_number 18 = .ok (.athrow, 1) := dk_191 (dk_at dksX2_number_0 18 rfl rfl)
theorem dX2_number_19 : decode cX2_number 19 = .ok (.aload_n 0, 1) := dk_42 (dk_at dksX2_number_0 19 rfl rfl)
theorem dX2_number_20 : decode cX2_number 20 = .ok (.getfield 52, 3) := dk_180 0 52 (dk_at dksX2_number_0 20 rfl rfl)
theorem dX2_number_23 : decode cX2_number 23 = .ok (.aload_n 0, 1) := dk_42 (dk_at dksX2_number_0 23 rfl rfl)
theorem dX2_number_24 : decode cX2_number 24 = .ok (.getfield 97, 3) := dk_180 0 97 (dk_at dksX2_number_1 0 rfl rfl)
theorem dX2_number_27 : decode cX2_number 27 = .ok (.laload, 1) := dk_47 (dk_at dksX2_number_1 3 rfl rfl)
theorem dX2_number_28 : decode cX2_number 28 = .ok (.iload_n 1, 1) := dk_27 (dk_at dksX2_number_1 4 rfl rfl)
theorem dX2_number_29 : decode cX2_number 29 = .ok (.i2l, 1) := dk_133 (dk_at dksX2_number_1 5 rfl rfl)
theorem dX2_number_30 : decode cX2_number 30 = .ok (.lcmp, 1) := dk_148 (dk_at dksX2_number_1 6 rfl rfl)
theorem dX2_number_31 : decode cX2_number 31 = .ok (.ifCond .lt 18, 3) := dk_155 0 18 (dk_at dksX2_number_1 7 rfl rfl)
theorem dX2_number_34 : decode cX2_number 34 = .ok (.aload_n 0, 1) := dk_42 (dk_at dksX2_number_1 10 rfl rfl)
theorem dX2_number_35 : decode cX2_number 35 = .ok (.getfield 52, 3) := dk_180 0 52 (dk_at dksX2_number_1 11 rfl rfl)
theorem dX2_number_38 : decode cX2_number 38 = .ok (.aload_n 0, 1) := dk_42 (dk_at dksX2_number_1 14 rfl rfl)
theorem dX2_number_39 : decode cX2_number 39 = .ok (.getfield 97, 3) := dk_180 0 97 (dk_at dksX2_number_1 15 rfl rfl)
theorem dX2_number_42 : decode cX2_number 42 = .ok (.laload, 1) := dk_47 (dk_at dksX2_number_1 18 rfl rfl)
theorem dX2_number_43 : decode cX2_number 43 = .ok (.iload_n 2, 1) := dk_28 (dk_at dksX2_number_1 19 rfl rfl)
theorem dX2_number_44 : decode cX2_number 44 = .ok (.i2l, 1) := dk_133 (dk_at dksX2_number_1 20 rfl rfl)
theorem dX2_number_45 : decode cX2_number 45 = .ok (.lcmp, 1) := dk_148 (dk_at dksX2_number_1 21 rfl rfl)
theorem dX2_number_46 : decode cX2_number 46 = .ok (.ifCond .le 9, 3) := dk_158 0 9 (dk_at dksX2_number_2 0 rfl rfl)
theorem dX2_number_49 : decode cX2_number 49 = .ok (.aload_n 0, 1) := dk_42 (dk_at dksX2_number_2 3 rfl rfl)
theorem dX2_number_50 : decode cX2_number 50 = .ok (.iconst 4, 1) := dk_7 (dk_at dksX2_number_2 4 rfl rfl)
theorem dX2_number_51 : decode cX2_number 51 = .ok (.invokevirtual 118, 3) := dk_182 0 118 (dk_at dksX2_number_2 5 rfl rfl)
theorem dX2_number_54 : decode cX2_number 54 = .ok (.athrow, 1) := dk_191 (dk_at dksX2_number_2 8 rfl rfl)
theorem dX2_number_55 : decode cX2_number 55 = .ok (.aload_n 0, 1) := dk_42 (dk_at dksX2_number_2 9 rfl rfl)
theorem dX2_number_56 : decode cX2_number 56 = .ok (.dup, 1) := dk_89 (dk_at dksX2_number_2 10 rfl rfl)
theorem dX2_number_57 : decode cX2_number 57 = .ok (.getfield 97, 3) := dk_180 0 97 (dk_at dksX2_number_2 11 rfl rfl)
theorem dX2_number_60 : decode cX2_number 60 = .ok (.iconst 1, 1) := dk_4 (dk_at dksX2_number_2 14 rfl rfl)
theorem dX2_number_61 : decode cX2_number 61 = .ok (.iadd, 1) := dk_96 (dk_at dksX2_number_2 15 rfl rfl)
theorem dX2_number_62 : decode cX2_number 62 = .ok (.putfield 97, 3) := dk_181 0 97 (dk_at dksX2_number_2 16 rfl rfl)
theorem dX2_number_65 : decode cX2_number 65 = .ok (.aload_n 0, 1) := dk_42 (dk_at dksX2_number_2 19 rfl rfl)
theorem dX2_number_66 : decode cX2_number 66 = .ok (.getfield 52, 3) := dk_180 0 52 (dk_at dksX2_number_2 20 rfl rfl)
theorem dX2_number_69 : decode cX2_number 69 = .ok (.aload_n 0, 1) := dk_42 (dk_at dksX2_number_2 23 rfl rfl)
theorem dX2_number_70 : decode cX2_number 70 = .ok (.getfield 97, 3) := dk_180 0 97 (dk_at dksX2_number_3 0 rfl rfl)
theorem dX2_number_73 : decode cX2_number 73 = .ok (.iconst 1, 1) := dk_4 (dk_at dksX2_number_3 3 rfl rfl)
theorem dX2_number_74 : decode cX2_number 74 = .ok (.isub, 1) := dk_100 (dk_at dksX2_number_3 4 rfl rfl)
theorem dX2_number_75 : decode cX2_number 75 = .ok (.laload, 1) := dk_47 (dk_at dksX2_number_3 5 rfl rfl)
theorem dX2_number_76 : decode cX2_number 76 = .ok (.l2i, 1) := dk_136 (dk_at dksX2_number_3 6 rfl rfl)
theorem dX2_number_77 : decode cX2_number 77 = .ok (.ireturn, 1) := dk_172 (dk_at dksX2_number_3 7 rfl rfl)
abbrev cX2_place : ByteArray := prog_21_method_20_code
def yX2_place : MethodName := ⟨RX2, "place", "()V"⟩
def dkwX2_place_3 : List UInt8 := [177]
abbrev dktX2_place_3 : List UInt8 := dkwX2_place_3 ++ []
def dkwX2_place_2 : List UInt8 := [42, 3, 17, 1, 103, 182, 0, 204, 79, 42, 180, 0, 132, 180, 0, 221, 31, 184, 0, 211, 182, 0, 217, 87]
abbrev dktX2_place_2 : List UInt8 := dkwX2_place_2 ++ dktX2_place_3
def dkwX2_place_1 : List UInt8 := [64, 42, 18, 17, 182, 0, 224, 42, 180, 0, 132, 180, 0, 228, 42, 180, 0, 132, 180, 0, 221, 182, 0, 162]
abbrev dktX2_place_1 : List UInt8 := dkwX2_place_1 ++ dktX2_place_2
def dkwX2_place_0 : List UInt8 := [42, 42, 180, 0, 132, 180, 0, 221, 182, 0, 162, 16, 6, 160, 0, 7, 4, 167, 0, 4, 3, 182, 0, 200]
abbrev dktX2_place_0 : List UInt8 := dkwX2_place_0 ++ dktX2_place_1
theorem dksX2_place_0 : cX2_place.data.toList.drop 0 = dktX2_place_0 := by decide +kernel
theorem dksX2_place_1 : cX2_place.data.toList.drop 24 = dktX2_place_1 := dk_seg dksX2_place_0 24 rfl rfl
theorem dksX2_place_2 : cX2_place.data.toList.drop 48 = dktX2_place_2 := dk_seg dksX2_place_1 24 rfl rfl
theorem dksX2_place_3 : cX2_place.data.toList.drop 72 = dktX2_place_3 := dk_seg dksX2_place_2 24 rfl rfl
theorem dX2_place_0 : decode cX2_place 0 = .ok (.aload_n 0, 1) := dk_42 (dk_at dksX2_place_0 0 rfl rfl)
theorem dX2_place_1 : decode cX2_place 1 = .ok (.aload_n 0, 1) := dk_42 (dk_at dksX2_place_0 1 rfl rfl)
theorem dX2_place_2 : decode cX2_place 2 = .ok (.getfield 132, 3) := dk_180 0 132 (dk_at dksX2_place_0 2 rfl rfl)
theorem dX2_place_5 : decode cX2_place 5 = .ok (.getfield 221, 3) := dk_180 0 221 (dk_at dksX2_place_0 5 rfl rfl)
theorem dX2_place_8 : decode cX2_place 8 = .ok (.invokevirtual 162, 3) := dk_182 0 162 (dk_at dksX2_place_0 8 rfl rfl)
theorem dX2_place_11 : decode cX2_place 11 = .ok (.bipush 6, 2) := dk_16 6 (dk_at dksX2_place_0 11 rfl rfl)
theorem dX2_place_13 : decode cX2_place 13 = .ok (.if_icmp .ne 7, 3) := dk_160 0 7 (dk_at dksX2_place_0 13 rfl rfl)
theorem dX2_place_16 : decode cX2_place 16 = .ok (.iconst 1, 1) := dk_4 (dk_at dksX2_place_0 16 rfl rfl)
theorem dX2_place_17 : decode cX2_place 17 = .ok (.goto 4, 3) := dk_167 0 4 (dk_at dksX2_place_0 17 rfl rfl)
theorem dX2_place_20 : decode cX2_place 20 = .ok (.iconst 0, 1) := dk_3 (dk_at dksX2_place_0 20 rfl rfl)
theorem dX2_place_21 : decode cX2_place 21 = .ok (.invokevirtual 200, 3) := dk_182 0 200 (dk_at dksX2_place_0 21 rfl rfl)
theorem dX2_place_24 : decode cX2_place 24 = .ok (.lstore_n 1, 1) := dk_64 (dk_at dksX2_place_1 0 rfl rfl)
theorem dX2_place_25 : decode cX2_place 25 = .ok (.aload_n 0, 1) := dk_42 (dk_at dksX2_place_1 1 rfl rfl)
theorem dX2_place_26 : decode cX2_place 26 = .ok (.ldc 17, 2) := dk_18 17 (dk_at dksX2_place_1 2 rfl rfl)
theorem dX2_place_28 : decode cX2_place 28 = .ok (.invokevirtual 224, 3) := dk_182 0 224 (dk_at dksX2_place_1 4 rfl rfl)
theorem dX2_place_31 : decode cX2_place 31 = .ok (.aload_n 0, 1) := dk_42 (dk_at dksX2_place_1 7 rfl rfl)
theorem dX2_place_32 : decode cX2_place 32 = .ok (.getfield 132, 3) := dk_180 0 132 (dk_at dksX2_place_1 8 rfl rfl)
theorem dX2_place_35 : decode cX2_place 35 = .ok (.getfield 228, 3) := dk_180 0 228 (dk_at dksX2_place_1 11 rfl rfl)
theorem dX2_place_38 : decode cX2_place 38 = .ok (.aload_n 0, 1) := dk_42 (dk_at dksX2_place_1 14 rfl rfl)
theorem dX2_place_39 : decode cX2_place 39 = .ok (.getfield 132, 3) := dk_180 0 132 (dk_at dksX2_place_1 15 rfl rfl)
theorem dX2_place_42 : decode cX2_place 42 = .ok (.getfield 221, 3) := dk_180 0 221 (dk_at dksX2_place_1 18 rfl rfl)
theorem dX2_place_45 : decode cX2_place 45 = .ok (.invokevirtual 162, 3) := dk_182 0 162 (dk_at dksX2_place_1 21 rfl rfl)
theorem dX2_place_48 : decode cX2_place 48 = .ok (.aload_n 0, 1) := dk_42 (dk_at dksX2_place_2 0 rfl rfl)
theorem dX2_place_49 : decode cX2_place 49 = .ok (.iconst 0, 1) := dk_3 (dk_at dksX2_place_2 1 rfl rfl)
theorem dX2_place_50 : decode cX2_place 50 = .ok (.sipush 359, 3) := dk_17 1 103 (dk_at dksX2_place_2 2 rfl rfl)
theorem dX2_place_53 : decode cX2_place 53 = .ok (.invokevirtual 204, 3) := dk_182 0 204 (dk_at dksX2_place_2 5 rfl rfl)
theorem dX2_place_56 : decode cX2_place 56 = .ok (.iastore, 1) := dk_79 (dk_at dksX2_place_2 8 rfl rfl)
theorem dX2_place_57 : decode cX2_place 57 = .ok (.aload_n 0, 1) := dk_42 (dk_at dksX2_place_2 9 rfl rfl)
theorem dX2_place_58 : decode cX2_place 58 = .ok (.getfield 132, 3) := dk_180 0 132 (dk_at dksX2_place_2 10 rfl rfl)
theorem dX2_place_61 : decode cX2_place 61 = .ok (.getfield 221, 3) := dk_180 0 221 (dk_at dksX2_place_2 13 rfl rfl)
theorem dX2_place_64 : decode cX2_place 64 = .ok (.lload_n 1, 1) := dk_31 (dk_at dksX2_place_2 16 rfl rfl)
theorem dX2_place_65 : decode cX2_place 65 = .ok (.invokestatic 211, 3) := dk_184 0 211 (dk_at dksX2_place_2 17 rfl rfl)
theorem dX2_place_68 : decode cX2_place 68 = .ok (.invokevirtual 217, 3) := dk_182 0 217 (dk_at dksX2_place_2 20 rfl rfl)
theorem dX2_place_71 : decode cX2_place 71 = .ok (.pop, 1) := dk_87 (dk_at dksX2_place_2 23 rfl rfl)
theorem dX2_place_72 : decode cX2_place 72 = .ok (.return_, 1) := dk_177 (dk_at dksX2_place_3 0 rfl rfl)
abbrev cX2_takeWord : ByteArray := prog_21_method_25_code
def yX2_takeWord : MethodName := ⟨RX2, "takeWord", "(Ljava/lang/String;)V"⟩
def dkwX2_takeWord_0 : List UInt8 := [42, 43, 182, 1, 0, 154, 0, 9, 42, 4, 182, 0, 118, 191, 177]
abbrev dktX2_takeWord_0 : List UInt8 := dkwX2_takeWord_0 ++ []
theorem dksX2_takeWord_0 : cX2_takeWord.data.toList.drop 0 = dktX2_takeWord_0 := by decide +kernel
theorem dX2_takeWord_0 : decode cX2_takeWord 0 = .ok (.aload_n 0, 1) := dk_42 (dk_at dksX2_takeWord_0 0 rfl rfl)
theorem dX2_takeWord_1 : decode cX2_takeWord 1 = .ok (.aload_n 1, 1) := dk_43 (dk_at dksX2_takeWord_0 1 rfl rfl)
theorem dX2_takeWord_2 : decode cX2_takeWord 2 = .ok (.invokevirtual 256, 3) := dk_182 1 0 (dk_at dksX2_takeWord_0 2 rfl rfl)
theorem dX2_takeWord_5 : decode cX2_takeWord 5 = .ok (.ifCond .ne 9, 3) := dk_154 0 9 (dk_at dksX2_takeWord_0 5 rfl rfl)
theorem dX2_takeWord_8 : decode cX2_takeWord 8 = .ok (.aload_n 0, 1) := dk_42 (dk_at dksX2_takeWord_0 8 rfl rfl)
theorem dX2_takeWord_9 : decode cX2_takeWord 9 = .ok (.iconst 1, 1) := dk_4 (dk_at dksX2_takeWord_0 9 rfl rfl)
theorem dX2_takeWord_10 : decode cX2_takeWord 10 = .ok (.invokevirtual 118, 3) := dk_182 0 118 (dk_at dksX2_takeWord_0 10 rfl rfl)
theorem dX2_takeWord_13 : decode cX2_takeWord 13 = .ok (.athrow, 1) := dk_191 (dk_at dksX2_takeWord_0 13 rfl rfl)
theorem dX2_takeWord_14 : decode cX2_takeWord 14 = .ok (.return_, 1) := dk_177 (dk_at dksX2_takeWord_0 14 rfl rfl)
abbrev cX2_hasWord : ByteArray := prog_21_method_9_code
def yX2_hasWord : MethodName := ⟨RX2, "hasWord", "(Ljava/lang/String;)Z"⟩
def dkwX2_hasWord_0 : List UInt8 := [42, 43, 182, 0, 108, 61, 28, 153, 0, 13, 42, 89, 180, 0, 97, 4, 96, 181, 0, 97, 28, 172]
abbrev dktX2_hasWord_0 : List UInt8 := dkwX2_hasWord_0 ++ []
theorem dksX2_hasWord_0 : cX2_hasWord.data.toList.drop 0 = dktX2_hasWord_0 := by decide +kernel
theorem dX2_hasWord_0 : decode cX2_hasWord 0 = .ok (.aload_n 0, 1) := dk_42 (dk_at dksX2_hasWord_0 0 rfl rfl)
theorem dX2_hasWord_1 : decode cX2_hasWord 1 = .ok (.aload_n 1, 1) := dk_43 (dk_at dksX2_hasWord_0 1 rfl rfl)
theorem dX2_hasWord_2 : decode cX2_hasWord 2 = .ok (.invokevirtual 108, 3) := dk_182 0 108 (dk_at dksX2_hasWord_0 2 rfl rfl)
theorem dX2_hasWord_5 : decode cX2_hasWord 5 = .ok (.istore_n 2, 1) := dk_61 (dk_at dksX2_hasWord_0 5 rfl rfl)
theorem dX2_hasWord_6 : decode cX2_hasWord 6 = .ok (.iload_n 2, 1) := dk_28 (dk_at dksX2_hasWord_0 6 rfl rfl)
theorem dX2_hasWord_7 : decode cX2_hasWord 7 = .ok (.ifCond .eq 13, 3) := dk_153 0 13 (dk_at dksX2_hasWord_0 7 rfl rfl)
theorem dX2_hasWord_10 : decode cX2_hasWord 10 = .ok (.aload_n 0, 1) := dk_42 (dk_at dksX2_hasWord_0 10 rfl rfl)
theorem dX2_hasWord_11 : decode cX2_hasWord 11 = .ok (.dup, 1) := dk_89 (dk_at dksX2_hasWord_0 11 rfl rfl)
theorem dX2_hasWord_12 : decode cX2_hasWord 12 = .ok (.getfield 97, 3) := dk_180 0 97 (dk_at dksX2_hasWord_0 12 rfl rfl)
theorem dX2_hasWord_15 : decode cX2_hasWord 15 = .ok (.iconst 1, 1) := dk_4 (dk_at dksX2_hasWord_0 15 rfl rfl)
theorem dX2_hasWord_16 : decode cX2_hasWord 16 = .ok (.iadd, 1) := dk_96 (dk_at dksX2_hasWord_0 16 rfl rfl)
theorem dX2_hasWord_17 : decode cX2_hasWord 17 = .ok (.putfield 97, 3) := dk_181 0 97 (dk_at dksX2_hasWord_0 17 rfl rfl)
theorem dX2_hasWord_20 : decode cX2_hasWord 20 = .ok (.iload_n 2, 1) := dk_28 (dk_at dksX2_hasWord_0 20 rfl rfl)
theorem dX2_hasWord_21 : decode cX2_hasWord 21 = .ok (.ireturn, 1) := dk_172 (dk_at dksX2_hasWord_0 21 rfl rfl)
abbrev cX2_person : ByteArray := prog_21_method_21_code
def yX2_person : MethodName := ⟨RX2, "person", "()V"⟩
def dkwX2_person_6 : List UInt8 := [184, 0, 211, 182, 0, 217, 87, 42, 180, 0, 132, 180, 0, 231, 45, 182, 0, 217, 87, 177]
abbrev dktX2_person_6 : List UInt8 := dkwX2_person_6 ++ []
def dkwX2_person_5 : List UInt8 := [181, 0, 241, 42, 89, 180, 0, 97, 4, 96, 181, 0, 97, 167, 255, 194, 42, 180, 0, 132, 180, 0, 247, 31]
abbrev dktX2_person_5 : List UInt8 := dkwX2_person_5 ++ dktX2_person_6
def dkwX2_person_4 : List UInt8 := [184, 0, 243, 153, 0, 9, 42, 6, 182, 0, 118, 191, 45, 89, 180, 0, 241, 4, 21, 4, 120, 128]
abbrev dktX2_person_4 : List UInt8 := dkwX2_person_4 ++ dktX2_person_5
def dkwX2_person_3 : List UInt8 := [153, 0, 61, 42, 42, 180, 0, 132, 180, 0, 196, 182, 0, 236, 54, 4, 45, 180, 0, 241, 133, 21, 4]
abbrev dktX2_person_3 : List UInt8 := dkwX2_person_3 ++ dktX2_person_4
def dkwX2_person_2 : List UInt8 := [183, 0, 240, 78, 42, 89, 180, 0, 97, 4, 96, 181, 0, 97, 42, 18, 23, 182, 0, 224, 42, 182, 0, 184]
abbrev dktX2_person_2 : List UInt8 := dkwX2_person_2 ++ dktX2_person_3
def dkwX2_person_1 : List UInt8 := [64, 42, 18, 21, 182, 0, 224, 187, 0, 234, 89, 42, 42, 180, 0, 132, 180, 0, 221, 182, 0, 236]
abbrev dktX2_person_1 : List UInt8 := dkwX2_person_1 ++ dktX2_person_2
def dkwX2_person_0 : List UInt8 := [42, 42, 180, 0, 132, 180, 0, 231, 182, 0, 162, 16, 6, 160, 0, 7, 4, 167, 0, 4, 3, 182, 0, 200]
abbrev dktX2_person_0 : List UInt8 := dkwX2_person_0 ++ dktX2_person_1
theorem dksX2_person_0 : cX2_person.data.toList.drop 0 = dktX2_person_0 := by decide +kernel
theorem dksX2_person_1 : cX2_person.data.toList.drop 24 = dktX2_person_1 := dk_seg dksX2_person_0 24 rfl rfl
theorem dksX2_person_2 : cX2_person.data.toList.drop 46 = dktX2_person_2 := dk_seg dksX2_person_1 22 rfl rfl
theorem dksX2_person_3 : cX2_person.data.toList.drop 70 = dktX2_person_3 := dk_seg dksX2_person_2 24 rfl rfl
theorem dksX2_person_4 : cX2_person.data.toList.drop 93 = dktX2_person_4 := dk_seg dksX2_person_3 23 rfl rfl
theorem dksX2_person_5 : cX2_person.data.toList.drop 115 = dktX2_person_5 := dk_seg dksX2_person_4 22 rfl rfl
theorem dksX2_person_6 : cX2_person.data.toList.drop 139 = dktX2_person_6 := dk_seg dksX2_person_5 24 rfl rfl
theorem dX2_person_0 : decode cX2_person 0 = .ok (.aload_n 0, 1) := dk_42 (dk_at dksX2_person_0 0 rfl rfl)
theorem dX2_person_1 : decode cX2_person 1 = .ok (.aload_n 0, 1) := dk_42 (dk_at dksX2_person_0 1 rfl rfl)
theorem dX2_person_2 : decode cX2_person 2 = .ok (.getfield 132, 3) := dk_180 0 132 (dk_at dksX2_person_0 2 rfl rfl)
theorem dX2_person_5 : decode cX2_person 5 = .ok (.getfield 231, 3) := dk_180 0 231 (dk_at dksX2_person_0 5 rfl rfl)
theorem dX2_person_8 : decode cX2_person 8 = .ok (.invokevirtual 162, 3) := dk_182 0 162 (dk_at dksX2_person_0 8 rfl rfl)
theorem dX2_person_11 : decode cX2_person 11 = .ok (.bipush 6, 2) := dk_16 6 (dk_at dksX2_person_0 11 rfl rfl)
theorem dX2_person_13 : decode cX2_person 13 = .ok (.if_icmp .ne 7, 3) := dk_160 0 7 (dk_at dksX2_person_0 13 rfl rfl)
theorem dX2_person_16 : decode cX2_person 16 = .ok (.iconst 1, 1) := dk_4 (dk_at dksX2_person_0 16 rfl rfl)
theorem dX2_person_17 : decode cX2_person 17 = .ok (.goto 4, 3) := dk_167 0 4 (dk_at dksX2_person_0 17 rfl rfl)
theorem dX2_person_20 : decode cX2_person 20 = .ok (.iconst 0, 1) := dk_3 (dk_at dksX2_person_0 20 rfl rfl)
theorem dX2_person_21 : decode cX2_person 21 = .ok (.invokevirtual 200, 3) := dk_182 0 200 (dk_at dksX2_person_0 21 rfl rfl)
theorem dX2_person_24 : decode cX2_person 24 = .ok (.lstore_n 1, 1) := dk_64 (dk_at dksX2_person_1 0 rfl rfl)
theorem dX2_person_25 : decode cX2_person 25 = .ok (.aload_n 0, 1) := dk_42 (dk_at dksX2_person_1 1 rfl rfl)
theorem dX2_person_26 : decode cX2_person 26 = .ok (.ldc 21, 2) := dk_18 21 (dk_at dksX2_person_1 2 rfl rfl)
theorem dX2_person_28 : decode cX2_person 28 = .ok (.invokevirtual 224, 3) := dk_182 0 224 (dk_at dksX2_person_1 4 rfl rfl)
theorem dX2_person_31 : decode cX2_person 31 = .ok (.new 234, 3) := dk_187 0 234 (dk_at dksX2_person_1 7 rfl rfl)
theorem dX2_person_34 : decode cX2_person 34 = .ok (.dup, 1) := dk_89 (dk_at dksX2_person_1 10 rfl rfl)
theorem dX2_person_35 : decode cX2_person 35 = .ok (.aload_n 0, 1) := dk_42 (dk_at dksX2_person_1 11 rfl rfl)
theorem dX2_person_36 : decode cX2_person 36 = .ok (.aload_n 0, 1) := dk_42 (dk_at dksX2_person_1 12 rfl rfl)
theorem dX2_person_37 : decode cX2_person 37 = .ok (.getfield 132, 3) := dk_180 0 132 (dk_at dksX2_person_1 13 rfl rfl)
theorem dX2_person_40 : decode cX2_person 40 = .ok (.getfield 221, 3) := dk_180 0 221 (dk_at dksX2_person_1 16 rfl rfl)
theorem dX2_person_43 : decode cX2_person 43 = .ok (.invokevirtual 236, 3) := dk_182 0 236 (dk_at dksX2_person_1 19 rfl rfl)
theorem dX2_person_46 : decode cX2_person 46 = .ok (.invokespecial 240, 3) := dk_183 0 240 (dk_at dksX2_person_2 0 rfl rfl)
theorem dX2_person_49 : decode cX2_person 49 = .ok (.astore_n 3, 1) := dk_78 (dk_at dksX2_person_2 3 rfl rfl)
theorem dX2_person_50 : decode cX2_person 50 = .ok (.aload_n 0, 1) := dk_42 (dk_at dksX2_person_2 4 rfl rfl)
theorem dX2_person_51 : decode cX2_person 51 = .ok (.dup, 1) := dk_89 (dk_at dksX2_person_2 5 rfl rfl)
theorem dX2_person_52 : decode cX2_person 52 = .ok (.getfield 97, 3) := dk_180 0 97 (dk_at dksX2_person_2 6 rfl rfl)
theorem dX2_person_55 : decode cX2_person 55 = .ok (.iconst 1, 1) := dk_4 (dk_at dksX2_person_2 9 rfl rfl)
theorem dX2_person_56 : decode cX2_person 56 = .ok (.iadd, 1) := dk_96 (dk_at dksX2_person_2 10 rfl rfl)
theorem dX2_person_57 : decode cX2_person 57 = .ok (.putfield 97, 3) := dk_181 0 97 (dk_at dksX2_person_2 11 rfl rfl)
theorem dX2_person_60 : decode cX2_person 60 = .ok (.aload_n 0, 1) := dk_42 (dk_at dksX2_person_2 14 rfl rfl)
theorem dX2_person_61 : decode cX2_person 61 = .ok (.ldc 23, 2) := dk_18 23 (dk_at dksX2_person_2 15 rfl rfl)
theorem dX2_person_63 : decode cX2_person 63 = .ok (.invokevirtual 224, 3) := dk_182 0 224 (dk_at dksX2_person_2 17 rfl rfl)
theorem dX2_person_66 : decode cX2_person 66 = .ok (.aload_n 0, 1) := dk_42 (dk_at dksX2_person_2 20 rfl rfl)
theorem dX2_person_67 : decode cX2_person 67 = .ok (.invokevirtual 184, 3) := dk_182 0 184 (dk_at dksX2_person_2 21 rfl rfl)
theorem dX2_person_70 : decode cX2_person 70 = .ok (.ifCond .eq 61, 3) := dk_153 0 61 (dk_at dksX2_person_3 0 rfl rfl)
theorem dX2_person_73 : decode cX2_person 73 = .ok (.aload_n 0, 1) := dk_42 (dk_at dksX2_person_3 3 rfl rfl)
theorem dX2_person_74 : decode cX2_person 74 = .ok (.aload_n 0, 1) := dk_42 (dk_at dksX2_person_3 4 rfl rfl)
theorem dX2_person_75 : decode cX2_person 75 = .ok (.getfield 132, 3) := dk_180 0 132 (dk_at dksX2_person_3 5 rfl rfl)
theorem dX2_person_78 : decode cX2_person 78 = .ok (.getfield 196, 3) := dk_180 0 196 (dk_at dksX2_person_3 8 rfl rfl)
theorem dX2_person_81 : decode cX2_person 81 = .ok (.invokevirtual 236, 3) := dk_182 0 236 (dk_at dksX2_person_3 11 rfl rfl)
theorem dX2_person_84 : decode cX2_person 84 = .ok (.istore 4, 2) := dk_54 4 (dk_at dksX2_person_3 14 rfl rfl)
theorem dX2_person_86 : decode cX2_person 86 = .ok (.aload_n 3, 1) := dk_45 (dk_at dksX2_person_3 16 rfl rfl)
theorem dX2_person_87 : decode cX2_person 87 = .ok (.getfield 241, 3) := dk_180 0 241 (dk_at dksX2_person_3 17 rfl rfl)
theorem dX2_person_90 : decode cX2_person 90 = .ok (.i2l, 1) := dk_133 (dk_at dksX2_person_3 20 rfl rfl)
theorem dX2_person_91 : decode cX2_person 91 = .ok (.iload 4, 2) := dk_21 4 (dk_at dksX2_person_3 21 rfl rfl)
theorem dX2_person_93 : decode cX2_person 93 = .ok (.invokestatic 243, 3) := dk_184 0 243 (dk_at dksX2_person_4 0 rfl rfl)
theorem dX2_person_96 : decode cX2_person 96 = .ok (.ifCond .eq 9, 3) := dk_153 0 9 (dk_at dksX2_person_4 3 rfl rfl)
theorem dX2_person_99 : decode cX2_person 99 = .ok (.aload_n 0, 1) := dk_42 (dk_at dksX2_person_4 6 rfl rfl)
theorem dX2_person_100 : decode cX2_person 100 = .ok (.iconst 3, 1) := dk_6 (dk_at dksX2_person_4 7 rfl rfl)
theorem dX2_person_101 : decode cX2_person 101 = .ok (.invokevirtual 118, 3) := dk_182 0 118 (dk_at dksX2_person_4 8 rfl rfl)
theorem dX2_person_104 : decode cX2_person 104 = .ok (.athrow, 1) := dk_191 (dk_at dksX2_person_4 11 rfl rfl)
theorem dX2_person_105 : decode cX2_person 105 = .ok (.aload_n 3, 1) := dk_45 (dk_at dksX2_person_4 12 rfl rfl)
theorem dX2_person_106 : decode cX2_person 106 = .ok (.dup, 1) := dk_89 (dk_at dksX2_person_4 13 rfl rfl)
theorem dX2_person_107 : decode cX2_person 107 = .ok (.getfield 241, 3) := dk_180 0 241 (dk_at dksX2_person_4 14 rfl rfl)
theorem dX2_person_110 : decode cX2_person 110 = .ok (.iconst 1, 1) := dk_4 (dk_at dksX2_person_4 17 rfl rfl)
theorem dX2_person_111 : decode cX2_person 111 = .ok (.iload 4, 2) := dk_21 4 (dk_at dksX2_person_4 18 rfl rfl)
theorem dX2_person_113 : decode cX2_person 113 = .ok (.ishl, 1) := dk_120 (dk_at dksX2_person_4 20 rfl rfl)
theorem dX2_person_114 : decode cX2_person 114 = .ok (.ior, 1) := dk_128 (dk_at dksX2_person_4 21 rfl rfl)
theorem dX2_person_115 : decode cX2_person 115 = .ok (.putfield 241, 3) := dk_181 0 241 (dk_at dksX2_person_5 0 rfl rfl)
theorem dX2_person_118 : decode cX2_person 118 = .ok (.aload_n 0, 1) := dk_42 (dk_at dksX2_person_5 3 rfl rfl)
theorem dX2_person_119 : decode cX2_person 119 = .ok (.dup, 1) := dk_89 (dk_at dksX2_person_5 4 rfl rfl)
theorem dX2_person_120 : decode cX2_person 120 = .ok (.getfield 97, 3) := dk_180 0 97 (dk_at dksX2_person_5 5 rfl rfl)
theorem dX2_person_123 : decode cX2_person 123 = .ok (.iconst 1, 1) := dk_4 (dk_at dksX2_person_5 8 rfl rfl)
theorem dX2_person_124 : decode cX2_person 124 = .ok (.iadd, 1) := dk_96 (dk_at dksX2_person_5 9 rfl rfl)
theorem dX2_person_125 : decode cX2_person 125 = .ok (.putfield 97, 3) := dk_181 0 97 (dk_at dksX2_person_5 10 rfl rfl)
theorem dX2_person_128 : decode cX2_person 128 = .ok (.goto (-62), 3) := dk_167 255 194 (dk_at dksX2_person_5 13 rfl rfl)
theorem dX2_person_131 : decode cX2_person 131 = .ok (.aload_n 0, 1) := dk_42 (dk_at dksX2_person_5 16 rfl rfl)
theorem dX2_person_132 : decode cX2_person 132 = .ok (.getfield 132, 3) := dk_180 0 132 (dk_at dksX2_person_5 17 rfl rfl)
theorem dX2_person_135 : decode cX2_person 135 = .ok (.getfield 247, 3) := dk_180 0 247 (dk_at dksX2_person_5 20 rfl rfl)
theorem dX2_person_138 : decode cX2_person 138 = .ok (.lload_n 1, 1) := dk_31 (dk_at dksX2_person_5 23 rfl rfl)
theorem dX2_person_139 : decode cX2_person 139 = .ok (.invokestatic 211, 3) := dk_184 0 211 (dk_at dksX2_person_6 0 rfl rfl)
theorem dX2_person_142 : decode cX2_person 142 = .ok (.invokevirtual 217, 3) := dk_182 0 217 (dk_at dksX2_person_6 3 rfl rfl)
theorem dX2_person_145 : decode cX2_person 145 = .ok (.pop, 1) := dk_87 (dk_at dksX2_person_6 6 rfl rfl)
theorem dX2_person_146 : decode cX2_person 146 = .ok (.aload_n 0, 1) := dk_42 (dk_at dksX2_person_6 7 rfl rfl)
theorem dX2_person_147 : decode cX2_person 147 = .ok (.getfield 132, 3) := dk_180 0 132 (dk_at dksX2_person_6 8 rfl rfl)
theorem dX2_person_150 : decode cX2_person 150 = .ok (.getfield 231, 3) := dk_180 0 231 (dk_at dksX2_person_6 11 rfl rfl)
theorem dX2_person_153 : decode cX2_person 153 = .ok (.aload_n 3, 1) := dk_45 (dk_at dksX2_person_6 14 rfl rfl)
theorem dX2_person_154 : decode cX2_person 154 = .ok (.invokevirtual 217, 3) := dk_182 0 217 (dk_at dksX2_person_6 15 rfl rfl)
theorem dX2_person_157 : decode cX2_person 157 = .ok (.pop, 1) := dk_87 (dk_at dksX2_person_6 18 rfl rfl)
theorem dX2_person_158 : decode cX2_person 158 = .ok (.return_, 1) := dk_177 (dk_at dksX2_person_6 19 rfl rfl)
abbrev cX2_named : ByteArray := prog_21_method_18_code
def yX2_named : MethodName := ⟨RX2, "named", "(Ljava/util/ArrayList;)I"⟩
def dkwX2_named_1 : List UInt8 := [184, 0, 192, 61, 28, 2, 160, 0, 9, 42, 5, 182, 0, 118, 191, 28, 172]
abbrev dktX2_named_1 : List UInt8 := dkwX2_named_1 ++ []
def dkwX2_named_0 : List UInt8 := [42, 182, 0, 184, 154, 0, 9, 42, 4, 182, 0, 118, 191, 43, 42, 180, 0, 52, 42, 180, 0, 97, 47]
abbrev dktX2_named_0 : List UInt8 := dkwX2_named_0 ++ dktX2_named_1
theorem dksX2_named_0 : cX2_named.data.toList.drop 0 = dktX2_named_0 := by decide +kernel
theorem dksX2_named_1 : cX2_named.data.toList.drop 23 = dktX2_named_1 := dk_seg dksX2_named_0 23 rfl rfl
theorem dX2_named_0 : decode cX2_named 0 = .ok (.aload_n 0, 1) := dk_42 (dk_at dksX2_named_0 0 rfl rfl)
theorem dX2_named_1 : decode cX2_named 1 = .ok (.invokevirtual 184, 3) := dk_182 0 184 (dk_at dksX2_named_0 1 rfl rfl)
theorem dX2_named_4 : decode cX2_named 4 = .ok (.ifCond .ne 9, 3) := dk_154 0 9 (dk_at dksX2_named_0 4 rfl rfl)
theorem dX2_named_7 : decode cX2_named 7 = .ok (.aload_n 0, 1) := dk_42 (dk_at dksX2_named_0 7 rfl rfl)
theorem dX2_named_8 : decode cX2_named 8 = .ok (.iconst 1, 1) := dk_4 (dk_at dksX2_named_0 8 rfl rfl)
theorem dX2_named_9 : decode cX2_named 9 = .ok (.invokevirtual 118, 3) := dk_182 0 118 (dk_at dksX2_named_0 9 rfl rfl)
theorem dX2_named_12 : decode cX2_named 12 = .ok (.athrow, 1) := dk_191 (dk_at dksX2_named_0 12 rfl rfl)
theorem dX2_named_13 : decode cX2_named 13 = .ok (.aload_n 1, 1) := dk_43 (dk_at dksX2_named_0 13 rfl rfl)
theorem dX2_named_14 : decode cX2_named 14 = .ok (.aload_n 0, 1) := dk_42 (dk_at dksX2_named_0 14 rfl rfl)
theorem dX2_named_15 : decode cX2_named 15 = .ok (.getfield 52, 3) := dk_180 0 52 (dk_at dksX2_named_0 15 rfl rfl)
theorem dX2_named_18 : decode cX2_named 18 = .ok (.aload_n 0, 1) := dk_42 (dk_at dksX2_named_0 18 rfl rfl)
theorem dX2_named_19 : decode cX2_named 19 = .ok (.getfield 97, 3) := dk_180 0 97 (dk_at dksX2_named_0 19 rfl rfl)
theorem dX2_named_22 : decode cX2_named 22 = .ok (.laload, 1) := dk_47 (dk_at dksX2_named_0 22 rfl rfl)
theorem dX2_named_23 : decode cX2_named 23 = .ok (.invokestatic 192, 3) := dk_184 0 192 (dk_at dksX2_named_1 0 rfl rfl)
theorem dX2_named_26 : decode cX2_named 26 = .ok (.istore_n 2, 1) := dk_61 (dk_at dksX2_named_1 3 rfl rfl)
theorem dX2_named_27 : decode cX2_named 27 = .ok (.iload_n 2, 1) := dk_28 (dk_at dksX2_named_1 4 rfl rfl)
theorem dX2_named_28 : decode cX2_named 28 = .ok (.iconst (-1), 1) := dk_2 (dk_at dksX2_named_1 5 rfl rfl)
theorem dX2_named_29 : decode cX2_named 29 = .ok (.if_icmp .ne 9, 3) := dk_160 0 9 (dk_at dksX2_named_1 6 rfl rfl)
theorem dX2_named_32 : decode cX2_named 32 = .ok (.aload_n 0, 1) := dk_42 (dk_at dksX2_named_1 9 rfl rfl)
theorem dX2_named_33 : decode cX2_named 33 = .ok (.iconst 2, 1) := dk_5 (dk_at dksX2_named_1 10 rfl rfl)
theorem dX2_named_34 : decode cX2_named 34 = .ok (.invokevirtual 118, 3) := dk_182 0 118 (dk_at dksX2_named_1 11 rfl rfl)
theorem dX2_named_37 : decode cX2_named 37 = .ok (.athrow, 1) := dk_191 (dk_at dksX2_named_1 14 rfl rfl)
theorem dX2_named_38 : decode cX2_named 38 = .ok (.iload_n 2, 1) := dk_28 (dk_at dksX2_named_1 15 rfl rfl)
theorem dX2_named_39 : decode cX2_named 39 = .ok (.ireturn, 1) := dk_172 (dk_at dksX2_named_1 16 rfl rfl)
abbrev cX2_common : ByteArray := prog_21_method_22_code
def yX2_common : MethodName := ⟨RX2, "common", "(Ljava/util/ArrayList;)V"⟩
def dkwX2_common_1 : List UInt8 := [43, 42, 182, 0, 250, 182, 0, 217, 87, 177]
abbrev dktX2_common_1 : List UInt8 := dkwX2_common_1 ++ []
def dkwX2_common_0 : List UInt8 := [43, 182, 0, 162, 7, 160, 0, 9, 42, 8, 182, 0, 118, 191, 42, 89, 180, 0, 97, 4, 96, 181, 0, 97]
abbrev dktX2_common_0 : List UInt8 := dkwX2_common_0 ++ dktX2_common_1
theorem dksX2_common_0 : cX2_common.data.toList.drop 0 = dktX2_common_0 := by decide +kernel
theorem dksX2_common_1 : cX2_common.data.toList.drop 24 = dktX2_common_1 := dk_seg dksX2_common_0 24 rfl rfl
theorem dX2_common_0 : decode cX2_common 0 = .ok (.aload_n 1, 1) := dk_43 (dk_at dksX2_common_0 0 rfl rfl)
theorem dX2_common_1 : decode cX2_common 1 = .ok (.invokevirtual 162, 3) := dk_182 0 162 (dk_at dksX2_common_0 1 rfl rfl)
theorem dX2_common_4 : decode cX2_common 4 = .ok (.iconst 4, 1) := dk_7 (dk_at dksX2_common_0 4 rfl rfl)
theorem dX2_common_5 : decode cX2_common 5 = .ok (.if_icmp .ne 9, 3) := dk_160 0 9 (dk_at dksX2_common_0 5 rfl rfl)
theorem dX2_common_8 : decode cX2_common 8 = .ok (.aload_n 0, 1) := dk_42 (dk_at dksX2_common_0 8 rfl rfl)
theorem dX2_common_9 : decode cX2_common 9 = .ok (.iconst 5, 1) := dk_8 (dk_at dksX2_common_0 9 rfl rfl)
theorem dX2_common_10 : decode cX2_common 10 = .ok (.invokevirtual 118, 3) := dk_182 0 118 (dk_at dksX2_common_0 10 rfl rfl)
theorem dX2_common_13 : decode cX2_common 13 = .ok (.athrow, 1) := dk_191 (dk_at dksX2_common_0 13 rfl rfl)
theorem dX2_common_14 : decode cX2_common 14 = .ok (.aload_n 0, 1) := dk_42 (dk_at dksX2_common_0 14 rfl rfl)
theorem dX2_common_15 : decode cX2_common 15 = .ok (.dup, 1) := dk_89 (dk_at dksX2_common_0 15 rfl rfl)
theorem dX2_common_16 : decode cX2_common 16 = .ok (.getfield 97, 3) := dk_180 0 97 (dk_at dksX2_common_0 16 rfl rfl)
theorem dX2_common_19 : decode cX2_common 19 = .ok (.iconst 1, 1) := dk_4 (dk_at dksX2_common_0 19 rfl rfl)
theorem dX2_common_20 : decode cX2_common 20 = .ok (.iadd, 1) := dk_96 (dk_at dksX2_common_0 20 rfl rfl)
theorem dX2_common_21 : decode cX2_common 21 = .ok (.putfield 97, 3) := dk_181 0 97 (dk_at dksX2_common_0 21 rfl rfl)
theorem dX2_common_24 : decode cX2_common 24 = .ok (.aload_n 1, 1) := dk_43 (dk_at dksX2_common_1 0 rfl rfl)
theorem dX2_common_25 : decode cX2_common 25 = .ok (.aload_n 0, 1) := dk_42 (dk_at dksX2_common_1 1 rfl rfl)
theorem dX2_common_26 : decode cX2_common 26 = .ok (.invokevirtual 250, 3) := dk_182 0 250 (dk_at dksX2_common_1 2 rfl rfl)
theorem dX2_common_29 : decode cX2_common 29 = .ok (.invokevirtual 217, 3) := dk_182 0 217 (dk_at dksX2_common_1 5 rfl rfl)
theorem dX2_common_32 : decode cX2_common 32 = .ok (.pop, 1) := dk_87 (dk_at dksX2_common_1 8 rfl rfl)
theorem dX2_common_33 : decode cX2_common 33 = .ok (.return_, 1) := dk_177 (dk_at dksX2_common_1 9 rfl rfl)
abbrev cX2_whole : ByteArray := prog_21_method_26_code
def yX2_whole : MethodName := ⟨RX2, "whole", "()LLiarsCock$Expression;"⟩
def dkwX2_whole_0 : List UInt8 := [42, 3, 181, 1, 3, 42, 182, 1, 6, 176]
abbrev dktX2_whole_0 : List UInt8 := dkwX2_whole_0 ++ []
theorem dksX2_whole_0 : cX2_whole.data.toList.drop 0 = dktX2_whole_0 := by decide +kernel
theorem dX2_whole_0 : decode cX2_whole 0 = .ok (.aload_n 0, 1) := dk_42 (dk_at dksX2_whole_0 0 rfl rfl)
theorem dX2_whole_1 : decode cX2_whole 1 = .ok (.iconst 0, 1) := dk_3 (dk_at dksX2_whole_0 1 rfl rfl)
theorem dX2_whole_2 : decode cX2_whole 2 = .ok (.putfield 259, 3) := dk_181 1 3 (dk_at dksX2_whole_0 2 rfl rfl)
theorem dX2_whole_5 : decode cX2_whole 5 = .ok (.aload_n 0, 1) := dk_42 (dk_at dksX2_whole_0 5 rfl rfl)
theorem dX2_whole_6 : decode cX2_whole 6 = .ok (.invokevirtual 262, 3) := dk_182 1 6 (dk_at dksX2_whole_0 6 rfl rfl)
theorem dX2_whole_9 : decode cX2_whole 9 = .ok (.areturn, 1) := dk_176 (dk_at dksX2_whole_0 9 rfl rfl)
abbrev cX2_all : ByteArray := prog_21_method_28_code
def yX2_all : MethodName := ⟨RX2, "all", "()LLiarsCock$Expression;"⟩
def dkwX2_all_4 : List UInt8 := [199, 0, 7, 43, 167, 0, 4, 44, 176]
abbrev dktX2_all_4 : List UInt8 := dkwX2_all_4 ++ []
def dkwX2_all_3 : List UInt8 := [183, 1, 26, 167, 0, 12, 187, 1, 27, 89, 25, 4, 183, 1, 29, 182, 0, 217, 87, 167, 255, 176, 44]
abbrev dktX2_all_3 : List UInt8 := dkwX2_all_3 ++ dktX2_all_4
def dkwX2_all_2 : List UInt8 := [58, 4, 43, 44, 184, 1, 17, 77, 44, 180, 1, 21, 29, 153, 0, 15, 187, 1, 24, 89, 25, 4]
abbrev dktX2_all_2 : List UInt8 := dkwX2_all_2 ++ dktX2_all_3
def dkwX2_all_1 : List UInt8 := [153, 0, 68, 42, 18, 35, 182, 0, 108, 62, 42, 89, 180, 0, 97, 4, 96, 181, 0, 97, 42, 182, 1, 14]
abbrev dktX2_all_1 : List UInt8 := dkwX2_all_1 ++ dktX2_all_2
def dkwX2_all_0 : List UInt8 := [42, 182, 1, 14, 76, 1, 77, 42, 18, 35, 182, 0, 108, 154, 0, 12, 42, 18, 37, 182, 0, 108]
abbrev dktX2_all_0 : List UInt8 := dkwX2_all_0 ++ dktX2_all_1
theorem dksX2_all_0 : cX2_all.data.toList.drop 0 = dktX2_all_0 := by decide +kernel
theorem dksX2_all_1 : cX2_all.data.toList.drop 22 = dktX2_all_1 := dk_seg dksX2_all_0 22 rfl rfl
theorem dksX2_all_2 : cX2_all.data.toList.drop 46 = dktX2_all_2 := dk_seg dksX2_all_1 24 rfl rfl
theorem dksX2_all_3 : cX2_all.data.toList.drop 68 = dktX2_all_3 := dk_seg dksX2_all_2 22 rfl rfl
theorem dksX2_all_4 : cX2_all.data.toList.drop 91 = dktX2_all_4 := dk_seg dksX2_all_3 23 rfl rfl
theorem dX2_all_0 : decode cX2_all 0 = .ok (.aload_n 0, 1) := dk_42 (dk_at dksX2_all_0 0 rfl rfl)
theorem dX2_all_1 : decode cX2_all 1 = .ok (.invokevirtual 270, 3) := dk_182 1 14 (dk_at dksX2_all_0 1 rfl rfl)
theorem dX2_all_4 : decode cX2_all 4 = .ok (.astore_n 1, 1) := dk_76 (dk_at dksX2_all_0 4 rfl rfl)
theorem dX2_all_5 : decode cX2_all 5 = .ok (.aconst_null, 1) := dk_1 (dk_at dksX2_all_0 5 rfl rfl)
theorem dX2_all_6 : decode cX2_all 6 = .ok (.astore_n 2, 1) := dk_77 (dk_at dksX2_all_0 6 rfl rfl)
theorem dX2_all_7 : decode cX2_all 7 = .ok (.aload_n 0, 1) := dk_42 (dk_at dksX2_all_0 7 rfl rfl)
theorem dX2_all_8 : decode cX2_all 8 = .ok (.ldc 35, 2) := dk_18 35 (dk_at dksX2_all_0 8 rfl rfl)
theorem dX2_all_10 : decode cX2_all 10 = .ok (.invokevirtual 108, 3) := dk_182 0 108 (dk_at dksX2_all_0 10 rfl rfl)
theorem dX2_all_13 : decode cX2_all 13 = .ok (.ifCond .ne 12, 3) := dk_154 0 12 (dk_at dksX2_all_0 13 rfl rfl)
theorem dX2_all_16 : decode cX2_all 16 = .ok (.aload_n 0, 1) := dk_42 (dk_at dksX2_all_0 16 rfl rfl)
theorem dX2_all_17 : decode cX2_all 17 = .ok (.ldc 37, 2) := dk_18 37 (dk_at dksX2_all_0 17 rfl rfl)
theorem dX2_all_19 : decode cX2_all 19 = .ok (.invokevirtual 108, 3) := dk_182 0 108 (dk_at dksX2_all_0 19 rfl rfl)
theorem dX2_all_22 : decode cX2_all 22 = .ok (.ifCond .eq 68, 3) := dk_153 0 68 (dk_at dksX2_all_1 0 rfl rfl)
theorem dX2_all_25 : decode cX2_all 25 = .ok (.aload_n 0, 1) := dk_42 (dk_at dksX2_all_1 3 rfl rfl)
theorem dX2_all_26 : decode cX2_all 26 = .ok (.ldc 35, 2) := dk_18 35 (dk_at dksX2_all_1 4 rfl rfl)
theorem dX2_all_28 : decode cX2_all 28 = .ok (.invokevirtual 108, 3) := dk_182 0 108 (dk_at dksX2_all_1 6 rfl rfl)
theorem dX2_all_31 : decode cX2_all 31 = .ok (.istore_n 3, 1) := dk_62 (dk_at dksX2_all_1 9 rfl rfl)
theorem dX2_all_32 : decode cX2_all 32 = .ok (.aload_n 0, 1) := dk_42 (dk_at dksX2_all_1 10 rfl rfl)
theorem dX2_all_33 : decode cX2_all 33 = .ok (.dup, 1) := dk_89 (dk_at dksX2_all_1 11 rfl rfl)
theorem dX2_all_34 : decode cX2_all 34 = .ok (.getfield 97, 3) := dk_180 0 97 (dk_at dksX2_all_1 12 rfl rfl)
theorem dX2_all_37 : decode cX2_all 37 = .ok (.iconst 1, 1) := dk_4 (dk_at dksX2_all_1 15 rfl rfl)
theorem dX2_all_38 : decode cX2_all 38 = .ok (.iadd, 1) := dk_96 (dk_at dksX2_all_1 16 rfl rfl)
theorem dX2_all_39 : decode cX2_all 39 = .ok (.putfield 97, 3) := dk_181 0 97 (dk_at dksX2_all_1 17 rfl rfl)
theorem dX2_all_42 : decode cX2_all 42 = .ok (.aload_n 0, 1) := dk_42 (dk_at dksX2_all_1 20 rfl rfl)
theorem dX2_all_43 : decode cX2_all 43 = .ok (.invokevirtual 270, 3) := dk_182 1 14 (dk_at dksX2_all_1 21 rfl rfl)
theorem dX2_all_46 : decode cX2_all 46 = .ok (.astore 4, 2) := dk_58 4 (dk_at dksX2_all_2 0 rfl rfl)
theorem dX2_all_48 : decode cX2_all 48 = .ok (.aload_n 1, 1) := dk_43 (dk_at dksX2_all_2 2 rfl rfl)
theorem dX2_all_49 : decode cX2_all 49 = .ok (.aload_n 2, 1) := dk_44 (dk_at dksX2_all_2 3 rfl rfl)
theorem dX2_all_50 : decode cX2_all 50 = .ok (.invokestatic 273, 3) := dk_184 1 17 (dk_at dksX2_all_2 4 rfl rfl)
theorem dX2_all_53 : decode cX2_all 53 = .ok (.astore_n 2, 1) := dk_77 (dk_at dksX2_all_2 7 rfl rfl)
theorem dX2_all_54 : decode cX2_all 54 = .ok (.aload_n 2, 1) := dk_44 (dk_at dksX2_all_2 8 rfl rfl)
theorem dX2_all_55 : decode cX2_all 55 = .ok (.getfield 277, 3) := dk_180 1 21 (dk_at dksX2_all_2 9 rfl rfl)
theorem dX2_all_58 : decode cX2_all 58 = .ok (.iload_n 3, 1) := dk_29 (dk_at dksX2_all_2 12 rfl rfl)
theorem dX2_all_59 : decode cX2_all 59 = .ok (.ifCond .eq 15, 3) := dk_153 0 15 (dk_at dksX2_all_2 13 rfl rfl)
theorem dX2_all_62 : decode cX2_all 62 = .ok (.new 280, 3) := dk_187 1 24 (dk_at dksX2_all_2 16 rfl rfl)
theorem dX2_all_65 : decode cX2_all 65 = .ok (.dup, 1) := dk_89 (dk_at dksX2_all_2 19 rfl rfl)
theorem dX2_all_66 : decode cX2_all 66 = .ok (.aload 4, 2) := dk_25 4 (dk_at dksX2_all_2 20 rfl rfl)
theorem dX2_all_68 : decode cX2_all 68 = .ok (.invokespecial 282, 3) := dk_183 1 26 (dk_at dksX2_all_3 0 rfl rfl)
theorem dX2_all_71 : decode cX2_all 71 = .ok (.goto 12, 3) := dk_167 0 12 (dk_at dksX2_all_3 3 rfl rfl)
theorem dX2_all_74 : decode cX2_all 74 = .ok (.new 283, 3) := dk_187 1 27 (dk_at dksX2_all_3 6 rfl rfl)
theorem dX2_all_77 : decode cX2_all 77 = .ok (.dup, 1) := dk_89 (dk_at dksX2_all_3 9 rfl rfl)
theorem dX2_all_78 : decode cX2_all 78 = .ok (.aload 4, 2) := dk_25 4 (dk_at dksX2_all_3 10 rfl rfl)
theorem dX2_all_80 : decode cX2_all 80 = .ok (.invokespecial 285, 3) := dk_183 1 29 (dk_at dksX2_all_3 12 rfl rfl)
theorem dX2_all_83 : decode cX2_all 83 = .ok (.invokevirtual 217, 3) := dk_182 0 217 (dk_at dksX2_all_3 15 rfl rfl)
theorem dX2_all_86 : decode cX2_all 86 = .ok (.pop, 1) := dk_87 (dk_at dksX2_all_3 18 rfl rfl)
theorem dX2_all_87 : decode cX2_all 87 = .ok (.goto (-80), 3) := dk_167 255 176 (dk_at dksX2_all_3 19 rfl rfl)
theorem dX2_all_90 : decode cX2_all 90 = .ok (.aload_n 2, 1) := dk_44 (dk_at dksX2_all_3 22 rfl rfl)
theorem dX2_all_91 : decode cX2_all 91 = .ok (.ifnonnull 7, 3) := dk_199 0 7 (dk_at dksX2_all_4 0 rfl rfl)
theorem dX2_all_94 : decode cX2_all 94 = .ok (.aload_n 1, 1) := dk_43 (dk_at dksX2_all_4 3 rfl rfl)
theorem dX2_all_95 : decode cX2_all 95 = .ok (.goto 4, 3) := dk_167 0 4 (dk_at dksX2_all_4 4 rfl rfl)
theorem dX2_all_98 : decode cX2_all 98 = .ok (.aload_n 2, 1) := dk_44 (dk_at dksX2_all_4 7 rfl rfl)
theorem dX2_all_99 : decode cX2_all 99 = .ok (.areturn, 1) := dk_176 (dk_at dksX2_all_4 8 rfl rfl)
abbrev cX2_test : ByteArray := prog_21_method_29_code
def yX2_test : MethodName := ⟨RX2, "test", "()LLiarsCock$Expression;"⟩
def dkwX2_test_3 : List UInt8 := [183, 1, 35, 167, 0, 11, 187, 1, 36, 89, 45, 183, 1, 38, 182, 0, 217, 87, 25, 4, 176]
abbrev dktX2_test_3 : List UInt8 := dkwX2_test_3 ++ []
def dkwX2_test_2 : List UInt8 := [187, 1, 9, 89, 43, 183, 1, 11, 58, 4, 25, 4, 180, 1, 21, 28, 153, 0, 14, 187, 1, 33, 89, 45]
abbrev dktX2_test_2 : List UInt8 := dkwX2_test_2 ++ dktX2_test_3
def dkwX2_test_1 : List UInt8 := [176, 42, 16, 60, 182, 0, 112, 61, 42, 89, 180, 0, 97, 4, 96, 181, 0, 97, 42, 182, 1, 30, 78]
abbrev dktX2_test_1 : List UInt8 := dkwX2_test_1 ++ dktX2_test_2
def dkwX2_test_0 : List UInt8 := [42, 182, 1, 30, 76, 42, 16, 60, 182, 0, 112, 154, 0, 14, 42, 16, 61, 182, 0, 112, 154, 0, 5, 43]
abbrev dktX2_test_0 : List UInt8 := dkwX2_test_0 ++ dktX2_test_1
theorem dksX2_test_0 : cX2_test.data.toList.drop 0 = dktX2_test_0 := by decide +kernel
theorem dksX2_test_1 : cX2_test.data.toList.drop 24 = dktX2_test_1 := dk_seg dksX2_test_0 24 rfl rfl
theorem dksX2_test_2 : cX2_test.data.toList.drop 47 = dktX2_test_2 := dk_seg dksX2_test_1 23 rfl rfl
theorem dksX2_test_3 : cX2_test.data.toList.drop 71 = dktX2_test_3 := dk_seg dksX2_test_2 24 rfl rfl
theorem dX2_test_0 : decode cX2_test 0 = .ok (.aload_n 0, 1) := dk_42 (dk_at dksX2_test_0 0 rfl rfl)
theorem dX2_test_1 : decode cX2_test 1 = .ok (.invokevirtual 286, 3) := dk_182 1 30 (dk_at dksX2_test_0 1 rfl rfl)
theorem dX2_test_4 : decode cX2_test 4 = .ok (.astore_n 1, 1) := dk_76 (dk_at dksX2_test_0 4 rfl rfl)
theorem dX2_test_5 : decode cX2_test 5 = .ok (.aload_n 0, 1) := dk_42 (dk_at dksX2_test_0 5 rfl rfl)
theorem dX2_test_6 : decode cX2_test 6 = .ok (.bipush 60, 2) := dk_16 60 (dk_at dksX2_test_0 6 rfl rfl)
theorem dX2_test_8 : decode cX2_test 8 = .ok (.invokevirtual 112, 3) := dk_182 0 112 (dk_at dksX2_test_0 8 rfl rfl)
theorem dX2_test_11 : decode cX2_test 11 = .ok (.ifCond .ne 14, 3) := dk_154 0 14 (dk_at dksX2_test_0 11 rfl rfl)
theorem dX2_test_14 : decode cX2_test 14 = .ok (.aload_n 0, 1) := dk_42 (dk_at dksX2_test_0 14 rfl rfl)
theorem dX2_test_15 : decode cX2_test 15 = .ok (.bipush 61, 2) := dk_16 61 (dk_at dksX2_test_0 15 rfl rfl)
theorem dX2_test_17 : decode cX2_test 17 = .ok (.invokevirtual 112, 3) := dk_182 0 112 (dk_at dksX2_test_0 17 rfl rfl)
theorem dX2_test_20 : decode cX2_test 20 = .ok (.ifCond .ne 5, 3) := dk_154 0 5 (dk_at dksX2_test_0 20 rfl rfl)
theorem dX2_test_23 : decode cX2_test 23 = .ok (.aload_n 1, 1) := dk_43 (dk_at dksX2_test_0 23 rfl rfl)
theorem dX2_test_24 : decode cX2_test 24 = .ok (.areturn, 1) := dk_176 (dk_at dksX2_test_1 0 rfl rfl)
theorem dX2_test_25 : decode cX2_test 25 = .ok (.aload_n 0, 1) := dk_42 (dk_at dksX2_test_1 1 rfl rfl)
theorem dX2_test_26 : decode cX2_test 26 = .ok (.bipush 60, 2) := dk_16 60 (dk_at dksX2_test_1 2 rfl rfl)
theorem dX2_test_28 : decode cX2_test 28 = .ok (.invokevirtual 112, 3) := dk_182 0 112 (dk_at dksX2_test_1 4 rfl rfl)
theorem dX2_test_31 : decode cX2_test 31 = .ok (.istore_n 2, 1) := dk_61 (dk_at dksX2_test_1 7 rfl rfl)
theorem dX2_test_32 : decode cX2_test 32 = .ok (.aload_n 0, 1) := dk_42 (dk_at dksX2_test_1 8 rfl rfl)
theorem dX2_test_33 : decode cX2_test 33 = .ok (.dup, 1) := dk_89 (dk_at dksX2_test_1 9 rfl rfl)
theorem dX2_test_34 : decode cX2_test 34 = .ok (.getfield 97, 3) := dk_180 0 97 (dk_at dksX2_test_1 10 rfl rfl)
theorem dX2_test_37 : decode cX2_test 37 = .ok (.iconst 1, 1) := dk_4 (dk_at dksX2_test_1 13 rfl rfl)
theorem dX2_test_38 : decode cX2_test 38 = .ok (.iadd, 1) := dk_96 (dk_at dksX2_test_1 14 rfl rfl)
theorem dX2_test_39 : decode cX2_test 39 = .ok (.putfield 97, 3) := dk_181 0 97 (dk_at dksX2_test_1 15 rfl rfl)
theorem dX2_test_42 : decode cX2_test 42 = .ok (.aload_n 0, 1) := dk_42 (dk_at dksX2_test_1 18 rfl rfl)
theorem dX2_test_43 : decode cX2_test 43 = .ok (.invokevirtual 286, 3) := dk_182 1 30 (dk_at dksX2_test_1 19 rfl rfl)
theorem dX2_test_46 : decode cX2_test 46 = .ok (.astore_n 3, 1) := dk_78 (dk_at dksX2_test_1 22 rfl rfl)
theorem dX2_test_47 : decode cX2_test 47 = .ok (.new 265, 3) := dk_187 1 9 (dk_at dksX2_test_2 0 rfl rfl)
theorem dX2_test_50 : decode cX2_test 50 = .ok (.dup, 1) := dk_89 (dk_at dksX2_test_2 3 rfl rfl)
theorem dX2_test_51 : decode cX2_test 51 = .ok (.aload_n 1, 1) := dk_43 (dk_at dksX2_test_2 4 rfl rfl)
theorem dX2_test_52 : decode cX2_test 52 = .ok (.invokespecial 267, 3) := dk_183 1 11 (dk_at dksX2_test_2 5 rfl rfl)
theorem dX2_test_55 : decode cX2_test 55 = .ok (.astore 4, 2) := dk_58 4 (dk_at dksX2_test_2 8 rfl rfl)
theorem dX2_test_57 : decode cX2_test 57 = .ok (.aload 4, 2) := dk_25 4 (dk_at dksX2_test_2 10 rfl rfl)
theorem dX2_test_59 : decode cX2_test 59 = .ok (.getfield 277, 3) := dk_180 1 21 (dk_at dksX2_test_2 12 rfl rfl)
theorem dX2_test_62 : decode cX2_test 62 = .ok (.iload_n 2, 1) := dk_28 (dk_at dksX2_test_2 15 rfl rfl)
theorem dX2_test_63 : decode cX2_test 63 = .ok (.ifCond .eq 14, 3) := dk_153 0 14 (dk_at dksX2_test_2 16 rfl rfl)
theorem dX2_test_66 : decode cX2_test 66 = .ok (.new 289, 3) := dk_187 1 33 (dk_at dksX2_test_2 19 rfl rfl)
theorem dX2_test_69 : decode cX2_test 69 = .ok (.dup, 1) := dk_89 (dk_at dksX2_test_2 22 rfl rfl)
theorem dX2_test_70 : decode cX2_test 70 = .ok (.aload_n 3, 1) := dk_45 (dk_at dksX2_test_2 23 rfl rfl)
theorem dX2_test_71 : decode cX2_test 71 = .ok (.invokespecial 291, 3) := dk_183 1 35 (dk_at dksX2_test_3 0 rfl rfl)
theorem dX2_test_74 : decode cX2_test 74 = .ok (.goto 11, 3) := dk_167 0 11 (dk_at dksX2_test_3 3 rfl rfl)
theorem dX2_test_77 : decode cX2_test 77 = .ok (.new 292, 3) := dk_187 1 36 (dk_at dksX2_test_3 6 rfl rfl)
theorem dX2_test_80 : decode cX2_test 80 = .ok (.dup, 1) := dk_89 (dk_at dksX2_test_3 9 rfl rfl)
theorem dX2_test_81 : decode cX2_test 81 = .ok (.aload_n 3, 1) := dk_45 (dk_at dksX2_test_3 10 rfl rfl)
theorem dX2_test_82 : decode cX2_test 82 = .ok (.invokespecial 294, 3) := dk_183 1 38 (dk_at dksX2_test_3 11 rfl rfl)
theorem dX2_test_85 : decode cX2_test 85 = .ok (.invokevirtual 217, 3) := dk_182 0 217 (dk_at dksX2_test_3 14 rfl rfl)
theorem dX2_test_88 : decode cX2_test 88 = .ok (.pop, 1) := dk_87 (dk_at dksX2_test_3 17 rfl rfl)
theorem dX2_test_89 : decode cX2_test 89 = .ok (.aload 4, 2) := dk_25 4 (dk_at dksX2_test_3 18 rfl rfl)
theorem dX2_test_91 : decode cX2_test 91 = .ok (.areturn, 1) := dk_176 (dk_at dksX2_test_3 20 rfl rfl)
abbrev cX2_sum : ByteArray := prog_21_method_30_code
def yX2_sum : MethodName := ⟨RX2, "sum", "()LLiarsCock$Expression;"⟩
def dkwX2_sum_4 : List UInt8 := [199, 0, 7, 43, 167, 0, 4, 44, 176]
abbrev dktX2_sum_4 : List UInt8 := dkwX2_sum_4 ++ []
def dkwX2_sum_3 : List UInt8 := [183, 1, 44, 167, 0, 12, 187, 1, 45, 89, 25, 4, 183, 1, 47, 182, 0, 217, 87, 167, 255, 176, 44]
abbrev dktX2_sum_3 : List UInt8 := dkwX2_sum_3 ++ dktX2_sum_4
def dkwX2_sum_2 : List UInt8 := [58, 4, 43, 44, 184, 1, 17, 77, 44, 180, 1, 21, 29, 153, 0, 15, 187, 1, 42, 89, 25, 4]
abbrev dktX2_sum_2 : List UInt8 := dkwX2_sum_2 ++ dktX2_sum_3
def dkwX2_sum_1 : List UInt8 := [153, 0, 68, 42, 16, 43, 182, 0, 112, 62, 42, 89, 180, 0, 97, 4, 96, 181, 0, 97, 42, 182, 1, 39]
abbrev dktX2_sum_1 : List UInt8 := dkwX2_sum_1 ++ dktX2_sum_2
def dkwX2_sum_0 : List UInt8 := [42, 182, 1, 39, 76, 1, 77, 42, 16, 43, 182, 0, 112, 154, 0, 12, 42, 16, 45, 182, 0, 112]
abbrev dktX2_sum_0 : List UInt8 := dkwX2_sum_0 ++ dktX2_sum_1
theorem dksX2_sum_0 : cX2_sum.data.toList.drop 0 = dktX2_sum_0 := by decide +kernel
theorem dksX2_sum_1 : cX2_sum.data.toList.drop 22 = dktX2_sum_1 := dk_seg dksX2_sum_0 22 rfl rfl
theorem dksX2_sum_2 : cX2_sum.data.toList.drop 46 = dktX2_sum_2 := dk_seg dksX2_sum_1 24 rfl rfl
theorem dksX2_sum_3 : cX2_sum.data.toList.drop 68 = dktX2_sum_3 := dk_seg dksX2_sum_2 22 rfl rfl
theorem dksX2_sum_4 : cX2_sum.data.toList.drop 91 = dktX2_sum_4 := dk_seg dksX2_sum_3 23 rfl rfl
theorem dX2_sum_0 : decode cX2_sum 0 = .ok (.aload_n 0, 1) := dk_42 (dk_at dksX2_sum_0 0 rfl rfl)
theorem dX2_sum_1 : decode cX2_sum 1 = .ok (.invokevirtual 295, 3) := dk_182 1 39 (dk_at dksX2_sum_0 1 rfl rfl)
theorem dX2_sum_4 : decode cX2_sum 4 = .ok (.astore_n 1, 1) := dk_76 (dk_at dksX2_sum_0 4 rfl rfl)
theorem dX2_sum_5 : decode cX2_sum 5 = .ok (.aconst_null, 1) := dk_1 (dk_at dksX2_sum_0 5 rfl rfl)
theorem dX2_sum_6 : decode cX2_sum 6 = .ok (.astore_n 2, 1) := dk_77 (dk_at dksX2_sum_0 6 rfl rfl)
theorem dX2_sum_7 : decode cX2_sum 7 = .ok (.aload_n 0, 1) := dk_42 (dk_at dksX2_sum_0 7 rfl rfl)
theorem dX2_sum_8 : decode cX2_sum 8 = .ok (.bipush 43, 2) := dk_16 43 (dk_at dksX2_sum_0 8 rfl rfl)
theorem dX2_sum_10 : decode cX2_sum 10 = .ok (.invokevirtual 112, 3) := dk_182 0 112 (dk_at dksX2_sum_0 10 rfl rfl)
theorem dX2_sum_13 : decode cX2_sum 13 = .ok (.ifCond .ne 12, 3) := dk_154 0 12 (dk_at dksX2_sum_0 13 rfl rfl)
theorem dX2_sum_16 : decode cX2_sum 16 = .ok (.aload_n 0, 1) := dk_42 (dk_at dksX2_sum_0 16 rfl rfl)
theorem dX2_sum_17 : decode cX2_sum 17 = .ok (.bipush 45, 2) := dk_16 45 (dk_at dksX2_sum_0 17 rfl rfl)
theorem dX2_sum_19 : decode cX2_sum 19 = .ok (.invokevirtual 112, 3) := dk_182 0 112 (dk_at dksX2_sum_0 19 rfl rfl)
theorem dX2_sum_22 : decode cX2_sum 22 = .ok (.ifCond .eq 68, 3) := dk_153 0 68 (dk_at dksX2_sum_1 0 rfl rfl)
theorem dX2_sum_25 : decode cX2_sum 25 = .ok (.aload_n 0, 1) := dk_42 (dk_at dksX2_sum_1 3 rfl rfl)
theorem dX2_sum_26 : decode cX2_sum 26 = .ok (.bipush 43, 2) := dk_16 43 (dk_at dksX2_sum_1 4 rfl rfl)
theorem dX2_sum_28 : decode cX2_sum 28 = .ok (.invokevirtual 112, 3) := dk_182 0 112 (dk_at dksX2_sum_1 6 rfl rfl)
theorem dX2_sum_31 : decode cX2_sum 31 = .ok (.istore_n 3, 1) := dk_62 (dk_at dksX2_sum_1 9 rfl rfl)
theorem dX2_sum_32 : decode cX2_sum 32 = .ok (.aload_n 0, 1) := dk_42 (dk_at dksX2_sum_1 10 rfl rfl)
theorem dX2_sum_33 : decode cX2_sum 33 = .ok (.dup, 1) := dk_89 (dk_at dksX2_sum_1 11 rfl rfl)
theorem dX2_sum_34 : decode cX2_sum 34 = .ok (.getfield 97, 3) := dk_180 0 97 (dk_at dksX2_sum_1 12 rfl rfl)
theorem dX2_sum_37 : decode cX2_sum 37 = .ok (.iconst 1, 1) := dk_4 (dk_at dksX2_sum_1 15 rfl rfl)
theorem dX2_sum_38 : decode cX2_sum 38 = .ok (.iadd, 1) := dk_96 (dk_at dksX2_sum_1 16 rfl rfl)
theorem dX2_sum_39 : decode cX2_sum 39 = .ok (.putfield 97, 3) := dk_181 0 97 (dk_at dksX2_sum_1 17 rfl rfl)
theorem dX2_sum_42 : decode cX2_sum 42 = .ok (.aload_n 0, 1) := dk_42 (dk_at dksX2_sum_1 20 rfl rfl)
theorem dX2_sum_43 : decode cX2_sum 43 = .ok (.invokevirtual 295, 3) := dk_182 1 39 (dk_at dksX2_sum_1 21 rfl rfl)
theorem dX2_sum_46 : decode cX2_sum 46 = .ok (.astore 4, 2) := dk_58 4 (dk_at dksX2_sum_2 0 rfl rfl)
theorem dX2_sum_48 : decode cX2_sum 48 = .ok (.aload_n 1, 1) := dk_43 (dk_at dksX2_sum_2 2 rfl rfl)
theorem dX2_sum_49 : decode cX2_sum 49 = .ok (.aload_n 2, 1) := dk_44 (dk_at dksX2_sum_2 3 rfl rfl)
theorem dX2_sum_50 : decode cX2_sum 50 = .ok (.invokestatic 273, 3) := dk_184 1 17 (dk_at dksX2_sum_2 4 rfl rfl)
theorem dX2_sum_53 : decode cX2_sum 53 = .ok (.astore_n 2, 1) := dk_77 (dk_at dksX2_sum_2 7 rfl rfl)
theorem dX2_sum_54 : decode cX2_sum 54 = .ok (.aload_n 2, 1) := dk_44 (dk_at dksX2_sum_2 8 rfl rfl)
theorem dX2_sum_55 : decode cX2_sum 55 = .ok (.getfield 277, 3) := dk_180 1 21 (dk_at dksX2_sum_2 9 rfl rfl)
theorem dX2_sum_58 : decode cX2_sum 58 = .ok (.iload_n 3, 1) := dk_29 (dk_at dksX2_sum_2 12 rfl rfl)
theorem dX2_sum_59 : decode cX2_sum 59 = .ok (.ifCond .eq 15, 3) := dk_153 0 15 (dk_at dksX2_sum_2 13 rfl rfl)
theorem dX2_sum_62 : decode cX2_sum 62 = .ok (.new 298, 3) := dk_187 1 42 (dk_at dksX2_sum_2 16 rfl rfl)
theorem dX2_sum_65 : decode cX2_sum 65 = .ok (.dup, 1) := dk_89 (dk_at dksX2_sum_2 19 rfl rfl)
theorem dX2_sum_66 : decode cX2_sum 66 = .ok (.aload 4, 2) := dk_25 4 (dk_at dksX2_sum_2 20 rfl rfl)
theorem dX2_sum_68 : decode cX2_sum 68 = .ok (.invokespecial 300, 3) := dk_183 1 44 (dk_at dksX2_sum_3 0 rfl rfl)
theorem dX2_sum_71 : decode cX2_sum 71 = .ok (.goto 12, 3) := dk_167 0 12 (dk_at dksX2_sum_3 3 rfl rfl)
theorem dX2_sum_74 : decode cX2_sum 74 = .ok (.new 301, 3) := dk_187 1 45 (dk_at dksX2_sum_3 6 rfl rfl)
theorem dX2_sum_77 : decode cX2_sum 77 = .ok (.dup, 1) := dk_89 (dk_at dksX2_sum_3 9 rfl rfl)
theorem dX2_sum_78 : decode cX2_sum 78 = .ok (.aload 4, 2) := dk_25 4 (dk_at dksX2_sum_3 10 rfl rfl)
theorem dX2_sum_80 : decode cX2_sum 80 = .ok (.invokespecial 303, 3) := dk_183 1 47 (dk_at dksX2_sum_3 12 rfl rfl)
theorem dX2_sum_83 : decode cX2_sum 83 = .ok (.invokevirtual 217, 3) := dk_182 0 217 (dk_at dksX2_sum_3 15 rfl rfl)
theorem dX2_sum_86 : decode cX2_sum 86 = .ok (.pop, 1) := dk_87 (dk_at dksX2_sum_3 18 rfl rfl)
theorem dX2_sum_87 : decode cX2_sum 87 = .ok (.goto (-80), 3) := dk_167 255 176 (dk_at dksX2_sum_3 19 rfl rfl)
theorem dX2_sum_90 : decode cX2_sum 90 = .ok (.aload_n 2, 1) := dk_44 (dk_at dksX2_sum_3 22 rfl rfl)
theorem dX2_sum_91 : decode cX2_sum 91 = .ok (.ifnonnull 7, 3) := dk_199 0 7 (dk_at dksX2_sum_4 0 rfl rfl)
theorem dX2_sum_94 : decode cX2_sum 94 = .ok (.aload_n 1, 1) := dk_43 (dk_at dksX2_sum_4 3 rfl rfl)
theorem dX2_sum_95 : decode cX2_sum 95 = .ok (.goto 4, 3) := dk_167 0 4 (dk_at dksX2_sum_4 4 rfl rfl)
theorem dX2_sum_98 : decode cX2_sum 98 = .ok (.aload_n 2, 1) := dk_44 (dk_at dksX2_sum_4 7 rfl rfl)
theorem dX2_sum_99 : decode cX2_sum 99 = .ok (.areturn, 1) := dk_176 (dk_at dksX2_sum_4 8 rfl rfl)
abbrev cX2_term : ByteArray := prog_21_method_31_code
def yX2_term : MethodName := ⟨RX2, "term", "()LLiarsCock$Expression;"⟩
def dkwX2_term_2 : List UInt8 := [199, 0, 7, 43, 167, 0, 4, 44, 176]
abbrev dktX2_term_2 : List UInt8 := dkwX2_term_2 ++ []
def dkwX2_term_1 : List UInt8 := [184, 1, 17, 77, 44, 180, 1, 21, 187, 1, 51, 89, 45, 183, 1, 53, 182, 0, 217, 87, 167, 255, 220, 44]
abbrev dktX2_term_1 : List UInt8 := dkwX2_term_1 ++ dktX2_term_2
def dkwX2_term_0 : List UInt8 := [42, 182, 1, 48, 76, 1, 77, 42, 16, 42, 182, 0, 115, 153, 0, 33, 42, 182, 1, 48, 78, 43, 44]
abbrev dktX2_term_0 : List UInt8 := dkwX2_term_0 ++ dktX2_term_1
theorem dksX2_term_0 : cX2_term.data.toList.drop 0 = dktX2_term_0 := by decide +kernel
theorem dksX2_term_1 : cX2_term.data.toList.drop 23 = dktX2_term_1 := dk_seg dksX2_term_0 23 rfl rfl
theorem dksX2_term_2 : cX2_term.data.toList.drop 47 = dktX2_term_2 := dk_seg dksX2_term_1 24 rfl rfl
theorem dX2_term_0 : decode cX2_term 0 = .ok (.aload_n 0, 1) := dk_42 (dk_at dksX2_term_0 0 rfl rfl)
theorem dX2_term_1 : decode cX2_term 1 = .ok (.invokevirtual 304, 3) := dk_182 1 48 (dk_at dksX2_term_0 1 rfl rfl)
theorem dX2_term_4 : decode cX2_term 4 = .ok (.astore_n 1, 1) := dk_76 (dk_at dksX2_term_0 4 rfl rfl)
theorem dX2_term_5 : decode cX2_term 5 = .ok (.aconst_null, 1) := dk_1 (dk_at dksX2_term_0 5 rfl rfl)
theorem dX2_term_6 : decode cX2_term 6 = .ok (.astore_n 2, 1) := dk_77 (dk_at dksX2_term_0 6 rfl rfl)
theorem dX2_term_7 : decode cX2_term 7 = .ok (.aload_n 0, 1) := dk_42 (dk_at dksX2_term_0 7 rfl rfl)
theorem dX2_term_8 : decode cX2_term 8 = .ok (.bipush 42, 2) := dk_16 42 (dk_at dksX2_term_0 8 rfl rfl)
theorem dX2_term_10 : decode cX2_term 10 = .ok (.invokevirtual 115, 3) := dk_182 0 115 (dk_at dksX2_term_0 10 rfl rfl)
theorem dX2_term_13 : decode cX2_term 13 = .ok (.ifCond .eq 33, 3) := dk_153 0 33 (dk_at dksX2_term_0 13 rfl rfl)
theorem dX2_term_16 : decode cX2_term 16 = .ok (.aload_n 0, 1) := dk_42 (dk_at dksX2_term_0 16 rfl rfl)
theorem dX2_term_17 : decode cX2_term 17 = .ok (.invokevirtual 304, 3) := dk_182 1 48 (dk_at dksX2_term_0 17 rfl rfl)
theorem dX2_term_20 : decode cX2_term 20 = .ok (.astore_n 3, 1) := dk_78 (dk_at dksX2_term_0 20 rfl rfl)
theorem dX2_term_21 : decode cX2_term 21 = .ok (.aload_n 1, 1) := dk_43 (dk_at dksX2_term_0 21 rfl rfl)
theorem dX2_term_22 : decode cX2_term 22 = .ok (.aload_n 2, 1) := dk_44 (dk_at dksX2_term_0 22 rfl rfl)
theorem dX2_term_23 : decode cX2_term 23 = .ok (.invokestatic 273, 3) := dk_184 1 17 (dk_at dksX2_term_1 0 rfl rfl)
theorem dX2_term_26 : decode cX2_term 26 = .ok (.astore_n 2, 1) := dk_77 (dk_at dksX2_term_1 3 rfl rfl)
theorem dX2_term_27 : decode cX2_term 27 = .ok (.aload_n 2, 1) := dk_44 (dk_at dksX2_term_1 4 rfl rfl)
theorem dX2_term_28 : decode cX2_term 28 = .ok (.getfield 277, 3) := dk_180 1 21 (dk_at dksX2_term_1 5 rfl rfl)
theorem dX2_term_31 : decode cX2_term 31 = .ok (.new 307, 3) := dk_187 1 51 (dk_at dksX2_term_1 8 rfl rfl)
theorem dX2_term_34 : decode cX2_term 34 = .ok (.dup, 1) := dk_89 (dk_at dksX2_term_1 11 rfl rfl)
theorem dX2_term_35 : decode cX2_term 35 = .ok (.aload_n 3, 1) := dk_45 (dk_at dksX2_term_1 12 rfl rfl)
theorem dX2_term_36 : decode cX2_term 36 = .ok (.invokespecial 309, 3) := dk_183 1 53 (dk_at dksX2_term_1 13 rfl rfl)
theorem dX2_term_39 : decode cX2_term 39 = .ok (.invokevirtual 217, 3) := dk_182 0 217 (dk_at dksX2_term_1 16 rfl rfl)
theorem dX2_term_42 : decode cX2_term 42 = .ok (.pop, 1) := dk_87 (dk_at dksX2_term_1 19 rfl rfl)
theorem dX2_term_43 : decode cX2_term 43 = .ok (.goto (-36), 3) := dk_167 255 220 (dk_at dksX2_term_1 20 rfl rfl)
theorem dX2_term_46 : decode cX2_term 46 = .ok (.aload_n 2, 1) := dk_44 (dk_at dksX2_term_1 23 rfl rfl)
theorem dX2_term_47 : decode cX2_term 47 = .ok (.ifnonnull 7, 3) := dk_199 0 7 (dk_at dksX2_term_2 0 rfl rfl)
theorem dX2_term_50 : decode cX2_term 50 = .ok (.aload_n 1, 1) := dk_43 (dk_at dksX2_term_2 3 rfl rfl)
theorem dX2_term_51 : decode cX2_term 51 = .ok (.goto 4, 3) := dk_167 0 4 (dk_at dksX2_term_2 4 rfl rfl)
theorem dX2_term_54 : decode cX2_term 54 = .ok (.aload_n 2, 1) := dk_44 (dk_at dksX2_term_2 7 rfl rfl)
theorem dX2_term_55 : decode cX2_term 55 = .ok (.areturn, 1) := dk_176 (dk_at dksX2_term_2 8 rfl rfl)
abbrev cX2_part : ByteArray := prog_21_method_32_code
def yX2_part : MethodName := ⟨RX2, "part", "()LLiarsCock$Expression;"⟩
def dkwX2_part_9 : List UInt8 := [154, 0, 9, 42, 16, 41, 182, 0, 150, 42, 89, 180, 1, 3, 4, 100, 181, 1, 3, 45, 176]
abbrev dktX2_part_9 : List UInt8 := dkwX2_part_9 ++ []
def dkwX2_part_8 : List UInt8 := [153, 0, 17, 187, 1, 57, 89, 42, 182, 1, 48, 183, 1, 59, 167, 0, 7, 42, 182, 1, 6, 78, 27]
abbrev dktX2_part_8 : List UInt8 := dkwX2_part_8 ++ dktX2_part_9
def dkwX2_part_7 : List UInt8 := [180, 0, 97, 4, 100, 47, 136, 183, 0, 170, 176, 42, 89, 180, 1, 3, 4, 96, 181, 1, 3, 27]
abbrev dktX2_part_7 : List UInt8 := dkwX2_part_7 ++ dktX2_part_8
def dkwX2_part_6 : List UInt8 := [180, 0, 49, 42, 180, 0, 97, 4, 100, 46, 5, 160, 0, 23, 187, 0, 168, 89, 42, 180, 0, 52, 42]
abbrev dktX2_part_6 : List UInt8 := dkwX2_part_6 ++ dktX2_part_7
def dkwX2_part_5 : List UInt8 := [96, 181, 0, 97, 28, 2, 159, 0, 12, 187, 1, 54, 89, 28, 183, 1, 56, 176, 27, 154, 0, 38, 42]
abbrev dktX2_part_5 : List UInt8 := dkwX2_part_5 ++ dktX2_part_6
def dkwX2_part_4 : List UInt8 := [182, 0, 118, 191, 42, 180, 1, 3, 8, 160, 0, 9, 42, 8, 182, 0, 118, 191, 42, 89, 180, 0, 97, 4]
abbrev dktX2_part_4 : List UInt8 := dkwX2_part_4 ++ dktX2_part_5
def dkwX2_part_3 : List UInt8 := [184, 0, 192, 167, 0, 4, 2, 61, 42, 182, 0, 184, 153, 0, 14, 28, 2, 160, 0, 9, 42, 5]
abbrev dktX2_part_3 : List UInt8 := dkwX2_part_3 ++ dktX2_part_4
def dkwX2_part_2 : List UInt8 := [182, 0, 184, 153, 0, 25, 42, 180, 0, 132, 180, 0, 196, 42, 180, 0, 52, 42, 180, 0, 97, 47]
abbrev dktX2_part_2 : List UInt8 := dkwX2_part_2 ++ dktX2_part_3
def dkwX2_part_1 : List UInt8 := [180, 0, 97, 46, 5, 159, 0, 18, 42, 16, 40, 182, 0, 112, 154, 0, 9, 42, 4, 182, 0, 118, 191, 42]
abbrev dktX2_part_1 : List UInt8 := dkwX2_part_1 ++ dktX2_part_2
def dkwX2_part_0 : List UInt8 := [42, 18, 33, 182, 0, 108, 60, 27, 154, 0, 38, 42, 182, 0, 184, 154, 0, 31, 42, 180, 0, 49, 42]
abbrev dktX2_part_0 : List UInt8 := dkwX2_part_0 ++ dktX2_part_1
theorem dksX2_part_0 : cX2_part.data.toList.drop 0 = dktX2_part_0 := by decide +kernel
theorem dksX2_part_1 : cX2_part.data.toList.drop 23 = dktX2_part_1 := dk_seg dksX2_part_0 23 rfl rfl
theorem dksX2_part_2 : cX2_part.data.toList.drop 47 = dktX2_part_2 := dk_seg dksX2_part_1 24 rfl rfl
theorem dksX2_part_3 : cX2_part.data.toList.drop 69 = dktX2_part_3 := dk_seg dksX2_part_2 22 rfl rfl
theorem dksX2_part_4 : cX2_part.data.toList.drop 91 = dktX2_part_4 := dk_seg dksX2_part_3 22 rfl rfl
theorem dksX2_part_5 : cX2_part.data.toList.drop 115 = dktX2_part_5 := dk_seg dksX2_part_4 24 rfl rfl
theorem dksX2_part_6 : cX2_part.data.toList.drop 138 = dktX2_part_6 := dk_seg dksX2_part_5 23 rfl rfl
theorem dksX2_part_7 : cX2_part.data.toList.drop 161 = dktX2_part_7 := dk_seg dksX2_part_6 23 rfl rfl
theorem dksX2_part_8 : cX2_part.data.toList.drop 183 = dktX2_part_8 := dk_seg dksX2_part_7 22 rfl rfl
theorem dksX2_part_9 : cX2_part.data.toList.drop 206 = dktX2_part_9 := dk_seg dksX2_part_8 23 rfl rfl
theorem dX2_part_0 : decode cX2_part 0 = .ok (.aload_n 0, 1) := dk_42 (dk_at dksX2_part_0 0 rfl rfl)
theorem dX2_part_1 : decode cX2_part 1 = .ok (.ldc 33, 2) := dk_18 33 (dk_at dksX2_part_0 1 rfl rfl)
theorem dX2_part_3 : decode cX2_part 3 = .ok (.invokevirtual 108, 3) := dk_182 0 108 (dk_at dksX2_part_0 3 rfl rfl)
theorem dX2_part_6 : decode cX2_part 6 = .ok (.istore_n 1, 1) := dk_60 (dk_at dksX2_part_0 6 rfl rfl)
theorem dX2_part_7 : decode cX2_part 7 = .ok (.iload_n 1, 1) := dk_27 (dk_at dksX2_part_0 7 rfl rfl)
theorem dX2_part_8 : decode cX2_part 8 = .ok (.ifCond .ne 38, 3) := dk_154 0 38 (dk_at dksX2_part_0 8 rfl rfl)
theorem dX2_part_11 : decode cX2_part 11 = .ok (.aload_n 0, 1) := dk_42 (dk_at dksX2_part_0 11 rfl rfl)
theorem dX2_part_12 : decode cX2_part 12 = .ok (.invokevirtual 184, 3) := dk_182 0 184 (dk_at dksX2_part_0 12 rfl rfl)
theorem dX2_part_15 : decode cX2_part 15 = .ok (.ifCond .ne 31, 3) := dk_154 0 31 (dk_at dksX2_part_0 15 rfl rfl)
theorem dX2_part_18 : decode cX2_part 18 = .ok (.aload_n 0, 1) := dk_42 (dk_at dksX2_part_0 18 rfl rfl)
theorem dX2_part_19 : decode cX2_part 19 = .ok (.getfield 49, 3) := dk_180 0 49 (dk_at dksX2_part_0 19 rfl rfl)
theorem dX2_part_22 : decode cX2_part 22 = .ok (.aload_n 0, 1) := dk_42 (dk_at dksX2_part_0 22 rfl rfl)
theorem dX2_part_23 : decode cX2_part 23 = .ok (.getfield 97, 3) := dk_180 0 97 (dk_at dksX2_part_1 0 rfl rfl)
theorem dX2_part_26 : decode cX2_part 26 = .ok (.iaload, 1) := dk_46 (dk_at dksX2_part_1 3 rfl rfl)
theorem dX2_part_27 : decode cX2_part 27 = .ok (.iconst 2, 1) := dk_5 (dk_at dksX2_part_1 4 rfl rfl)
theorem dX2_part_28 : decode cX2_part 28 = .ok (.if_icmp .eq 18, 3) := dk_159 0 18 (dk_at dksX2_part_1 5 rfl rfl)
theorem dX2_part_31 : decode cX2_part 31 = .ok (.aload_n 0, 1) := dk_42 (dk_at dksX2_part_1 8 rfl rfl)
theorem dX2_part_32 : decode cX2_part 32 = .ok (.bipush 40, 2) := dk_16 40 (dk_at dksX2_part_1 9 rfl rfl)
theorem dX2_part_34 : decode cX2_part 34 = .ok (.invokevirtual 112, 3) := dk_182 0 112 (dk_at dksX2_part_1 11 rfl rfl)
theorem dX2_part_37 : decode cX2_part 37 = .ok (.ifCond .ne 9, 3) := dk_154 0 9 (dk_at dksX2_part_1 14 rfl rfl)
theorem dX2_part_40 : decode cX2_part 40 = .ok (.aload_n 0, 1) := dk_42 (dk_at dksX2_part_1 17 rfl rfl)
theorem dX2_part_41 : decode cX2_part 41 = .ok (.iconst 1, 1) := dk_4 (dk_at dksX2_part_1 18 rfl rfl)
theorem dX2_part_42 : decode cX2_part 42 = .ok (.invokevirtual 118, 3) := dk_182 0 118 (dk_at dksX2_part_1 19 rfl rfl)
theorem dX2_part_45 : decode cX2_part 45 = .ok (.athrow, 1) := dk_191 (dk_at dksX2_part_1 22 rfl rfl)
theorem dX2_part_46 : decode cX2_part 46 = .ok (.aload_n 0, 1) := dk_42 (dk_at dksX2_part_1 23 rfl rfl)
theorem dX2_part_47 : decode cX2_part 47 = .ok (.invokevirtual 184, 3) := dk_182 0 184 (dk_at dksX2_part_2 0 rfl rfl)
theorem dX2_part_50 : decode cX2_part 50 = .ok (.ifCond .eq 25, 3) := dk_153 0 25 (dk_at dksX2_part_2 3 rfl rfl)
theorem dX2_part_53 : decode cX2_part 53 = .ok (.aload_n 0, 1) := dk_42 (dk_at dksX2_part_2 6 rfl rfl)
theorem dX2_part_54 : decode cX2_part 54 = .ok (.getfield 132, 3) := dk_180 0 132 (dk_at dksX2_part_2 7 rfl rfl)
theorem dX2_part_57 : decode cX2_part 57 = .ok (.getfield 196, 3) := dk_180 0 196 (dk_at dksX2_part_2 10 rfl rfl)
theorem dX2_part_60 : decode cX2_part 60 = .ok (.aload_n 0, 1) := dk_42 (dk_at dksX2_part_2 13 rfl rfl)
theorem dX2_part_61 : decode cX2_part 61 = .ok (.getfield 52, 3) := dk_180 0 52 (dk_at dksX2_part_2 14 rfl rfl)
theorem dX2_part_64 : decode cX2_part 64 = .ok (.aload_n 0, 1) := dk_42 (dk_at dksX2_part_2 17 rfl rfl)
theorem dX2_part_65 : decode cX2_part 65 = .ok (.getfield 97, 3) := dk_180 0 97 (dk_at dksX2_part_2 18 rfl rfl)
theorem dX2_part_68 : decode cX2_part 68 = .ok (.laload, 1) := dk_47 (dk_at dksX2_part_2 21 rfl rfl)
theorem dX2_part_69 : decode cX2_part 69 = .ok (.invokestatic 192, 3) := dk_184 0 192 (dk_at dksX2_part_3 0 rfl rfl)
theorem dX2_part_72 : decode cX2_part 72 = .ok (.goto 4, 3) := dk_167 0 4 (dk_at dksX2_part_3 3 rfl rfl)
theorem dX2_part_75 : decode cX2_part 75 = .ok (.iconst (-1), 1) := dk_2 (dk_at dksX2_part_3 6 rfl rfl)
theorem dX2_part_76 : decode cX2_part 76 = .ok (.istore_n 2, 1) := dk_61 (dk_at dksX2_part_3 7 rfl rfl)
theorem dX2_part_77 : decode cX2_part 77 = .ok (.aload_n 0, 1) := dk_42 (dk_at dksX2_part_3 8 rfl rfl)
theorem dX2_part_78 : decode cX2_part 78 = .ok (.invokevirtual 184, 3) := dk_182 0 184 (dk_at dksX2_part_3 9 rfl rfl)
theorem dX2_part_81 : decode cX2_part 81 = .ok (.ifCond .eq 14, 3) := dk_153 0 14 (dk_at dksX2_part_3 12 rfl rfl)
theorem dX2_part_84 : decode cX2_part 84 = .ok (.iload_n 2, 1) := dk_28 (dk_at dksX2_part_3 15 rfl rfl)
theorem dX2_part_85 : decode cX2_part 85 = .ok (.iconst (-1), 1) := dk_2 (dk_at dksX2_part_3 16 rfl rfl)
theorem dX2_part_86 : decode cX2_part 86 = .ok (.if_icmp .ne 9, 3) := dk_160 0 9 (dk_at dksX2_part_3 17 rfl rfl)
theorem dX2_part_89 : decode cX2_part 89 = .ok (.aload_n 0, 1) := dk_42 (dk_at dksX2_part_3 20 rfl rfl)
theorem dX2_part_90 : decode cX2_part 90 = .ok (.iconst 2, 1) := dk_5 (dk_at dksX2_part_3 21 rfl rfl)
theorem dX2_part_91 : decode cX2_part 91 = .ok (.invokevirtual 118, 3) := dk_182 0 118 (dk_at dksX2_part_4 0 rfl rfl)
theorem dX2_part_94 : decode cX2_part 94 = .ok (.athrow, 1) := dk_191 (dk_at dksX2_part_4 3 rfl rfl)
theorem dX2_part_95 : decode cX2_part 95 = .ok (.aload_n 0, 1) := dk_42 (dk_at dksX2_part_4 4 rfl rfl)
theorem dX2_part_96 : decode cX2_part 96 = .ok (.getfield 259, 3) := dk_180 1 3 (dk_at dksX2_part_4 5 rfl rfl)
theorem dX2_part_99 : decode cX2_part 99 = .ok (.iconst 5, 1) := dk_8 (dk_at dksX2_part_4 8 rfl rfl)
theorem dX2_part_100 : decode cX2_part 100 = .ok (.if_icmp .ne 9, 3) := dk_160 0 9 (dk_at dksX2_part_4 9 rfl rfl)
theorem dX2_part_103 : decode cX2_part 103 = .ok (.aload_n 0, 1) := dk_42 (dk_at dksX2_part_4 12 rfl rfl)
theorem dX2_part_104 : decode cX2_part 104 = .ok (.iconst 5, 1) := dk_8 (dk_at dksX2_part_4 13 rfl rfl)
theorem dX2_part_105 : decode cX2_part 105 = .ok (.invokevirtual 118, 3) := dk_182 0 118 (dk_at dksX2_part_4 14 rfl rfl)
theorem dX2_part_108 : decode cX2_part 108 = .ok (.athrow, 1) := dk_191 (dk_at dksX2_part_4 17 rfl rfl)
theorem dX2_part_109 : decode cX2_part 109 = .ok (.aload_n 0, 1) := dk_42 (dk_at dksX2_part_4 18 rfl rfl)
theorem dX2_part_110 : decode cX2_part 110 = .ok (.dup, 1) := dk_89 (dk_at dksX2_part_4 19 rfl rfl)
theorem dX2_part_111 : decode cX2_part 111 = .ok (.getfield 97, 3) := dk_180 0 97 (dk_at dksX2_part_4 20 rfl rfl)
theorem dX2_part_114 : decode cX2_part 114 = .ok (.iconst 1, 1) := dk_4 (dk_at dksX2_part_4 23 rfl rfl)
theorem dX2_part_115 : decode cX2_part 115 = .ok (.iadd, 1) := dk_96 (dk_at dksX2_part_5 0 rfl rfl)
theorem dX2_part_116 : decode cX2_part 116 = .ok (.putfield 97, 3) := dk_181 0 97 (dk_at dksX2_part_5 1 rfl rfl)
theorem dX2_part_119 : decode cX2_part 119 = .ok (.iload_n 2, 1) := dk_28 (dk_at dksX2_part_5 4 rfl rfl)
theorem dX2_part_120 : decode cX2_part 120 = .ok (.iconst (-1), 1) := dk_2 (dk_at dksX2_part_5 5 rfl rfl)
theorem dX2_part_121 : decode cX2_part 121 = .ok (.if_icmp .eq 12, 3) := dk_159 0 12 (dk_at dksX2_part_5 6 rfl rfl)
theorem dX2_part_124 : decode cX2_part 124 = .ok (.new 310, 3) := dk_187 1 54 (dk_at dksX2_part_5 9 rfl rfl)
theorem dX2_part_127 : decode cX2_part 127 = .ok (.dup, 1) := dk_89 (dk_at dksX2_part_5 12 rfl rfl)
theorem dX2_part_128 : decode cX2_part 128 = .ok (.iload_n 2, 1) := dk_28 (dk_at dksX2_part_5 13 rfl rfl)
theorem dX2_part_129 : decode cX2_part 129 = .ok (.invokespecial 312, 3) := dk_183 1 56 (dk_at dksX2_part_5 14 rfl rfl)
theorem dX2_part_132 : decode cX2_part 132 = .ok (.areturn, 1) := dk_176 (dk_at dksX2_part_5 17 rfl rfl)
theorem dX2_part_133 : decode cX2_part 133 = .ok (.iload_n 1, 1) := dk_27 (dk_at dksX2_part_5 18 rfl rfl)
theorem dX2_part_134 : decode cX2_part 134 = .ok (.ifCond .ne 38, 3) := dk_154 0 38 (dk_at dksX2_part_5 19 rfl rfl)
theorem dX2_part_137 : decode cX2_part 137 = .ok (.aload_n 0, 1) := dk_42 (dk_at dksX2_part_5 22 rfl rfl)
theorem dX2_part_138 : decode cX2_part 138 = .ok (.getfield 49, 3) := dk_180 0 49 (dk_at dksX2_part_6 0 rfl rfl)
theorem dX2_part_141 : decode cX2_part 141 = .ok (.aload_n 0, 1) := dk_42 (dk_at dksX2_part_6 3 rfl rfl)
theorem dX2_part_142 : decode cX2_part 142 = .ok (.getfield 97, 3) := dk_180 0 97 (dk_at dksX2_part_6 4 rfl rfl)
theorem dX2_part_145 : decode cX2_part 145 = .ok (.iconst 1, 1) := dk_4 (dk_at dksX2_part_6 7 rfl rfl)
theorem dX2_part_146 : decode cX2_part 146 = .ok (.isub, 1) := dk_100 (dk_at dksX2_part_6 8 rfl rfl)
theorem dX2_part_147 : decode cX2_part 147 = .ok (.iaload, 1) := dk_46 (dk_at dksX2_part_6 9 rfl rfl)
theorem dX2_part_148 : decode cX2_part 148 = .ok (.iconst 2, 1) := dk_5 (dk_at dksX2_part_6 10 rfl rfl)
theorem dX2_part_149 : decode cX2_part 149 = .ok (.if_icmp .ne 23, 3) := dk_160 0 23 (dk_at dksX2_part_6 11 rfl rfl)
theorem dX2_part_152 : decode cX2_part 152 = .ok (.new 168, 3) := dk_187 0 168 (dk_at dksX2_part_6 14 rfl rfl)
theorem dX2_part_155 : decode cX2_part 155 = .ok (.dup, 1) := dk_89 (dk_at dksX2_part_6 17 rfl rfl)
theorem dX2_part_156 : decode cX2_part 156 = .ok (.aload_n 0, 1) := dk_42 (dk_at dksX2_part_6 18 rfl rfl)
theorem dX2_part_157 : decode cX2_part 157 = .ok (.getfield 52, 3) := dk_180 0 52 (dk_at dksX2_part_6 19 rfl rfl)
theorem dX2_part_160 : decode cX2_part 160 = .ok (.aload_n 0, 1) := dk_42 (dk_at dksX2_part_6 22 rfl rfl)
theorem dX2_part_161 : decode cX2_part 161 = .ok (.getfield 97, 3) := dk_180 0 97 (dk_at dksX2_part_7 0 rfl rfl)
theorem dX2_part_164 : decode cX2_part 164 = .ok (.iconst 1, 1) := dk_4 (dk_at dksX2_part_7 3 rfl rfl)
theorem dX2_part_165 : decode cX2_part 165 = .ok (.isub, 1) := dk_100 (dk_at dksX2_part_7 4 rfl rfl)
theorem dX2_part_166 : decode cX2_part 166 = .ok (.laload, 1) := dk_47 (dk_at dksX2_part_7 5 rfl rfl)
theorem dX2_part_167 : decode cX2_part 167 = .ok (.l2i, 1) := dk_136 (dk_at dksX2_part_7 6 rfl rfl)
theorem dX2_part_168 : decode cX2_part 168 = .ok (.invokespecial 170, 3) := dk_183 0 170 (dk_at dksX2_part_7 7 rfl rfl)
theorem dX2_part_171 : decode cX2_part 171 = .ok (.areturn, 1) := dk_176 (dk_at dksX2_part_7 10 rfl rfl)
theorem dX2_part_172 : decode cX2_part 172 = .ok (.aload_n 0, 1) := dk_42 (dk_at dksX2_part_7 11 rfl rfl)
theorem dX2_part_173 : decode cX2_part 173 = .ok (.dup, 1) := dk_89 (dk_at dksX2_part_7 12 rfl rfl)
theorem dX2_part_174 : decode cX2_part 174 = .ok (.getfield 259, 3) := dk_180 1 3 (dk_at dksX2_part_7 13 rfl rfl)
theorem dX2_part_177 : decode cX2_part 177 = .ok (.iconst 1, 1) := dk_4 (dk_at dksX2_part_7 16 rfl rfl)
theorem dX2_part_178 : decode cX2_part 178 = .ok (.iadd, 1) := dk_96 (dk_at dksX2_part_7 17 rfl rfl)
theorem dX2_part_179 : decode cX2_part 179 = .ok (.putfield 259, 3) := dk_181 1 3 (dk_at dksX2_part_7 18 rfl rfl)
theorem dX2_part_182 : decode cX2_part 182 = .ok (.iload_n 1, 1) := dk_27 (dk_at dksX2_part_7 21 rfl rfl)
theorem dX2_part_183 : decode cX2_part 183 = .ok (.ifCond .eq 17, 3) := dk_153 0 17 (dk_at dksX2_part_8 0 rfl rfl)
theorem dX2_part_186 : decode cX2_part 186 = .ok (.new 313, 3) := dk_187 1 57 (dk_at dksX2_part_8 3 rfl rfl)
theorem dX2_part_189 : decode cX2_part 189 = .ok (.dup, 1) := dk_89 (dk_at dksX2_part_8 6 rfl rfl)
theorem dX2_part_190 : decode cX2_part 190 = .ok (.aload_n 0, 1) := dk_42 (dk_at dksX2_part_8 7 rfl rfl)
theorem dX2_part_191 : decode cX2_part 191 = .ok (.invokevirtual 304, 3) := dk_182 1 48 (dk_at dksX2_part_8 8 rfl rfl)
theorem dX2_part_194 : decode cX2_part 194 = .ok (.invokespecial 315, 3) := dk_183 1 59 (dk_at dksX2_part_8 11 rfl rfl)
theorem dX2_part_197 : decode cX2_part 197 = .ok (.goto 7, 3) := dk_167 0 7 (dk_at dksX2_part_8 14 rfl rfl)
theorem dX2_part_200 : decode cX2_part 200 = .ok (.aload_n 0, 1) := dk_42 (dk_at dksX2_part_8 17 rfl rfl)
theorem dX2_part_201 : decode cX2_part 201 = .ok (.invokevirtual 262, 3) := dk_182 1 6 (dk_at dksX2_part_8 18 rfl rfl)
theorem dX2_part_204 : decode cX2_part 204 = .ok (.astore_n 3, 1) := dk_78 (dk_at dksX2_part_8 21 rfl rfl)
theorem dX2_part_205 : decode cX2_part 205 = .ok (.iload_n 1, 1) := dk_27 (dk_at dksX2_part_8 22 rfl rfl)
theorem dX2_part_206 : decode cX2_part 206 = .ok (.ifCond .ne 9, 3) := dk_154 0 9 (dk_at dksX2_part_9 0 rfl rfl)
theorem dX2_part_209 : decode cX2_part 209 = .ok (.aload_n 0, 1) := dk_42 (dk_at dksX2_part_9 3 rfl rfl)
theorem dX2_part_210 : decode cX2_part 210 = .ok (.bipush 41, 2) := dk_16 41 (dk_at dksX2_part_9 4 rfl rfl)
theorem dX2_part_212 : decode cX2_part 212 = .ok (.invokevirtual 150, 3) := dk_182 0 150 (dk_at dksX2_part_9 6 rfl rfl)
theorem dX2_part_215 : decode cX2_part 215 = .ok (.aload_n 0, 1) := dk_42 (dk_at dksX2_part_9 9 rfl rfl)
theorem dX2_part_216 : decode cX2_part 216 = .ok (.dup, 1) := dk_89 (dk_at dksX2_part_9 10 rfl rfl)
theorem dX2_part_217 : decode cX2_part 217 = .ok (.getfield 259, 3) := dk_180 1 3 (dk_at dksX2_part_9 11 rfl rfl)
theorem dX2_part_220 : decode cX2_part 220 = .ok (.iconst 1, 1) := dk_4 (dk_at dksX2_part_9 14 rfl rfl)
theorem dX2_part_221 : decode cX2_part 221 = .ok (.isub, 1) := dk_100 (dk_at dksX2_part_9 15 rfl rfl)
theorem dX2_part_222 : decode cX2_part 222 = .ok (.putfield 259, 3) := dk_181 1 3 (dk_at dksX2_part_9 16 rfl rfl)
theorem dX2_part_225 : decode cX2_part 225 = .ok (.aload_n 3, 1) := dk_45 (dk_at dksX2_part_9 19 rfl rfl)
theorem dX2_part_226 : decode cX2_part 226 = .ok (.areturn, 1) := dk_176 (dk_at dksX2_part_9 20 rfl rfl)
abbrev cX2_isSign : ByteArray := prog_21_method_11_code
def yX2_isSign : MethodName := ⟨RX2, "isSign", "(I)Z"⟩
def dkwX2_isSign_1 : List UInt8 := [148, 154, 0, 7, 4, 167, 0, 4, 3, 172]
abbrev dktX2_isSign_1 : List UInt8 := dkwX2_isSign_1 ++ []
def dkwX2_isSign_0 : List UInt8 := [42, 180, 0, 49, 42, 180, 0, 97, 46, 6, 160, 0, 22, 42, 180, 0, 52, 42, 180, 0, 97, 47, 27, 133]
abbrev dktX2_isSign_0 : List UInt8 := dkwX2_isSign_0 ++ dktX2_isSign_1
theorem dksX2_isSign_0 : cX2_isSign.data.toList.drop 0 = dktX2_isSign_0 := by decide +kernel
theorem dksX2_isSign_1 : cX2_isSign.data.toList.drop 24 = dktX2_isSign_1 := dk_seg dksX2_isSign_0 24 rfl rfl
theorem dX2_isSign_0 : decode cX2_isSign 0 = .ok (.aload_n 0, 1) := dk_42 (dk_at dksX2_isSign_0 0 rfl rfl)
theorem dX2_isSign_1 : decode cX2_isSign 1 = .ok (.getfield 49, 3) := dk_180 0 49 (dk_at dksX2_isSign_0 1 rfl rfl)
theorem dX2_isSign_4 : decode cX2_isSign 4 = .ok (.aload_n 0, 1) := dk_42 (dk_at dksX2_isSign_0 4 rfl rfl)
theorem dX2_isSign_5 : decode cX2_isSign 5 = .ok (.getfield 97, 3) := dk_180 0 97 (dk_at dksX2_isSign_0 5 rfl rfl)
theorem dX2_isSign_8 : decode cX2_isSign 8 = .ok (.iaload, 1) := dk_46 (dk_at dksX2_isSign_0 8 rfl rfl)
theorem dX2_isSign_9 : decode cX2_isSign 9 = .ok (.iconst 3, 1) := dk_6 (dk_at dksX2_isSign_0 9 rfl rfl)
theorem dX2_isSign_10 : decode cX2_isSign 10 = .ok (.if_icmp .ne 22, 3) := dk_160 0 22 (dk_at dksX2_isSign_0 10 rfl rfl)
theorem dX2_isSign_13 : decode cX2_isSign 13 = .ok (.aload_n 0, 1) := dk_42 (dk_at dksX2_isSign_0 13 rfl rfl)
theorem dX2_isSign_14 : decode cX2_isSign 14 = .ok (.getfield 52, 3) := dk_180 0 52 (dk_at dksX2_isSign_0 14 rfl rfl)
theorem dX2_isSign_17 : decode cX2_isSign 17 = .ok (.aload_n 0, 1) := dk_42 (dk_at dksX2_isSign_0 17 rfl rfl)
theorem dX2_isSign_18 : decode cX2_isSign 18 = .ok (.getfield 97, 3) := dk_180 0 97 (dk_at dksX2_isSign_0 18 rfl rfl)
theorem dX2_isSign_21 : decode cX2_isSign 21 = .ok (.laload, 1) := dk_47 (dk_at dksX2_isSign_0 21 rfl rfl)
theorem dX2_isSign_22 : decode cX2_isSign 22 = .ok (.iload_n 1, 1) := dk_27 (dk_at dksX2_isSign_0 22 rfl rfl)
theorem dX2_isSign_23 : decode cX2_isSign 23 = .ok (.i2l, 1) := dk_133 (dk_at dksX2_isSign_0 23 rfl rfl)
theorem dX2_isSign_24 : decode cX2_isSign 24 = .ok (.lcmp, 1) := dk_148 (dk_at dksX2_isSign_1 0 rfl rfl)
theorem dX2_isSign_25 : decode cX2_isSign 25 = .ok (.ifCond .ne 7, 3) := dk_154 0 7 (dk_at dksX2_isSign_1 1 rfl rfl)
theorem dX2_isSign_28 : decode cX2_isSign 28 = .ok (.iconst 1, 1) := dk_4 (dk_at dksX2_isSign_1 4 rfl rfl)
theorem dX2_isSign_29 : decode cX2_isSign 29 = .ok (.goto 4, 3) := dk_167 0 4 (dk_at dksX2_isSign_1 5 rfl rfl)
theorem dX2_isSign_32 : decode cX2_isSign 32 = .ok (.iconst 0, 1) := dk_3 (dk_at dksX2_isSign_1 8 rfl rfl)
theorem dX2_isSign_33 : decode cX2_isSign 33 = .ok (.ireturn, 1) := dk_172 (dk_at dksX2_isSign_1 9 rfl rfl)
abbrev cX2_sign : ByteArray := prog_21_method_13_code
def yX2_sign : MethodName := ⟨RX2, "sign", "(I)V"⟩
def dkwX2_sign_0 : List UInt8 := [42, 27, 182, 0, 115, 154, 0, 9, 42, 4, 182, 0, 118, 191, 177]
abbrev dktX2_sign_0 : List UInt8 := dkwX2_sign_0 ++ []
theorem dksX2_sign_0 : cX2_sign.data.toList.drop 0 = dktX2_sign_0 := by decide +kernel
theorem dX2_sign_0 : decode cX2_sign 0 = .ok (.aload_n 0, 1) := dk_42 (dk_at dksX2_sign_0 0 rfl rfl)
theorem dX2_sign_1 : decode cX2_sign 1 = .ok (.iload_n 1, 1) := dk_27 (dk_at dksX2_sign_0 1 rfl rfl)
theorem dX2_sign_2 : decode cX2_sign 2 = .ok (.invokevirtual 115, 3) := dk_182 0 115 (dk_at dksX2_sign_0 2 rfl rfl)
theorem dX2_sign_5 : decode cX2_sign 5 = .ok (.ifCond .ne 9, 3) := dk_154 0 9 (dk_at dksX2_sign_0 5 rfl rfl)
theorem dX2_sign_8 : decode cX2_sign 8 = .ok (.aload_n 0, 1) := dk_42 (dk_at dksX2_sign_0 8 rfl rfl)
theorem dX2_sign_9 : decode cX2_sign 9 = .ok (.iconst 1, 1) := dk_4 (dk_at dksX2_sign_0 9 rfl rfl)
theorem dX2_sign_10 : decode cX2_sign 10 = .ok (.invokevirtual 118, 3) := dk_182 0 118 (dk_at dksX2_sign_0 10 rfl rfl)
theorem dX2_sign_13 : decode cX2_sign 13 = .ok (.athrow, 1) := dk_191 (dk_at dksX2_sign_0 13 rfl rfl)
theorem dX2_sign_14 : decode cX2_sign 14 = .ok (.return_, 1) := dk_177 (dk_at dksX2_sign_0 14 rfl rfl)
abbrev cX2_hasSign : ByteArray := prog_21_method_12_code
def yX2_hasSign : MethodName := ⟨RX2, "hasSign", "(I)Z"⟩
def dkwX2_hasSign_0 : List UInt8 := [42, 27, 182, 0, 112, 61, 28, 153, 0, 13, 42, 89, 180, 0, 97, 4, 96, 181, 0, 97, 28, 172]
abbrev dktX2_hasSign_0 : List UInt8 := dkwX2_hasSign_0 ++ []
theorem dksX2_hasSign_0 : cX2_hasSign.data.toList.drop 0 = dktX2_hasSign_0 := by decide +kernel
theorem dX2_hasSign_0 : decode cX2_hasSign 0 = .ok (.aload_n 0, 1) := dk_42 (dk_at dksX2_hasSign_0 0 rfl rfl)
theorem dX2_hasSign_1 : decode cX2_hasSign 1 = .ok (.iload_n 1, 1) := dk_27 (dk_at dksX2_hasSign_0 1 rfl rfl)
theorem dX2_hasSign_2 : decode cX2_hasSign 2 = .ok (.invokevirtual 112, 3) := dk_182 0 112 (dk_at dksX2_hasSign_0 2 rfl rfl)
theorem dX2_hasSign_5 : decode cX2_hasSign 5 = .ok (.istore_n 2, 1) := dk_61 (dk_at dksX2_hasSign_0 5 rfl rfl)
theorem dX2_hasSign_6 : decode cX2_hasSign 6 = .ok (.iload_n 2, 1) := dk_28 (dk_at dksX2_hasSign_0 6 rfl rfl)
theorem dX2_hasSign_7 : decode cX2_hasSign 7 = .ok (.ifCond .eq 13, 3) := dk_153 0 13 (dk_at dksX2_hasSign_0 7 rfl rfl)
theorem dX2_hasSign_10 : decode cX2_hasSign 10 = .ok (.aload_n 0, 1) := dk_42 (dk_at dksX2_hasSign_0 10 rfl rfl)
theorem dX2_hasSign_11 : decode cX2_hasSign 11 = .ok (.dup, 1) := dk_89 (dk_at dksX2_hasSign_0 11 rfl rfl)
theorem dX2_hasSign_12 : decode cX2_hasSign 12 = .ok (.getfield 97, 3) := dk_180 0 97 (dk_at dksX2_hasSign_0 12 rfl rfl)
theorem dX2_hasSign_15 : decode cX2_hasSign 15 = .ok (.iconst 1, 1) := dk_4 (dk_at dksX2_hasSign_0 15 rfl rfl)
theorem dX2_hasSign_16 : decode cX2_hasSign 16 = .ok (.iadd, 1) := dk_96 (dk_at dksX2_hasSign_0 16 rfl rfl)
theorem dX2_hasSign_17 : decode cX2_hasSign 17 = .ok (.putfield 97, 3) := dk_181 0 97 (dk_at dksX2_hasSign_0 17 rfl rfl)
theorem dX2_hasSign_20 : decode cX2_hasSign 20 = .ok (.iload_n 2, 1) := dk_28 (dk_at dksX2_hasSign_0 20 rfl rfl)
theorem dX2_hasSign_21 : decode cX2_hasSign 21 = .ok (.ireturn, 1) := dk_172 (dk_at dksX2_hasSign_0 21 rfl rfl)
abbrev cX2_chain : ByteArray := prog_21_method_27_code
def yX2_chain : MethodName := ⟨RX2, "chain", "(LLiarsCock$Expression;LLiarsCock$Chain;)LLiarsCock$Chain;"⟩
def dkwX2_chain_0 : List UInt8 := [43, 199, 0, 14, 187, 1, 9, 89, 42, 183, 1, 11, 167, 0, 4, 43, 176]
abbrev dktX2_chain_0 : List UInt8 := dkwX2_chain_0 ++ []
theorem dksX2_chain_0 : cX2_chain.data.toList.drop 0 = dktX2_chain_0 := by decide +kernel
theorem dX2_chain_0 : decode cX2_chain 0 = .ok (.aload_n 1, 1) := dk_43 (dk_at dksX2_chain_0 0 rfl rfl)
theorem dX2_chain_1 : decode cX2_chain 1 = .ok (.ifnonnull 14, 3) := dk_199 0 14 (dk_at dksX2_chain_0 1 rfl rfl)
theorem dX2_chain_4 : decode cX2_chain 4 = .ok (.new 265, 3) := dk_187 1 9 (dk_at dksX2_chain_0 4 rfl rfl)
theorem dX2_chain_7 : decode cX2_chain 7 = .ok (.dup, 1) := dk_89 (dk_at dksX2_chain_0 7 rfl rfl)
theorem dX2_chain_8 : decode cX2_chain 8 = .ok (.aload_n 0, 1) := dk_42 (dk_at dksX2_chain_0 8 rfl rfl)
theorem dX2_chain_9 : decode cX2_chain 9 = .ok (.invokespecial 267, 3) := dk_183 1 11 (dk_at dksX2_chain_0 9 rfl rfl)
theorem dX2_chain_12 : decode cX2_chain 12 = .ok (.goto 4, 3) := dk_167 0 4 (dk_at dksX2_chain_0 12 rfl rfl)
theorem dX2_chain_15 : decode cX2_chain 15 = .ok (.aload_n 1, 1) := dk_43 (dk_at dksX2_chain_0 15 rfl rfl)
theorem dX2_chain_16 : decode cX2_chain 16 = .ok (.areturn, 1) := dk_176 (dk_at dksX2_chain_0 16 rfl rfl)
abbrev cX2_cock : ByteArray := prog_21_method_23_code
def yX2_cock : MethodName := ⟨RX2, "cock", "()V"⟩
def dkwX2_cock_4 : List UInt8 := [180, 0, 132, 180, 0, 153, 27, 187, 0, 157, 89, 28, 42, 3, 16, 60, 182, 0, 204, 183, 0, 159, 83, 177]
abbrev dktX2_cock_4 : List UInt8 := dkwX2_cock_4 ++ []
def dkwX2_cock_3 : List UInt8 := [182, 0, 204, 60, 42, 18, 29, 182, 0, 224, 42, 3, 4, 182, 0, 204, 61, 42, 18, 31, 182, 0, 224, 42]
abbrev dktX2_cock_3 : List UInt8 := dkwX2_cock_3 ++ dktX2_cock_4
def dkwX2_cock_2 : List UInt8 := [180, 0, 52, 42, 180, 0, 97, 47, 136, 50, 198, 0, 9, 42, 6, 182, 0, 118, 191, 42, 3, 4]
abbrev dktX2_cock_2 : List UInt8 := dkwX2_cock_2 ++ dktX2_cock_3
def dkwX2_cock_1 : List UInt8 := [180, 0, 52, 42, 180, 0, 97, 47, 20, 0, 254, 148, 156, 0, 30, 42, 180, 0, 132, 180, 0, 153, 42]
abbrev dktX2_cock_1 : List UInt8 := dkwX2_cock_1 ++ dktX2_cock_2
def dkwX2_cock_0 : List UInt8 := [42, 89, 180, 0, 97, 4, 96, 181, 0, 97, 42, 180, 0, 49, 42, 180, 0, 97, 46, 5, 160, 0, 46, 42]
abbrev dktX2_cock_0 : List UInt8 := dkwX2_cock_0 ++ dktX2_cock_1
theorem dksX2_cock_0 : cX2_cock.data.toList.drop 0 = dktX2_cock_0 := by decide +kernel
theorem dksX2_cock_1 : cX2_cock.data.toList.drop 24 = dktX2_cock_1 := dk_seg dksX2_cock_0 24 rfl rfl
theorem dksX2_cock_2 : cX2_cock.data.toList.drop 47 = dktX2_cock_2 := dk_seg dksX2_cock_1 23 rfl rfl
theorem dksX2_cock_3 : cX2_cock.data.toList.drop 69 = dktX2_cock_3 := dk_seg dksX2_cock_2 22 rfl rfl
theorem dksX2_cock_4 : cX2_cock.data.toList.drop 93 = dktX2_cock_4 := dk_seg dksX2_cock_3 24 rfl rfl
theorem dX2_cock_0 : decode cX2_cock 0 = .ok (.aload_n 0, 1) := dk_42 (dk_at dksX2_cock_0 0 rfl rfl)
theorem dX2_cock_1 : decode cX2_cock 1 = .ok (.dup, 1) := dk_89 (dk_at dksX2_cock_0 1 rfl rfl)
theorem dX2_cock_2 : decode cX2_cock 2 = .ok (.getfield 97, 3) := dk_180 0 97 (dk_at dksX2_cock_0 2 rfl rfl)
theorem dX2_cock_5 : decode cX2_cock 5 = .ok (.iconst 1, 1) := dk_4 (dk_at dksX2_cock_0 5 rfl rfl)
theorem dX2_cock_6 : decode cX2_cock 6 = .ok (.iadd, 1) := dk_96 (dk_at dksX2_cock_0 6 rfl rfl)
theorem dX2_cock_7 : decode cX2_cock 7 = .ok (.putfield 97, 3) := dk_181 0 97 (dk_at dksX2_cock_0 7 rfl rfl)
theorem dX2_cock_10 : decode cX2_cock 10 = .ok (.aload_n 0, 1) := dk_42 (dk_at dksX2_cock_0 10 rfl rfl)
theorem dX2_cock_11 : decode cX2_cock 11 = .ok (.getfield 49, 3) := dk_180 0 49 (dk_at dksX2_cock_0 11 rfl rfl)
theorem dX2_cock_14 : decode cX2_cock 14 = .ok (.aload_n 0, 1) := dk_42 (dk_at dksX2_cock_0 14 rfl rfl)
theorem dX2_cock_15 : decode cX2_cock 15 = .ok (.getfield 97, 3) := dk_180 0 97 (dk_at dksX2_cock_0 15 rfl rfl)
theorem dX2_cock_18 : decode cX2_cock 18 = .ok (.iaload, 1) := dk_46 (dk_at dksX2_cock_0 18 rfl rfl)
theorem dX2_cock_19 : decode cX2_cock 19 = .ok (.iconst 2, 1) := dk_5 (dk_at dksX2_cock_0 19 rfl rfl)
theorem dX2_cock_20 : decode cX2_cock 20 = .ok (.if_icmp .ne 46, 3) := dk_160 0 46 (dk_at dksX2_cock_0 20 rfl rfl)
theorem dX2_cock_23 : decode cX2_cock 23 = .ok (.aload_n 0, 1) := dk_42 (dk_at dksX2_cock_0 23 rfl rfl)
theorem dX2_cock_24 : decode cX2_cock 24 = .ok (.getfield 52, 3) := dk_180 0 52 (dk_at dksX2_cock_1 0 rfl rfl)
theorem dX2_cock_27 : decode cX2_cock 27 = .ok (.aload_n 0, 1) := dk_42 (dk_at dksX2_cock_1 3 rfl rfl)
theorem dX2_cock_28 : decode cX2_cock 28 = .ok (.getfield 97, 3) := dk_180 0 97 (dk_at dksX2_cock_1 4 rfl rfl)
theorem dX2_cock_31 : decode cX2_cock 31 = .ok (.laload, 1) := dk_47 (dk_at dksX2_cock_1 7 rfl rfl)
theorem dX2_cock_32 : decode cX2_cock 32 = .ok (.ldc2_w 254, 3) := dk_20 0 254 (dk_at dksX2_cock_1 8 rfl rfl)
theorem dX2_cock_35 : decode cX2_cock 35 = .ok (.lcmp, 1) := dk_148 (dk_at dksX2_cock_1 11 rfl rfl)
theorem dX2_cock_36 : decode cX2_cock 36 = .ok (.ifCond .ge 30, 3) := dk_156 0 30 (dk_at dksX2_cock_1 12 rfl rfl)
theorem dX2_cock_39 : decode cX2_cock 39 = .ok (.aload_n 0, 1) := dk_42 (dk_at dksX2_cock_1 15 rfl rfl)
theorem dX2_cock_40 : decode cX2_cock 40 = .ok (.getfield 132, 3) := dk_180 0 132 (dk_at dksX2_cock_1 16 rfl rfl)
theorem dX2_cock_43 : decode cX2_cock 43 = .ok (.getfield 153, 3) := dk_180 0 153 (dk_at dksX2_cock_1 19 rfl rfl)
theorem dX2_cock_46 : decode cX2_cock 46 = .ok (.aload_n 0, 1) := dk_42 (dk_at dksX2_cock_1 22 rfl rfl)
theorem dX2_cock_47 : decode cX2_cock 47 = .ok (.getfield 52, 3) := dk_180 0 52 (dk_at dksX2_cock_2 0 rfl rfl)
theorem dX2_cock_50 : decode cX2_cock 50 = .ok (.aload_n 0, 1) := dk_42 (dk_at dksX2_cock_2 3 rfl rfl)
theorem dX2_cock_51 : decode cX2_cock 51 = .ok (.getfield 97, 3) := dk_180 0 97 (dk_at dksX2_cock_2 4 rfl rfl)
theorem dX2_cock_54 : decode cX2_cock 54 = .ok (.laload, 1) := dk_47 (dk_at dksX2_cock_2 7 rfl rfl)
theorem dX2_cock_55 : decode cX2_cock 55 = .ok (.l2i, 1) := dk_136 (dk_at dksX2_cock_2 8 rfl rfl)
theorem dX2_cock_56 : decode cX2_cock 56 = .ok (.aaload, 1) := dk_50 (dk_at dksX2_cock_2 9 rfl rfl)
theorem dX2_cock_57 : decode cX2_cock 57 = .ok (.ifnull 9, 3) := dk_198 0 9 (dk_at dksX2_cock_2 10 rfl rfl)
theorem dX2_cock_60 : decode cX2_cock 60 = .ok (.aload_n 0, 1) := dk_42 (dk_at dksX2_cock_2 13 rfl rfl)
theorem dX2_cock_61 : decode cX2_cock 61 = .ok (.iconst 3, 1) := dk_6 (dk_at dksX2_cock_2 14 rfl rfl)
theorem dX2_cock_62 : decode cX2_cock 62 = .ok (.invokevirtual 118, 3) := dk_182 0 118 (dk_at dksX2_cock_2 15 rfl rfl)
theorem dX2_cock_65 : decode cX2_cock 65 = .ok (.athrow, 1) := dk_191 (dk_at dksX2_cock_2 18 rfl rfl)
theorem dX2_cock_66 : decode cX2_cock 66 = .ok (.aload_n 0, 1) := dk_42 (dk_at dksX2_cock_2 19 rfl rfl)
theorem dX2_cock_67 : decode cX2_cock 67 = .ok (.iconst 0, 1) := dk_3 (dk_at dksX2_cock_2 20 rfl rfl)
theorem dX2_cock_68 : decode cX2_cock 68 = .ok (.iconst 1, 1) := dk_4 (dk_at dksX2_cock_2 21 rfl rfl)
theorem dX2_cock_69 : decode cX2_cock 69 = .ok (.invokevirtual 204, 3) := dk_182 0 204 (dk_at dksX2_cock_3 0 rfl rfl)
theorem dX2_cock_72 : decode cX2_cock 72 = .ok (.istore_n 1, 1) := dk_60 (dk_at dksX2_cock_3 3 rfl rfl)
theorem dX2_cock_73 : decode cX2_cock 73 = .ok (.aload_n 0, 1) := dk_42 (dk_at dksX2_cock_3 4 rfl rfl)
theorem dX2_cock_74 : decode cX2_cock 74 = .ok (.ldc 29, 2) := dk_18 29 (dk_at dksX2_cock_3 5 rfl rfl)
theorem dX2_cock_76 : decode cX2_cock 76 = .ok (.invokevirtual 224, 3) := dk_182 0 224 (dk_at dksX2_cock_3 7 rfl rfl)
theorem dX2_cock_79 : decode cX2_cock 79 = .ok (.aload_n 0, 1) := dk_42 (dk_at dksX2_cock_3 10 rfl rfl)
theorem dX2_cock_80 : decode cX2_cock 80 = .ok (.iconst 0, 1) := dk_3 (dk_at dksX2_cock_3 11 rfl rfl)
theorem dX2_cock_81 : decode cX2_cock 81 = .ok (.iconst 1, 1) := dk_4 (dk_at dksX2_cock_3 12 rfl rfl)
theorem dX2_cock_82 : decode cX2_cock 82 = .ok (.invokevirtual 204, 3) := dk_182 0 204 (dk_at dksX2_cock_3 13 rfl rfl)
theorem dX2_cock_85 : decode cX2_cock 85 = .ok (.istore_n 2, 1) := dk_61 (dk_at dksX2_cock_3 16 rfl rfl)
theorem dX2_cock_86 : decode cX2_cock 86 = .ok (.aload_n 0, 1) := dk_42 (dk_at dksX2_cock_3 17 rfl rfl)
theorem dX2_cock_87 : decode cX2_cock 87 = .ok (.ldc 31, 2) := dk_18 31 (dk_at dksX2_cock_3 18 rfl rfl)
theorem dX2_cock_89 : decode cX2_cock 89 = .ok (.invokevirtual 224, 3) := dk_182 0 224 (dk_at dksX2_cock_3 20 rfl rfl)
theorem dX2_cock_92 : decode cX2_cock 92 = .ok (.aload_n 0, 1) := dk_42 (dk_at dksX2_cock_3 23 rfl rfl)
theorem dX2_cock_93 : decode cX2_cock 93 = .ok (.getfield 132, 3) := dk_180 0 132 (dk_at dksX2_cock_4 0 rfl rfl)
theorem dX2_cock_96 : decode cX2_cock 96 = .ok (.getfield 153, 3) := dk_180 0 153 (dk_at dksX2_cock_4 3 rfl rfl)
theorem dX2_cock_99 : decode cX2_cock 99 = .ok (.iload_n 1, 1) := dk_27 (dk_at dksX2_cock_4 6 rfl rfl)
theorem dX2_cock_100 : decode cX2_cock 100 = .ok (.new 157, 3) := dk_187 0 157 (dk_at dksX2_cock_4 7 rfl rfl)
theorem dX2_cock_103 : decode cX2_cock 103 = .ok (.dup, 1) := dk_89 (dk_at dksX2_cock_4 10 rfl rfl)
theorem dX2_cock_104 : decode cX2_cock 104 = .ok (.iload_n 2, 1) := dk_28 (dk_at dksX2_cock_4 11 rfl rfl)
theorem dX2_cock_105 : decode cX2_cock 105 = .ok (.aload_n 0, 1) := dk_42 (dk_at dksX2_cock_4 12 rfl rfl)
theorem dX2_cock_106 : decode cX2_cock 106 = .ok (.iconst 0, 1) := dk_3 (dk_at dksX2_cock_4 13 rfl rfl)
theorem dX2_cock_107 : decode cX2_cock 107 = .ok (.bipush 60, 2) := dk_16 60 (dk_at dksX2_cock_4 14 rfl rfl)
theorem dX2_cock_109 : decode cX2_cock 109 = .ok (.invokevirtual 204, 3) := dk_182 0 204 (dk_at dksX2_cock_4 16 rfl rfl)
theorem dX2_cock_112 : decode cX2_cock 112 = .ok (.invokespecial 159, 3) := dk_183 0 159 (dk_at dksX2_cock_4 19 rfl rfl)
theorem dX2_cock_115 : decode cX2_cock 115 = .ok (.aastore, 1) := dk_83 (dk_at dksX2_cock_4 22 rfl rfl)
theorem dX2_cock_116 : decode cX2_cock 116 = .ok (.return_, 1) := dk_177 (dk_at dksX2_cock_4 23 rfl rfl)
abbrev cX2_saying : ByteArray := prog_21_method_24_code
def yX2_saying : MethodName := ⟨RX2, "saying", "(LLiarsCock$Parish;)LLiarsCock$Expression;"⟩
def dkwX2_saying_1 : List UInt8 := [182, 0, 250, 77, 42, 180, 0, 49, 42, 180, 0, 97, 46, 153, 0, 9, 42, 4, 182, 0, 118, 191, 44, 176]
abbrev dktX2_saying_1 : List UInt8 := dkwX2_saying_1 ++ []
def dkwX2_saying_0 : List UInt8 := [42, 182, 0, 126, 42, 43, 181, 0, 132, 42, 180, 0, 49, 42, 180, 0, 97, 46, 154, 0, 5, 1, 176, 42]
abbrev dktX2_saying_0 : List UInt8 := dkwX2_saying_0 ++ dktX2_saying_1
theorem dksX2_saying_0 : cX2_saying.data.toList.drop 0 = dktX2_saying_0 := by decide +kernel
theorem dksX2_saying_1 : cX2_saying.data.toList.drop 24 = dktX2_saying_1 := dk_seg dksX2_saying_0 24 rfl rfl
theorem dX2_saying_0 : decode cX2_saying 0 = .ok (.aload_n 0, 1) := dk_42 (dk_at dksX2_saying_0 0 rfl rfl)
theorem dX2_saying_1 : decode cX2_saying 1 = .ok (.invokevirtual 126, 3) := dk_182 0 126 (dk_at dksX2_saying_0 1 rfl rfl)
theorem dX2_saying_4 : decode cX2_saying 4 = .ok (.aload_n 0, 1) := dk_42 (dk_at dksX2_saying_0 4 rfl rfl)
theorem dX2_saying_5 : decode cX2_saying 5 = .ok (.aload_n 1, 1) := dk_43 (dk_at dksX2_saying_0 5 rfl rfl)
theorem dX2_saying_6 : decode cX2_saying 6 = .ok (.putfield 132, 3) := dk_181 0 132 (dk_at dksX2_saying_0 6 rfl rfl)
theorem dX2_saying_9 : decode cX2_saying 9 = .ok (.aload_n 0, 1) := dk_42 (dk_at dksX2_saying_0 9 rfl rfl)
theorem dX2_saying_10 : decode cX2_saying 10 = .ok (.getfield 49, 3) := dk_180 0 49 (dk_at dksX2_saying_0 10 rfl rfl)
theorem dX2_saying_13 : decode cX2_saying 13 = .ok (.aload_n 0, 1) := dk_42 (dk_at dksX2_saying_0 13 rfl rfl)
theorem dX2_saying_14 : decode cX2_saying 14 = .ok (.getfield 97, 3) := dk_180 0 97 (dk_at dksX2_saying_0 14 rfl rfl)
theorem dX2_saying_17 : decode cX2_saying 17 = .ok (.iaload, 1) := dk_46 (dk_at dksX2_saying_0 17 rfl rfl)
theorem dX2_saying_18 : decode cX2_saying 18 = .ok (.ifCond .ne 5, 3) := dk_154 0 5 (dk_at dksX2_saying_0 18 rfl rfl)
theorem dX2_saying_21 : decode cX2_saying 21 = .ok (.aconst_null, 1) := dk_1 (dk_at dksX2_saying_0 21 rfl rfl)
theorem dX2_saying_22 : decode cX2_saying 22 = .ok (.areturn, 1) := dk_176 (dk_at dksX2_saying_0 22 rfl rfl)
theorem dX2_saying_23 : decode cX2_saying 23 = .ok (.aload_n 0, 1) := dk_42 (dk_at dksX2_saying_0 23 rfl rfl)
theorem dX2_saying_24 : decode cX2_saying 24 = .ok (.invokevirtual 250, 3) := dk_182 0 250 (dk_at dksX2_saying_1 0 rfl rfl)
theorem dX2_saying_27 : decode cX2_saying 27 = .ok (.astore_n 2, 1) := dk_77 (dk_at dksX2_saying_1 3 rfl rfl)
theorem dX2_saying_28 : decode cX2_saying 28 = .ok (.aload_n 0, 1) := dk_42 (dk_at dksX2_saying_1 4 rfl rfl)
theorem dX2_saying_29 : decode cX2_saying 29 = .ok (.getfield 49, 3) := dk_180 0 49 (dk_at dksX2_saying_1 5 rfl rfl)
theorem dX2_saying_32 : decode cX2_saying 32 = .ok (.aload_n 0, 1) := dk_42 (dk_at dksX2_saying_1 8 rfl rfl)
theorem dX2_saying_33 : decode cX2_saying 33 = .ok (.getfield 97, 3) := dk_180 0 97 (dk_at dksX2_saying_1 9 rfl rfl)
theorem dX2_saying_36 : decode cX2_saying 36 = .ok (.iaload, 1) := dk_46 (dk_at dksX2_saying_1 12 rfl rfl)
theorem dX2_saying_37 : decode cX2_saying 37 = .ok (.ifCond .eq 9, 3) := dk_153 0 9 (dk_at dksX2_saying_1 13 rfl rfl)
theorem dX2_saying_40 : decode cX2_saying 40 = .ok (.aload_n 0, 1) := dk_42 (dk_at dksX2_saying_1 16 rfl rfl)
theorem dX2_saying_41 : decode cX2_saying 41 = .ok (.iconst 1, 1) := dk_4 (dk_at dksX2_saying_1 17 rfl rfl)
theorem dX2_saying_42 : decode cX2_saying 42 = .ok (.invokevirtual 118, 3) := dk_182 0 118 (dk_at dksX2_saying_1 18 rfl rfl)
theorem dX2_saying_45 : decode cX2_saying 45 = .ok (.athrow, 1) := dk_191 (dk_at dksX2_saying_1 21 rfl rfl)
theorem dX2_saying_46 : decode cX2_saying 46 = .ok (.aload_n 2, 1) := dk_44 (dk_at dksX2_saying_1 22 rfl rfl)
theorem dX2_saying_47 : decode cX2_saying 47 = .ok (.areturn, 1) := dk_176 (dk_at dksX2_saying_1 23 rfl rfl)
theorem q120 : (Jvm.Cond.initialized "LiarsCock$Reader") ∈ lw_all := lw_g (lw_at lw_m1 2 rfl) rfl
theorem q175 : (Jvm.Cond.instantiable "LiarsCock$Reader" (9 : Nat)) ∈ lw_all := lw_g (lw_at lw_m1 57 rfl) rfl
theorem q177 : (Jvm.Cond.instanceMethod ({ cls := "LiarsCock$Reader", name := "<init>", desc := "()V" } : Jvm.MethodName)) ∈ lw_all := lw_g (lw_at lw_m1 59 rfl) rfl
theorem q178 : (Jvm.Cond.code ({ cls := "LiarsCock$Reader", name := "<init>", desc := "()V" } : Jvm.MethodName) prog_21_method_1_code (1 : Nat) (Option.none : Option Jvm.ClassFile.FieldType)) ∈ lw_all := lw_g (lw_at lw_m1 60 rfl) rfl
theorem q179 : (Jvm.Cond.methodLink "LiarsCock$Reader" (3 : Nat) ({ cls := "java/lang/Object", name := "<init>", desc := "()V" } : Jvm.MethodName)) ∈ lw_all := lw_g (lw_at lw_m1 61 rfl) rfl
theorem q180 : (Jvm.Cond.classLink "LiarsCock$Reader" (9 : Nat) "java/lang/String") ∈ lw_all := lw_g (lw_at lw_m1 62 rfl) rfl
theorem q182 : (Jvm.Cond.stringRef "LiarsCock$Reader" (11 : Nat) "fact") ∈ lw_tbl := lw_at lw_m1 64 rfl
theorem q183 : (Jvm.Cond.stringRef "LiarsCock$Reader" (13 : Nat) "chance") ∈ lw_tbl := lw_at lw_m1 65 rfl
theorem q184 : (Jvm.Cond.stringRef "LiarsCock$Reader" (15 : Nat) "place") ∈ lw_tbl := lw_at lw_m1 66 rfl
theorem q185 : (Jvm.Cond.stringRef "LiarsCock$Reader" (17 : Nat) "bearing") ∈ lw_tbl := lw_at lw_m1 67 rfl
theorem q186 : (Jvm.Cond.stringRef "LiarsCock$Reader" (19 : Nat) "person") ∈ lw_tbl := lw_at lw_m1 68 rfl
theorem q187 : (Jvm.Cond.stringRef "LiarsCock$Reader" (21 : Nat) "at") ∈ lw_tbl := lw_at lw_m1 69 rfl
theorem q188 : (Jvm.Cond.stringRef "LiarsCock$Reader" (23 : Nat) "knows") ∈ lw_tbl := lw_at lw_m1 70 rfl
theorem q189 : (Jvm.Cond.stringRef "LiarsCock$Reader" (25 : Nat) "common") ∈ lw_tbl := lw_at lw_m1 71 rfl
theorem q190 : (Jvm.Cond.stringRef "LiarsCock$Reader" (27 : Nat) "cock") ∈ lw_tbl := lw_at lw_m1 72 rfl
theorem q191 : (Jvm.Cond.stringRef "LiarsCock$Reader" (29 : Nat) "law") ∈ lw_tbl := lw_at lw_m1 73 rfl
theorem q192 : (Jvm.Cond.stringRef "LiarsCock$Reader" (31 : Nat) "late") ∈ lw_tbl := lw_at lw_m1 74 rfl
theorem q193 : (Jvm.Cond.stringRef "LiarsCock$Reader" (33 : Nat) "not") ∈ lw_tbl := lw_at lw_m1 75 rfl
theorem q194 : (Jvm.Cond.stringRef "LiarsCock$Reader" (35 : Nat) "and") ∈ lw_tbl := lw_at lw_m1 76 rfl
theorem q195 : (Jvm.Cond.stringRef "LiarsCock$Reader" (37 : Nat) "or") ∈ lw_tbl := lw_at lw_m1 77 rfl
theorem q196 : (Jvm.Cond.fieldLink "LiarsCock$Reader" (39 : Nat) "LiarsCock$Reader" "kept" "[Ljava/lang/String;") ∈ lw_all := lw_g (lw_at lw_m1 78 rfl) rfl
theorem q197 : (Jvm.Cond.fieldLink "LiarsCock$Reader" (132 : Nat) "LiarsCock$Reader" "draft" "LLiarsCock$Parish;") ∈ lw_all := lw_g (lw_at lw_m1 79 rfl) rfl
theorem q198 : (Jvm.Cond.fieldLink "LiarsCock$Reader" (45 : Nat) "LiarsCock$Reader" "tape" "[I") ∈ lw_all := lw_g (lw_at lw_m1 80 rfl) rfl
theorem q199 : (Jvm.Cond.fieldLink "LiarsCock$Reader" (64 : Nat) "LiarsCock$Reader" "taped" "I") ∈ lw_all := lw_g (lw_at lw_m1 81 rfl) rfl
theorem q201 : (Jvm.Cond.fieldLink "LiarsCock$Reader" (49 : Nat) "LiarsCock$Reader" "sort" "[I") ∈ lw_all := lw_g (lw_at lw_m1 83 rfl) rfl
theorem q202 : (Jvm.Cond.fieldLink "LiarsCock$Reader" (52 : Nat) "LiarsCock$Reader" "value" "[J") ∈ lw_all := lw_g (lw_at lw_m1 84 rfl) rfl
theorem q203 : (Jvm.Cond.fieldLink "LiarsCock$Reader" (56 : Nat) "LiarsCock$Reader" "place" "[I") ∈ lw_all := lw_g (lw_at lw_m1 85 rfl) rfl
theorem q204 : (Jvm.Cond.fieldLink "LiarsCock$Reader" (97 : Nat) "LiarsCock$Reader" "at" "I") ∈ lw_all := lw_g (lw_at lw_m1 86 rfl) rfl
theorem q205 : (Jvm.Cond.fieldLink "LiarsCock$Reader" (259 : Nat) "LiarsCock$Reader" "deep" "I") ∈ lw_all := lw_g (lw_at lw_m1 87 rfl) rfl
theorem q206 : (Jvm.Cond.laysFinal "LiarsCock$Reader" "LiarsCock$Reader" "kept" "[Ljava/lang/String;") ∈ lw_all := lw_g (lw_at lw_m1 88 rfl) rfl
theorem q207 : (Jvm.Cond.soleField "LiarsCock$Reader" "kept") ∈ lw_all := lw_g (lw_at lw_m1 89 rfl) rfl
theorem q208 : (Jvm.Cond.lays "LiarsCock$Reader" "LiarsCock$Reader" "draft" "LLiarsCock$Parish;") ∈ lw_all := lw_g (lw_at lw_m1 90 rfl) rfl
theorem q209 : (Jvm.Cond.soleField "LiarsCock$Reader" "draft") ∈ lw_all := lw_g (lw_at lw_m1 91 rfl) rfl
theorem q210 : (Jvm.Cond.laysFinal "LiarsCock$Reader" "LiarsCock$Reader" "tape" "[I") ∈ lw_all := lw_g (lw_at lw_m1 92 rfl) rfl
theorem q211 : (Jvm.Cond.soleField "LiarsCock$Reader" "tape") ∈ lw_all := lw_g (lw_at lw_m1 93 rfl) rfl
theorem q212 : (Jvm.Cond.lays "LiarsCock$Reader" "LiarsCock$Reader" "taped" "I") ∈ lw_all := lw_g (lw_at lw_m1 94 rfl) rfl
theorem q213 : (Jvm.Cond.soleField "LiarsCock$Reader" "taped") ∈ lw_all := lw_g (lw_at lw_m1 95 rfl) rfl
theorem q214 : (Jvm.Cond.laysFinal "LiarsCock$Reader" "LiarsCock$Reader" "sort" "[I") ∈ lw_all := lw_g (lw_at lw_m1 96 rfl) rfl
theorem q215 : (Jvm.Cond.soleField "LiarsCock$Reader" "sort") ∈ lw_all := lw_g (lw_at lw_m1 97 rfl) rfl
theorem q216 : (Jvm.Cond.laysFinal "LiarsCock$Reader" "LiarsCock$Reader" "value" "[J") ∈ lw_all := lw_g (lw_at lw_m1 98 rfl) rfl
theorem q217 : (Jvm.Cond.soleField "LiarsCock$Reader" "value") ∈ lw_all := lw_g (lw_at lw_m1 99 rfl) rfl
theorem q218 : (Jvm.Cond.laysFinal "LiarsCock$Reader" "LiarsCock$Reader" "place" "[I") ∈ lw_all := lw_g (lw_at lw_m1 100 rfl) rfl
theorem q219 : (Jvm.Cond.soleField "LiarsCock$Reader" "place") ∈ lw_all := lw_g (lw_at lw_m1 101 rfl) rfl
theorem q220 : (Jvm.Cond.lays "LiarsCock$Reader" "LiarsCock$Reader" "at" "I") ∈ lw_all := lw_g (lw_at lw_m1 102 rfl) rfl
theorem q221 : (Jvm.Cond.soleField "LiarsCock$Reader" "at") ∈ lw_all := lw_g (lw_at lw_m1 103 rfl) rfl
theorem q222 : (Jvm.Cond.lays "LiarsCock$Reader" "LiarsCock$Reader" "deep" "I") ∈ lw_all := lw_g (lw_at lw_m1 104 rfl) rfl
theorem q223 : (Jvm.Cond.soleField "LiarsCock$Reader" "deep") ∈ lw_all := lw_g (lw_at lw_m1 105 rfl) rfl
theorem q224 : (Jvm.Cond.superclass "LiarsCock$Reader" "java/lang/Object") ∈ lw_all := lw_g (lw_at lw_m1 106 rfl) rfl
theorem q280 : (Jvm.Cond.fieldLink "LiarsCock$Reader" (196 : Nat) "LiarsCock$Parish" "facts" "Ljava/util/ArrayList;") ∈ lw_all := lw_g (lw_at lw_m1 162 rfl) rfl
theorem q282 : (Jvm.Cond.fieldLink "LiarsCock$Reader" (221 : Nat) "LiarsCock$Parish" "places" "Ljava/util/ArrayList;") ∈ lw_all := lw_g (lw_at lw_m1 164 rfl) rfl
theorem q285 : (Jvm.Cond.fieldLink "LiarsCock$Reader" (247 : Nat) "LiarsCock$Parish" "names" "Ljava/util/ArrayList;") ∈ lw_all := lw_g (lw_at lw_m1 167 rfl) rfl
theorem q289 : (Jvm.Cond.fieldLink "LiarsCock$Reader" (231 : Nat) "LiarsCock$Parish" "people" "Ljava/util/ArrayList;") ∈ lw_all := lw_g (lw_at lw_m1 171 rfl) rfl
theorem q291 : (Jvm.Cond.fieldLink "LiarsCock$Reader" (208 : Nat) "LiarsCock$Parish" "chances" "[I") ∈ lw_all := lw_g (lw_at lw_m1 173 rfl) rfl
theorem q294 : (Jvm.Cond.fieldLink "LiarsCock$Reader" (228 : Nat) "LiarsCock$Parish" "bearings" "[I") ∈ lw_all := lw_g (lw_at lw_m1 176 rfl) rfl
theorem q297 : (Jvm.Cond.fieldLink "LiarsCock$Reader" (153 : Nat) "LiarsCock$Parish" "cocks" "[LLiarsCock$Cock;") ∈ lw_all := lw_g (lw_at lw_m1 179 rfl) rfl
theorem q298 : (Jvm.Cond.fieldLink "LiarsCock$Reader" (165 : Nat) "LiarsCock$Parish" "commons" "I") ∈ lw_all := lw_g (lw_at lw_m1 180 rfl) rfl
theorem q303 : (Jvm.Cond.fieldLink "LiarsCock$Reader" (175 : Nat) "LiarsCock$Parish" "common" "J") ∈ lw_all := lw_g (lw_at lw_m1 185 rfl) rfl
theorem q464 : (Jvm.Cond.instanceMethod ({ cls := "LiarsCock$Reader", name := "feed", desc := "(J)V" } : Jvm.MethodName)) ∈ lw_all := lw_g (lw_at lw_m2 106 rfl) rfl
theorem q465 : (Jvm.Cond.selects "LiarsCock$Reader" ({ cls := "LiarsCock$Reader", name := "feed", desc := "(J)V" } : Jvm.MethodName) ({ cls := "LiarsCock$Reader", name := "feed", desc := "(J)V" } : Jvm.MethodName)) ∈ lw_all := lw_g (lw_at lw_m2 107 rfl) rfl
theorem q466 : (Jvm.Cond.code ({ cls := "LiarsCock$Reader", name := "feed", desc := "(J)V" } : Jvm.MethodName) prog_21_method_2_code (5 : Nat) (Option.none : Option Jvm.ClassFile.FieldType)) ∈ lw_all := lw_g (lw_at lw_m2 108 rfl) rfl
theorem q467 : (Jvm.Cond.constantLong "LiarsCock$Reader" (58 : Nat) (255 : Int64)) ∈ lw_all := lw_g (lw_at lw_m2 109 rfl) rfl
theorem q468 : (Jvm.Cond.methodLinkNest "LiarsCock$Reader" (60 : Nat) ({ cls := "LiarsCock", name := "within", desc := "(III)Z" } : Jvm.MethodName) "LiarsCock") ∈ lw_tbl := lw_at lw_m2 110 rfl
theorem q477 : (Jvm.Cond.instanceMethod ({ cls := "LiarsCock$Reader", name := "parish", desc := "()LLiarsCock$Parish;" } : Jvm.MethodName)) ∈ lw_all := lw_g (lw_at lw_m2 119 rfl) rfl
theorem q478 : (Jvm.Cond.selects "LiarsCock$Reader" ({ cls := "LiarsCock$Reader", name := "parish", desc := "()LLiarsCock$Parish;" } : Jvm.MethodName) ({ cls := "LiarsCock$Reader", name := "parish", desc := "()LLiarsCock$Parish;" } : Jvm.MethodName)) ∈ lw_all := lw_g (lw_at lw_m2 120 rfl) rfl
theorem q479 : (Jvm.Cond.code ({ cls := "LiarsCock$Reader", name := "parish", desc := "()LLiarsCock$Parish;" } : Jvm.MethodName) prog_21_method_16_code (3 : Nat) (Option.some (Jvm.ClassFile.FieldType.object "LiarsCock$Parish"))) ∈ lw_all := lw_g (lw_at lw_m2 121 rfl) rfl
theorem q480 : (Jvm.Cond.methodLink "LiarsCock$Reader" (126 : Nat) ({ cls := "LiarsCock$Reader", name := "cut", desc := "()V" } : Jvm.MethodName)) ∈ lw_all := lw_g (lw_at lw_m2 122 rfl) rfl
theorem q481 : (Jvm.Cond.privateMethod ({ cls := "LiarsCock$Reader", name := "cut", desc := "()V" } : Jvm.MethodName)) ∈ lw_tbl := lw_at lw_m2 123 rfl
theorem q482 : (Jvm.Cond.instanceMethod ({ cls := "LiarsCock$Reader", name := "cut", desc := "()V" } : Jvm.MethodName)) ∈ lw_all := lw_g (lw_at lw_m2 124 rfl) rfl
theorem q483 : (Jvm.Cond.code ({ cls := "LiarsCock$Reader", name := "cut", desc := "()V" } : Jvm.MethodName) prog_21_method_6_code (8 : Nat) (Option.none : Option Jvm.ClassFile.FieldType)) ∈ lw_all := lw_g (lw_at lw_m2 125 rfl) rfl
theorem q484 : (Jvm.Cond.methodLink "LiarsCock$Reader" (80 : Nat) ({ cls := "LiarsCock$Reader", name := "isLetter", desc := "(I)Z" } : Jvm.MethodName)) ∈ lw_all := lw_g (lw_at lw_m2 126 rfl) rfl
theorem q485 : (Jvm.Cond.static ({ cls := "LiarsCock$Reader", name := "isLetter", desc := "(I)Z" } : Jvm.MethodName)) ∈ lw_all := lw_g (lw_at lw_m2 127 rfl) rfl
theorem q486 : (Jvm.Cond.code ({ cls := "LiarsCock$Reader", name := "isLetter", desc := "(I)Z" } : Jvm.MethodName) prog_21_method_4_code (1 : Nat) (Option.some Jvm.ClassFile.FieldType.boolean)) ∈ lw_all := lw_g (lw_at lw_m2 128 rfl) rfl
theorem q487 : (Jvm.Cond.constantLong "LiarsCock$Reader" (72 : Nat) (27 : Int64)) ∈ lw_all := lw_g (lw_at lw_m2 129 rfl) rfl
theorem q488 : (Jvm.Cond.constantLong "LiarsCock$Reader" (78 : Nat) (96 : Int64)) ∈ lw_all := lw_g (lw_at lw_m2 130 rfl) rfl
theorem q489 : (Jvm.Cond.methodLink "LiarsCock$Reader" (84 : Nat) ({ cls := "LiarsCock$Reader", name := "isDigit", desc := "(I)Z" } : Jvm.MethodName)) ∈ lw_all := lw_g (lw_at lw_m2 131 rfl) rfl
theorem q490 : (Jvm.Cond.static ({ cls := "LiarsCock$Reader", name := "isDigit", desc := "(I)Z" } : Jvm.MethodName)) ∈ lw_all := lw_g (lw_at lw_m2 132 rfl) rfl
theorem q491 : (Jvm.Cond.code ({ cls := "LiarsCock$Reader", name := "isDigit", desc := "(I)Z" } : Jvm.MethodName) prog_21_method_5_code (1 : Nat) (Option.some Jvm.ClassFile.FieldType.boolean)) ∈ lw_all := lw_g (lw_at lw_m2 133 rfl) rfl
theorem q492 : (Jvm.Cond.constantLong "LiarsCock$Reader" (87 : Nat) (10 : Int64)) ∈ lw_all := lw_g (lw_at lw_m2 134 rfl) rfl
theorem q493 : (Jvm.Cond.constantLong "LiarsCock$Reader" (89 : Nat) (48 : Int64)) ∈ lw_all := lw_g (lw_at lw_m2 135 rfl) rfl
theorem q494 : (Jvm.Cond.stringRef "LiarsCock$Reader" (91 : Nat) "()<=+-*;") ∈ lw_tbl := lw_at lw_m2 136 rfl
theorem q495 : (Jvm.Cond.methodLink "LiarsCock$Reader" (93 : Nat) ({ cls := "java/lang/String", name := "indexOf", desc := "(I)I" } : Jvm.MethodName)) ∈ lw_all := lw_g (lw_at lw_m2 137 rfl) rfl
theorem q581 : (Jvm.Cond.classLink "LiarsCock$Reader" (129 : Nat) "LiarsCock$Parish") ∈ lw_all := lw_g (lw_at lw_m2 223 rfl) rfl
theorem q582 : (Jvm.Cond.methodLinkNest "LiarsCock$Reader" (131 : Nat) ({ cls := "LiarsCock$Parish", name := "<init>", desc := "()V" } : Jvm.MethodName) "LiarsCock") ∈ lw_tbl := lw_at lw_m2 224 rfl
theorem q583 : (Jvm.Cond.classLink "LiarsCock$Reader" (136 : Nat) "java/util/ArrayList") ∈ lw_all := lw_g (lw_at lw_m2 225 rfl) rfl
theorem q584 : (Jvm.Cond.methodLink "LiarsCock$Reader" (138 : Nat) ({ cls := "java/util/ArrayList", name := "<init>", desc := "(I)V" } : Jvm.MethodName)) ∈ lw_all := lw_g (lw_at lw_m2 226 rfl) rfl
theorem q585 : (Jvm.Cond.methodLink "LiarsCock$Reader" (108 : Nat) ({ cls := "LiarsCock$Reader", name := "isWord", desc := "(Ljava/lang/String;)Z" } : Jvm.MethodName)) ∈ lw_all := lw_g (lw_at lw_m2 227 rfl) rfl
theorem q586 : (Jvm.Cond.privateMethod ({ cls := "LiarsCock$Reader", name := "isWord", desc := "(Ljava/lang/String;)Z" } : Jvm.MethodName)) ∈ lw_tbl := lw_at lw_m2 228 rfl
theorem q587 : (Jvm.Cond.instanceMethod ({ cls := "LiarsCock$Reader", name := "isWord", desc := "(Ljava/lang/String;)Z" } : Jvm.MethodName)) ∈ lw_all := lw_g (lw_at lw_m2 229 rfl) rfl
theorem q588 : (Jvm.Cond.code ({ cls := "LiarsCock$Reader", name := "isWord", desc := "(Ljava/lang/String;)Z" } : Jvm.MethodName) prog_21_method_8_code (2 : Nat) (Option.some Jvm.ClassFile.FieldType.boolean)) ∈ lw_all := lw_g (lw_at lw_m2 230 rfl) rfl
theorem q589 : (Jvm.Cond.methodLink "LiarsCock$Reader" (104 : Nat) ({ cls := "LiarsCock$Reader", name := "word", desc := "(Ljava/lang/String;)J" } : Jvm.MethodName)) ∈ lw_all := lw_g (lw_at lw_m2 231 rfl) rfl
theorem q590 : (Jvm.Cond.static ({ cls := "LiarsCock$Reader", name := "word", desc := "(Ljava/lang/String;)J" } : Jvm.MethodName)) ∈ lw_all := lw_g (lw_at lw_m2 232 rfl) rfl
theorem q591 : (Jvm.Cond.code ({ cls := "LiarsCock$Reader", name := "word", desc := "(Ljava/lang/String;)J" } : Jvm.MethodName) prog_21_method_3_code (4 : Nat) (Option.some Jvm.ClassFile.FieldType.long)) ∈ lw_all := lw_g (lw_at lw_m2 233 rfl) rfl
theorem q592 : (Jvm.Cond.methodLink "LiarsCock$Reader" (68 : Nat) ({ cls := "java/lang/String", name := "length", desc := "()I" } : Jvm.MethodName)) ∈ lw_all := lw_g (lw_at lw_m2 234 rfl) rfl
theorem q593 : (Jvm.Cond.methodLink "LiarsCock$Reader" (74 : Nat) ({ cls := "java/lang/String", name := "charAt", desc := "(I)C" } : Jvm.MethodName)) ∈ lw_all := lw_g (lw_at lw_m2 235 rfl) rfl
theorem q613 : (Jvm.Cond.methodLink "LiarsCock$Reader" (139 : Nat) ({ cls := "LiarsCock$Reader", name := "fact", desc := "()V" } : Jvm.MethodName)) ∈ lw_all := lw_g (lw_at lw_m3 15 rfl) rfl
theorem q614 : (Jvm.Cond.privateMethod ({ cls := "LiarsCock$Reader", name := "fact", desc := "()V" } : Jvm.MethodName)) ∈ lw_tbl := lw_at lw_m3 16 rfl
theorem q615 : (Jvm.Cond.instanceMethod ({ cls := "LiarsCock$Reader", name := "fact", desc := "()V" } : Jvm.MethodName)) ∈ lw_all := lw_g (lw_at lw_m3 17 rfl) rfl
theorem q616 : (Jvm.Cond.code ({ cls := "LiarsCock$Reader", name := "fact", desc := "()V" } : Jvm.MethodName) prog_21_method_19_code (4 : Nat) (Option.none : Option Jvm.ClassFile.FieldType)) ∈ lw_all := lw_g (lw_at lw_m3 18 rfl) rfl
theorem q617 : (Jvm.Cond.methodLink "LiarsCock$Reader" (162 : Nat) ({ cls := "java/util/ArrayList", name := "size", desc := "()I" } : Jvm.MethodName)) ∈ lw_all := lw_g (lw_at lw_m3 19 rfl) rfl
theorem q621 : (Jvm.Cond.methodLink "LiarsCock$Reader" (200 : Nat) ({ cls := "LiarsCock$Reader", name := "newName", desc := "(Z)J" } : Jvm.MethodName)) ∈ lw_all := lw_g (lw_at lw_m3 23 rfl) rfl
theorem q622 : (Jvm.Cond.privateMethod ({ cls := "LiarsCock$Reader", name := "newName", desc := "(Z)J" } : Jvm.MethodName)) ∈ lw_tbl := lw_at lw_m3 24 rfl
theorem q623 : (Jvm.Cond.instanceMethod ({ cls := "LiarsCock$Reader", name := "newName", desc := "(Z)J" } : Jvm.MethodName)) ∈ lw_all := lw_g (lw_at lw_m3 25 rfl) rfl
theorem q624 : (Jvm.Cond.code ({ cls := "LiarsCock$Reader", name := "newName", desc := "(Z)J" } : Jvm.MethodName) prog_21_method_17_code (2 : Nat) (Option.some Jvm.ClassFile.FieldType.long)) ∈ lw_all := lw_g (lw_at lw_m3 26 rfl) rfl
theorem q625 : (Jvm.Cond.methodLink "LiarsCock$Reader" (118 : Nat) ({ cls := "LiarsCock$Reader", name := "wrong", desc := "(I)LLiarsCock$Wrong;" } : Jvm.MethodName)) ∈ lw_all := lw_g (lw_at lw_m3 27 rfl) rfl
theorem q626 : (Jvm.Cond.privateMethod ({ cls := "LiarsCock$Reader", name := "wrong", desc := "(I)LLiarsCock$Wrong;" } : Jvm.MethodName)) ∈ lw_tbl := lw_at lw_m3 28 rfl
theorem q627 : (Jvm.Cond.instanceMethod ({ cls := "LiarsCock$Reader", name := "wrong", desc := "(I)LLiarsCock$Wrong;" } : Jvm.MethodName)) ∈ lw_all := lw_g (lw_at lw_m3 29 rfl) rfl
theorem q628 : (Jvm.Cond.code ({ cls := "LiarsCock$Reader", name := "wrong", desc := "(I)LLiarsCock$Wrong;" } : Jvm.MethodName) prog_21_method_7_code (2 : Nat) (Option.some (Jvm.ClassFile.FieldType.object "LiarsCock$Wrong"))) ∈ lw_all := lw_g (lw_at lw_m3 30 rfl) rfl
theorem q629 : (Jvm.Cond.classLink "LiarsCock$Reader" (99 : Nat) "LiarsCock$Wrong") ∈ lw_all := lw_g (lw_at lw_m3 31 rfl) rfl
theorem q667 : (Jvm.Cond.methodLink "LiarsCock$Reader" (101 : Nat) ({ cls := "LiarsCock$Wrong", name := "<init>", desc := "(I)V" } : Jvm.MethodName)) ∈ lw_all := lw_g (lw_at lw_m3 69 rfl) rfl
theorem q690 : (Jvm.Cond.methodLink "LiarsCock$Reader" (184 : Nat) ({ cls := "LiarsCock$Reader", name := "isName", desc := "()Z" } : Jvm.MethodName)) ∈ lw_all := lw_g (lw_at lw_m3 92 rfl) rfl
theorem q691 : (Jvm.Cond.privateMethod ({ cls := "LiarsCock$Reader", name := "isName", desc := "()Z" } : Jvm.MethodName)) ∈ lw_tbl := lw_at lw_m3 93 rfl
theorem q692 : (Jvm.Cond.instanceMethod ({ cls := "LiarsCock$Reader", name := "isName", desc := "()Z" } : Jvm.MethodName)) ∈ lw_all := lw_g (lw_at lw_m3 94 rfl) rfl
theorem q693 : (Jvm.Cond.code ({ cls := "LiarsCock$Reader", name := "isName", desc := "()Z" } : Jvm.MethodName) prog_21_method_15_code (1 : Nat) (Option.some Jvm.ClassFile.FieldType.boolean)) ∈ lw_all := lw_g (lw_at lw_m3 95 rfl) rfl
theorem q694 : (Jvm.Cond.methodLink "LiarsCock$Reader" (122 : Nat) ({ cls := "LiarsCock$Reader", name := "which", desc := "([Ljava/lang/String;)I" } : Jvm.MethodName)) ∈ lw_all := lw_g (lw_at lw_m3 96 rfl) rfl
theorem q695 : (Jvm.Cond.privateMethod ({ cls := "LiarsCock$Reader", name := "which", desc := "([Ljava/lang/String;)I" } : Jvm.MethodName)) ∈ lw_tbl := lw_at lw_m3 97 rfl
theorem q696 : (Jvm.Cond.instanceMethod ({ cls := "LiarsCock$Reader", name := "which", desc := "([Ljava/lang/String;)I" } : Jvm.MethodName)) ∈ lw_all := lw_g (lw_at lw_m3 98 rfl) rfl
theorem q697 : (Jvm.Cond.code ({ cls := "LiarsCock$Reader", name := "which", desc := "([Ljava/lang/String;)I" } : Jvm.MethodName) prog_21_method_10_code (3 : Nat) (Option.some Jvm.ClassFile.FieldType.int)) ∈ lw_all := lw_g (lw_at lw_m3 99 rfl) rfl
theorem q698 : (Jvm.Cond.methodLink "LiarsCock$Reader" (188 : Nat) ({ cls := "LiarsCock$Parish", name := "isTold", desc := "(J)Z" } : Jvm.MethodName)) ∈ lw_all := lw_g (lw_at lw_m3 100 rfl) rfl
theorem q723 : (Jvm.Cond.methodLink "LiarsCock$Reader" (204 : Nat) ({ cls := "LiarsCock$Reader", name := "number", desc := "(II)I" } : Jvm.MethodName)) ∈ lw_all := lw_g (lw_at lw_m3 125 rfl) rfl
theorem q724 : (Jvm.Cond.privateMethod ({ cls := "LiarsCock$Reader", name := "number", desc := "(II)I" } : Jvm.MethodName)) ∈ lw_tbl := lw_at lw_m3 126 rfl
theorem q725 : (Jvm.Cond.instanceMethod ({ cls := "LiarsCock$Reader", name := "number", desc := "(II)I" } : Jvm.MethodName)) ∈ lw_all := lw_g (lw_at lw_m3 127 rfl) rfl
theorem q726 : (Jvm.Cond.code ({ cls := "LiarsCock$Reader", name := "number", desc := "(II)I" } : Jvm.MethodName) prog_21_method_14_code (3 : Nat) (Option.some Jvm.ClassFile.FieldType.int)) ∈ lw_all := lw_g (lw_at lw_m3 128 rfl) rfl
theorem q727 : (Jvm.Cond.methodLink "LiarsCock$Reader" (211 : Nat) ({ cls := "java/lang/Long", name := "valueOf", desc := "(J)Ljava/lang/Long;" } : Jvm.MethodName)) ∈ lw_all := lw_g (lw_at lw_m3 129 rfl) rfl
theorem q747 : (Jvm.Cond.methodLink "LiarsCock$Reader" (217 : Nat) ({ cls := "java/util/ArrayList", name := "add", desc := "(Ljava/lang/Object;)Z" } : Jvm.MethodName)) ∈ lw_all := lw_g (lw_at lw_m3 149 rfl) rfl
theorem q795 : (Jvm.Cond.selects "LiarsCock$Reader" ({ cls := "java/lang/Object", name := "getClass", desc := "()Ljava/lang/Class;" } : Jvm.MethodName) ({ cls := "java/lang/Object", name := "getClass", desc := "()Ljava/lang/Class;" } : Jvm.MethodName)) ∈ lw_all := lw_g (lw_at lw_m3 197 rfl) rfl
theorem q816 : (Jvm.Cond.methodLink "LiarsCock$Reader" (141 : Nat) ({ cls := "LiarsCock$Reader", name := "place", desc := "()V" } : Jvm.MethodName)) ∈ lw_all := lw_g (lw_at lw_m3 218 rfl) rfl
theorem q817 : (Jvm.Cond.privateMethod ({ cls := "LiarsCock$Reader", name := "place", desc := "()V" } : Jvm.MethodName)) ∈ lw_tbl := lw_at lw_m3 219 rfl
theorem q818 : (Jvm.Cond.instanceMethod ({ cls := "LiarsCock$Reader", name := "place", desc := "()V" } : Jvm.MethodName)) ∈ lw_all := lw_g (lw_at lw_m3 220 rfl) rfl
theorem q819 : (Jvm.Cond.code ({ cls := "LiarsCock$Reader", name := "place", desc := "()V" } : Jvm.MethodName) prog_21_method_20_code (3 : Nat) (Option.none : Option Jvm.ClassFile.FieldType)) ∈ lw_all := lw_g (lw_at lw_m3 221 rfl) rfl
theorem q820 : (Jvm.Cond.methodLink "LiarsCock$Reader" (224 : Nat) ({ cls := "LiarsCock$Reader", name := "takeWord", desc := "(Ljava/lang/String;)V" } : Jvm.MethodName)) ∈ lw_all := lw_g (lw_at lw_m3 222 rfl) rfl
theorem q821 : (Jvm.Cond.privateMethod ({ cls := "LiarsCock$Reader", name := "takeWord", desc := "(Ljava/lang/String;)V" } : Jvm.MethodName)) ∈ lw_tbl := lw_at lw_m3 223 rfl
theorem q822 : (Jvm.Cond.instanceMethod ({ cls := "LiarsCock$Reader", name := "takeWord", desc := "(Ljava/lang/String;)V" } : Jvm.MethodName)) ∈ lw_all := lw_g (lw_at lw_m3 224 rfl) rfl
theorem q823 : (Jvm.Cond.code ({ cls := "LiarsCock$Reader", name := "takeWord", desc := "(Ljava/lang/String;)V" } : Jvm.MethodName) prog_21_method_25_code (2 : Nat) (Option.none : Option Jvm.ClassFile.FieldType)) ∈ lw_all := lw_g (lw_at lw_m3 225 rfl) rfl
theorem q824 : (Jvm.Cond.methodLink "LiarsCock$Reader" (256 : Nat) ({ cls := "LiarsCock$Reader", name := "hasWord", desc := "(Ljava/lang/String;)Z" } : Jvm.MethodName)) ∈ lw_all := lw_g (lw_at lw_m3 226 rfl) rfl
theorem q825 : (Jvm.Cond.privateMethod ({ cls := "LiarsCock$Reader", name := "hasWord", desc := "(Ljava/lang/String;)Z" } : Jvm.MethodName)) ∈ lw_tbl := lw_at lw_m3 227 rfl
theorem q826 : (Jvm.Cond.instanceMethod ({ cls := "LiarsCock$Reader", name := "hasWord", desc := "(Ljava/lang/String;)Z" } : Jvm.MethodName)) ∈ lw_all := lw_g (lw_at lw_m3 228 rfl) rfl
theorem q827 : (Jvm.Cond.code ({ cls := "LiarsCock$Reader", name := "hasWord", desc := "(Ljava/lang/String;)Z" } : Jvm.MethodName) prog_21_method_9_code (3 : Nat) (Option.some Jvm.ClassFile.FieldType.boolean)) ∈ lw_all := lw_g (lw_at lw_m3 229 rfl) rfl
theorem q828 : (Jvm.Cond.methodLink "LiarsCock$Reader" (143 : Nat) ({ cls := "LiarsCock$Reader", name := "person", desc := "()V" } : Jvm.MethodName)) ∈ lw_all := lw_g (lw_at lw_m3 230 rfl) rfl
theorem q829 : (Jvm.Cond.privateMethod ({ cls := "LiarsCock$Reader", name := "person", desc := "()V" } : Jvm.MethodName)) ∈ lw_tbl := lw_at lw_m3 231 rfl
theorem q830 : (Jvm.Cond.instanceMethod ({ cls := "LiarsCock$Reader", name := "person", desc := "()V" } : Jvm.MethodName)) ∈ lw_all := lw_g (lw_at lw_m3 232 rfl) rfl
theorem q831 : (Jvm.Cond.code ({ cls := "LiarsCock$Reader", name := "person", desc := "()V" } : Jvm.MethodName) prog_21_method_21_code (5 : Nat) (Option.none : Option Jvm.ClassFile.FieldType)) ∈ lw_all := lw_g (lw_at lw_m3 233 rfl) rfl
theorem q832 : (Jvm.Cond.classLink "LiarsCock$Reader" (234 : Nat) "LiarsCock$Person") ∈ lw_all := lw_g (lw_at lw_m3 234 rfl) rfl
theorem q834 : (Jvm.Cond.methodLink "LiarsCock$Reader" (236 : Nat) ({ cls := "LiarsCock$Reader", name := "named", desc := "(Ljava/util/ArrayList;)I" } : Jvm.MethodName)) ∈ lw_all := lw_g (lw_at lw_m3 236 rfl) rfl
theorem q835 : (Jvm.Cond.privateMethod ({ cls := "LiarsCock$Reader", name := "named", desc := "(Ljava/util/ArrayList;)I" } : Jvm.MethodName)) ∈ lw_tbl := lw_at lw_m3 237 rfl
theorem q836 : (Jvm.Cond.instanceMethod ({ cls := "LiarsCock$Reader", name := "named", desc := "(Ljava/util/ArrayList;)I" } : Jvm.MethodName)) ∈ lw_all := lw_g (lw_at lw_m3 238 rfl) rfl
theorem q837 : (Jvm.Cond.code ({ cls := "LiarsCock$Reader", name := "named", desc := "(Ljava/util/ArrayList;)I" } : Jvm.MethodName) prog_21_method_18_code (3 : Nat) (Option.some Jvm.ClassFile.FieldType.int)) ∈ lw_all := lw_g (lw_at lw_m3 239 rfl) rfl
theorem q838 : (Jvm.Cond.methodLink "LiarsCock$Reader" (192 : Nat) ({ cls := "LiarsCock$Parish", name := "find", desc := "(Ljava/util/ArrayList;J)I" } : Jvm.MethodName)) ∈ lw_all := lw_g (lw_at lw_m4 0 rfl) rfl
theorem q839 : (Jvm.Cond.methodLink "LiarsCock$Reader" (240 : Nat) ({ cls := "LiarsCock$Person", name := "<init>", desc := "(I)V" } : Jvm.MethodName)) ∈ lw_all := lw_g (lw_at lw_m4 1 rfl) rfl
theorem q847 : (Jvm.Cond.fieldLink "LiarsCock$Reader" (241 : Nat) "LiarsCock$Person" "knows" "I") ∈ lw_all := lw_g (lw_at lw_m4 9 rfl) rfl
theorem q854 : (Jvm.Cond.methodLinkNest "LiarsCock$Reader" (243 : Nat) ({ cls := "LiarsCock", name := "has", desc := "(JI)Z" } : Jvm.MethodName) "LiarsCock") ∈ lw_tbl := lw_at lw_m4 16 rfl
theorem q857 : (Jvm.Cond.methodLink "LiarsCock$Reader" (145 : Nat) ({ cls := "LiarsCock$Reader", name := "common", desc := "(Ljava/util/ArrayList;)V" } : Jvm.MethodName)) ∈ lw_all := lw_g (lw_at lw_m4 19 rfl) rfl
theorem q858 : (Jvm.Cond.privateMethod ({ cls := "LiarsCock$Reader", name := "common", desc := "(Ljava/util/ArrayList;)V" } : Jvm.MethodName)) ∈ lw_tbl := lw_at lw_m4 20 rfl
theorem q859 : (Jvm.Cond.instanceMethod ({ cls := "LiarsCock$Reader", name := "common", desc := "(Ljava/util/ArrayList;)V" } : Jvm.MethodName)) ∈ lw_all := lw_g (lw_at lw_m4 21 rfl) rfl
theorem q860 : (Jvm.Cond.code ({ cls := "LiarsCock$Reader", name := "common", desc := "(Ljava/util/ArrayList;)V" } : Jvm.MethodName) prog_21_method_22_code (2 : Nat) (Option.none : Option Jvm.ClassFile.FieldType)) ∈ lw_all := lw_g (lw_at lw_m4 22 rfl) rfl
theorem q861 : (Jvm.Cond.methodLink "LiarsCock$Reader" (250 : Nat) ({ cls := "LiarsCock$Reader", name := "whole", desc := "()LLiarsCock$Expression;" } : Jvm.MethodName)) ∈ lw_all := lw_g (lw_at lw_m4 23 rfl) rfl
theorem q862 : (Jvm.Cond.privateMethod ({ cls := "LiarsCock$Reader", name := "whole", desc := "()LLiarsCock$Expression;" } : Jvm.MethodName)) ∈ lw_tbl := lw_at lw_m4 24 rfl
theorem q863 : (Jvm.Cond.instanceMethod ({ cls := "LiarsCock$Reader", name := "whole", desc := "()LLiarsCock$Expression;" } : Jvm.MethodName)) ∈ lw_all := lw_g (lw_at lw_m4 25 rfl) rfl
theorem q864 : (Jvm.Cond.code ({ cls := "LiarsCock$Reader", name := "whole", desc := "()LLiarsCock$Expression;" } : Jvm.MethodName) prog_21_method_26_code (1 : Nat) (Option.some (Jvm.ClassFile.FieldType.object "LiarsCock$Expression"))) ∈ lw_all := lw_g (lw_at lw_m4 26 rfl) rfl
theorem q865 : (Jvm.Cond.methodLink "LiarsCock$Reader" (262 : Nat) ({ cls := "LiarsCock$Reader", name := "all", desc := "()LLiarsCock$Expression;" } : Jvm.MethodName)) ∈ lw_all := lw_g (lw_at lw_m4 27 rfl) rfl
theorem q866 : (Jvm.Cond.privateMethod ({ cls := "LiarsCock$Reader", name := "all", desc := "()LLiarsCock$Expression;" } : Jvm.MethodName)) ∈ lw_tbl := lw_at lw_m4 28 rfl
theorem q867 : (Jvm.Cond.instanceMethod ({ cls := "LiarsCock$Reader", name := "all", desc := "()LLiarsCock$Expression;" } : Jvm.MethodName)) ∈ lw_all := lw_g (lw_at lw_m4 29 rfl) rfl
theorem q868 : (Jvm.Cond.code ({ cls := "LiarsCock$Reader", name := "all", desc := "()LLiarsCock$Expression;" } : Jvm.MethodName) prog_21_method_28_code (5 : Nat) (Option.some (Jvm.ClassFile.FieldType.object "LiarsCock$Expression"))) ∈ lw_all := lw_g (lw_at lw_m4 30 rfl) rfl
theorem q869 : (Jvm.Cond.methodLink "LiarsCock$Reader" (270 : Nat) ({ cls := "LiarsCock$Reader", name := "test", desc := "()LLiarsCock$Expression;" } : Jvm.MethodName)) ∈ lw_all := lw_g (lw_at lw_m4 31 rfl) rfl
theorem q870 : (Jvm.Cond.privateMethod ({ cls := "LiarsCock$Reader", name := "test", desc := "()LLiarsCock$Expression;" } : Jvm.MethodName)) ∈ lw_tbl := lw_at lw_m4 32 rfl
theorem q871 : (Jvm.Cond.instanceMethod ({ cls := "LiarsCock$Reader", name := "test", desc := "()LLiarsCock$Expression;" } : Jvm.MethodName)) ∈ lw_all := lw_g (lw_at lw_m4 33 rfl) rfl
theorem q872 : (Jvm.Cond.code ({ cls := "LiarsCock$Reader", name := "test", desc := "()LLiarsCock$Expression;" } : Jvm.MethodName) prog_21_method_29_code (5 : Nat) (Option.some (Jvm.ClassFile.FieldType.object "LiarsCock$Expression"))) ∈ lw_all := lw_g (lw_at lw_m4 34 rfl) rfl
theorem q873 : (Jvm.Cond.methodLink "LiarsCock$Reader" (286 : Nat) ({ cls := "LiarsCock$Reader", name := "sum", desc := "()LLiarsCock$Expression;" } : Jvm.MethodName)) ∈ lw_all := lw_g (lw_at lw_m4 35 rfl) rfl
theorem q874 : (Jvm.Cond.privateMethod ({ cls := "LiarsCock$Reader", name := "sum", desc := "()LLiarsCock$Expression;" } : Jvm.MethodName)) ∈ lw_tbl := lw_at lw_m4 36 rfl
theorem q875 : (Jvm.Cond.instanceMethod ({ cls := "LiarsCock$Reader", name := "sum", desc := "()LLiarsCock$Expression;" } : Jvm.MethodName)) ∈ lw_all := lw_g (lw_at lw_m4 37 rfl) rfl
theorem q876 : (Jvm.Cond.code ({ cls := "LiarsCock$Reader", name := "sum", desc := "()LLiarsCock$Expression;" } : Jvm.MethodName) prog_21_method_30_code (5 : Nat) (Option.some (Jvm.ClassFile.FieldType.object "LiarsCock$Expression"))) ∈ lw_all := lw_g (lw_at lw_m4 38 rfl) rfl
theorem q877 : (Jvm.Cond.methodLink "LiarsCock$Reader" (295 : Nat) ({ cls := "LiarsCock$Reader", name := "term", desc := "()LLiarsCock$Expression;" } : Jvm.MethodName)) ∈ lw_all := lw_g (lw_at lw_m4 39 rfl) rfl
theorem q878 : (Jvm.Cond.privateMethod ({ cls := "LiarsCock$Reader", name := "term", desc := "()LLiarsCock$Expression;" } : Jvm.MethodName)) ∈ lw_tbl := lw_at lw_m4 40 rfl
theorem q879 : (Jvm.Cond.instanceMethod ({ cls := "LiarsCock$Reader", name := "term", desc := "()LLiarsCock$Expression;" } : Jvm.MethodName)) ∈ lw_all := lw_g (lw_at lw_m4 41 rfl) rfl
theorem q880 : (Jvm.Cond.code ({ cls := "LiarsCock$Reader", name := "term", desc := "()LLiarsCock$Expression;" } : Jvm.MethodName) prog_21_method_31_code (4 : Nat) (Option.some (Jvm.ClassFile.FieldType.object "LiarsCock$Expression"))) ∈ lw_all := lw_g (lw_at lw_m4 42 rfl) rfl
theorem q881 : (Jvm.Cond.methodLink "LiarsCock$Reader" (304 : Nat) ({ cls := "LiarsCock$Reader", name := "part", desc := "()LLiarsCock$Expression;" } : Jvm.MethodName)) ∈ lw_all := lw_g (lw_at lw_m4 43 rfl) rfl
theorem q882 : (Jvm.Cond.privateMethod ({ cls := "LiarsCock$Reader", name := "part", desc := "()LLiarsCock$Expression;" } : Jvm.MethodName)) ∈ lw_tbl := lw_at lw_m4 44 rfl
theorem q883 : (Jvm.Cond.instanceMethod ({ cls := "LiarsCock$Reader", name := "part", desc := "()LLiarsCock$Expression;" } : Jvm.MethodName)) ∈ lw_all := lw_g (lw_at lw_m4 45 rfl) rfl
theorem q884 : (Jvm.Cond.code ({ cls := "LiarsCock$Reader", name := "part", desc := "()LLiarsCock$Expression;" } : Jvm.MethodName) prog_21_method_32_code (4 : Nat) (Option.some (Jvm.ClassFile.FieldType.object "LiarsCock$Expression"))) ∈ lw_all := lw_g (lw_at lw_m4 46 rfl) rfl
theorem q885 : (Jvm.Cond.methodLink "LiarsCock$Reader" (112 : Nat) ({ cls := "LiarsCock$Reader", name := "isSign", desc := "(I)Z" } : Jvm.MethodName)) ∈ lw_all := lw_g (lw_at lw_m4 47 rfl) rfl
theorem q886 : (Jvm.Cond.privateMethod ({ cls := "LiarsCock$Reader", name := "isSign", desc := "(I)Z" } : Jvm.MethodName)) ∈ lw_tbl := lw_at lw_m4 48 rfl
theorem q887 : (Jvm.Cond.instanceMethod ({ cls := "LiarsCock$Reader", name := "isSign", desc := "(I)Z" } : Jvm.MethodName)) ∈ lw_all := lw_g (lw_at lw_m4 49 rfl) rfl
theorem q888 : (Jvm.Cond.code ({ cls := "LiarsCock$Reader", name := "isSign", desc := "(I)Z" } : Jvm.MethodName) prog_21_method_11_code (2 : Nat) (Option.some Jvm.ClassFile.FieldType.boolean)) ∈ lw_all := lw_g (lw_at lw_m4 50 rfl) rfl
theorem q889 : (Jvm.Cond.classLink "LiarsCock$Reader" (310 : Nat) "LiarsCock$Fact") ∈ lw_all := lw_g (lw_at lw_m4 51 rfl) rfl
theorem q891 : (Jvm.Cond.methodLink "LiarsCock$Reader" (312 : Nat) ({ cls := "LiarsCock$Fact", name := "<init>", desc := "(I)V" } : Jvm.MethodName)) ∈ lw_all := lw_g (lw_at lw_m4 53 rfl) rfl
theorem q902 : (Jvm.Cond.classLink "LiarsCock$Reader" (168 : Nat) "LiarsCock$Plain") ∈ lw_all := lw_g (lw_at lw_m4 64 rfl) rfl
theorem q904 : (Jvm.Cond.methodLink "LiarsCock$Reader" (170 : Nat) ({ cls := "LiarsCock$Plain", name := "<init>", desc := "(I)V" } : Jvm.MethodName)) ∈ lw_all := lw_g (lw_at lw_m4 66 rfl) rfl
theorem q912 : (Jvm.Cond.classLink "LiarsCock$Reader" (313 : Nat) "LiarsCock$Not") ∈ lw_all := lw_g (lw_at lw_m4 74 rfl) rfl
theorem q914 : (Jvm.Cond.methodLink "LiarsCock$Reader" (315 : Nat) ({ cls := "LiarsCock$Not", name := "<init>", desc := "(LLiarsCock$Expression;)V" } : Jvm.MethodName)) ∈ lw_all := lw_g (lw_at lw_m4 76 rfl) rfl
theorem q922 : (Jvm.Cond.methodLink "LiarsCock$Reader" (150 : Nat) ({ cls := "LiarsCock$Reader", name := "sign", desc := "(I)V" } : Jvm.MethodName)) ∈ lw_all := lw_g (lw_at lw_m4 84 rfl) rfl
theorem q923 : (Jvm.Cond.privateMethod ({ cls := "LiarsCock$Reader", name := "sign", desc := "(I)V" } : Jvm.MethodName)) ∈ lw_tbl := lw_at lw_m4 85 rfl
theorem q924 : (Jvm.Cond.instanceMethod ({ cls := "LiarsCock$Reader", name := "sign", desc := "(I)V" } : Jvm.MethodName)) ∈ lw_all := lw_g (lw_at lw_m4 86 rfl) rfl
theorem q925 : (Jvm.Cond.code ({ cls := "LiarsCock$Reader", name := "sign", desc := "(I)V" } : Jvm.MethodName) prog_21_method_13_code (2 : Nat) (Option.none : Option Jvm.ClassFile.FieldType)) ∈ lw_all := lw_g (lw_at lw_m4 87 rfl) rfl
theorem q926 : (Jvm.Cond.methodLink "LiarsCock$Reader" (115 : Nat) ({ cls := "LiarsCock$Reader", name := "hasSign", desc := "(I)Z" } : Jvm.MethodName)) ∈ lw_all := lw_g (lw_at lw_m4 88 rfl) rfl
theorem q927 : (Jvm.Cond.privateMethod ({ cls := "LiarsCock$Reader", name := "hasSign", desc := "(I)Z" } : Jvm.MethodName)) ∈ lw_tbl := lw_at lw_m4 89 rfl
theorem q928 : (Jvm.Cond.instanceMethod ({ cls := "LiarsCock$Reader", name := "hasSign", desc := "(I)Z" } : Jvm.MethodName)) ∈ lw_all := lw_g (lw_at lw_m4 90 rfl) rfl
theorem q929 : (Jvm.Cond.code ({ cls := "LiarsCock$Reader", name := "hasSign", desc := "(I)Z" } : Jvm.MethodName) prog_21_method_12_code (3 : Nat) (Option.some Jvm.ClassFile.FieldType.boolean)) ∈ lw_all := lw_g (lw_at lw_m4 91 rfl) rfl
theorem q930 : (Jvm.Cond.methodLink "LiarsCock$Reader" (273 : Nat) ({ cls := "LiarsCock$Reader", name := "chain", desc := "(LLiarsCock$Expression;LLiarsCock$Chain;)LLiarsCock$Chain;" } : Jvm.MethodName)) ∈ lw_all := lw_g (lw_at lw_m4 92 rfl) rfl
theorem q931 : (Jvm.Cond.static ({ cls := "LiarsCock$Reader", name := "chain", desc := "(LLiarsCock$Expression;LLiarsCock$Chain;)LLiarsCock$Chain;" } : Jvm.MethodName)) ∈ lw_all := lw_g (lw_at lw_m4 93 rfl) rfl
theorem q932 : (Jvm.Cond.code ({ cls := "LiarsCock$Reader", name := "chain", desc := "(LLiarsCock$Expression;LLiarsCock$Chain;)LLiarsCock$Chain;" } : Jvm.MethodName) prog_21_method_27_code (2 : Nat) (Option.some (Jvm.ClassFile.FieldType.object "LiarsCock$Chain"))) ∈ lw_all := lw_g (lw_at lw_m4 94 rfl) rfl
theorem q933 : (Jvm.Cond.classLink "LiarsCock$Reader" (265 : Nat) "LiarsCock$Chain") ∈ lw_all := lw_g (lw_at lw_m4 95 rfl) rfl
theorem q935 : (Jvm.Cond.methodLink "LiarsCock$Reader" (267 : Nat) ({ cls := "LiarsCock$Chain", name := "<init>", desc := "(LLiarsCock$Expression;)V" } : Jvm.MethodName)) ∈ lw_all := lw_g (lw_at lw_m4 97 rfl) rfl
theorem q943 : (Jvm.Cond.fieldLink "LiarsCock$Reader" (277 : Nat) "LiarsCock$Chain" "links" "Ljava/util/ArrayList;") ∈ lw_all := lw_g (lw_at lw_m4 105 rfl) rfl
theorem q949 : (Jvm.Cond.classLink "LiarsCock$Reader" (307 : Nat) "LiarsCock$Times") ∈ lw_all := lw_g (lw_at lw_m4 111 rfl) rfl
theorem q951 : (Jvm.Cond.methodLink "LiarsCock$Reader" (309 : Nat) ({ cls := "LiarsCock$Times", name := "<init>", desc := "(LLiarsCock$Expression;)V" } : Jvm.MethodName)) ∈ lw_all := lw_g (lw_at lw_m4 113 rfl) rfl
theorem q962 : (Jvm.Cond.classLink "LiarsCock$Reader" (298 : Nat) "LiarsCock$Plus") ∈ lw_all := lw_g (lw_at lw_m4 124 rfl) rfl
theorem q964 : (Jvm.Cond.methodLink "LiarsCock$Reader" (300 : Nat) ({ cls := "LiarsCock$Plus", name := "<init>", desc := "(LLiarsCock$Expression;)V" } : Jvm.MethodName)) ∈ lw_all := lw_g (lw_at lw_m4 126 rfl) rfl
theorem q970 : (Jvm.Cond.classLink "LiarsCock$Reader" (301 : Nat) "LiarsCock$Minus") ∈ lw_all := lw_g (lw_at lw_m4 132 rfl) rfl
theorem q972 : (Jvm.Cond.methodLink "LiarsCock$Reader" (303 : Nat) ({ cls := "LiarsCock$Minus", name := "<init>", desc := "(LLiarsCock$Expression;)V" } : Jvm.MethodName)) ∈ lw_all := lw_g (lw_at lw_m4 134 rfl) rfl
theorem q978 : (Jvm.Cond.classLink "LiarsCock$Reader" (289 : Nat) "LiarsCock$Less") ∈ lw_all := lw_g (lw_at lw_m4 140 rfl) rfl
theorem q980 : (Jvm.Cond.methodLink "LiarsCock$Reader" (291 : Nat) ({ cls := "LiarsCock$Less", name := "<init>", desc := "(LLiarsCock$Expression;)V" } : Jvm.MethodName)) ∈ lw_all := lw_g (lw_at lw_m4 142 rfl) rfl
theorem q986 : (Jvm.Cond.classLink "LiarsCock$Reader" (292 : Nat) "LiarsCock$Same") ∈ lw_all := lw_g (lw_at lw_m4 148 rfl) rfl
theorem q988 : (Jvm.Cond.methodLink "LiarsCock$Reader" (294 : Nat) ({ cls := "LiarsCock$Same", name := "<init>", desc := "(LLiarsCock$Expression;)V" } : Jvm.MethodName)) ∈ lw_all := lw_g (lw_at lw_m4 150 rfl) rfl
theorem q994 : (Jvm.Cond.classLink "LiarsCock$Reader" (280 : Nat) "LiarsCock$And") ∈ lw_all := lw_g (lw_at lw_m4 156 rfl) rfl
theorem q996 : (Jvm.Cond.methodLink "LiarsCock$Reader" (282 : Nat) ({ cls := "LiarsCock$And", name := "<init>", desc := "(LLiarsCock$Expression;)V" } : Jvm.MethodName)) ∈ lw_all := lw_g (lw_at lw_m4 158 rfl) rfl
theorem q1002 : (Jvm.Cond.classLink "LiarsCock$Reader" (283 : Nat) "LiarsCock$Or") ∈ lw_all := lw_g (lw_at lw_m4 164 rfl) rfl
theorem q1004 : (Jvm.Cond.methodLink "LiarsCock$Reader" (285 : Nat) ({ cls := "LiarsCock$Or", name := "<init>", desc := "(LLiarsCock$Expression;)V" } : Jvm.MethodName)) ∈ lw_all := lw_g (lw_at lw_m4 166 rfl) rfl
theorem q1010 : (Jvm.Cond.methodLink "LiarsCock$Reader" (148 : Nat) ({ cls := "LiarsCock$Reader", name := "cock", desc := "()V" } : Jvm.MethodName)) ∈ lw_all := lw_g (lw_at lw_m4 172 rfl) rfl
theorem q1011 : (Jvm.Cond.privateMethod ({ cls := "LiarsCock$Reader", name := "cock", desc := "()V" } : Jvm.MethodName)) ∈ lw_tbl := lw_at lw_m4 173 rfl
theorem q1012 : (Jvm.Cond.instanceMethod ({ cls := "LiarsCock$Reader", name := "cock", desc := "()V" } : Jvm.MethodName)) ∈ lw_all := lw_g (lw_at lw_m4 174 rfl) rfl
theorem q1013 : (Jvm.Cond.code ({ cls := "LiarsCock$Reader", name := "cock", desc := "()V" } : Jvm.MethodName) prog_21_method_23_code (3 : Nat) (Option.none : Option Jvm.ClassFile.FieldType)) ∈ lw_all := lw_g (lw_at lw_m4 175 rfl) rfl
theorem q1014 : (Jvm.Cond.constantLong "LiarsCock$Reader" (254 : Nat) (2 : Int64)) ∈ lw_all := lw_g (lw_at lw_m4 176 rfl) rfl
theorem q1015 : (Jvm.Cond.classLink "LiarsCock$Reader" (157 : Nat) "LiarsCock$Cock") ∈ lw_all := lw_g (lw_at lw_m4 177 rfl) rfl
theorem q1016 : (Jvm.Cond.methodLink "LiarsCock$Reader" (159 : Nat) ({ cls := "LiarsCock$Cock", name := "<init>", desc := "(II)V" } : Jvm.MethodName)) ∈ lw_all := lw_g (lw_at lw_m4 178 rfl) rfl
theorem q1017 : (Jvm.Cond.methodLink "LiarsCock$Reader" (171 : Nat) ({ cls := "LiarsCock$Parish", name := "so", desc := "(LLiarsCock$Expression;)J" } : Jvm.MethodName)) ∈ lw_all := lw_g (lw_at lw_m4 179 rfl) rfl
theorem q1086 : (Jvm.Cond.methodLink "LiarsCock$Reader" (178 : Nat) ({ cls := "java/util/ArrayList", name := "get", desc := "(I)Ljava/lang/Object;" } : Jvm.MethodName)) ∈ lw_all := lw_g (lw_at lw_m5 8 rfl) rfl
theorem q1087 : (Jvm.Cond.classLink "LiarsCock$Reader" (182 : Nat) "LiarsCock$Expression") ∈ lw_all := lw_g (lw_at lw_m5 9 rfl) rfl
theorem q1130 : (Jvm.Cond.instanceMethod ({ cls := "LiarsCock$Reader", name := "saying", desc := "(LLiarsCock$Parish;)LLiarsCock$Expression;" } : Jvm.MethodName)) ∈ lw_all := lw_g (lw_at lw_m5 52 rfl) rfl
theorem q1131 : (Jvm.Cond.selects "LiarsCock$Reader" ({ cls := "LiarsCock$Reader", name := "saying", desc := "(LLiarsCock$Parish;)LLiarsCock$Expression;" } : Jvm.MethodName) ({ cls := "LiarsCock$Reader", name := "saying", desc := "(LLiarsCock$Parish;)LLiarsCock$Expression;" } : Jvm.MethodName)) ∈ lw_all := lw_g (lw_at lw_m5 53 rfl) rfl
theorem q1132 : (Jvm.Cond.code ({ cls := "LiarsCock$Reader", name := "saying", desc := "(LLiarsCock$Parish;)LLiarsCock$Expression;" } : Jvm.MethodName) prog_21_method_24_code (3 : Nat) (Option.some (Jvm.ClassFile.FieldType.object "LiarsCock$Expression"))) ∈ lw_all := lw_g (lw_at lw_m5 54 rfl) rfl
theorem q2260 : (Jvm.Cond.castable "LiarsCock$Reader" "java/lang/Object") ∈ lw_tbl := lw_at lw_m9 222 rfl
theorem in_X2 : ∀ w ∈ wsX20, w ∈ lw_all := lw_in wsX20 [206, 208, 210, 212, 214, 216, 218, 220, 222] (by decide +kernel) (by decide +kernel)
