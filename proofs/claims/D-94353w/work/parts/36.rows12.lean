/-! rows of methods, by program -/
set_option maxRecDepth 100000
/- 290: java/lang/String.indexOf(II)I -/
def xp_290_0 : List (Nat × xm_O) := [
  (0, .inl (xe_aload 0 1)),
  (1, .inr (.inr (.inl (xc_V (xj_1 27 291) [])))),
  (4, .inl (xe_if (fun x => decide (x = 0)) 23 7)),
  (7, .inl (xe_aload 0 8)),
  (8, .inl (xe_getf (xj_1 27 0) 11)),
  (11, .inl (xe_iload 1 12)),
  (12, .inl (xe_iload 2 13)),
  (13, .inl (xe_aload 0 14)),
  (14, .inr (.inr (.inl (xc_V (xj_1 27 292) [])))),
  (17, .inr (.inr (.inl (xc_S 297 [0, 0, 0, 2])))),
  (20, .inl (xe_goto 36)),
  (23, .inl (xe_aload 0 24)),
  (24, .inl (xe_getf (xj_1 27 0) 27)),
  (27, .inl (xe_iload 1 28)),
  (28, .inl (xe_iload 2 29)),
  (29, .inl (xe_aload 0 30)),
  (30, .inr (.inr (.inl (xc_V (xj_1 27 292) [])))),
  (36, .inr (.inl xr_i))]
theorem xq_290_0 {G : xm_G} (hG : xm_W xk_B G) (hO : xm_Og G) : ∀ q ∈ xp_290_0, xm_op xk_B G xd xk_N "java/lang/String" "indexOf" prog_41_method_80_code 3 (some (FieldType.int)) q.1 q.2 :=
  xw_cons (xw_E xn_aload (xo_aload_n dJ3_indexOf_2_0 rfl)) <|
  xw_cons (xl_v_31_492 hG dJ3_indexOf_2_1) <|
  xw_cons (xw_E xn_if (xo_if_eq dJ3_indexOf_2_4 (by decide))) <|
  xw_cons (xw_E xn_aload (xo_aload_n dJ3_indexOf_2_7 rfl)) <|
  xw_cons (xw_E xn_getf (xo_getf hG xg_31_9 dJ3_indexOf_2_8)) <|
  xw_cons (xw_E xn_iload (xo_iload_n dJ3_indexOf_2_11 rfl)) <|
  xw_cons (xw_E xn_iload (xo_iload_n dJ3_indexOf_2_12 rfl)) <|
  xw_cons (xw_E xn_aload (xo_aload_n dJ3_indexOf_2_13 rfl)) <|
  xw_cons (xl_v_31_505 hG dJ3_indexOf_2_14) <|
  xw_cons (xl_s_31_637 hG dJ3_indexOf_2_17) <|
  xw_cons (xw_E xn_goto (xo_goto dJ3_indexOf_2_20 (by decide))) <|
  xw_cons (xw_E xn_aload (xo_aload_n dJ3_indexOf_2_23 rfl)) <|
  xw_cons (xw_E xn_getf (xo_getf hG xg_31_9 dJ3_indexOf_2_24)) <|
  xw_cons (xw_E xn_iload (xo_iload_n dJ3_indexOf_2_27 rfl)) <|
  xw_cons (xw_E xn_iload (xo_iload_n dJ3_indexOf_2_28 rfl)) <|
  xw_cons (xw_E xn_aload (xo_aload_n dJ3_indexOf_2_29 rfl)) <|
  xw_cons (xl_v_31_505 hG dJ3_indexOf_2_30) <|
  xw_cons (xw_R (xt_i dJ3_indexOf_2_36)) <|
  xw_nil _
def xp_290 : List (Nat × xm_O) := xp_290_0
theorem xq_290 {G : xm_G} (hG : xm_W xk_B G) (hO : xm_Og G) : ∀ q ∈ xp_290, xm_op xk_B G xd xk_N "java/lang/String" "indexOf" prog_41_method_80_code 3 (some (FieldType.int)) q.1 q.2 := xq_290_0 hG hO
/- 291: java/lang/String.isLatin1()Z -/
def xp_291_0 : List (Nat × xm_O) := [
  (0, .inl (xe_push (.int 1) 3)),
  (3, .inl (xe_if (fun x => decide (x = 0)) 17 6)),
  (6, .inl (xe_aload 0 7)),
  (7, .inl (xe_getf (xj_1 27 1) 10)),
  (10, .inl (xe_if (fun x => decide (¬ x = 0)) 17 13)),
  (13, .inl (xe_push (.int 1) 14)),
  (14, .inl (xe_goto 18)),
  (17, .inl (xe_push (.int 0) 18)),
  (18, .inr (.inl xr_z))]
theorem xq_291_0 {G : xm_G} (hG : xm_W xk_B G) (hO : xm_Og G) : ∀ q ∈ xp_291_0, xm_op xk_B G xd xk_N "java/lang/String" "isLatin1" prog_41_method_154_code 1 (some (FieldType.boolean)) q.1 q.2 :=
  xw_cons (xw_E xn_push (xo_gets hG (xog_COMPACT_STRINGS hO) q507 dJ3_isLatin1_0)) <|
  xw_cons (xw_E xn_if (xo_if_eq dJ3_isLatin1_3 (by decide))) <|
  xw_cons (xw_E xn_aload (xo_aload_n dJ3_isLatin1_6 rfl)) <|
  xw_cons (xw_E xn_getf (xo_getf hG xg_31_15 dJ3_isLatin1_7)) <|
  xw_cons (xw_E xn_if (xo_if_ne dJ3_isLatin1_10 (by decide))) <|
  xw_cons (xw_E xn_push (xo_iconst dJ3_isLatin1_13 (by decide))) <|
  xw_cons (xw_E xn_goto (xo_goto dJ3_isLatin1_14 (by decide))) <|
  xw_cons (xw_E xn_push (xo_iconst dJ3_isLatin1_17 (by decide))) <|
  xw_cons (xw_R (xt_z dJ3_isLatin1_18)) <|
  xw_nil _
def xp_291 : List (Nat × xm_O) := xp_291_0
theorem xq_291 {G : xm_G} (hG : xm_W xk_B G) (hO : xm_Og G) : ∀ q ∈ xp_291, xm_op xk_B G xd xk_N "java/lang/String" "isLatin1" prog_41_method_154_code 1 (some (FieldType.boolean)) q.1 q.2 := xq_291_0 hG hO
/- 292: java/lang/String.length()I -/
def xp_292_0 : List (Nat × xm_O) := [
  (0, .inl (xe_aload 0 1)),
  (1, .inl (xe_getf (xj_1 27 0) 4)),
  (4, .inl (xe_alen 5)),
  (5, .inl (xe_aload 0 6)),
  (6, .inr (.inr (.inl (xc_V (xj_1 27 293) [])))),
  (9, .inl (xe_ii (fun x y => x >>> (y &&& 31)) 10)),
  (10, .inr (.inl xr_i))]
theorem xq_292_0 {G : xm_G} (hG : xm_W xk_B G) (hO : xm_Og G) : ∀ q ∈ xp_292_0, xm_op xk_B G xd xk_N "java/lang/String" "length" prog_41_method_54_code 1 (some (FieldType.int)) q.1 q.2 :=
  xw_cons (xw_E xn_aload (xo_aload_n dJ3_length_0 rfl)) <|
  xw_cons (xw_E xn_getf (xo_getf hG xg_31_9 dJ3_length_1)) <|
  xw_cons (xw_E xn_alen (xo_alen dJ3_length_4)) <|
  xw_cons (xw_E xn_aload (xo_aload_n dJ3_length_5 rfl)) <|
  xw_cons (xl_v_31_335 hG dJ3_length_6) <|
  xw_cons (xw_E xn_ii (xo_ishr dJ3_length_9)) <|
  xw_cons (xw_R (xt_i dJ3_length_10)) <|
  xw_nil _
def xp_292 : List (Nat × xm_O) := xp_292_0
theorem xq_292 {G : xm_G} (hG : xm_W xk_B G) (hO : xm_Og G) : ∀ q ∈ xp_292, xm_op xk_B G xd xk_N "java/lang/String" "length" prog_41_method_54_code 1 (some (FieldType.int)) q.1 q.2 := xq_292_0 hG hO
/- 293: java/lang/String.coder()B -/
def xp_293_0 : List (Nat × xm_O) := [
  (0, .inl (xe_push (.int 1) 3)),
  (3, .inl (xe_if (fun x => decide (x = 0)) 13 6)),
  (6, .inl (xe_aload 0 7)),
  (7, .inl (xe_getf (xj_1 27 1) 10)),
  (10, .inl (xe_goto 14)),
  (13, .inl (xe_push (.int 1) 14)),
  (14, .inr (.inl xr_b))]
theorem xq_293_0 {G : xm_G} (hG : xm_W xk_B G) (hO : xm_Og G) : ∀ q ∈ xp_293_0, xm_op xk_B G xd xk_N "java/lang/String" "coder" prog_41_method_152_code 1 (some (FieldType.byte)) q.1 q.2 :=
  xw_cons (xw_E xn_push (xo_gets hG (xog_COMPACT_STRINGS hO) q507 dJ3_coder_0)) <|
  xw_cons (xw_E xn_if (xo_if_eq dJ3_coder_3 (by decide))) <|
  xw_cons (xw_E xn_aload (xo_aload_n dJ3_coder_6 rfl)) <|
  xw_cons (xw_E xn_getf (xo_getf hG xg_31_15 dJ3_coder_7)) <|
  xw_cons (xw_E xn_goto (xo_goto dJ3_coder_10 (by decide))) <|
  xw_cons (xw_E xn_push (xo_iconst dJ3_coder_13 (by decide))) <|
  xw_cons (xw_R (xt_b dJ3_coder_14)) <|
  xw_nil _
def xp_293 : List (Nat × xm_O) := xp_293_0
theorem xq_293 {G : xm_G} (hG : xm_W xk_B G) (hO : xm_Og G) : ∀ q ∈ xp_293, xm_op xk_B G xd xk_N "java/lang/String" "coder" prog_41_method_152_code 1 (some (FieldType.byte)) q.1 q.2 := xq_293_0 hG hO
/- 294: java/lang/String.checkBoundsBeginEnd(III)V -/
def xp_294_0 : List (Nat × xm_O) := [
  (0, .inl (xe_iload 0 1)),
  (1, .inl (xe_iload 1 2)),
  (2, .inl (xe_iload 2 3)),
  (3, .inl (xe_push (.retAddr 1) 6)),
  (6, .inr (.inr (.inl (xc_S 304 [2, 0, 0, 0])))),
  (9, .inl (xe_pop 10)),
  (10, .inr (.inl xr_v))]
theorem xq_294_0 {G : xm_G} (hG : xm_W xk_B G) (hO : xm_Og G) : ∀ q ∈ xp_294_0, xm_op xk_B G xd xk_N "java/lang/String" "checkBoundsBeginEnd" prog_41_method_158_code 3 none q.1 q.2 :=
  xw_cons (xw_E xn_iload (xo_iload_n dJ3_checkBoundsBeginEnd_0 rfl)) <|
  xw_cons (xw_E xn_iload (xo_iload_n dJ3_checkBoundsBeginEnd_1 rfl)) <|
  xw_cons (xw_E xn_iload (xo_iload_n dJ3_checkBoundsBeginEnd_2 rfl)) <|
  xw_cons (xw_E xn_push (xo_gets hG (xog_SIOOBE_FORMATTER hO) q550 dJ3_checkBoundsBeginEnd_3)) <|
  xw_cons (xl_s_31_1062 hG dJ3_checkBoundsBeginEnd_6) <|
  xw_cons (xw_E xn_pop (xo_pop dJ3_checkBoundsBeginEnd_9)) <|
  xw_cons (xw_R (xt_v dJ3_checkBoundsBeginEnd_10)) <|
  xw_nil _
def xp_294 : List (Nat × xm_O) := xp_294_0
theorem xq_294 {G : xm_G} (hG : xm_W xk_B G) (hO : xm_Og G) : ∀ q ∈ xp_294, xm_op xk_B G xd xk_N "java/lang/String" "checkBoundsBeginEnd" prog_41_method_158_code 3 none q.1 q.2 := xq_294_0 hG hO
/- 295: java/lang/String.charAt(I)C -/
def xp_295_0 : List (Nat × xm_O) := [
  (0, .inl (xe_aload 0 1)),
  (1, .inr (.inr (.inl (xc_V (xj_1 27 291) [])))),
  (4, .inl (xe_if (fun x => decide (x = 0)) 16 7)),
  (7, .inl (xe_aload 0 8)),
  (8, .inl (xe_getf (xj_1 27 0) 11)),
  (11, .inl (xe_iload 1 12)),
  (12, .inr (.inr (.inl (xc_S 300 [0, 2])))),
  (15, .inr (.inl xr_c)),
  (16, .inl (xe_aload 0 17)),
  (17, .inl (xe_getf (xj_1 27 0) 20)),
  (20, .inl (xe_iload 1 21)),
  (24, .inr (.inl xr_c))]
theorem xq_295_0 {G : xm_G} (hG : xm_W xk_B G) (hO : xm_Og G) : ∀ q ∈ xp_295_0, xm_op xk_B G xd xk_N "java/lang/String" "charAt" prog_41_method_56_code 2 (some (FieldType.char)) q.1 q.2 :=
  xw_cons (xw_E xn_aload (xo_aload_n dJ3_charAt_0 rfl)) <|
  xw_cons (xl_v_31_492 hG dJ3_charAt_1) <|
  xw_cons (xw_E xn_if (xo_if_eq dJ3_charAt_4 (by decide))) <|
  xw_cons (xw_E xn_aload (xo_aload_n dJ3_charAt_7 rfl)) <|
  xw_cons (xw_E xn_getf (xo_getf hG xg_31_9 dJ3_charAt_8)) <|
  xw_cons (xw_E xn_iload (xo_iload_n dJ3_charAt_11 rfl)) <|
  xw_cons (xl_s_31_495 hG dJ3_charAt_12) <|
  xw_cons (xw_R (xt_c dJ3_charAt_15)) <|
  xw_cons (xw_E xn_aload (xo_aload_n dJ3_charAt_16 rfl)) <|
  xw_cons (xw_E xn_getf (xo_getf hG xg_31_9 dJ3_charAt_17)) <|
  xw_cons (xw_E xn_iload (xo_iload_n dJ3_charAt_20 rfl)) <|
  xw_cons (xw_R (xt_c dJ3_charAt_24)) <|
  xw_nil _
def xp_295 : List (Nat × xm_O) := xp_295_0
theorem xq_295 {G : xm_G} (hG : xm_W xk_B G) (hO : xm_Og G) : ∀ q ∈ xp_295, xm_op xk_B G xd xk_N "java/lang/String" "charAt" prog_41_method_56_code 2 (some (FieldType.char)) q.1 q.2 := xq_295_0 hG hO
/- 296: java/lang/String.checkIndex(II)V -/
def xp_296_0 : List (Nat × xm_O) := [
  (0, .inl (xe_iload 0 1)),
  (1, .inl (xe_iload 1 2)),
  (2, .inl (xe_push (.retAddr 1) 5)),
  (5, .inr (.inr (.inl (xc_S 305 [2, 0, 0])))),
  (8, .inl (xe_pop 9)),
  (9, .inr (.inl xr_v))]
theorem xq_296_0 {G : xm_G} (hG : xm_W xk_B G) (hO : xm_Og G) : ∀ q ∈ xp_296_0, xm_op xk_B G xd xk_N "java/lang/String" "checkIndex" prog_41_method_155_code 2 none q.1 q.2 :=
  xw_cons (xw_E xn_iload (xo_iload_n dJ3_checkIndex_0 rfl)) <|
  xw_cons (xw_E xn_iload (xo_iload_n dJ3_checkIndex_1 rfl)) <|
  xw_cons (xw_E xn_push (xo_gets hG (xog_SIOOBE_FORMATTER hO) q550 dJ3_checkIndex_2)) <|
  xw_cons (xl_s_31_1059 hG dJ3_checkIndex_5) <|
  xw_cons (xw_E xn_pop (xo_pop dJ3_checkIndex_8)) <|
  xw_cons (xw_R (xt_v dJ3_checkIndex_9)) <|
  xw_nil _
def xp_296 : List (Nat × xm_O) := xp_296_0
theorem xq_296 {G : xm_G} (hG : xm_W xk_B G) (hO : xm_Og G) : ∀ q ∈ xp_296, xm_op xk_B G xd xk_N "java/lang/String" "checkIndex" prog_41_method_155_code 2 none q.1 q.2 := xq_296_0 hG hO
/- 297: java/lang/StringLatin1.indexOf([BIII)I -/
def xp_297_0 : List (Nat × xm_O) := [
  (0, .inl (xe_iload 1 1)),
  (1, .inr (.inr (.inl (xc_S 298 [0])))),
  (4, .inl (xe_if (fun x => decide (¬ x = 0)) 9 7)),
  (7, .inl (xe_push (.int (-1)) 8)),
  (8, .inr (.inl xr_i)),
  (9, .inl (xe_iload 2 10)),
  (10, .inl (xe_push (.int 0) 11)),
  (11, .inr (.inr (.inl (xc_S 301 [0, 0])))),
  (14, .inl (xe_istore 2 15)),
  (15, .inl (xe_iload 3 16)),
  (16, .inl (xe_aload 0 17)),
  (17, .inl (xe_alen 18)),
  (18, .inr (.inr (.inl (xc_S 302 [0, 0])))),
  (21, .inl (xe_istore 3 22)),
  (22, .inl (xe_iload 2 23)),
  (23, .inl (xe_iload 3 24)),
  (24, .inl (xe_icmp (fun x y => decide (x < y)) 29 27)),
  (27, .inl (xe_push (.int (-1)) 28)),
  (28, .inr (.inl xr_i)),
  (29, .inl (xe_aload 0 30)),
  (30, .inl (xe_iload 1 31)),
  (31, .inl (xe_iload 2 32)),
  (32, .inl (xe_iload 3 33)),
  (33, .inr (.inr (.inl (xc_S 299 [0, 0, 0, 2])))),
  (36, .inr (.inl xr_i))]
theorem xq_297_0 {G : xm_G} (hG : xm_W xk_B G) (hO : xm_Og G) : ∀ q ∈ xp_297_0, xm_op xk_B G xd xk_N "java/lang/StringLatin1" "indexOf" prog_42_method_22_code 4 (some (FieldType.int)) q.1 q.2 :=
  xw_cons (xw_E xn_iload (xo_iload_n dJ4_indexOf_0 rfl)) <|
  xw_cons (xl_s_32_88 hG dJ4_indexOf_1) <|
  xw_cons (xw_E xn_if (xo_if_ne dJ4_indexOf_4 (by decide))) <|
  xw_cons (xw_E xn_push (xo_iconst dJ4_indexOf_7 (by decide))) <|
  xw_cons (xw_R (xt_i dJ4_indexOf_8)) <|
  xw_cons (xw_E xn_iload (xo_iload_n dJ4_indexOf_9 rfl)) <|
  xw_cons (xw_E xn_push (xo_iconst dJ4_indexOf_10 (by decide))) <|
  xw_cons (xl_s_32_92 hG dJ4_indexOf_11) <|
  xw_cons (xw_E xn_istore (xo_istore_n dJ4_indexOf_14 rfl)) <|
  xw_cons (xw_E xn_iload (xo_iload_n dJ4_indexOf_15 rfl)) <|
  xw_cons (xw_E xn_aload (xo_aload_n dJ4_indexOf_16 rfl)) <|
  xw_cons (xw_E xn_alen (xo_alen dJ4_indexOf_17)) <|
  xw_cons (xl_s_32_38 hG dJ4_indexOf_18) <|
  xw_cons (xw_E xn_istore (xo_istore_n dJ4_indexOf_21 rfl)) <|
  xw_cons (xw_E xn_iload (xo_iload_n dJ4_indexOf_22 rfl)) <|
  xw_cons (xw_E xn_iload (xo_iload_n dJ4_indexOf_23 rfl)) <|
  xw_cons (xw_E xn_icmp (xo_icmp_lt dJ4_indexOf_24 (by decide))) <|
  xw_cons (xw_E xn_push (xo_iconst dJ4_indexOf_27 (by decide))) <|
  xw_cons (xw_R (xt_i dJ4_indexOf_28)) <|
  xw_cons (xw_E xn_aload (xo_aload_n dJ4_indexOf_29 rfl)) <|
  xw_cons (xw_E xn_iload (xo_iload_n dJ4_indexOf_30 rfl)) <|
  xw_cons (xw_E xn_iload (xo_iload_n dJ4_indexOf_31 rfl)) <|
  xw_cons (xw_E xn_iload (xo_iload_n dJ4_indexOf_32 rfl)) <|
  xw_cons (xl_s_32_95 hG dJ4_indexOf_33) <|
  xw_cons (xw_R (xt_i dJ4_indexOf_36)) <|
  xw_nil _
def xp_297 : List (Nat × xm_O) := xp_297_0
theorem xq_297 {G : xm_G} (hG : xm_W xk_B G) (hO : xm_Og G) : ∀ q ∈ xp_297, xm_op xk_B G xd xk_N "java/lang/StringLatin1" "indexOf" prog_42_method_22_code 4 (some (FieldType.int)) q.1 q.2 := xq_297_0 hG hO
/- 298: java/lang/StringLatin1.canEncode(I)Z -/
def xp_298_0 : List (Nat × xm_O) := [
  (0, .inl (xe_iload 0 1)),
  (1, .inl (xe_if (fun x => decide (x < 0)) 15 4)),
  (4, .inl (xe_iload 0 5)),
  (5, .inl (xe_push (.int 255) 8)),
  (8, .inl (xe_icmp (fun x y => decide (y < x)) 15 11)),
  (11, .inl (xe_push (.int 1) 12)),
  (12, .inl (xe_goto 16)),
  (15, .inl (xe_push (.int 0) 16)),
  (16, .inr (.inl xr_z))]
theorem xq_298_0 {G : xm_G} (hG : xm_W xk_B G) (hO : xm_Og G) : ∀ q ∈ xp_298_0, xm_op xk_B G xd xk_N "java/lang/StringLatin1" "canEncode" prog_42_method_4_code 1 (some (FieldType.boolean)) q.1 q.2 :=
  xw_cons (xw_E xn_iload (xo_iload_n dJ4_canEncode_0 rfl)) <|
  xw_cons (xw_E xn_if (xo_if_lt dJ4_canEncode_1 (by decide))) <|
  xw_cons (xw_E xn_iload (xo_iload_n dJ4_canEncode_4 rfl)) <|
  xw_cons (xw_E xn_push (xo_sipush dJ4_canEncode_5 (by decide))) <|
  xw_cons (xw_E xn_icmp (xo_icmp_gt dJ4_canEncode_8 (by decide))) <|
  xw_cons (xw_E xn_push (xo_iconst dJ4_canEncode_11 (by decide))) <|
  xw_cons (xw_E xn_goto (xo_goto dJ4_canEncode_12 (by decide))) <|
  xw_cons (xw_E xn_push (xo_iconst dJ4_canEncode_15 (by decide))) <|
  xw_cons (xw_R (xt_z dJ4_canEncode_16)) <|
  xw_nil _
def xp_298 : List (Nat × xm_O) := xp_298_0
theorem xq_298 {G : xm_G} (hG : xm_W xk_B G) (hO : xm_Og G) : ∀ q ∈ xp_298, xm_op xk_B G xd xk_N "java/lang/StringLatin1" "canEncode" prog_42_method_4_code 1 (some (FieldType.boolean)) q.1 q.2 := xq_298_0 hG hO
/- 299: java/lang/StringLatin1.indexOfChar([BIII)I -/
def xp_299_0 : List (Nat × xm_O) := [
  (0, .inl (xe_iload 1 1)),
  (1, .inl (xe_i (fun x => x.toInt8.toInt32) 2)),
  (2, .inl (xe_istore 4 4)),
  (4, .inl (xe_iload 2 5)),
  (5, .inl (xe_istore 5 7)),
  (7, .inl (xe_iload 5 9)),
  (9, .inl (xe_iload 3 10)),
  (10, .inl (xe_icmp (fun x y => decide (y ≤ x)) 31 13)),
  (13, .inl (xe_aload 0 14)),
  (14, .inl (xe_iload 5 16)),
  (16, .inl (xe_ald (fun t => t == 2 || t == 3) 17)),
  (17, .inl (xe_iload 4 19)),
  (19, .inl (xe_icmp (fun x y => decide (¬ x = y)) 25 22)),
  (22, .inl (xe_iload 5 24)),
  (24, .inr (.inl xr_i)),
  (25, .inl (xe_iinc 5 1 28)),
  (28, .inl (xe_goto 7)),
  (31, .inl (xe_push (.int (-1)) 32)),
  (32, .inr (.inl xr_i))]
theorem xq_299_0 {G : xm_G} (hG : xm_W xk_B G) (hO : xm_Og G) : ∀ q ∈ xp_299_0, xm_op xk_B G xd xk_N "java/lang/StringLatin1" "indexOfChar" prog_42_method_23_code 6 (some (FieldType.int)) q.1 q.2 :=
  xw_cons (xw_E xn_iload (xo_iload_n dJ4_indexOfChar_0 rfl)) <|
  xw_cons (xw_E xn_i (xo_i2b dJ4_indexOfChar_1)) <|
  xw_cons (xw_E xn_istore (xo_istore dJ4_indexOfChar_2)) <|
  xw_cons (xw_E xn_iload (xo_iload_n dJ4_indexOfChar_4 rfl)) <|
  xw_cons (xw_E xn_istore (xo_istore dJ4_indexOfChar_5)) <|
  xw_cons (xw_E xn_iload (xo_iload dJ4_indexOfChar_7)) <|
  xw_cons (xw_E xn_iload (xo_iload_n dJ4_indexOfChar_9 rfl)) <|
  xw_cons (xw_E xn_icmp (xo_icmp_ge dJ4_indexOfChar_10 (by decide))) <|
  xw_cons (xw_E xn_aload (xo_aload_n dJ4_indexOfChar_13 rfl)) <|
  xw_cons (xw_E xn_iload (xo_iload dJ4_indexOfChar_14)) <|
  xw_cons (xw_E xn_ald (xo_bald xk_hB dJ4_indexOfChar_16)) <|
  xw_cons (xw_E xn_iload (xo_iload dJ4_indexOfChar_17)) <|
  xw_cons (xw_E xn_icmp (xo_icmp_ne dJ4_indexOfChar_19 (by decide))) <|
  xw_cons (xw_E xn_iload (xo_iload dJ4_indexOfChar_22)) <|
  xw_cons (xw_R (xt_i dJ4_indexOfChar_24)) <|
  xw_cons (xw_E xn_iinc (xo_iinc dJ4_indexOfChar_25 (by decide))) <|
  xw_cons (xw_E xn_goto (xo_goto dJ4_indexOfChar_28 (by decide))) <|
  xw_cons (xw_E xn_push (xo_iconst dJ4_indexOfChar_31 (by decide))) <|
  xw_cons (xw_R (xt_i dJ4_indexOfChar_32)) <|
  xw_nil _
def xp_299 : List (Nat × xm_O) := xp_299_0
theorem xq_299 {G : xm_G} (hG : xm_W xk_B G) (hO : xm_Og G) : ∀ q ∈ xp_299, xm_op xk_B G xd xk_N "java/lang/StringLatin1" "indexOfChar" prog_42_method_23_code 6 (some (FieldType.int)) q.1 q.2 := xq_299_0 hG hO
/- 300: java/lang/StringLatin1.charAt([BI)C -/
def xp_300_0 : List (Nat × xm_O) := [
  (0, .inl (xe_iload 1 1)),
  (1, .inl (xe_aload 0 2)),
  (2, .inl (xe_alen 3)),
  (3, .inr (.inr (.inl (xc_S 296 [0, 0])))),
  (6, .inl (xe_aload 0 7)),
  (7, .inl (xe_iload 1 8)),
  (8, .inl (xe_ald (fun t => t == 2 || t == 3) 9)),
  (9, .inl (xe_push (.int 255) 12)),
  (12, .inl (xe_ii (fun x y => x &&& y) 13)),
  (13, .inl (xe_i (fun x => (x.toUInt32 % 65536).toInt32) 14)),
  (14, .inr (.inl xr_c))]
theorem xq_300_0 {G : xm_G} (hG : xm_W xk_B G) (hO : xm_Og G) : ∀ q ∈ xp_300_0, xm_op xk_B G xd xk_N "java/lang/StringLatin1" "charAt" prog_42_method_2_code 2 (some (FieldType.char)) q.1 q.2 :=
  xw_cons (xw_E xn_iload (xo_iload_n dJ4_charAt_0 rfl)) <|
  xw_cons (xw_E xn_aload (xo_aload_n dJ4_charAt_1 rfl)) <|
  xw_cons (xw_E xn_alen (xo_alen dJ4_charAt_2)) <|
  xw_cons (xl_s_32_9 hG dJ4_charAt_3) <|
  xw_cons (xw_E xn_aload (xo_aload_n dJ4_charAt_6 rfl)) <|
  xw_cons (xw_E xn_iload (xo_iload_n dJ4_charAt_7 rfl)) <|
  xw_cons (xw_E xn_ald (xo_bald xk_hB dJ4_charAt_8)) <|
  xw_cons (xw_E xn_push (xo_sipush dJ4_charAt_9 (by decide))) <|
  xw_cons (xw_E xn_ii (xo_iand dJ4_charAt_12)) <|
  xw_cons (xw_E xn_i (xo_i2c dJ4_charAt_13)) <|
  xw_cons (xw_R (xt_c dJ4_charAt_14)) <|
  xw_nil _
def xp_300 : List (Nat × xm_O) := xp_300_0
theorem xq_300 {G : xm_G} (hG : xm_W xk_B G) (hO : xm_Og G) : ∀ q ∈ xp_300, xm_op xk_B G xd xk_N "java/lang/StringLatin1" "charAt" prog_42_method_2_code 2 (some (FieldType.char)) q.1 q.2 := xq_300_0 hG hO
/- 301: java/lang/Math.max(II)I -/
def xp_301_0 : List (Nat × xm_O) := [
  (0, .inl (xe_iload 0 1)),
  (1, .inl (xe_iload 1 2)),
  (2, .inl (xe_icmp (fun x y => decide (x < y)) 9 5)),
  (5, .inl (xe_iload 0 6)),
  (6, .inl (xe_goto 10)),
  (9, .inl (xe_iload 1 10)),
  (10, .inr (.inl xr_i))]
theorem xq_301_0 {G : xm_G} (hG : xm_W xk_B G) (hO : xm_Og G) : ∀ q ∈ xp_301_0, xm_op xk_B G xd xk_N "java/lang/Math" "max" prog_38_method_65_code 2 (some (FieldType.int)) q.1 q.2 :=
  xw_cons (xw_E xn_iload (xo_iload_n dJ5_max_0 rfl)) <|
  xw_cons (xw_E xn_iload (xo_iload_n dJ5_max_1 rfl)) <|
  xw_cons (xw_E xn_icmp (xo_icmp_lt dJ5_max_2 (by decide))) <|
  xw_cons (xw_E xn_iload (xo_iload_n dJ5_max_5 rfl)) <|
  xw_cons (xw_E xn_goto (xo_goto dJ5_max_6 (by decide))) <|
  xw_cons (xw_E xn_iload (xo_iload_n dJ5_max_9 rfl)) <|
  xw_cons (xw_R (xt_i dJ5_max_10)) <|
  xw_nil _
def xp_301 : List (Nat × xm_O) := xp_301_0
theorem xq_301 {G : xm_G} (hG : xm_W xk_B G) (hO : xm_Og G) : ∀ q ∈ xp_301, xm_op xk_B G xd xk_N "java/lang/Math" "max" prog_38_method_65_code 2 (some (FieldType.int)) q.1 q.2 := xq_301_0 hG hO
/- 302: java/lang/Math.min(II)I -/
def xp_302_0 : List (Nat × xm_O) := [
  (0, .inl (xe_iload 0 1)),
  (1, .inl (xe_iload 1 2)),
  (2, .inl (xe_icmp (fun x y => decide (y < x)) 9 5)),
  (5, .inl (xe_iload 0 6)),
  (6, .inl (xe_goto 10)),
  (9, .inl (xe_iload 1 10)),
  (10, .inr (.inl xr_i))]
theorem xq_302_0 {G : xm_G} (hG : xm_W xk_B G) (hO : xm_Og G) : ∀ q ∈ xp_302_0, xm_op xk_B G xd xk_N "java/lang/Math" "min" prog_38_method_69_code 2 (some (FieldType.int)) q.1 q.2 :=
  xw_cons (xw_E xn_iload (xo_iload_n dJ5_min_0 rfl)) <|
  xw_cons (xw_E xn_iload (xo_iload_n dJ5_min_1 rfl)) <|
  xw_cons (xw_E xn_icmp (xo_icmp_gt dJ5_min_2 (by decide))) <|
  xw_cons (xw_E xn_iload (xo_iload_n dJ5_min_5 rfl)) <|
  xw_cons (xw_E xn_goto (xo_goto dJ5_min_6 (by decide))) <|
  xw_cons (xw_E xn_iload (xo_iload_n dJ5_min_9 rfl)) <|
  xw_cons (xw_R (xt_i dJ5_min_10)) <|
  xw_nil _
def xp_302 : List (Nat × xm_O) := xp_302_0
theorem xq_302 {G : xm_G} (hG : xm_W xk_B G) (hO : xm_Og G) : ∀ q ∈ xp_302, xm_op xk_B G xd xk_N "java/lang/Math" "min" prog_38_method_69_code 2 (some (FieldType.int)) q.1 q.2 := xq_302_0 hG hO
/- 303: java/lang/Math.abs(I)I -/
def xp_303_0 : List (Nat × xm_O) := [
  (0, .inl (xe_iload 0 1)),
  (1, .inl (xe_if (fun x => decide (0 ≤ x)) 9 4)),
  (4, .inl (xe_iload 0 5)),
  (5, .inl (xe_i (fun x => -x) 6)),
  (6, .inl (xe_goto 10)),
  (9, .inl (xe_iload 0 10)),
  (10, .inr (.inl xr_i))]
theorem xq_303_0 {G : xm_G} (hG : xm_W xk_B G) (hO : xm_Og G) : ∀ q ∈ xp_303_0, xm_op xk_B G xd xk_N "java/lang/Math" "abs" prog_38_method_59_code 1 (some (FieldType.int)) q.1 q.2 :=
  xw_cons (xw_E xn_iload (xo_iload_n dJ5_abs_0 rfl)) <|
  xw_cons (xw_E xn_if (xo_if_ge dJ5_abs_1 (by decide))) <|
  xw_cons (xw_E xn_iload (xo_iload_n dJ5_abs_4 rfl)) <|
  xw_cons (xw_E xn_i (xo_ineg dJ5_abs_5)) <|
  xw_cons (xw_E xn_goto (xo_goto dJ5_abs_6 (by decide))) <|
  xw_cons (xw_E xn_iload (xo_iload_n dJ5_abs_9 rfl)) <|
  xw_cons (xw_R (xt_i dJ5_abs_10)) <|
  xw_nil _
def xp_303 : List (Nat × xm_O) := xp_303_0
theorem xq_303 {G : xm_G} (hG : xm_W xk_B G) (hO : xm_Og G) : ∀ q ∈ xp_303, xm_op xk_B G xd xk_N "java/lang/Math" "abs" prog_38_method_59_code 1 (some (FieldType.int)) q.1 q.2 := xq_303_0 hG hO
/- 304: jdk/internal/util/Preconditions.checkFromToIndex(IIILjava/util/function/BiFunction;)I -/
def xp_304_0 : List (Nat × xm_O) := [
  (0, .inl (xe_iload 0 1)),
  (1, .inl (xe_if (fun x => decide (x < 0)) 14 4)),
  (4, .inl (xe_iload 0 5)),
  (5, .inl (xe_iload 1 6)),
  (6, .inl (xe_icmp (fun x y => decide (y < x)) 14 9)),
  (9, .inl (xe_iload 1 10)),
  (10, .inl (xe_iload 2 11)),
  (11, .inl (xe_icmp (fun x y => decide (x ≤ y)) 22 14)),
  (14, .inl (xe_aload 3 15)),
  (15, .inl (xe_iload 0 16)),
  (16, .inl (xe_iload 1 17)),
  (17, .inl (xe_iload 2 18)),
  (21, .inr (.inr (.inr ()))),
  (22, .inl (xe_iload 0 23)),
  (23, .inr (.inl xr_i))]
theorem xq_304_0 {G : xm_G} (hG : xm_W xk_B G) (hO : xm_Og G) : ∀ q ∈ xp_304_0, xm_op xk_B G xd xk_N "jdk/internal/util/Preconditions" "checkFromToIndex" prog_59_method_12_code 4 (some (FieldType.int)) q.1 q.2 :=
  xw_cons (xw_E xn_iload (xo_iload_n dJ7_checkFromToIndex_0 rfl)) <|
  xw_cons (xw_E xn_if (xo_if_lt dJ7_checkFromToIndex_1 (by decide))) <|
  xw_cons (xw_E xn_iload (xo_iload_n dJ7_checkFromToIndex_4 rfl)) <|
  xw_cons (xw_E xn_iload (xo_iload_n dJ7_checkFromToIndex_5 rfl)) <|
  xw_cons (xw_E xn_icmp (xo_icmp_gt dJ7_checkFromToIndex_6 (by decide))) <|
  xw_cons (xw_E xn_iload (xo_iload_n dJ7_checkFromToIndex_9 rfl)) <|
  xw_cons (xw_E xn_iload (xo_iload_n dJ7_checkFromToIndex_10 rfl)) <|
  xw_cons (xw_E xn_icmp (xo_icmp_le dJ7_checkFromToIndex_11 (by decide))) <|
  xw_cons (xw_E xn_aload (xo_aload_n dJ7_checkFromToIndex_14 rfl)) <|
  xw_cons (xw_E xn_iload (xo_iload_n dJ7_checkFromToIndex_15 rfl)) <|
  xw_cons (xw_E xn_iload (xo_iload_n dJ7_checkFromToIndex_16 rfl)) <|
  xw_cons (xw_E xn_iload (xo_iload_n dJ7_checkFromToIndex_17 rfl)) <|
  xw_cons (xw_T dJ7_checkFromToIndex_21) <|
  xw_cons (xw_E xn_iload (xo_iload_n dJ7_checkFromToIndex_22 rfl)) <|
  xw_cons (xw_R (xt_i dJ7_checkFromToIndex_23)) <|
  xw_nil _
def xp_304 : List (Nat × xm_O) := xp_304_0
theorem xq_304 {G : xm_G} (hG : xm_W xk_B G) (hO : xm_Og G) : ∀ q ∈ xp_304, xm_op xk_B G xd xk_N "jdk/internal/util/Preconditions" "checkFromToIndex" prog_59_method_12_code 4 (some (FieldType.int)) q.1 q.2 := xq_304_0 hG hO
/- 305: jdk/internal/util/Preconditions.checkIndex(IILjava/util/function/BiFunction;)I -/
def xp_305_0 : List (Nat × xm_O) := [
  (0, .inl (xe_iload 0 1)),
  (1, .inl (xe_if (fun x => decide (x < 0)) 9 4)),
  (4, .inl (xe_iload 0 5)),
  (5, .inl (xe_iload 1 6)),
  (6, .inl (xe_icmp (fun x y => decide (x < y)) 16 9)),
  (9, .inl (xe_aload 2 10)),
  (10, .inl (xe_iload 0 11)),
  (11, .inl (xe_iload 1 12)),
  (15, .inr (.inr (.inr ()))),
  (16, .inl (xe_iload 0 17)),
  (17, .inr (.inl xr_i))]
theorem xq_305_0 {G : xm_G} (hG : xm_W xk_B G) (hO : xm_Og G) : ∀ q ∈ xp_305_0, xm_op xk_B G xd xk_N "jdk/internal/util/Preconditions" "checkIndex" prog_59_method_11_code 3 (some (FieldType.int)) q.1 q.2 :=
  xw_cons (xw_E xn_iload (xo_iload_n dJ7_checkIndex_0 rfl)) <|
  xw_cons (xw_E xn_if (xo_if_lt dJ7_checkIndex_1 (by decide))) <|
  xw_cons (xw_E xn_iload (xo_iload_n dJ7_checkIndex_4 rfl)) <|
  xw_cons (xw_E xn_iload (xo_iload_n dJ7_checkIndex_5 rfl)) <|
  xw_cons (xw_E xn_icmp (xo_icmp_lt dJ7_checkIndex_6 (by decide))) <|
  xw_cons (xw_E xn_aload (xo_aload_n dJ7_checkIndex_9 rfl)) <|
  xw_cons (xw_E xn_iload (xo_iload_n dJ7_checkIndex_10 rfl)) <|
  xw_cons (xw_E xn_iload (xo_iload_n dJ7_checkIndex_11 rfl)) <|
  xw_cons (xw_T dJ7_checkIndex_15) <|
  xw_cons (xw_E xn_iload (xo_iload_n dJ7_checkIndex_16 rfl)) <|
  xw_cons (xw_R (xt_i dJ7_checkIndex_17)) <|
  xw_nil _
def xp_305 : List (Nat × xm_O) := xp_305_0
theorem xq_305 {G : xm_G} (hG : xm_W xk_B G) (hO : xm_Og G) : ∀ q ∈ xp_305, xm_op xk_B G xd xk_N "jdk/internal/util/Preconditions" "checkIndex" prog_59_method_11_code 3 (some (FieldType.int)) q.1 q.2 := xq_305_0 hG hO
/- 306: java/util/Objects.checkIndex(II)I -/
def xp_306_0 : List (Nat × xm_O) := [
  (0, .inl (xe_iload 0 1)),
  (1, .inl (xe_iload 1 2)),
  (2, .inl (xe_push .null 3)),
  (3, .inr (.inr (.inl (xc_S 305 [2, 0, 0])))),
  (6, .inr (.inl xr_i))]
theorem xq_306_0 {G : xm_G} (hG : xm_W xk_B G) (hO : xm_Og G) : ∀ q ∈ xp_306_0, xm_op xk_B G xd xk_N "java/util/Objects" "checkIndex" prog_55_method_17_code 2 (some (FieldType.int)) q.1 q.2 :=
  xw_cons (xw_E xn_iload (xo_iload_n dJ11_checkIndex_0 rfl)) <|
  xw_cons (xw_E xn_iload (xo_iload_n dJ11_checkIndex_1 rfl)) <|
  xw_cons (xw_E xn_push (xo_anull dJ11_checkIndex_2)) <|
  xw_cons (xl_s_37_105 hG dJ11_checkIndex_3) <|
  xw_cons (xw_R (xt_i dJ11_checkIndex_6)) <|
  xw_nil _
def xp_306 : List (Nat × xm_O) := xp_306_0
theorem xq_306 {G : xm_G} (hG : xm_W xk_B G) (hO : xm_Og G) : ∀ q ∈ xp_306, xm_op xk_B G xd xk_N "java/util/Objects" "checkIndex" prog_55_method_17_code 2 (some (FieldType.int)) q.1 q.2 := xq_306_0 hG hO
/- 307: java/lang/Number.<init>()V -/
def xp_307_0 : List (Nat × xm_O) := [
  (0, .inl (xe_aload 0 1)),
  (1, .inl (xe_objInit 4)),
  (4, .inr (.inl xr_v))]
theorem xq_307_0 {G : xm_G} (hG : xm_W xk_B G) (hO : xm_Og G) : ∀ q ∈ xp_307_0, xm_op xk_B G xd xk_N "java/lang/Number" "<init>" prog_39_method_1_code 1 none q.1 q.2 :=
  xw_cons (xw_E xn_aload (xo_aload_n dJ12_init_0 rfl)) <|
  xw_cons (xw_E xn_objInit (xo_objInit hG q742 q172 q173 dJ12_init_1)) <|
  xw_cons (xw_R (xt_v dJ12_init_4)) <|
  xw_nil _
def xp_307 : List (Nat × xm_O) := xp_307_0
theorem xq_307 {G : xm_G} (hG : xm_W xk_B G) (hO : xm_Og G) : ∀ q ∈ xp_307, xm_op xk_B G xd xk_N "java/lang/Number" "<init>" prog_39_method_1_code 1 none q.1 q.2 := xq_307_0 hG hO
/- 308: java/lang/Long.longValue()J -/
def xp_308_0 : List (Nat × xm_O) := [
  (0, .inl (xe_aload 0 1)),
  (1, .inl (xe_getf (xj_1 26 0) 4)),
  (4, .inr (.inl xr_l))]
theorem xq_308_0 {G : xm_G} (hG : xm_W xk_B G) (hO : xm_Og G) : ∀ q ∈ xp_308_0, xm_op xk_B G xd xk_N "java/lang/Long" "longValue" prog_36_method_31_code 1 (some (FieldType.long)) q.1 q.2 :=
  xw_cons (xw_E xn_aload (xo_aload_n dJ13_longValue_0 rfl)) <|
  xw_cons (xw_E xn_getf (xo_getf hG xg_28_273 dJ13_longValue_1)) <|
  xw_cons (xw_R (xt_l dJ13_longValue_4)) <|
  xw_nil _
def xp_308 : List (Nat × xm_O) := xp_308_0
theorem xq_308 {G : xm_G} (hG : xm_W xk_B G) (hO : xm_Og G) : ∀ q ∈ xp_308, xm_op xk_B G xd xk_N "java/lang/Long" "longValue" prog_36_method_31_code 1 (some (FieldType.long)) q.1 q.2 := xq_308_0 hG hO
/- 309: java/lang/Long.valueOf(J)Ljava/lang/Long; -/
def xp_309_0 : List (Nat × xm_O) := [
  (0, .inl (xe_push (.int 128) 3)),
  (3, .inl (xe_istore 2 4)),
  (4, .inl (xe_lload 0 5)),
  (5, .inl (xe_push (.long (-128 : Int64)) 8)),
  (8, .inl (xe_lcmp 9)),
  (9, .inl (xe_if (fun x => decide (x < 0)) 31 12)),
  (12, .inl (xe_lload 0 13)),
  (13, .inl (xe_push (.long (127 : Int64)) 16)),
  (16, .inl (xe_lcmp 17)),
  (17, .inl (xe_if (fun x => decide (0 < x)) 31 20)),
  (20, .inl (xe_push (.ref 3) 23)),
  (23, .inl (xe_lload 0 24)),
  (24, .inl (xe_l2i 25)),
  (25, .inl (xe_push (.int 128) 28)),
  (28, .inl (xe_ii (fun x y => x + y) 29)),
  (29, .inl (xe_ald (fun t => Nat.ble 4 t) 30)),
  (30, .inr (.inl xr_a)),
  (31, .inl (xe_new 26 1 xk_f26 34)),
  (34, .inl (xe_dup 35)),
  (35, .inl (xe_lload 0 36)),
  (36, .inr (.inr (.inl (xc_I 310 [1])))),
  (39, .inr (.inl xr_a))]
theorem xq_309_0 {G : xm_G} (hG : xm_W xk_B G) (hO : xm_Og G) : ∀ q ∈ xp_309_0, xm_op xk_B G xd xk_N "java/lang/Long" "valueOf" prog_36_method_24_code 3 (some ((FieldType.object "java/lang/Long"))) q.1 q.2 :=
  xw_cons (xw_E xn_push (xo_sipush dJ13_valueOf_0 (by decide))) <|
  xw_cons (xw_E xn_istore (xo_istore_n dJ13_valueOf_3 rfl)) <|
  xw_cons (xw_E xn_lload (xo_lload_n dJ13_valueOf_4 rfl)) <|
  xw_cons (xw_E xn_push (xo_ldc2 hG q730 dJ13_valueOf_5)) <|
  xw_cons (xw_E xn_lcmp (xo_lcmp dJ13_valueOf_8)) <|
  xw_cons (xw_E xn_if (xo_if_lt dJ13_valueOf_9 (by decide))) <|
  xw_cons (xw_E xn_lload (xo_lload_n dJ13_valueOf_12 rfl)) <|
  xw_cons (xw_E xn_push (xo_ldc2 hG q731 dJ13_valueOf_13)) <|
  xw_cons (xw_E xn_lcmp (xo_lcmp dJ13_valueOf_16)) <|
  xw_cons (xw_E xn_if (xo_if_gt dJ13_valueOf_17 (by decide))) <|
  xw_cons (xw_E xn_push (xo_gets hG (xog_cache hO) q732 dJ13_valueOf_20)) <|
  xw_cons (xw_E xn_lload (xo_lload_n dJ13_valueOf_23 rfl)) <|
  xw_cons (xw_E xn_l2i (xo_l2i dJ13_valueOf_24)) <|
  xw_cons (xw_E xn_push (xo_sipush dJ13_valueOf_25 (by decide))) <|
  xw_cons (xw_E xn_ii (xo_iadd dJ13_valueOf_28)) <|
  xw_cons (xw_E xn_ald (xo_aald xk_hB dJ13_valueOf_29)) <|
  xw_cons (xw_R (xt_a (Or.inl ⟨_, rfl⟩) dJ13_valueOf_30)) <|
  xw_cons (xw_E xn_new (xo_new hG xnw_28_1 dJ13_valueOf_31)) <|
  xw_cons (xw_E xn_dup (xo_dup dJ13_valueOf_34)) <|
  xw_cons (xw_E xn_lload (xo_lload_n dJ13_valueOf_35 rfl)) <|
  xw_cons (xl_s_28_240 hG dJ13_valueOf_36) <|
  xw_cons (xw_R (xt_a (Or.inl ⟨_, rfl⟩) dJ13_valueOf_39)) <|
  xw_nil _
def xp_309 : List (Nat × xm_O) := xp_309_0
theorem xq_309 {G : xm_G} (hG : xm_W xk_B G) (hO : xm_Og G) : ∀ q ∈ xp_309, xm_op xk_B G xd xk_N "java/lang/Long" "valueOf" prog_36_method_24_code 3 (some ((FieldType.object "java/lang/Long"))) q.1 q.2 := xq_309_0 hG hO
/- 310: java/lang/Long.<init>(J)V -/
def xp_310_0 : List (Nat × xm_O) := [
  (0, .inl (xe_aload 0 1)),
  (1, .inr (.inr (.inl (xc_I 307 [])))),
  (4, .inl (xe_aload 0 5)),
  (5, .inl (xe_lload 1 6)),
  (6, .inl (xe_putf 300 1 (xj_1 26 0) 9)),
  (9, .inr (.inl xr_v))]
theorem xq_310_0 {G : xm_G} (hG : xm_W xk_B G) (hO : xm_Og G) : ∀ q ∈ xp_310_0, xm_op xk_B G xd xk_N "java/lang/Long" "<init>" prog_36_method_26_code 3 none q.1 q.2 :=
  xw_cons (xw_E xn_aload (xo_aload_n dJ13_init_0 rfl)) <|
  xw_cons (xl_s_28_270 hG dJ13_init_1) <|
  xw_cons (xw_E xn_aload (xo_aload_n dJ13_init_4 rfl)) <|
  xw_cons (xw_E xn_lload (xo_lload_n dJ13_init_5 rfl)) <|
  xw_cons (xw_E xn_putf (xo_putf hG rfl xu_28_273 dJ13_init_6)) <|
  xw_cons (xw_R (xt_v dJ13_init_9)) <|
  xw_nil _
def xp_310 : List (Nat × xm_O) := xp_310_0
theorem xq_310 {G : xm_G} (hG : xm_W xk_B G) (hO : xm_Og G) : ∀ q ∈ xp_310, xm_op xk_B G xd xk_N "java/lang/Long" "<init>" prog_36_method_26_code 3 none q.1 q.2 := xq_310_0 hG hO
/- 311: jdk/internal/util/ArraysSupport.newLength(III)I -/
def xp_311_0 : List (Nat × xm_O) := [
  (0, .inl (xe_iload 0 1)),
  (1, .inl (xe_iload 1 2)),
  (2, .inl (xe_iload 2 3)),
  (3, .inr (.inr (.inl (xc_S 301 [0, 0])))),
  (6, .inl (xe_ii (fun x y => x + y) 7)),
  (7, .inl (xe_istore 3 8)),
  (8, .inl (xe_push (.int 0) 9)),
  (9, .inl (xe_iload 3 10)),
  (10, .inl (xe_icmp (fun x y => decide (y ≤ x)) 21 13)),
  (13, .inl (xe_iload 3 14)),
  (14, .inl (xe_push (.int (2147483639 : Int32)) 16)),
  (16, .inl (xe_icmp (fun x y => decide (y < x)) 21 19)),
  (19, .inl (xe_iload 3 20)),
  (20, .inr (.inl xr_i)),
  (21, .inl (xe_iload 0 22)),
  (22, .inl (xe_iload 1 23)),
  (26, .inr (.inl xr_i))]
theorem xq_311_0 {G : xm_G} (hG : xm_W xk_B G) (hO : xm_Og G) : ∀ q ∈ xp_311_0, xm_op xk_B G xd xk_N "jdk/internal/util/ArraysSupport" "newLength" prog_58_method_27_code 4 (some (FieldType.int)) q.1 q.2 :=
  xw_cons (xw_E xn_iload (xo_iload_n dJ14_newLength_0 rfl)) <|
  xw_cons (xw_E xn_iload (xo_iload_n dJ14_newLength_1 rfl)) <|
  xw_cons (xw_E xn_iload (xo_iload_n dJ14_newLength_2 rfl)) <|
  xw_cons (xl_s_38_194 hG dJ14_newLength_3) <|
  xw_cons (xw_E xn_ii (xo_iadd dJ14_newLength_6)) <|
  xw_cons (xw_E xn_istore (xo_istore_n dJ14_newLength_7 rfl)) <|
  xw_cons (xw_E xn_push (xo_iconst dJ14_newLength_8 (by decide))) <|
  xw_cons (xw_E xn_iload (xo_iload_n dJ14_newLength_9 rfl)) <|
  xw_cons (xw_E xn_icmp (xo_icmp_ge dJ14_newLength_10 (by decide))) <|
  xw_cons (xw_E xn_iload (xo_iload_n dJ14_newLength_13 rfl)) <|
  xw_cons (xw_E xn_push (xo_ldc hG q767 dJ14_newLength_14)) <|
  xw_cons (xw_E xn_icmp (xo_icmp_gt dJ14_newLength_16 (by decide))) <|
  xw_cons (xw_E xn_iload (xo_iload_n dJ14_newLength_19 rfl)) <|
  xw_cons (xw_R (xt_i dJ14_newLength_20)) <|
  xw_cons (xw_E xn_iload (xo_iload_n dJ14_newLength_21 rfl)) <|
  xw_cons (xw_E xn_iload (xo_iload_n dJ14_newLength_22 rfl)) <|
  xw_cons (xw_R (xt_i dJ14_newLength_26)) <|
  xw_nil _
def xp_311 : List (Nat × xm_O) := xp_311_0
theorem xq_311 {G : xm_G} (hG : xm_W xk_B G) (hO : xm_Og G) : ∀ q ∈ xp_311, xm_op xk_B G xd xk_N "jdk/internal/util/ArraysSupport" "newLength" prog_58_method_27_code 4 (some (FieldType.int)) q.1 q.2 := xq_311_0 hG hO
/- 312: java/util/Arrays.copyOf([Ljava/lang/Object;I)[Ljava/lang/Object; -/
def xp_312_0 : List (Nat × xm_O) := [
  (0, .inl (xe_aload 0 1)),
  (1, .inl (xe_iload 1 2)),
  (2, .inl (xe_aload 0 3)),
  (6, .inr (.inr (.inl (xc_S 313 [2, 0, 2])))),
  (9, .inr (.inl xr_a))]
theorem xq_312_0 {G : xm_G} (hG : xm_W xk_B G) (hO : xm_Og G) : ∀ q ∈ xp_312_0, xm_op xk_B G xd xk_N "java/util/Arrays" "copyOf" prog_51_method_119_code 2 (some ((FieldType.array (FieldType.object "java/lang/Object")))) q.1 q.2 :=
  xw_cons (xw_E xn_aload (xo_aload_n dJ15_copyOf_0 rfl)) <|
  xw_cons (xw_E xn_iload (xo_iload_n dJ15_copyOf_1 rfl)) <|
  xw_cons (xw_E xn_aload (xo_aload_n dJ15_copyOf_2 rfl)) <|
  xw_cons (xl_s_36_300 hG dJ15_copyOf_6) <|
  xw_cons (xw_R (xt_a (Or.inr ⟨_, rfl⟩) dJ15_copyOf_9)) <|
  xw_nil _
def xp_312 : List (Nat × xm_O) := xp_312_0
theorem xq_312 {G : xm_G} (hG : xm_W xk_B G) (hO : xm_Og G) : ∀ q ∈ xp_312, xm_op xk_B G xd xk_N "java/util/Arrays" "copyOf" prog_51_method_119_code 2 (some ((FieldType.array (FieldType.object "java/lang/Object")))) q.1 q.2 := xq_312_0 hG hO
/- 313: java/util/Arrays.copyOf([Ljava/lang/Object;ILjava/lang/Class;)[Ljava/lang/Object; -/
def xp_313_0 : List (Nat × xm_O) := [
  (0, .inl (xe_aload 2 1)),
  (6, .inl (xe_iload 1 7)),
  (7, .inl (xe_newa 4 .null 100000 10)),
  (10, .inl (xe_goto 24)),
  (13, .inl (xe_aload 2 14)),
  (17, .inl (xe_iload 1 18)),
  (24, .inl (xe_astore 3 25)),
  (25, .inl (xe_aload 0 26)),
  (26, .inl (xe_push (.int 0) 27)),
  (27, .inl (xe_aload 3 28)),
  (28, .inl (xe_push (.int 0) 29)),
  (29, .inl (xe_aload 0 30)),
  (30, .inl (xe_alen 31)),
  (31, .inl (xe_iload 1 32)),
  (32, .inr (.inr (.inl (xc_S 302 [0, 0])))),
  (38, .inl (xe_aload 3 39)),
  (39, .inr (.inl xr_a))]
theorem xq_313_0 {G : xm_G} (hG : xm_W xk_B G) (hO : xm_Og G) : ∀ q ∈ xp_313_0, xm_op xk_B G xd xk_N "java/util/Arrays" "copyOf" prog_51_method_120_code 4 (some ((FieldType.array (FieldType.object "java/lang/Object")))) q.1 q.2 :=
  xw_cons (xw_E xn_aload (xo_aload_n dJ15_copyOf_2_0 rfl)) <|
  xw_cons (xw_E xn_iload (xo_iload_n dJ15_copyOf_2_6 rfl)) <|
  xw_cons (xw_E xn_newa (xo_anewa hG (by decide) rfl (by decide) q810 q250 dJ15_copyOf_2_7)) <|
  xw_cons (xw_E xn_goto (xo_goto dJ15_copyOf_2_10 (by decide))) <|
  xw_cons (xw_E xn_aload (xo_aload_n dJ15_copyOf_2_13 rfl)) <|
  xw_cons (xw_E xn_iload (xo_iload_n dJ15_copyOf_2_17 rfl)) <|
  xw_cons (xw_E xn_astore (xo_astore_n dJ15_copyOf_2_24 rfl)) <|
  xw_cons (xw_E xn_aload (xo_aload_n dJ15_copyOf_2_25 rfl)) <|
  xw_cons (xw_E xn_push (xo_iconst dJ15_copyOf_2_26 (by decide))) <|
  xw_cons (xw_E xn_aload (xo_aload_n dJ15_copyOf_2_27 rfl)) <|
  xw_cons (xw_E xn_push (xo_iconst dJ15_copyOf_2_28 (by decide))) <|
  xw_cons (xw_E xn_aload (xo_aload_n dJ15_copyOf_2_29 rfl)) <|
  xw_cons (xw_E xn_alen (xo_alen dJ15_copyOf_2_30)) <|
  xw_cons (xw_E xn_iload (xo_iload_n dJ15_copyOf_2_31 rfl)) <|
  xw_cons (xl_s_36_304 hG dJ15_copyOf_2_32) <|
  xw_cons (xw_E xn_aload (xo_aload_n dJ15_copyOf_2_38 rfl)) <|
  xw_cons (xw_R (xt_a (Or.inr ⟨_, rfl⟩) dJ15_copyOf_2_39)) <|
  xw_nil _
def xp_313 : List (Nat × xm_O) := xp_313_0
theorem xq_313 {G : xm_G} (hG : xm_W xk_B G) (hO : xm_Og G) : ∀ q ∈ xp_313, xm_op xk_B G xd xk_N "java/util/Arrays" "copyOf" prog_51_method_120_code 4 (some ((FieldType.array (FieldType.object "java/lang/Object")))) q.1 q.2 := xq_313_0 hG hO
