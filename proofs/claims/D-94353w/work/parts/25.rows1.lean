/-! rows of methods, by program -/
set_option maxRecDepth 100000
/- 44: LiarsCock.proof(II)I -/
def xp_44_0 : List (Nat × xm_O) := [
  (0, .inl (xe_aload 0 1)),
  (1, .inl (xe_iload 1 2)),
  (2, .inr (.inr (.inl (xc_V (xj_1 0 21) [0])))),
  (5, .inl (xe_if (fun x => decide (x = 0)) 24 8)),
  (8, .inl (xe_iload 2 9)),
  (9, .inr (.inr (.inl (xc_S 40 [0])))),
  (12, .inl (xe_if (fun x => decide (x = 0)) 24 15)),
  (15, .inl (xe_aload 0 16)),
  (16, .inl (xe_iload 1 17)),
  (17, .inr (.inr (.inl (xc_V (xj_1 0 38) [0])))),
  (20, .inl (xe_push (.int 1) 21)),
  (21, .inl (xe_icmp (fun x y => decide (x ≤ y)) 26 24)),
  (24, .inl (xe_push (.int (-1)) 25)),
  (25, .inr (.inl xr_i)),
  (26, .inl (xe_aload 0 27)),
  (27, .inl (xe_getf (xj_1 0 7) 30)),
  (30, .inl (xe_aload 0 31)),
  (31, .inl (xe_getf (xj_1 0 3) 34)),
  (34, .inl (xe_iload 1 35)),
  (35, .inr (.inr (.inl (xc_V (xj_1 25 281) [0])))),
  (38, .inl (xe_cast (fun ci => ([22] : List Nat).elem ci) 41)),
  (41, .inl (xe_getf (xj_1 22 2) 44)),
  (44, .inl (xe_aload 0 45)),
  (45, .inl (xe_iload 1 46)),
  (46, .inr (.inr (.inl (xc_V (xj_1 0 38) [0])))),
  (49, .inr (.inr (.inl (xc_V (xj_1 5 127) [0, 1])))),
  (52, .inl (xe_iload 2 53)),
  (53, .inr (.inr (.inl (xc_S 45 [0, 0])))),
  (56, .inr (.inl xr_i))]
theorem xq_44_0 {G : xm_G} (hG : xm_W xk_B G) (hO : xm_Og G) : ∀ q ∈ xp_44_0, xm_op xk_B G xd xk_N "LiarsCock" "proof" prog_1_method_47_code 3 (some (FieldType.int)) q.1 q.2 :=
  xw_cons (xw_E xn_aload (xo_aload_n dX1_proof_0 rfl)) <|
  xw_cons (xw_E xn_iload (xo_iload_n dX1_proof_1 rfl)) <|
  xw_cons (xl_v_0_200 hG dX1_proof_2) <|
  xw_cons (xw_E xn_if (xo_if_eq dX1_proof_5 (by decide))) <|
  xw_cons (xw_E xn_iload (xo_iload_n dX1_proof_8 rfl)) <|
  xw_cons (xl_s_0_261 hG dX1_proof_9) <|
  xw_cons (xw_E xn_if (xo_if_eq dX1_proof_12 (by decide))) <|
  xw_cons (xw_E xn_aload (xo_aload_n dX1_proof_15 rfl)) <|
  xw_cons (xw_E xn_iload (xo_iload_n dX1_proof_16 rfl)) <|
  xw_cons (xl_v_0_271 hG dX1_proof_17) <|
  xw_cons (xw_E xn_push (xo_iconst dX1_proof_20 (by decide))) <|
  xw_cons (xw_E xn_icmp (xo_icmp_le dX1_proof_21 (by decide))) <|
  xw_cons (xw_E xn_push (xo_iconst dX1_proof_24 (by decide))) <|
  xw_cons (xw_R (xt_i dX1_proof_25)) <|
  xw_cons (xw_E xn_aload (xo_aload_n dX1_proof_26 rfl)) <|
  xw_cons (xw_E xn_getf (xo_getf hG xg_0_45 dX1_proof_27)) <|
  xw_cons (xw_E xn_aload (xo_aload_n dX1_proof_30 rfl)) <|
  xw_cons (xw_E xn_getf (xo_getf hG xg_0_27 dX1_proof_31)) <|
  xw_cons (xw_E xn_iload (xo_iload_n dX1_proof_34 rfl)) <|
  xw_cons (xl_v_0_134 hG dX1_proof_35) <|
  xw_cons (xw_E xn_cast (xo_cast hG q1123 xca_0_138 dX1_proof_38)) <|
  xw_cons (xw_E xn_getf (xo_getf hG xg_0_203 dX1_proof_41)) <|
  xw_cons (xw_E xn_aload (xo_aload_n dX1_proof_44 rfl)) <|
  xw_cons (xw_E xn_iload (xo_iload_n dX1_proof_45 rfl)) <|
  xw_cons (xl_v_0_271 hG dX1_proof_46) <|
  xw_cons (xl_v_0_274 hG dX1_proof_49) <|
  xw_cons (xw_E xn_iload (xo_iload_n dX1_proof_52 rfl)) <|
  xw_cons (xl_s_0_278 hG dX1_proof_53) <|
  xw_cons (xw_R (xt_i dX1_proof_56)) <|
  xw_nil _
def xp_44 : List (Nat × xm_O) := xp_44_0
theorem xq_44 {G : xm_G} (hG : xm_W xk_B G) (hO : xm_Og G) : ∀ q ∈ xp_44, xm_op xk_B G xd xk_N "LiarsCock" "proof" prog_1_method_47_code 3 (some (FieldType.int)) q.1 q.2 := xq_44_0 hG hO
/- 45: LiarsCock.told(II)I -/
def xp_45_0 : List (Nat × xm_O) := [
  (0, .inl (xe_iload 0 1)),
  (1, .inl (xe_push (.int (-1)) 2)),
  (2, .inl (xe_icmp (fun x y => decide (¬ x = y)) 9 5)),
  (5, .inl (xe_push (.int (-1)) 6)),
  (6, .inl (xe_goto 22)),
  (9, .inl (xe_iload 1 10)),
  (10, .inl (xe_if (fun x => decide (¬ x = 0)) 21 13)),
  (13, .inl (xe_iload 0 14)),
  (14, .inl (xe_i2l 15)),
  (15, .inr (.inr (.inl (xc_S 35 [1])))),
  (18, .inl (xe_goto 22)),
  (21, .inl (xe_iload 0 22)),
  (22, .inr (.inl xr_i))]
theorem xq_45_0 {G : xm_G} (hG : xm_W xk_B G) (hO : xm_Og G) : ∀ q ∈ xp_45_0, xm_op xk_B G xd xk_N "LiarsCock" "told" prog_1_method_46_code 2 (some (FieldType.int)) q.1 q.2 :=
  xw_cons (xw_E xn_iload (xo_iload_n dX1_told_2_0 rfl)) <|
  xw_cons (xw_E xn_push (xo_iconst dX1_told_2_1 (by decide))) <|
  xw_cons (xw_E xn_icmp (xo_icmp_ne dX1_told_2_2 (by decide))) <|
  xw_cons (xw_E xn_push (xo_iconst dX1_told_2_5 (by decide))) <|
  xw_cons (xw_E xn_goto (xo_goto dX1_told_2_6 (by decide))) <|
  xw_cons (xw_E xn_iload (xo_iload_n dX1_told_2_9 rfl)) <|
  xw_cons (xw_E xn_if (xo_if_ne dX1_told_2_10 (by decide))) <|
  xw_cons (xw_E xn_iload (xo_iload_n dX1_told_2_13 rfl)) <|
  xw_cons (xw_E xn_i2l (xo_i2l dX1_told_2_14)) <|
  xw_cons (xl_s_0_244 hG dX1_told_2_15) <|
  xw_cons (xw_E xn_goto (xo_goto dX1_told_2_18 (by decide))) <|
  xw_cons (xw_E xn_iload (xo_iload_n dX1_told_2_21 rfl)) <|
  xw_cons (xw_R (xt_i dX1_told_2_22)) <|
  xw_nil _
def xp_45 : List (Nat × xm_O) := xp_45_0
theorem xq_45 {G : xm_G} (hG : xm_W xk_B G) (hO : xm_Og G) : ∀ q ∈ xp_45, xm_op xk_B G xd xk_N "LiarsCock" "told" prog_1_method_46_code 2 (some (FieldType.int)) q.1 q.2 := xq_45_0 hG hO
/- 46: LiarsCock.clash(I)I -/
def xp_46_0 : List (Nat × xm_O) := [
  (0, .inl (xe_iload 1 1)),
  (1, .inr (.inr (.inl (xc_S 40 [0])))),
  (4, .inl (xe_if (fun x => decide (x = 0)) 32 7)),
  (7, .inl (xe_aload 0 8)),
  (8, .inr (.inr (.inl (xc_V (xj_1 0 26) [])))),
  (11, .inl (xe_push (.long 0) 12)),
  (12, .inl (xe_lcmp 13)),
  (13, .inl (xe_if (fun x => decide (¬ x = 0)) 32 16)),
  (16, .inl (xe_aload 0 17)),
  (17, .inl (xe_getf (xj_1 0 7) 20)),
  (20, .inl (xe_push (.long 0) 21)),
  (21, .inl (xe_push (.int 3) 22)),
  (22, .inr (.inr (.inl (xc_V (xj_1 5 127) [0, 1])))),
  (25, .inl (xe_iload 1 26)),
  (26, .inr (.inr (.inl (xc_S 45 [0, 0])))),
  (29, .inl (xe_goto 33)),
  (32, .inl (xe_push (.int (-1)) 33)),
  (33, .inr (.inl xr_i))]
theorem xq_46_0 {G : xm_G} (hG : xm_W xk_B G) (hO : xm_Og G) : ∀ q ∈ xp_46_0, xm_op xk_B G xd xk_N "LiarsCock" "clash" prog_1_method_48_code 2 (some (FieldType.int)) q.1 q.2 :=
  xw_cons (xw_E xn_iload (xo_iload_n dX1_clash_0 rfl)) <|
  xw_cons (xl_s_0_261 hG dX1_clash_1) <|
  xw_cons (xw_E xn_if (xo_if_eq dX1_clash_4 (by decide))) <|
  xw_cons (xw_E xn_aload (xo_aload_n dX1_clash_7 rfl)) <|
  xw_cons (xl_v_0_235 hG dX1_clash_8) <|
  xw_cons (xw_E xn_push (xo_lconst dX1_clash_11 (by decide))) <|
  xw_cons (xw_E xn_lcmp (xo_lcmp dX1_clash_12)) <|
  xw_cons (xw_E xn_if (xo_if_ne dX1_clash_13 (by decide))) <|
  xw_cons (xw_E xn_aload (xo_aload_n dX1_clash_16 rfl)) <|
  xw_cons (xw_E xn_getf (xo_getf hG xg_0_45 dX1_clash_17)) <|
  xw_cons (xw_E xn_push (xo_lconst dX1_clash_20 (by decide))) <|
  xw_cons (xw_E xn_push (xo_iconst dX1_clash_21 (by decide))) <|
  xw_cons (xl_v_0_274 hG dX1_clash_22) <|
  xw_cons (xw_E xn_iload (xo_iload_n dX1_clash_25 rfl)) <|
  xw_cons (xl_s_0_278 hG dX1_clash_26) <|
  xw_cons (xw_E xn_goto (xo_goto dX1_clash_29 (by decide))) <|
  xw_cons (xw_E xn_push (xo_iconst dX1_clash_32 (by decide))) <|
  xw_cons (xw_R (xt_i dX1_clash_33)) <|
  xw_nil _
def xp_46 : List (Nat × xm_O) := xp_46_0
theorem xq_46 {G : xm_G} (hG : xm_W xk_B G) (hO : xm_Og G) : ∀ q ∈ xp_46, xm_op xk_B G xd xk_N "LiarsCock" "clash" prog_1_method_48_code 2 (some (FieldType.int)) q.1 q.2 := xq_46_0 hG hO
/- 47: LiarsCock.next(IIII)I -/
def xp_47_0 : List (Nat × xm_O) := [
  (0, .inl (xe_aload 0 1)),
  (1, .inl (xe_iload 1 2)),
  (2, .inl (xe_iload 2 3)),
  (3, .inl (xe_iload 3 4)),
  (4, .inl (xe_iload 4 6)),
  (6, .inl (xe_push (.int 1) 7)),
  (7, .inr (.inr (.inl (xc_V (xj_1 0 48) [0, 0, 0, 0, 0])))),
  (10, .inr (.inl xr_i))]
theorem xq_47_0 {G : xm_G} (hG : xm_W xk_B G) (hO : xm_Og G) : ∀ q ∈ xp_47_0, xm_op xk_B G xd xk_N "LiarsCock" "next" prog_1_method_49_code 5 (some (FieldType.int)) q.1 q.2 :=
  xw_cons (xw_E xn_aload (xo_aload_n dX1_next_0 rfl)) <|
  xw_cons (xw_E xn_iload (xo_iload_n dX1_next_1 rfl)) <|
  xw_cons (xw_E xn_iload (xo_iload_n dX1_next_2 rfl)) <|
  xw_cons (xw_E xn_iload (xo_iload_n dX1_next_3 rfl)) <|
  xw_cons (xw_E xn_iload (xo_iload dX1_next_4)) <|
  xw_cons (xw_E xn_push (xo_iconst dX1_next_6 (by decide))) <|
  xw_cons (xl_v_0_281 hG dX1_next_7) <|
  xw_cons (xw_R (xt_i dX1_next_10)) <|
  xw_nil _
def xp_47 : List (Nat × xm_O) := xp_47_0
theorem xq_47 {G : xm_G} (hG : xm_W xk_B G) (hO : xm_Og G) : ∀ q ∈ xp_47, xm_op xk_B G xd xk_N "LiarsCock" "next" prog_1_method_49_code 5 (some (FieldType.int)) q.1 q.2 := xq_47_0 hG hO
/- 48: LiarsCock.when(IIIIZ)I -/
def xp_48_0 : List (Nat × xm_O) := [
  (0, .inl (xe_aload 0 1)),
  (1, .inl (xe_iload 1 2)),
  (2, .inr (.inr (.inl (xc_V (xj_1 0 16) [0])))),
  (5, .inl (xe_if (fun x => decide (x = 0)) 24 8)),
  (8, .inl (xe_iload 2 9)),
  (9, .inl (xe_iload 3 10)),
  (10, .inr (.inr (.inl (xc_S 49 [0, 0])))),
  (13, .inl (xe_if (fun x => decide (x = 0)) 24 16)),
  (16, .inl (xe_iload 4 18)),
  (18, .inr (.inr (.inl (xc_S 40 [0])))),
  (21, .inl (xe_if (fun x => decide (¬ x = 0)) 26 24)),
  (24, .inl (xe_push (.int (-1)) 25)),
  (25, .inr (.inl xr_i)),
  (26, .inl (xe_aload 0 27)),
  (27, .inr (.inr (.inl (xc_V (xj_1 0 26) [])))),
  (30, .inl (xe_lstore 6 32)),
  (32, .inl (xe_lload 6 34)),
  (34, .inl (xe_push (.long 0) 35)),
  (35, .inl (xe_lcmp 36)),
  (36, .inl (xe_if (fun x => decide (¬ x = 0)) 41 39)),
  (39, .inl (xe_push (.int (-1)) 40)),
  (40, .inr (.inl xr_i)),
  (41, .inl (xe_push (.int (-1)) 42)),
  (42, .inl (xe_istore 8 44)),
  (44, .inl (xe_push (.int 0) 45)),
  (45, .inl (xe_istore 9 47)),
  (47, .inl (xe_iload 2 48)),
  (48, .inl (xe_istore 10 50)),
  (50, .inl (xe_iload 10 52)),
  (52, .inl (xe_iload 3 53)),
  (53, .inl (xe_icmp (fun x y => decide (y < x)) 143 56)),
  (56, .inl (xe_aload 0 57)),
  (57, .inl (xe_getf (xj_1 0 8) 60)),
  (60, .inl (xe_lload 6 62)),
  (62, .inl (xe_iload 1 63)),
  (63, .inl (xe_iload 10 65)),
  (65, .inr (.inr (.inl (xc_V (xj_1 6 130) [0, 0, 1])))),
  (68, .inl (xe_iload 8 70)),
  (70, .inl (xe_push (.int (-1)) 71)),
  (71, .inl (xe_icmp (fun x y => decide (x = y)) 109 74)),
  (74, .inl (xe_iload 5 76)),
  (76, .inl (xe_if (fun x => decide (x = 0)) 94 79)),
  (79, .inl (xe_aload 0 80)),
  (80, .inl (xe_getf (xj_1 0 8) 83)),
  (83, .inl (xe_getf (xj_1 6 1) 86)),
  (86, .inl (xe_iload 9 88)),
  (88, .inl (xe_icmp (fun x y => decide (x < y)) 109 91)),
  (91, .inl (xe_goto 137)),
  (94, .inl (xe_aload 0 95)),
  (95, .inl (xe_getf (xj_1 0 8) 98))]
theorem xq_48_0 {G : xm_G} (hG : xm_W xk_B G) (hO : xm_Og G) : ∀ q ∈ xp_48_0, xm_op xk_B G xd xk_N "LiarsCock" "when" prog_1_method_51_code 11 (some (FieldType.int)) q.1 q.2 :=
  xw_cons (xw_E xn_aload (xo_aload_n dX1_when_0 rfl)) <|
  xw_cons (xw_E xn_iload (xo_iload_n dX1_when_1 rfl)) <|
  xw_cons (xl_v_0_197 hG dX1_when_2) <|
  xw_cons (xw_E xn_if (xo_if_eq dX1_when_5 (by decide))) <|
  xw_cons (xw_E xn_iload (xo_iload_n dX1_when_8 rfl)) <|
  xw_cons (xw_E xn_iload (xo_iload_n dX1_when_9 rfl)) <|
  xw_cons (xl_s_0_285 hG dX1_when_10) <|
  xw_cons (xw_E xn_if (xo_if_eq dX1_when_13 (by decide))) <|
  xw_cons (xw_E xn_iload (xo_iload dX1_when_16)) <|
  xw_cons (xl_s_0_261 hG dX1_when_18) <|
  xw_cons (xw_E xn_if (xo_if_ne dX1_when_21 (by decide))) <|
  xw_cons (xw_E xn_push (xo_iconst dX1_when_24 (by decide))) <|
  xw_cons (xw_R (xt_i dX1_when_25)) <|
  xw_cons (xw_E xn_aload (xo_aload_n dX1_when_26 rfl)) <|
  xw_cons (xl_v_0_235 hG dX1_when_27) <|
  xw_cons (xw_E xn_lstore (xo_lstore dX1_when_30)) <|
  xw_cons (xw_E xn_lload (xo_lload dX1_when_32)) <|
  xw_cons (xw_E xn_push (xo_lconst dX1_when_34 (by decide))) <|
  xw_cons (xw_E xn_lcmp (xo_lcmp dX1_when_35)) <|
  xw_cons (xw_E xn_if (xo_if_ne dX1_when_36 (by decide))) <|
  xw_cons (xw_E xn_push (xo_iconst dX1_when_39 (by decide))) <|
  xw_cons (xw_R (xt_i dX1_when_40)) <|
  xw_cons (xw_E xn_push (xo_iconst dX1_when_41 (by decide))) <|
  xw_cons (xw_E xn_istore (xo_istore dX1_when_42)) <|
  xw_cons (xw_E xn_push (xo_iconst dX1_when_44 (by decide))) <|
  xw_cons (xw_E xn_istore (xo_istore dX1_when_45)) <|
  xw_cons (xw_E xn_iload (xo_iload_n dX1_when_47 rfl)) <|
  xw_cons (xw_E xn_istore (xo_istore dX1_when_48)) <|
  xw_cons (xw_E xn_iload (xo_iload dX1_when_50)) <|
  xw_cons (xw_E xn_iload (xo_iload_n dX1_when_52 rfl)) <|
  xw_cons (xw_E xn_icmp (xo_icmp_gt dX1_when_53 (by decide))) <|
  xw_cons (xw_E xn_aload (xo_aload_n dX1_when_56 rfl)) <|
  xw_cons (xw_E xn_getf (xo_getf hG xg_0_52 dX1_when_57)) <|
  xw_cons (xw_E xn_lload (xo_lload dX1_when_60)) <|
  xw_cons (xw_E xn_iload (xo_iload_n dX1_when_62 rfl)) <|
  xw_cons (xw_E xn_iload (xo_iload dX1_when_63)) <|
  xw_cons (xl_v_0_288 hG dX1_when_65) <|
  xw_cons (xw_E xn_iload (xo_iload dX1_when_68)) <|
  xw_cons (xw_E xn_push (xo_iconst dX1_when_70 (by decide))) <|
  xw_cons (xw_E xn_icmp (xo_icmp_eq dX1_when_71 (by decide))) <|
  xw_cons (xw_E xn_iload (xo_iload dX1_when_74)) <|
  xw_cons (xw_E xn_if (xo_if_eq dX1_when_76 (by decide))) <|
  xw_cons (xw_E xn_aload (xo_aload_n dX1_when_79 rfl)) <|
  xw_cons (xw_E xn_getf (xo_getf hG xg_0_52 dX1_when_80)) <|
  xw_cons (xw_E xn_getf (xo_getf hG xg_0_292 dX1_when_83)) <|
  xw_cons (xw_E xn_iload (xo_iload dX1_when_86)) <|
  xw_cons (xw_E xn_icmp (xo_icmp_lt dX1_when_88 (by decide))) <|
  xw_cons (xw_E xn_goto (xo_goto dX1_when_91 (by decide))) <|
  xw_cons (xw_E xn_aload (xo_aload_n dX1_when_94 rfl)) <|
  xw_cons (xw_E xn_getf (xo_getf hG xg_0_52 dX1_when_95)) <|
  xw_nil _
def xp_48_1 : List (Nat × xm_O) := [
  (98, .inl (xe_getf (xj_1 6 2) 101)),
  (101, .inl (xe_iload 9 103)),
  (103, .inl (xe_icmp (fun x y => decide (y < x)) 109 106)),
  (106, .inl (xe_goto 137)),
  (109, .inl (xe_iload 10 111)),
  (111, .inl (xe_istore 8 113)),
  (113, .inl (xe_iload 5 115)),
  (115, .inl (xe_if (fun x => decide (x = 0)) 128 118)),
  (118, .inl (xe_aload 0 119)),
  (119, .inl (xe_getf (xj_1 0 8) 122)),
  (122, .inl (xe_getf (xj_1 6 1) 125)),
  (125, .inl (xe_goto 135)),
  (128, .inl (xe_aload 0 129)),
  (129, .inl (xe_getf (xj_1 0 8) 132)),
  (132, .inl (xe_getf (xj_1 6 2) 135)),
  (135, .inl (xe_istore 9 137)),
  (137, .inl (xe_iinc 10 1 140)),
  (140, .inl (xe_goto 50)),
  (143, .inl (xe_iload 4 145)),
  (145, .inl (xe_if (fun x => decide (¬ x = 0)) 153 148)),
  (148, .inl (xe_iload 8 150)),
  (150, .inl (xe_goto 155)),
  (153, .inl (xe_iload 9 155)),
  (155, .inr (.inl xr_i))]
theorem xq_48_1 {G : xm_G} (hG : xm_W xk_B G) (hO : xm_Og G) : ∀ q ∈ xp_48_1, xm_op xk_B G xd xk_N "LiarsCock" "when" prog_1_method_51_code 11 (some (FieldType.int)) q.1 q.2 :=
  xw_cons (xw_E xn_getf (xo_getf hG xg_0_295 dX1_when_98)) <|
  xw_cons (xw_E xn_iload (xo_iload dX1_when_101)) <|
  xw_cons (xw_E xn_icmp (xo_icmp_gt dX1_when_103 (by decide))) <|
  xw_cons (xw_E xn_goto (xo_goto dX1_when_106 (by decide))) <|
  xw_cons (xw_E xn_iload (xo_iload dX1_when_109)) <|
  xw_cons (xw_E xn_istore (xo_istore dX1_when_111)) <|
  xw_cons (xw_E xn_iload (xo_iload dX1_when_113)) <|
  xw_cons (xw_E xn_if (xo_if_eq dX1_when_115 (by decide))) <|
  xw_cons (xw_E xn_aload (xo_aload_n dX1_when_118 rfl)) <|
  xw_cons (xw_E xn_getf (xo_getf hG xg_0_52 dX1_when_119)) <|
  xw_cons (xw_E xn_getf (xo_getf hG xg_0_292 dX1_when_122)) <|
  xw_cons (xw_E xn_goto (xo_goto dX1_when_125 (by decide))) <|
  xw_cons (xw_E xn_aload (xo_aload_n dX1_when_128 rfl)) <|
  xw_cons (xw_E xn_getf (xo_getf hG xg_0_52 dX1_when_129)) <|
  xw_cons (xw_E xn_getf (xo_getf hG xg_0_295 dX1_when_132)) <|
  xw_cons (xw_E xn_istore (xo_istore dX1_when_135)) <|
  xw_cons (xw_E xn_iinc (xo_iinc dX1_when_137 (by decide))) <|
  xw_cons (xw_E xn_goto (xo_goto dX1_when_140 (by decide))) <|
  xw_cons (xw_E xn_iload (xo_iload dX1_when_143)) <|
  xw_cons (xw_E xn_if (xo_if_ne dX1_when_145 (by decide))) <|
  xw_cons (xw_E xn_iload (xo_iload dX1_when_148)) <|
  xw_cons (xw_E xn_goto (xo_goto dX1_when_150 (by decide))) <|
  xw_cons (xw_E xn_iload (xo_iload dX1_when_153)) <|
  xw_cons (xw_R (xt_i dX1_when_155)) <|
  xw_nil _
def xp_48 : List (Nat × xm_O) := xp_48_0 ++ xp_48_1
theorem xq_48 {G : xm_G} (hG : xm_W xk_B G) (hO : xm_Og G) : ∀ q ∈ xp_48, xm_op xk_B G xd xk_N "LiarsCock" "when" prog_1_method_51_code 11 (some (FieldType.int)) q.1 q.2 := xw_app (xq_48_0 hG hO) (xq_48_1 hG hO)
/- 49: LiarsCock.areMinutes(II)Z -/
def xp_49_0 : List (Nat × xm_O) := [
  (0, .inl (xe_iload 0 1)),
  (1, .inr (.inr (.inl (xc_S 11 [0])))),
  (4, .inl (xe_if (fun x => decide (x = 0)) 23 7)),
  (7, .inl (xe_iload 1 8)),
  (8, .inr (.inr (.inl (xc_S 11 [0])))),
  (11, .inl (xe_if (fun x => decide (x = 0)) 23 14)),
  (14, .inl (xe_iload 0 15)),
  (15, .inl (xe_iload 1 16)),
  (16, .inl (xe_icmp (fun x y => decide (y < x)) 23 19)),
  (19, .inl (xe_push (.int 1) 20)),
  (20, .inl (xe_goto 24)),
  (23, .inl (xe_push (.int 0) 24)),
  (24, .inr (.inl xr_z))]
theorem xq_49_0 {G : xm_G} (hG : xm_W xk_B G) (hO : xm_Og G) : ∀ q ∈ xp_49_0, xm_op xk_B G xd xk_N "LiarsCock" "areMinutes" prog_1_method_13_code 2 (some (FieldType.boolean)) q.1 q.2 :=
  xw_cons (xw_E xn_iload (xo_iload_n dX1_areMinutes_0 rfl)) <|
  xw_cons (xl_s_0_123 hG dX1_areMinutes_1) <|
  xw_cons (xw_E xn_if (xo_if_eq dX1_areMinutes_4 (by decide))) <|
  xw_cons (xw_E xn_iload (xo_iload_n dX1_areMinutes_7 rfl)) <|
  xw_cons (xl_s_0_123 hG dX1_areMinutes_8) <|
  xw_cons (xw_E xn_if (xo_if_eq dX1_areMinutes_11 (by decide))) <|
  xw_cons (xw_E xn_iload (xo_iload_n dX1_areMinutes_14 rfl)) <|
  xw_cons (xw_E xn_iload (xo_iload_n dX1_areMinutes_15 rfl)) <|
  xw_cons (xw_E xn_icmp (xo_icmp_gt dX1_areMinutes_16 (by decide))) <|
  xw_cons (xw_E xn_push (xo_iconst dX1_areMinutes_19 (by decide))) <|
  xw_cons (xw_E xn_goto (xo_goto dX1_areMinutes_20 (by decide))) <|
  xw_cons (xw_E xn_push (xo_iconst dX1_areMinutes_23 (by decide))) <|
  xw_cons (xw_R (xt_z dX1_areMinutes_24)) <|
  xw_nil _
def xp_49 : List (Nat × xm_O) := xp_49_0
theorem xq_49 {G : xm_G} (hG : xm_W xk_B G) (hO : xm_Og G) : ∀ q ∈ xp_49, xm_op xk_B G xd xk_N "LiarsCock" "areMinutes" prog_1_method_13_code 2 (some (FieldType.boolean)) q.1 q.2 := xq_49_0 hG hO
/- 50: LiarsCock.fog(IIII)I -/
def xp_50_0 : List (Nat × xm_O) := [
  (0, .inl (xe_aload 0 1)),
  (1, .inl (xe_iload 1 2)),
  (2, .inl (xe_iload 2 3)),
  (3, .inl (xe_iload 3 4)),
  (4, .inl (xe_iload 4 6)),
  (6, .inl (xe_push (.int 0) 7)),
  (7, .inr (.inr (.inl (xc_V (xj_1 0 48) [0, 0, 0, 0, 0])))),
  (10, .inr (.inl xr_i))]
theorem xq_50_0 {G : xm_G} (hG : xm_W xk_B G) (hO : xm_Og G) : ∀ q ∈ xp_50_0, xm_op xk_B G xd xk_N "LiarsCock" "fog" prog_1_method_50_code 5 (some (FieldType.int)) q.1 q.2 :=
  xw_cons (xw_E xn_aload (xo_aload_n dX1_fog_0 rfl)) <|
  xw_cons (xw_E xn_iload (xo_iload_n dX1_fog_1 rfl)) <|
  xw_cons (xw_E xn_iload (xo_iload_n dX1_fog_2 rfl)) <|
  xw_cons (xw_E xn_iload (xo_iload_n dX1_fog_3 rfl)) <|
  xw_cons (xw_E xn_iload (xo_iload dX1_fog_4)) <|
  xw_cons (xw_E xn_push (xo_iconst dX1_fog_6 (by decide))) <|
  xw_cons (xl_v_0_281 hG dX1_fog_7) <|
  xw_cons (xw_R (xt_i dX1_fog_10)) <|
  xw_nil _
def xp_50 : List (Nat × xm_O) := xp_50_0
theorem xq_50 {G : xm_G} (hG : xm_W xk_B G) (hO : xm_Og G) : ∀ q ∈ xp_50, xm_op xk_B G xd xk_N "LiarsCock" "fog" prog_1_method_50_code 5 (some (FieldType.int)) q.1 q.2 := xq_50_0 hG hO
/- 51: LiarsCock.learns(IIZII)I -/
def xp_51_0 : List (Nat × xm_O) := [
  (0, .inl (xe_aload 0 1)),
  (1, .inl (xe_iload 1 2)),
  (2, .inr (.inr (.inl (xc_V (xj_1 0 10) [0])))),
  (5, .inl (xe_if (fun x => decide (x = 0)) 64 8)),
  (8, .inl (xe_aload 0 9)),
  (9, .inl (xe_iload 2 10)),
  (10, .inr (.inr (.inl (xc_V (xj_1 0 33) [0])))),
  (13, .inl (xe_if (fun x => decide (x = 0)) 64 16)),
  (16, .inl (xe_iload 4 18)),
  (18, .inr (.inr (.inl (xc_S 11 [0])))),
  (21, .inl (xe_if (fun x => decide (x = 0)) 64 24)),
  (24, .inl (xe_iload 4 26)),
  (26, .inl (xe_aload 0 27)),
  (27, .inr (.inr (.inl (xc_V (xj_1 0 12) [])))),
  (30, .inl (xe_icmp (fun x y => decide (x < y)) 64 33)),
  (33, .inl (xe_aload 0 34)),
  (34, .inl (xe_iload 5 36)),
  (36, .inr (.inr (.inl (xc_V (xj_1 0 16) [0])))),
  (39, .inl (xe_if (fun x => decide (x = 0)) 64 42)),
  (42, .inl (xe_iload 4 44)),
  (44, .inl (xe_aload 0 45)),
  (45, .inl (xe_getf (xj_1 0 1) 48)),
  (48, .inl (xe_getf (xj_1 2 6) 51)),
  (51, .inl (xe_iload 5 53)),
  (53, .inl (xe_ald (fun t => Nat.ble 4 t) 54)),
  (54, .inl (xe_getf (xj_1 4 1) 57)),
  (57, .inl (xe_ii (fun x y => x + y) 58)),
  (58, .inl (xe_push (.int 1439) 61)),
  (61, .inl (xe_icmp (fun x y => decide (x ≤ y)) 66 64)),
  (64, .inl (xe_push (.int (-1)) 65)),
  (65, .inr (.inl xr_i)),
  (66, .inl (xe_aload 0 67)),
  (67, .inr (.inr (.inl (xc_V (xj_1 0 26) [])))),
  (70, .inl (xe_aload 0 71)),
  (71, .inl (xe_getf (xj_1 0 1) 74)),
  (74, .inl (xe_aload 0 75)),
  (75, .inl (xe_getf (xj_1 0 2) 78)),
  (78, .inl (xe_aload 0 79)),
  (79, .inl (xe_getf (xj_1 0 1) 82)),
  (82, .inl (xe_getf (xj_1 2 3) 85)),
  (85, .inl (xe_iload 1 86)),
  (86, .inr (.inr (.inl (xc_V (xj_1 25 281) [0])))),
  (89, .inl (xe_cast (fun ci => ([10] : List Nat).elem ci) 92)),
  (92, .inl (xe_getf (xj_1 10 1) 95)),
  (95, .inr (.inr (.inl (xc_V (xj_1 2 121) [0, 0])))),
  (98, .inl (xe_ll (fun x y => x &&& y) 99)),
  (99, .inl (xe_lstore 6 101)),
  (101, .inl (xe_lload 6 103)),
  (103, .inl (xe_push (.long 0) 104)),
  (104, .inl (xe_lcmp 105))]
theorem xq_51_0 {G : xm_G} (hG : xm_W xk_B G) (hO : xm_Og G) : ∀ q ∈ xp_51_0, xm_op xk_B G xd xk_N "LiarsCock" "learns" prog_1_method_52_code 14 (some (FieldType.int)) q.1 q.2 :=
  xw_cons (xw_E xn_aload (xo_aload_n dX1_learns_0 rfl)) <|
  xw_cons (xw_E xn_iload (xo_iload_n dX1_learns_1 rfl)) <|
  xw_cons (xl_v_0_154 hG dX1_learns_2) <|
  xw_cons (xw_E xn_if (xo_if_eq dX1_learns_5 (by decide))) <|
  xw_cons (xw_E xn_aload (xo_aload_n dX1_learns_8 rfl)) <|
  xw_cons (xw_E xn_iload (xo_iload_n dX1_learns_9 rfl)) <|
  xw_cons (xl_v_0_238 hG dX1_learns_10) <|
  xw_cons (xw_E xn_if (xo_if_eq dX1_learns_13 (by decide))) <|
  xw_cons (xw_E xn_iload (xo_iload dX1_learns_16)) <|
  xw_cons (xl_s_0_123 hG dX1_learns_18) <|
  xw_cons (xw_E xn_if (xo_if_eq dX1_learns_21 (by decide))) <|
  xw_cons (xw_E xn_iload (xo_iload dX1_learns_24)) <|
  xw_cons (xw_E xn_aload (xo_aload_n dX1_learns_26 rfl)) <|
  xw_cons (xl_v_0_157 hG dX1_learns_27) <|
  xw_cons (xw_E xn_icmp (xo_icmp_lt dX1_learns_30 (by decide))) <|
  xw_cons (xw_E xn_aload (xo_aload_n dX1_learns_33 rfl)) <|
  xw_cons (xw_E xn_iload (xo_iload dX1_learns_34)) <|
  xw_cons (xl_v_0_197 hG dX1_learns_36) <|
  xw_cons (xw_E xn_if (xo_if_eq dX1_learns_39 (by decide))) <|
  xw_cons (xw_E xn_iload (xo_iload dX1_learns_42)) <|
  xw_cons (xw_E xn_aload (xo_aload_n dX1_learns_44 rfl)) <|
  xw_cons (xw_E xn_getf (xo_getf hG xg_0_20 dX1_learns_45)) <|
  xw_cons (xw_E xn_getf (xo_getf hG xg_0_72 dX1_learns_48)) <|
  xw_cons (xw_E xn_iload (xo_iload dX1_learns_51)) <|
  xw_cons (xw_E xn_ald (xo_aald xk_hB dX1_learns_53)) <|
  xw_cons (xw_E xn_getf (xo_getf hG xg_0_182 dX1_learns_54)) <|
  xw_cons (xw_E xn_ii (xo_iadd dX1_learns_57)) <|
  xw_cons (xw_E xn_push (xo_sipush dX1_learns_58 (by decide))) <|
  xw_cons (xw_E xn_icmp (xo_icmp_le dX1_learns_61 (by decide))) <|
  xw_cons (xw_E xn_push (xo_iconst dX1_learns_64 (by decide))) <|
  xw_cons (xw_R (xt_i dX1_learns_65)) <|
  xw_cons (xw_E xn_aload (xo_aload_n dX1_learns_66 rfl)) <|
  xw_cons (xl_v_0_235 hG dX1_learns_67) <|
  xw_cons (xw_E xn_aload (xo_aload_n dX1_learns_70 rfl)) <|
  xw_cons (xw_E xn_getf (xo_getf hG xg_0_20 dX1_learns_71)) <|
  xw_cons (xw_E xn_aload (xo_aload_n dX1_learns_74 rfl)) <|
  xw_cons (xw_E xn_getf (xo_getf hG xg_0_95 dX1_learns_75)) <|
  xw_cons (xw_E xn_aload (xo_aload_n dX1_learns_78 rfl)) <|
  xw_cons (xw_E xn_getf (xo_getf hG xg_0_20 dX1_learns_79)) <|
  xw_cons (xw_E xn_getf (xo_getf hG xg_0_117 dX1_learns_82)) <|
  xw_cons (xw_E xn_iload (xo_iload_n dX1_learns_85 rfl)) <|
  xw_cons (xl_v_0_134 hG dX1_learns_86) <|
  xw_cons (xw_E xn_cast (xo_cast hG q1372 xca_0_298 dX1_learns_89)) <|
  xw_cons (xw_E xn_getf (xo_getf hG xg_0_300 dX1_learns_92)) <|
  xw_cons (xl_v_0_303 hG dX1_learns_95) <|
  xw_cons (xw_E xn_ll (xo_land dX1_learns_98)) <|
  xw_cons (xw_E xn_lstore (xo_lstore dX1_learns_99)) <|
  xw_cons (xw_E xn_lload (xo_lload dX1_learns_101)) <|
  xw_cons (xw_E xn_push (xo_lconst dX1_learns_103 (by decide))) <|
  xw_cons (xw_E xn_lcmp (xo_lcmp dX1_learns_104)) <|
  xw_nil _
def xp_51_1 : List (Nat × xm_O) := [
  (105, .inl (xe_if (fun x => decide (¬ x = 0)) 110 108)),
  (108, .inl (xe_push (.int (-1)) 109)),
  (109, .inr (.inl xr_i)),
  (110, .inl (xe_iload 3 111)),
  (111, .inl (xe_if (fun x => decide (x = 0)) 122 114)),
  (114, .inl (xe_aload 0 115)),
  (115, .inl (xe_iload 2 116)),
  (116, .inr (.inr (.inl (xc_V (xj_1 0 34) [0])))),
  (119, .inl (xe_goto 143)),
  (122, .inl (xe_aload 0 123)),
  (123, .inl (xe_iload 2 124)),
  (124, .inr (.inr (.inl (xc_V (xj_1 0 34) [0])))),
  (127, .inl (xe_aload 0 128)),
  (128, .inl (xe_getf (xj_1 0 1) 131)),
  (131, .inl (xe_new 12 1 xk_f12 134)),
  (134, .inl (xe_dup 135)),
  (135, .inl (xe_push (.int 1) 136)),
  (136, .inr (.inr (.inl (xc_I 247 [0])))),
  (139, .inr (.inr (.inl (xc_V (xj_1 2 118) [2])))),
  (142, .inl (xe_ll (fun x y => x ^^^ y) 143)),
  (143, .inl (xe_lstore 8 145)),
  (145, .inl (xe_aload 0 146)),
  (146, .inl (xe_getf (xj_1 0 1) 149)),
  (149, .inl (xe_getf (xj_1 2 6) 152)),
  (152, .inl (xe_iload 5 154)),
  (154, .inl (xe_ald (fun t => Nat.ble 4 t) 155)),
  (155, .inl (xe_getf (xj_1 4 0) 158)),
  (158, .inl (xe_if (fun x => decide (¬ x = 0)) 170 161)),
  (161, .inl (xe_lload 8 163)),
  (163, .inl (xe_push (.long (-1 : Int64)) 166)),
  (166, .inl (xe_ll (fun x y => x ^^^ y) 167)),
  (167, .inl (xe_goto 196)),
  (170, .inl (xe_aload 0 171)),
  (171, .inl (xe_getf (xj_1 0 1) 174)),
  (174, .inl (xe_lload 8 176)),
  (176, .inl (xe_aload 0 177)),
  (177, .inl (xe_getf (xj_1 0 1) 180)),
  (180, .inl (xe_getf (xj_1 2 3) 183)),
  (183, .inl (xe_iload 1 184)),
  (184, .inr (.inr (.inl (xc_V (xj_1 25 281) [0])))),
  (187, .inl (xe_cast (fun ci => ([10] : List Nat).elem ci) 190)),
  (190, .inl (xe_getf (xj_1 10 1) 193)),
  (193, .inr (.inr (.inl (xc_V (xj_1 2 120) [0, 1])))),
  (196, .inl (xe_lstore 10 198)),
  (198, .inl (xe_push (.int 0) 199)),
  (199, .inl (xe_istore 12 201)),
  (201, .inl (xe_iload 12 203)),
  (203, .inl (xe_aload 0 204)),
  (204, .inl (xe_getf (xj_1 0 1) 207)),
  (207, .inr (.inr (.inl (xc_V (xj_1 2 119) []))))]
theorem xq_51_1 {G : xm_G} (hG : xm_W xk_B G) (hO : xm_Og G) : ∀ q ∈ xp_51_1, xm_op xk_B G xd xk_N "LiarsCock" "learns" prog_1_method_52_code 14 (some (FieldType.int)) q.1 q.2 :=
  xw_cons (xw_E xn_if (xo_if_ne dX1_learns_105 (by decide))) <|
  xw_cons (xw_E xn_push (xo_iconst dX1_learns_108 (by decide))) <|
  xw_cons (xw_R (xt_i dX1_learns_109)) <|
  xw_cons (xw_E xn_iload (xo_iload_n dX1_learns_110 rfl)) <|
  xw_cons (xw_E xn_if (xo_if_eq dX1_learns_111 (by decide))) <|
  xw_cons (xw_E xn_aload (xo_aload_n dX1_learns_114 rfl)) <|
  xw_cons (xw_E xn_iload (xo_iload_n dX1_learns_115 rfl)) <|
  xw_cons (xl_v_0_241 hG dX1_learns_116) <|
  xw_cons (xw_E xn_goto (xo_goto dX1_learns_119 (by decide))) <|
  xw_cons (xw_E xn_aload (xo_aload_n dX1_learns_122 rfl)) <|
  xw_cons (xw_E xn_iload (xo_iload_n dX1_learns_123 rfl)) <|
  xw_cons (xl_v_0_241 hG dX1_learns_124) <|
  xw_cons (xw_E xn_aload (xo_aload_n dX1_learns_127 rfl)) <|
  xw_cons (xw_E xn_getf (xo_getf hG xg_0_20 dX1_learns_128)) <|
  xw_cons (xw_E xn_new (xo_new hG xnw_0_307 dX1_learns_131)) <|
  xw_cons (xw_E xn_dup (xo_dup dX1_learns_134)) <|
  xw_cons (xw_E xn_push (xo_iconst dX1_learns_135 (by decide))) <|
  xw_cons (xl_s_0_309 hG dX1_learns_136) <|
  xw_cons (xl_v_0_312 hG dX1_learns_139) <|
  xw_cons (xw_E xn_ll (xo_lxor dX1_learns_142)) <|
  xw_cons (xw_E xn_lstore (xo_lstore dX1_learns_143)) <|
  xw_cons (xw_E xn_aload (xo_aload_n dX1_learns_145 rfl)) <|
  xw_cons (xw_E xn_getf (xo_getf hG xg_0_20 dX1_learns_146)) <|
  xw_cons (xw_E xn_getf (xo_getf hG xg_0_72 dX1_learns_149)) <|
  xw_cons (xw_E xn_iload (xo_iload dX1_learns_152)) <|
  xw_cons (xw_E xn_ald (xo_aald xk_hB dX1_learns_154)) <|
  xw_cons (xw_E xn_getf (xo_getf hG xg_0_179 dX1_learns_155)) <|
  xw_cons (xw_E xn_if (xo_if_ne dX1_learns_158 (by decide))) <|
  xw_cons (xw_E xn_lload (xo_lload dX1_learns_161)) <|
  xw_cons (xw_E xn_push (xo_ldc2 hG q1295 dX1_learns_163)) <|
  xw_cons (xw_E xn_ll (xo_lxor dX1_learns_166)) <|
  xw_cons (xw_E xn_goto (xo_goto dX1_learns_167 (by decide))) <|
  xw_cons (xw_E xn_aload (xo_aload_n dX1_learns_170 rfl)) <|
  xw_cons (xw_E xn_getf (xo_getf hG xg_0_20 dX1_learns_171)) <|
  xw_cons (xw_E xn_lload (xo_lload dX1_learns_174)) <|
  xw_cons (xw_E xn_aload (xo_aload_n dX1_learns_176 rfl)) <|
  xw_cons (xw_E xn_getf (xo_getf hG xg_0_20 dX1_learns_177)) <|
  xw_cons (xw_E xn_getf (xo_getf hG xg_0_117 dX1_learns_180)) <|
  xw_cons (xw_E xn_iload (xo_iload_n dX1_learns_183 rfl)) <|
  xw_cons (xl_v_0_134 hG dX1_learns_184) <|
  xw_cons (xw_E xn_cast (xo_cast hG q1372 xca_0_298 dX1_learns_187)) <|
  xw_cons (xw_E xn_getf (xo_getf hG xg_0_300 dX1_learns_190)) <|
  xw_cons (xl_v_0_315 hG dX1_learns_193) <|
  xw_cons (xw_E xn_lstore (xo_lstore dX1_learns_196)) <|
  xw_cons (xw_E xn_push (xo_iconst dX1_learns_198 (by decide))) <|
  xw_cons (xw_E xn_istore (xo_istore dX1_learns_199)) <|
  xw_cons (xw_E xn_iload (xo_iload dX1_learns_201)) <|
  xw_cons (xw_E xn_aload (xo_aload_n dX1_learns_203 rfl)) <|
  xw_cons (xw_E xn_getf (xo_getf hG xg_0_20 dX1_learns_204)) <|
  xw_cons (xl_v_0_120 hG dX1_learns_207) <|
  xw_nil _
def xp_51_2 : List (Nat × xm_O) := [
  (210, .inl (xe_icmp (fun x y => decide (y ≤ x)) 303 213)),
  (213, .inl (xe_push (.int 0) 214)),
  (214, .inl (xe_istore 13 216)),
  (216, .inl (xe_iload 13 218)),
  (218, .inl (xe_iload 12 220)),
  (220, .inl (xe_icmp (fun x y => decide (y ≤ x)) 297 223)),
  (223, .inl (xe_lload 6 225)),
  (225, .inl (xe_iload 12 227)),
  (227, .inr (.inr (.inl (xc_S 6 [0, 1])))),
  (230, .inl (xe_if (fun x => decide (x = 0)) 291 233)),
  (233, .inl (xe_lload 6 235)),
  (235, .inl (xe_iload 13 237)),
  (237, .inr (.inr (.inl (xc_S 6 [0, 1])))),
  (240, .inl (xe_if (fun x => decide (x = 0)) 291 243)),
  (243, .inl (xe_iload 12 245)),
  (245, .inl (xe_i2l 246)),
  (246, .inl (xe_iload 2 247)),
  (247, .inr (.inr (.inl (xc_S 6 [0, 1])))),
  (250, .inl (xe_iload 13 252)),
  (252, .inl (xe_i2l 253)),
  (253, .inl (xe_iload 2 254)),
  (254, .inr (.inr (.inl (xc_S 6 [0, 1])))),
  (257, .inl (xe_icmp (fun x y => decide (x = y)) 291 260)),
  (260, .inl (xe_aload 0 261)),
  (261, .inl (xe_lload 10 263)),
  (263, .inl (xe_iload 1 264)),
  (264, .inl (xe_iload 4 266)),
  (266, .inl (xe_iload 5 268)),
  (268, .inl (xe_iload 12 270)),
  (270, .inr (.inr (.inl (xc_V (xj_1 0 52) [0, 0, 0, 0, 1])))),
  (273, .inl (xe_aload 0 274)),
  (274, .inl (xe_lload 10 276)),
  (276, .inl (xe_iload 1 277)),
  (277, .inl (xe_iload 4 279)),
  (279, .inl (xe_iload 5 281)),
  (281, .inl (xe_iload 13 283)),
  (283, .inr (.inr (.inl (xc_V (xj_1 0 52) [0, 0, 0, 0, 1])))),
  (286, .inl (xe_icmp (fun x y => decide (¬ x = y)) 291 289)),
  (289, .inl (xe_push (.int 0) 290)),
  (290, .inr (.inl xr_i)),
  (291, .inl (xe_iinc 13 1 294)),
  (294, .inl (xe_goto 216)),
  (297, .inl (xe_iinc 12 1 300)),
  (300, .inl (xe_goto 201)),
  (303, .inl (xe_push (.int 1) 304)),
  (304, .inr (.inl xr_i))]
theorem xq_51_2 {G : xm_G} (hG : xm_W xk_B G) (hO : xm_Og G) : ∀ q ∈ xp_51_2, xm_op xk_B G xd xk_N "LiarsCock" "learns" prog_1_method_52_code 14 (some (FieldType.int)) q.1 q.2 :=
  xw_cons (xw_E xn_icmp (xo_icmp_ge dX1_learns_210 (by decide))) <|
  xw_cons (xw_E xn_push (xo_iconst dX1_learns_213 (by decide))) <|
  xw_cons (xw_E xn_istore (xo_istore dX1_learns_214)) <|
  xw_cons (xw_E xn_iload (xo_iload dX1_learns_216)) <|
  xw_cons (xw_E xn_iload (xo_iload dX1_learns_218)) <|
  xw_cons (xw_E xn_icmp (xo_icmp_ge dX1_learns_220 (by decide))) <|
  xw_cons (xw_E xn_lload (xo_lload dX1_learns_223)) <|
  xw_cons (xw_E xn_iload (xo_iload dX1_learns_225)) <|
  xw_cons (xl_s_0_172 hG dX1_learns_227) <|
  xw_cons (xw_E xn_if (xo_if_eq dX1_learns_230 (by decide))) <|
  xw_cons (xw_E xn_lload (xo_lload dX1_learns_233)) <|
  xw_cons (xw_E xn_iload (xo_iload dX1_learns_235)) <|
  xw_cons (xl_s_0_172 hG dX1_learns_237) <|
  xw_cons (xw_E xn_if (xo_if_eq dX1_learns_240 (by decide))) <|
  xw_cons (xw_E xn_iload (xo_iload dX1_learns_243)) <|
  xw_cons (xw_E xn_i2l (xo_i2l dX1_learns_245)) <|
  xw_cons (xw_E xn_iload (xo_iload_n dX1_learns_246 rfl)) <|
  xw_cons (xl_s_0_172 hG dX1_learns_247) <|
  xw_cons (xw_E xn_iload (xo_iload dX1_learns_250)) <|
  xw_cons (xw_E xn_i2l (xo_i2l dX1_learns_252)) <|
  xw_cons (xw_E xn_iload (xo_iload_n dX1_learns_253 rfl)) <|
  xw_cons (xl_s_0_172 hG dX1_learns_254) <|
  xw_cons (xw_E xn_icmp (xo_icmp_eq dX1_learns_257 (by decide))) <|
  xw_cons (xw_E xn_aload (xo_aload_n dX1_learns_260 rfl)) <|
  xw_cons (xw_E xn_lload (xo_lload dX1_learns_261)) <|
  xw_cons (xw_E xn_iload (xo_iload_n dX1_learns_263 rfl)) <|
  xw_cons (xw_E xn_iload (xo_iload dX1_learns_264)) <|
  xw_cons (xw_E xn_iload (xo_iload dX1_learns_266)) <|
  xw_cons (xw_E xn_iload (xo_iload dX1_learns_268)) <|
  xw_cons (xl_v_0_319 hG dX1_learns_270) <|
  xw_cons (xw_E xn_aload (xo_aload_n dX1_learns_273 rfl)) <|
  xw_cons (xw_E xn_lload (xo_lload dX1_learns_274)) <|
  xw_cons (xw_E xn_iload (xo_iload_n dX1_learns_276 rfl)) <|
  xw_cons (xw_E xn_iload (xo_iload dX1_learns_277)) <|
  xw_cons (xw_E xn_iload (xo_iload dX1_learns_279)) <|
  xw_cons (xw_E xn_iload (xo_iload dX1_learns_281)) <|
  xw_cons (xl_v_0_319 hG dX1_learns_283) <|
  xw_cons (xw_E xn_icmp (xo_icmp_ne dX1_learns_286 (by decide))) <|
  xw_cons (xw_E xn_push (xo_iconst dX1_learns_289 (by decide))) <|
  xw_cons (xw_R (xt_i dX1_learns_290)) <|
  xw_cons (xw_E xn_iinc (xo_iinc dX1_learns_291 (by decide))) <|
  xw_cons (xw_E xn_goto (xo_goto dX1_learns_294 (by decide))) <|
  xw_cons (xw_E xn_iinc (xo_iinc dX1_learns_297 (by decide))) <|
  xw_cons (xw_E xn_goto (xo_goto dX1_learns_300 (by decide))) <|
  xw_cons (xw_E xn_push (xo_iconst dX1_learns_303 (by decide))) <|
  xw_cons (xw_R (xt_i dX1_learns_304)) <|
  xw_nil _
def xp_51 : List (Nat × xm_O) := xp_51_0 ++ xp_51_1 ++ xp_51_2
theorem xq_51 {G : xm_G} (hG : xm_W xk_B G) (hO : xm_Og G) : ∀ q ∈ xp_51, xm_op xk_B G xd xk_N "LiarsCock" "learns" prog_1_method_52_code 14 (some (FieldType.int)) q.1 q.2 := xw_app (xw_app (xq_51_0 hG hO) (xq_51_1 hG hO)) (xq_51_2 hG hO)
/- 52: LiarsCock.seen(JIIII)I -/
def xp_52_0 : List (Nat × xm_O) := [
  (0, .inl (xe_aload 0 1)),
  (1, .inl (xe_getf (xj_1 0 1) 4)),
  (4, .inl (xe_lload 1 5)),
  (5, .inl (xe_iload 6 7)),
  (7, .inr (.inr (.inl (xc_S 6 [0, 1])))),
  (10, .inl (xe_if (fun x => decide (x = 0)) 17 13)),
  (13, .inl (xe_iload 3 14)),
  (14, .inl (xe_goto 41)),
  (17, .inl (xe_aload 0 18)),
  (18, .inl (xe_aload 0 19)),
  (19, .inl (xe_getf (xj_1 0 1) 22)),
  (22, .inl (xe_getf (xj_1 2 6) 25)),
  (25, .inl (xe_iload 5 27)),
  (27, .inl (xe_ald (fun t => Nat.ble 4 t) 28)),
  (28, .inl (xe_getf (xj_1 4 0) 31)),
  (31, .inl (xe_iload 4 33)),
  (33, .inl (xe_iload 6 35)),
  (35, .inr (.inr (.inl (xc_V (xj_1 0 18) [0, 0, 0])))),
  (38, .inr (.inr (.inl (xc_S 19 [2])))),
  (41, .inr (.inr (.inl (xc_V (xj_1 2 122) [0])))),
  (44, .inr (.inl xr_i))]
theorem xq_52_0 {G : xm_G} (hG : xm_W xk_B G) (hO : xm_Og G) : ∀ q ∈ xp_52_0, xm_op xk_B G xd xk_N "LiarsCock" "seen" prog_1_method_53_code 7 (some (FieldType.int)) q.1 q.2 :=
  xw_cons (xw_E xn_aload (xo_aload_n dX1_seen_0 rfl)) <|
  xw_cons (xw_E xn_getf (xo_getf hG xg_0_20 dX1_seen_1)) <|
  xw_cons (xw_E xn_lload (xo_lload_n dX1_seen_4 rfl)) <|
  xw_cons (xw_E xn_iload (xo_iload dX1_seen_5)) <|
  xw_cons (xl_s_0_172 hG dX1_seen_7) <|
  xw_cons (xw_E xn_if (xo_if_eq dX1_seen_10 (by decide))) <|
  xw_cons (xw_E xn_iload (xo_iload_n dX1_seen_13 rfl)) <|
  xw_cons (xw_E xn_goto (xo_goto dX1_seen_14 (by decide))) <|
  xw_cons (xw_E xn_aload (xo_aload_n dX1_seen_17 rfl)) <|
  xw_cons (xw_E xn_aload (xo_aload_n dX1_seen_18 rfl)) <|
  xw_cons (xw_E xn_getf (xo_getf hG xg_0_20 dX1_seen_19)) <|
  xw_cons (xw_E xn_getf (xo_getf hG xg_0_72 dX1_seen_22)) <|
  xw_cons (xw_E xn_iload (xo_iload dX1_seen_25)) <|
  xw_cons (xw_E xn_ald (xo_aald xk_hB dX1_seen_27)) <|
  xw_cons (xw_E xn_getf (xo_getf hG xg_0_179 dX1_seen_28)) <|
  xw_cons (xw_E xn_iload (xo_iload dX1_seen_31)) <|
  xw_cons (xw_E xn_iload (xo_iload dX1_seen_33)) <|
  xw_cons (xl_v_0_168 hG dX1_seen_35) <|
  xw_cons (xl_s_0_185 hG dX1_seen_38) <|
  xw_cons (xl_v_0_193 hG dX1_seen_41) <|
  xw_cons (xw_R (xt_i dX1_seen_44)) <|
  xw_nil _
def xp_52 : List (Nat × xm_O) := xp_52_0
theorem xq_52 {G : xm_G} (hG : xm_W xk_B G) (hO : xm_Og G) : ∀ q ∈ xp_52, xm_op xk_B G xd xk_N "LiarsCock" "seen" prog_1_method_53_code 7 (some (FieldType.int)) q.1 q.2 := xq_52_0 hG hO
/- 53: LiarsCock.judged()I -/
def xp_53_0 : List (Nat × xm_O) := [
  (0, .inl (xe_push (.int 0) 1)),
  (1, .inl (xe_istore 1 2)),
  (2, .inl (xe_iload 1 3)),
  (3, .inl (xe_aload 0 4)),
  (4, .inl (xe_getf (xj_1 0 5) 7)),
  (7, .inr (.inr (.inl (xc_V (xj_1 25 280) [])))),
  (10, .inl (xe_icmp (fun x y => decide (y ≤ x)) 56 13)),
  (13, .inl (xe_aload 0 14)),
  (14, .inl (xe_getf (xj_1 0 5) 17)),
  (17, .inl (xe_iload 1 18)),
  (18, .inr (.inr (.inl (xc_V (xj_1 25 281) [0])))),
  (21, .inl (xe_cast (fun ci => ([23] : List Nat).elem ci) 24)),
  (24, .inl (xe_astore 2 25)),
  (25, .inl (xe_aload 2 26)),
  (26, .inl (xe_aload 0 27)),
  (27, .inl (xe_aload 2 28)),
  (28, .inl (xe_getf (xj_1 23 0) 31)),
  (31, .inl (xe_aload 2 32)),
  (32, .inl (xe_getf (xj_1 23 1) 35)),
  (35, .inl (xe_aload 0 36)),
  (36, .inl (xe_getf (xj_1 0 2) 39)),
  (39, .inr (.inr (.inl (xc_V (xj_1 0 30) [0, 0, 0])))),
  (42, .inr (.inr (.inl (xc_V (xj_1 23 272) [0])))),
  (45, .inl (xe_if (fun x => decide (¬ x = 0)) 50 48)),
  (48, .inl (xe_iload 1 49)),
  (49, .inr (.inl xr_i)),
  (50, .inl (xe_iinc 1 1 53)),
  (53, .inl (xe_goto 2)),
  (56, .inl (xe_push (.int (-1)) 57)),
  (57, .inr (.inl xr_i))]
theorem xq_53_0 {G : xm_G} (hG : xm_W xk_B G) (hO : xm_Og G) : ∀ q ∈ xp_53_0, xm_op xk_B G xd xk_N "LiarsCock" "judged" prog_1_method_54_code 3 (some (FieldType.int)) q.1 q.2 :=
  xw_cons (xw_E xn_push (xo_iconst dX1_judged_0 (by decide))) <|
  xw_cons (xw_E xn_istore (xo_istore_n dX1_judged_1 rfl)) <|
  xw_cons (xw_E xn_iload (xo_iload_n dX1_judged_2 rfl)) <|
  xw_cons (xw_E xn_aload (xo_aload_n dX1_judged_3 rfl)) <|
  xw_cons (xw_E xn_getf (xo_getf hG xg_0_34 dX1_judged_4)) <|
  xw_cons (xl_v_0_109 hG dX1_judged_7) <|
  xw_cons (xw_E xn_icmp (xo_icmp_ge dX1_judged_10 (by decide))) <|
  xw_cons (xw_E xn_aload (xo_aload_n dX1_judged_13 rfl)) <|
  xw_cons (xw_E xn_getf (xo_getf hG xg_0_34 dX1_judged_14)) <|
  xw_cons (xw_E xn_iload (xo_iload_n dX1_judged_17 rfl)) <|
  xw_cons (xl_v_0_134 hG dX1_judged_18) <|
  xw_cons (xw_E xn_cast (xo_cast hG q1212 xca_0_209 dX1_judged_21)) <|
  xw_cons (xw_E xn_astore (xo_astore_n dX1_judged_24 rfl)) <|
  xw_cons (xw_E xn_aload (xo_aload_n dX1_judged_25 rfl)) <|
  xw_cons (xw_E xn_aload (xo_aload_n dX1_judged_26 rfl)) <|
  xw_cons (xw_E xn_aload (xo_aload_n dX1_judged_27 rfl)) <|
  xw_cons (xw_E xn_getf (xo_getf hG xg_0_214 dX1_judged_28)) <|
  xw_cons (xw_E xn_aload (xo_aload_n dX1_judged_31 rfl)) <|
  xw_cons (xw_E xn_getf (xo_getf hG xg_0_217 dX1_judged_32)) <|
  xw_cons (xw_E xn_aload (xo_aload_n dX1_judged_35 rfl)) <|
  xw_cons (xw_E xn_getf (xo_getf hG xg_0_95 dX1_judged_36)) <|
  xw_cons (xl_v_0_218 hG dX1_judged_39) <|
  xw_cons (xl_v_0_221 hG dX1_judged_42) <|
  xw_cons (xw_E xn_if (xo_if_ne dX1_judged_45 (by decide))) <|
  xw_cons (xw_E xn_iload (xo_iload_n dX1_judged_48 rfl)) <|
  xw_cons (xw_R (xt_i dX1_judged_49)) <|
  xw_cons (xw_E xn_iinc (xo_iinc dX1_judged_50 (by decide))) <|
  xw_cons (xw_E xn_goto (xo_goto dX1_judged_53 (by decide))) <|
  xw_cons (xw_E xn_push (xo_iconst dX1_judged_56 (by decide))) <|
  xw_cons (xw_R (xt_i dX1_judged_57)) <|
  xw_nil _
def xp_53 : List (Nat × xm_O) := xp_53_0
theorem xq_53 {G : xm_G} (hG : xm_W xk_B G) (hO : xm_Og G) : ∀ q ∈ xp_53, xm_op xk_B G xd xk_N "LiarsCock" "judged" prog_1_method_54_code 3 (some (FieldType.int)) q.1 q.2 := xq_53_0 hG hO
/- 54: LiarsCock.turned(II)I -/
def xp_54_0 : List (Nat × xm_O) := [
  (0, .inl (xe_aload 0 1)),
  (1, .inl (xe_iload 1 2)),
  (2, .inr (.inr (.inl (xc_V (xj_1 0 16) [0])))),
  (5, .inl (xe_if (fun x => decide (x = 0)) 15 8)),
  (8, .inl (xe_iload 2 9)),
  (9, .inr (.inr (.inl (xc_S 11 [0])))),
  (12, .inl (xe_if (fun x => decide (¬ x = 0)) 17 15)),
  (15, .inl (xe_push (.int (-1)) 16)),
  (16, .inr (.inl xr_i)),
  (17, .inl (xe_push (.int 0) 18)),
  (18, .inl (xe_istore 3 19)),
  (19, .inl (xe_push (.int (-1)) 20)),
  (20, .inl (xe_istore 4 22)),
  (22, .inl (xe_push (.int 0) 23)),
  (23, .inl (xe_istore 5 25)),
  (25, .inl (xe_iload 5 27)),
  (27, .inl (xe_iload 2 28)),
  (28, .inl (xe_icmp (fun x y => decide (y < x)) 64 31)),
  (31, .inl (xe_aload 0 32)),
  (32, .inl (xe_iload 1 33)),
  (33, .inl (xe_iload 5 35)),
  (35, .inl (xe_aload 0 36)),
  (36, .inl (xe_getf (xj_1 0 2) 39)),
  (39, .inr (.inr (.inl (xc_V (xj_1 0 17) [0, 0, 0])))),
  (42, .inl (xe_istore 6 44)),
  (44, .inl (xe_iload 6 46)),
  (46, .inl (xe_iload 4 48)),
  (48, .inl (xe_icmp (fun x y => decide (x = y)) 54 51)),
  (51, .inl (xe_iinc 3 1 54)),
  (54, .inl (xe_iload 6 56)),
  (56, .inl (xe_istore 4 58)),
  (58, .inl (xe_iinc 5 1 61)),
  (61, .inl (xe_goto 25)),
  (64, .inl (xe_iload 3 65)),
  (65, .inr (.inl xr_i))]
theorem xq_54_0 {G : xm_G} (hG : xm_W xk_B G) (hO : xm_Og G) : ∀ q ∈ xp_54_0, xm_op xk_B G xd xk_N "LiarsCock" "turned" prog_1_method_55_code 7 (some (FieldType.int)) q.1 q.2 :=
  xw_cons (xw_E xn_aload (xo_aload_n dX1_turned_0 rfl)) <|
  xw_cons (xw_E xn_iload (xo_iload_n dX1_turned_1 rfl)) <|
  xw_cons (xl_v_0_197 hG dX1_turned_2) <|
  xw_cons (xw_E xn_if (xo_if_eq dX1_turned_5 (by decide))) <|
  xw_cons (xw_E xn_iload (xo_iload_n dX1_turned_8 rfl)) <|
  xw_cons (xl_s_0_123 hG dX1_turned_9) <|
  xw_cons (xw_E xn_if (xo_if_ne dX1_turned_12 (by decide))) <|
  xw_cons (xw_E xn_push (xo_iconst dX1_turned_15 (by decide))) <|
  xw_cons (xw_R (xt_i dX1_turned_16)) <|
  xw_cons (xw_E xn_push (xo_iconst dX1_turned_17 (by decide))) <|
  xw_cons (xw_E xn_istore (xo_istore_n dX1_turned_18 rfl)) <|
  xw_cons (xw_E xn_push (xo_iconst dX1_turned_19 (by decide))) <|
  xw_cons (xw_E xn_istore (xo_istore dX1_turned_20)) <|
  xw_cons (xw_E xn_push (xo_iconst dX1_turned_22 (by decide))) <|
  xw_cons (xw_E xn_istore (xo_istore dX1_turned_23)) <|
  xw_cons (xw_E xn_iload (xo_iload dX1_turned_25)) <|
  xw_cons (xw_E xn_iload (xo_iload_n dX1_turned_27 rfl)) <|
  xw_cons (xw_E xn_icmp (xo_icmp_gt dX1_turned_28 (by decide))) <|
  xw_cons (xw_E xn_aload (xo_aload_n dX1_turned_31 rfl)) <|
  xw_cons (xw_E xn_iload (xo_iload_n dX1_turned_32 rfl)) <|
  xw_cons (xw_E xn_iload (xo_iload dX1_turned_33)) <|
  xw_cons (xw_E xn_aload (xo_aload_n dX1_turned_35 rfl)) <|
  xw_cons (xw_E xn_getf (xo_getf hG xg_0_95 dX1_turned_36)) <|
  xw_cons (xl_v_0_189 hG dX1_turned_39) <|
  xw_cons (xw_E xn_istore (xo_istore dX1_turned_42)) <|
  xw_cons (xw_E xn_iload (xo_iload dX1_turned_44)) <|
  xw_cons (xw_E xn_iload (xo_iload dX1_turned_46)) <|
  xw_cons (xw_E xn_icmp (xo_icmp_eq dX1_turned_48 (by decide))) <|
  xw_cons (xw_E xn_iinc (xo_iinc dX1_turned_51 (by decide))) <|
  xw_cons (xw_E xn_iload (xo_iload dX1_turned_54)) <|
  xw_cons (xw_E xn_istore (xo_istore dX1_turned_56)) <|
  xw_cons (xw_E xn_iinc (xo_iinc dX1_turned_58 (by decide))) <|
  xw_cons (xw_E xn_goto (xo_goto dX1_turned_61 (by decide))) <|
  xw_cons (xw_E xn_iload (xo_iload_n dX1_turned_64 rfl)) <|
  xw_cons (xw_R (xt_i dX1_turned_65)) <|
  xw_nil _
def xp_54 : List (Nat × xm_O) := xp_54_0
theorem xq_54 {G : xm_G} (hG : xm_W xk_B G) (hO : xm_Og G) : ∀ q ∈ xp_54, xm_op xk_B G xd xk_N "LiarsCock" "turned" prog_1_method_55_code 7 (some (FieldType.int)) q.1 q.2 := xq_54_0 hG hO
/- 55: LiarsCock.pointed(IIII)I -/
def xp_55_0 : List (Nat × xm_O) := [
  (0, .inl (xe_aload 0 1)),
  (1, .inl (xe_iload 1 2)),
  (2, .inr (.inr (.inl (xc_V (xj_1 0 16) [0])))),
  (5, .inl (xe_if (fun x => decide (x = 0)) 30 8)),
  (8, .inl (xe_iload 2 9)),
  (9, .inl (xe_push (.int (-1)) 10)),
  (10, .inl (xe_icmp (fun x y => decide (x = y)) 21 13)),
  (13, .inl (xe_aload 0 14)),
  (14, .inl (xe_iload 2 15)),
  (15, .inr (.inr (.inl (xc_V (xj_1 0 10) [0])))),
  (18, .inl (xe_if (fun x => decide (x = 0)) 30 21)),
  (21, .inl (xe_iload 3 22)),
  (22, .inl (xe_iload 4 24)),
  (24, .inr (.inr (.inl (xc_S 49 [0, 0])))),
  (27, .inl (xe_if (fun x => decide (¬ x = 0)) 32 30)),
  (30, .inl (xe_push (.int (-1)) 31)),
  (31, .inr (.inl xr_i)),
  (32, .inl (xe_push (.int 0) 33)),
  (33, .inl (xe_istore 5 35)),
  (35, .inl (xe_iload 3 36)),
  (36, .inl (xe_istore 6 38)),
  (38, .inl (xe_iload 6 40)),
  (40, .inl (xe_iload 4 42)),
  (42, .inl (xe_icmp (fun x y => decide (y < x)) 69 45)),
  (45, .inl (xe_aload 0 46)),
  (46, .inl (xe_iload 1 47)),
  (47, .inl (xe_iload 6 49)),
  (49, .inl (xe_aload 0 50)),
  (50, .inl (xe_getf (xj_1 0 2) 53)),
  (53, .inr (.inr (.inl (xc_V (xj_1 0 17) [0, 0, 0])))),
  (56, .inl (xe_iload 2 57)),
  (57, .inl (xe_icmp (fun x y => decide (¬ x = y)) 63 60)),
  (60, .inl (xe_iinc 5 1 63)),
  (63, .inl (xe_iinc 6 1 66)),
  (66, .inl (xe_goto 38)),
  (69, .inl (xe_iload 5 71)),
  (71, .inr (.inl xr_i))]
theorem xq_55_0 {G : xm_G} (hG : xm_W xk_B G) (hO : xm_Og G) : ∀ q ∈ xp_55_0, xm_op xk_B G xd xk_N "LiarsCock" "pointed" prog_1_method_56_code 7 (some (FieldType.int)) q.1 q.2 :=
  xw_cons (xw_E xn_aload (xo_aload_n dX1_pointed_0 rfl)) <|
  xw_cons (xw_E xn_iload (xo_iload_n dX1_pointed_1 rfl)) <|
  xw_cons (xl_v_0_197 hG dX1_pointed_2) <|
  xw_cons (xw_E xn_if (xo_if_eq dX1_pointed_5 (by decide))) <|
  xw_cons (xw_E xn_iload (xo_iload_n dX1_pointed_8 rfl)) <|
  xw_cons (xw_E xn_push (xo_iconst dX1_pointed_9 (by decide))) <|
  xw_cons (xw_E xn_icmp (xo_icmp_eq dX1_pointed_10 (by decide))) <|
  xw_cons (xw_E xn_aload (xo_aload_n dX1_pointed_13 rfl)) <|
  xw_cons (xw_E xn_iload (xo_iload_n dX1_pointed_14 rfl)) <|
  xw_cons (xl_v_0_154 hG dX1_pointed_15) <|
  xw_cons (xw_E xn_if (xo_if_eq dX1_pointed_18 (by decide))) <|
  xw_cons (xw_E xn_iload (xo_iload_n dX1_pointed_21 rfl)) <|
  xw_cons (xw_E xn_iload (xo_iload dX1_pointed_22)) <|
  xw_cons (xl_s_0_285 hG dX1_pointed_24) <|
  xw_cons (xw_E xn_if (xo_if_ne dX1_pointed_27 (by decide))) <|
  xw_cons (xw_E xn_push (xo_iconst dX1_pointed_30 (by decide))) <|
  xw_cons (xw_R (xt_i dX1_pointed_31)) <|
  xw_cons (xw_E xn_push (xo_iconst dX1_pointed_32 (by decide))) <|
  xw_cons (xw_E xn_istore (xo_istore dX1_pointed_33)) <|
  xw_cons (xw_E xn_iload (xo_iload_n dX1_pointed_35 rfl)) <|
  xw_cons (xw_E xn_istore (xo_istore dX1_pointed_36)) <|
  xw_cons (xw_E xn_iload (xo_iload dX1_pointed_38)) <|
  xw_cons (xw_E xn_iload (xo_iload dX1_pointed_40)) <|
  xw_cons (xw_E xn_icmp (xo_icmp_gt dX1_pointed_42 (by decide))) <|
  xw_cons (xw_E xn_aload (xo_aload_n dX1_pointed_45 rfl)) <|
  xw_cons (xw_E xn_iload (xo_iload_n dX1_pointed_46 rfl)) <|
  xw_cons (xw_E xn_iload (xo_iload dX1_pointed_47)) <|
  xw_cons (xw_E xn_aload (xo_aload_n dX1_pointed_49 rfl)) <|
  xw_cons (xw_E xn_getf (xo_getf hG xg_0_95 dX1_pointed_50)) <|
  xw_cons (xl_v_0_189 hG dX1_pointed_53) <|
  xw_cons (xw_E xn_iload (xo_iload_n dX1_pointed_56 rfl)) <|
  xw_cons (xw_E xn_icmp (xo_icmp_ne dX1_pointed_57 (by decide))) <|
  xw_cons (xw_E xn_iinc (xo_iinc dX1_pointed_60 (by decide))) <|
  xw_cons (xw_E xn_iinc (xo_iinc dX1_pointed_63 (by decide))) <|
  xw_cons (xw_E xn_goto (xo_goto dX1_pointed_66 (by decide))) <|
  xw_cons (xw_E xn_iload (xo_iload dX1_pointed_69)) <|
  xw_cons (xw_R (xt_i dX1_pointed_71)) <|
  xw_nil _
def xp_55 : List (Nat × xm_O) := xp_55_0
theorem xq_55 {G : xm_G} (hG : xm_W xk_B G) (hO : xm_Og G) : ∀ q ∈ xp_55, xm_op xk_B G xd xk_N "LiarsCock" "pointed" prog_1_method_56_code 7 (some (FieldType.int)) q.1 q.2 := xq_55_0 hG hO
/- 56: LiarsCock.round(II)I -/
def xp_56_0 : List (Nat × xm_O) := [
  (0, .inl (xe_aload 0 1)),
  (1, .inl (xe_iload 1 2)),
  (2, .inr (.inr (.inl (xc_V (xj_1 0 16) [0])))),
  (5, .inl (xe_if (fun x => decide (x = 0)) 15 8)),
  (8, .inl (xe_iload 2 9)),
  (9, .inr (.inr (.inl (xc_S 11 [0])))),
  (12, .inl (xe_if (fun x => decide (¬ x = 0)) 17 15)),
  (15, .inl (xe_push (.int (-1)) 16)),
  (16, .inr (.inl xr_i)),
  (17, .inl (xe_push (.int 0) 18)),
  (18, .inl (xe_istore 3 19)),
  (19, .inl (xe_push (.int 0) 20)),
  (20, .inl (xe_istore 4 22)),
  (22, .inl (xe_push (.int 0) 23)),
  (23, .inl (xe_istore 5 25)),
  (25, .inl (xe_iload 5 27)),
  (27, .inl (xe_iload 2 28)),
  (28, .inl (xe_icmp (fun x y => decide (y < x)) 64 31)),
  (31, .inl (xe_aload 0 32)),
  (32, .inl (xe_iload 1 33)),
  (33, .inl (xe_iload 5 35)),
  (35, .inl (xe_aload 0 36)),
  (36, .inl (xe_getf (xj_1 0 2) 39)),
  (39, .inr (.inr (.inl (xc_V (xj_1 0 30) [0, 0, 0])))),
  (42, .inl (xe_istore 6 44)),
  (44, .inl (xe_iload 3 45)),
  (45, .inl (xe_iload 4 47)),
  (47, .inl (xe_iload 6 49)),
  (49, .inr (.inr (.inl (xc_S 57 [0, 0])))),
  (52, .inl (xe_ii (fun x y => x + y) 53)),
  (53, .inl (xe_istore 3 54)),
  (54, .inl (xe_iload 6 56)),
  (56, .inl (xe_istore 4 58)),
  (58, .inl (xe_iinc 5 1 61)),
  (61, .inl (xe_goto 25)),
  (64, .inl (xe_iload 3 65)),
  (65, .inr (.inl xr_i))]
theorem xq_56_0 {G : xm_G} (hG : xm_W xk_B G) (hO : xm_Og G) : ∀ q ∈ xp_56_0, xm_op xk_B G xd xk_N "LiarsCock" "round" prog_1_method_58_code 7 (some (FieldType.int)) q.1 q.2 :=
  xw_cons (xw_E xn_aload (xo_aload_n dX1_round_0 rfl)) <|
  xw_cons (xw_E xn_iload (xo_iload_n dX1_round_1 rfl)) <|
  xw_cons (xl_v_0_197 hG dX1_round_2) <|
  xw_cons (xw_E xn_if (xo_if_eq dX1_round_5 (by decide))) <|
  xw_cons (xw_E xn_iload (xo_iload_n dX1_round_8 rfl)) <|
  xw_cons (xl_s_0_123 hG dX1_round_9) <|
  xw_cons (xw_E xn_if (xo_if_ne dX1_round_12 (by decide))) <|
  xw_cons (xw_E xn_push (xo_iconst dX1_round_15 (by decide))) <|
  xw_cons (xw_R (xt_i dX1_round_16)) <|
  xw_cons (xw_E xn_push (xo_iconst dX1_round_17 (by decide))) <|
  xw_cons (xw_E xn_istore (xo_istore_n dX1_round_18 rfl)) <|
  xw_cons (xw_E xn_push (xo_iconst dX1_round_19 (by decide))) <|
  xw_cons (xw_E xn_istore (xo_istore dX1_round_20)) <|
  xw_cons (xw_E xn_push (xo_iconst dX1_round_22 (by decide))) <|
  xw_cons (xw_E xn_istore (xo_istore dX1_round_23)) <|
  xw_cons (xw_E xn_iload (xo_iload dX1_round_25)) <|
  xw_cons (xw_E xn_iload (xo_iload_n dX1_round_27 rfl)) <|
  xw_cons (xw_E xn_icmp (xo_icmp_gt dX1_round_28 (by decide))) <|
  xw_cons (xw_E xn_aload (xo_aload_n dX1_round_31 rfl)) <|
  xw_cons (xw_E xn_iload (xo_iload_n dX1_round_32 rfl)) <|
  xw_cons (xw_E xn_iload (xo_iload dX1_round_33)) <|
  xw_cons (xw_E xn_aload (xo_aload_n dX1_round_35 rfl)) <|
  xw_cons (xw_E xn_getf (xo_getf hG xg_0_95 dX1_round_36)) <|
  xw_cons (xl_v_0_218 hG dX1_round_39) <|
  xw_cons (xw_E xn_istore (xo_istore dX1_round_42)) <|
  xw_cons (xw_E xn_iload (xo_iload_n dX1_round_44 rfl)) <|
  xw_cons (xw_E xn_iload (xo_iload dX1_round_45)) <|
  xw_cons (xw_E xn_iload (xo_iload dX1_round_47)) <|
  xw_cons (xl_s_0_331 hG dX1_round_49) <|
  xw_cons (xw_E xn_ii (xo_iadd dX1_round_52)) <|
  xw_cons (xw_E xn_istore (xo_istore_n dX1_round_53 rfl)) <|
  xw_cons (xw_E xn_iload (xo_iload dX1_round_54)) <|
  xw_cons (xw_E xn_istore (xo_istore dX1_round_56)) <|
  xw_cons (xw_E xn_iinc (xo_iinc dX1_round_58 (by decide))) <|
  xw_cons (xw_E xn_goto (xo_goto dX1_round_61 (by decide))) <|
  xw_cons (xw_E xn_iload (xo_iload_n dX1_round_64 rfl)) <|
  xw_cons (xw_R (xt_i dX1_round_65)) <|
  xw_nil _
def xp_56 : List (Nat × xm_O) := xp_56_0
theorem xq_56 {G : xm_G} (hG : xm_W xk_B G) (hO : xm_Og G) : ∀ q ∈ xp_56, xm_op xk_B G xd xk_N "LiarsCock" "round" prog_1_method_58_code 7 (some (FieldType.int)) q.1 q.2 := xq_56_0 hG hO
/- 57: LiarsCock.apart(II)I -/
def xp_57_0 : List (Nat × xm_O) := [
  (0, .inl (xe_iload 0 1)),
  (1, .inl (xe_iload 1 2)),
  (2, .inl (xe_ii (fun x y => x - y) 3)),
  (3, .inr (.inr (.inl (xc_S 303 [0])))),
  (6, .inl (xe_istore 2 7)),
  (7, .inl (xe_iload 2 8)),
  (8, .inl (xe_push (.int 360) 11)),
  (11, .inl (xe_iload 2 12)),
  (12, .inl (xe_ii (fun x y => x - y) 13)),
  (13, .inr (.inr (.inl (xc_S 302 [0, 0])))),
  (16, .inr (.inl xr_i))]
theorem xq_57_0 {G : xm_G} (hG : xm_W xk_B G) (hO : xm_Og G) : ∀ q ∈ xp_57_0, xm_op xk_B G xd xk_N "LiarsCock" "apart" prog_1_method_57_code 3 (some (FieldType.int)) q.1 q.2 :=
  xw_cons (xw_E xn_iload (xo_iload_n dX1_apart_0 rfl)) <|
  xw_cons (xw_E xn_iload (xo_iload_n dX1_apart_1 rfl)) <|
  xw_cons (xw_E xn_ii (xo_isub dX1_apart_2)) <|
  xw_cons (xl_s_0_323 hG dX1_apart_3) <|
  xw_cons (xw_E xn_istore (xo_istore_n dX1_apart_6 rfl)) <|
  xw_cons (xw_E xn_iload (xo_iload_n dX1_apart_7 rfl)) <|
  xw_cons (xw_E xn_push (xo_sipush dX1_apart_8 (by decide))) <|
  xw_cons (xw_E xn_iload (xo_iload_n dX1_apart_11 rfl)) <|
  xw_cons (xw_E xn_ii (xo_isub dX1_apart_12)) <|
  xw_cons (xl_s_0_328 hG dX1_apart_13) <|
  xw_cons (xw_R (xt_i dX1_apart_16)) <|
  xw_nil _
def xp_57 : List (Nat × xm_O) := xp_57_0
theorem xq_57 {G : xm_G} (hG : xm_W xk_B G) (hO : xm_Og G) : ∀ q ∈ xp_57, xm_op xk_B G xd xk_N "LiarsCock" "apart" prog_1_method_57_code 3 (some (FieldType.int)) q.1 q.2 := xq_57_0 hG hO
/- 58: LiarsCock.hidden(II)I -/
def xp_58_0 : List (Nat × xm_O) := [
  (0, .inl (xe_aload 0 1)),
  (1, .inl (xe_iload 1 2)),
  (2, .inr (.inr (.inl (xc_V (xj_1 0 59) [0])))),
  (5, .inl (xe_if (fun x => decide (x = 0)) 33 8)),
  (8, .inl (xe_aload 0 9)),
  (9, .inl (xe_iload 2 10)),
  (10, .inr (.inr (.inl (xc_V (xj_1 0 60) [0])))),
  (13, .inl (xe_if (fun x => decide (x = 0)) 33 16)),
  (16, .inl (xe_aload 0 17)),
  (17, .inl (xe_iload 1 18)),
  (18, .inl (xe_iload 2 19)),
  (19, .inr (.inr (.inl (xc_V (xj_1 0 61) [0, 0])))),
  (22, .inl (xe_if (fun x => decide (x = 0)) 29 25)),
  (25, .inl (xe_push (.int 1) 26)),
  (26, .inl (xe_goto 34)),
  (29, .inl (xe_push (.int 0) 30)),
  (30, .inl (xe_goto 34)),
  (33, .inl (xe_push (.int (-1)) 34)),
  (34, .inr (.inl xr_i))]
theorem xq_58_0 {G : xm_G} (hG : xm_W xk_B G) (hO : xm_Og G) : ∀ q ∈ xp_58_0, xm_op xk_B G xd xk_N "LiarsCock" "hidden" prog_1_method_64_code 3 (some (FieldType.int)) q.1 q.2 :=
  xw_cons (xw_E xn_aload (xo_aload_n dX1_hidden_0 rfl)) <|
  xw_cons (xw_E xn_iload (xo_iload_n dX1_hidden_1 rfl)) <|
  xw_cons (xl_v_0_345 hG dX1_hidden_2) <|
  xw_cons (xw_E xn_if (xo_if_eq dX1_hidden_5 (by decide))) <|
  xw_cons (xw_E xn_aload (xo_aload_n dX1_hidden_8 rfl)) <|
  xw_cons (xw_E xn_iload (xo_iload_n dX1_hidden_9 rfl)) <|
  xw_cons (xl_v_0_348 hG dX1_hidden_10) <|
  xw_cons (xw_E xn_if (xo_if_eq dX1_hidden_13 (by decide))) <|
  xw_cons (xw_E xn_aload (xo_aload_n dX1_hidden_16 rfl)) <|
  xw_cons (xw_E xn_iload (xo_iload_n dX1_hidden_17 rfl)) <|
  xw_cons (xw_E xn_iload (xo_iload_n dX1_hidden_18 rfl)) <|
  xw_cons (xl_v_0_351 hG dX1_hidden_19) <|
  xw_cons (xw_E xn_if (xo_if_eq dX1_hidden_22 (by decide))) <|
  xw_cons (xw_E xn_push (xo_iconst dX1_hidden_25 (by decide))) <|
  xw_cons (xw_E xn_goto (xo_goto dX1_hidden_26 (by decide))) <|
  xw_cons (xw_E xn_push (xo_iconst dX1_hidden_29 (by decide))) <|
  xw_cons (xw_E xn_goto (xo_goto dX1_hidden_30 (by decide))) <|
  xw_cons (xw_E xn_push (xo_iconst dX1_hidden_33 (by decide))) <|
  xw_cons (xw_R (xt_i dX1_hidden_34)) <|
  xw_nil _
def xp_58 : List (Nat × xm_O) := xp_58_0
theorem xq_58 {G : xm_G} (hG : xm_W xk_B G) (hO : xm_Og G) : ∀ q ∈ xp_58, xm_op xk_B G xd xk_N "LiarsCock" "hidden" prog_1_method_64_code 3 (some (FieldType.int)) q.1 q.2 := xq_58_0 hG hO
/- 59: LiarsCock.isHidable(I)Z -/
def xp_59_0 : List (Nat × xm_O) := [
  (0, .inl (xe_aload 0 1)),
  (1, .inl (xe_iload 1 2)),
  (2, .inr (.inr (.inl (xc_V (xj_1 0 21) [0])))),
  (5, .inl (xe_if (fun x => decide (x = 0)) 45 8)),
  (8, .inl (xe_aload 0 9)),
  (9, .inl (xe_getf (xj_1 0 3) 12)),
  (12, .inl (xe_iload 1 13)),
  (13, .inr (.inr (.inl (xc_V (xj_1 25 281) [0])))),
  (16, .inl (xe_cast (fun ci => ([22] : List Nat).elem ci) 19)),
  (19, .inl (xe_aload 0 20)),
  (20, .inl (xe_getf (xj_1 0 1) 23)),
  (23, .inl (xe_getf (xj_1 2 6) 26)),
  (26, .inl (xe_push (.int 0) 27)),
  (27, .inl (xe_ald (fun t => Nat.ble 4 t) 28)),
  (28, .inl (xe_getf (xj_1 4 0) 31)),
  (31, .inl (xe_aload 0 32)),
  (32, .inl (xe_getf (xj_1 0 2) 35)),
  (35, .inr (.inr (.inl (xc_V (xj_1 22 270) [0, 0])))),
  (38, .inl (xe_if (fun x => decide (x = 0)) 45 41)),
  (41, .inl (xe_push (.int 1) 42)),
  (42, .inl (xe_goto 46)),
  (45, .inl (xe_push (.int 0) 46)),
  (46, .inr (.inl xr_z))]
theorem xq_59_0 {G : xm_G} (hG : xm_W xk_B G) (hO : xm_Og G) : ∀ q ∈ xp_59_0, xm_op xk_B G xd xk_N "LiarsCock" "isHidable" prog_1_method_59_code 2 (some (FieldType.boolean)) q.1 q.2 :=
  xw_cons (xw_E xn_aload (xo_aload_n dX1_isHidable_0 rfl)) <|
  xw_cons (xw_E xn_iload (xo_iload_n dX1_isHidable_1 rfl)) <|
  xw_cons (xl_v_0_200 hG dX1_isHidable_2) <|
  xw_cons (xw_E xn_if (xo_if_eq dX1_isHidable_5 (by decide))) <|
  xw_cons (xw_E xn_aload (xo_aload_n dX1_isHidable_8 rfl)) <|
  xw_cons (xw_E xn_getf (xo_getf hG xg_0_27 dX1_isHidable_9)) <|
  xw_cons (xw_E xn_iload (xo_iload_n dX1_isHidable_12 rfl)) <|
  xw_cons (xl_v_0_134 hG dX1_isHidable_13) <|
  xw_cons (xw_E xn_cast (xo_cast hG q1123 xca_0_138 dX1_isHidable_16)) <|
  xw_cons (xw_E xn_aload (xo_aload_n dX1_isHidable_19 rfl)) <|
  xw_cons (xw_E xn_getf (xo_getf hG xg_0_20 dX1_isHidable_20)) <|
  xw_cons (xw_E xn_getf (xo_getf hG xg_0_72 dX1_isHidable_23)) <|
  xw_cons (xw_E xn_push (xo_iconst dX1_isHidable_26 (by decide))) <|
  xw_cons (xw_E xn_ald (xo_aald xk_hB dX1_isHidable_27)) <|
  xw_cons (xw_E xn_getf (xo_getf hG xg_0_179 dX1_isHidable_28)) <|
  xw_cons (xw_E xn_aload (xo_aload_n dX1_isHidable_31 rfl)) <|
  xw_cons (xw_E xn_getf (xo_getf hG xg_0_95 dX1_isHidable_32)) <|
  xw_cons (xl_v_0_164 hG dX1_isHidable_35) <|
  xw_cons (xw_E xn_if (xo_if_eq dX1_isHidable_38 (by decide))) <|
  xw_cons (xw_E xn_push (xo_iconst dX1_isHidable_41 (by decide))) <|
  xw_cons (xw_E xn_goto (xo_goto dX1_isHidable_42 (by decide))) <|
  xw_cons (xw_E xn_push (xo_iconst dX1_isHidable_45 (by decide))) <|
  xw_cons (xw_R (xt_z dX1_isHidable_46)) <|
  xw_nil _
def xp_59 : List (Nat × xm_O) := xp_59_0
theorem xq_59 {G : xm_G} (hG : xm_W xk_B G) (hO : xm_Og G) : ∀ q ∈ xp_59, xm_op xk_B G xd xk_N "LiarsCock" "isHidable" prog_1_method_59_code 2 (some (FieldType.boolean)) q.1 q.2 := xq_59_0 hG hO
/- 60: LiarsCock.areOffers(I)Z -/
def xp_60_0 : List (Nat × xm_O) := [
  (0, .inl (xe_iload 1 1)),
  (1, .inl (xe_push (.int 0) 2)),
  (2, .inl (xe_push (.int 1) 3)),
  (3, .inl (xe_aload 0 4)),
  (4, .inl (xe_getf (xj_1 0 4) 7)),
  (7, .inr (.inr (.inl (xc_V (xj_1 25 280) [])))),
  (10, .inl (xe_ii (fun x y => x <<< (y &&& 31)) 11)),
  (11, .inl (xe_push (.int 1) 12)),
  (12, .inl (xe_ii (fun x y => x - y) 13)),
  (13, .inr (.inr (.inl (xc_S 4 [0, 0, 0])))),
  (16, .inr (.inl xr_z))]
theorem xq_60_0 {G : xm_G} (hG : xm_W xk_B G) (hO : xm_Og G) : ∀ q ∈ xp_60_0, xm_op xk_B G xd xk_N "LiarsCock" "areOffers" prog_1_method_63_code 2 (some (FieldType.boolean)) q.1 q.2 :=
  xw_cons (xw_E xn_iload (xo_iload_n dX1_areOffers_0 rfl)) <|
  xw_cons (xw_E xn_push (xo_iconst dX1_areOffers_1 (by decide))) <|
  xw_cons (xw_E xn_push (xo_iconst dX1_areOffers_2 (by decide))) <|
  xw_cons (xw_E xn_aload (xo_aload_n dX1_areOffers_3 rfl)) <|
  xw_cons (xw_E xn_getf (xo_getf hG xg_0_31 dX1_areOffers_4)) <|
  xw_cons (xl_v_0_109 hG dX1_areOffers_7) <|
  xw_cons (xw_E xn_ii (xo_ishl dX1_areOffers_10)) <|
  xw_cons (xw_E xn_push (xo_iconst dX1_areOffers_11 (by decide))) <|
  xw_cons (xw_E xn_ii (xo_isub dX1_areOffers_12)) <|
  xw_cons (xl_s_0_113 hG dX1_areOffers_13) <|
  xw_cons (xw_R (xt_z dX1_areOffers_16)) <|
  xw_nil _
def xp_60 : List (Nat × xm_O) := xp_60_0
theorem xq_60 {G : xm_G} (hG : xm_W xk_B G) (hO : xm_Og G) : ∀ q ∈ xp_60, xm_op xk_B G xd xk_N "LiarsCock" "areOffers" prog_1_method_63_code 2 (some (FieldType.boolean)) q.1 q.2 := xq_60_0 hG hO
/- 61: LiarsCock.isHidden(II)Z -/
def xp_61_0 : List (Nat × xm_O) := [
  (0, .inl (xe_push (.int 0) 1)),
  (1, .inl (xe_istore 3 2)),
  (2, .inl (xe_push (.int 0) 3)),
  (3, .inl (xe_istore 4 5)),
  (5, .inl (xe_iload 4 7)),
  (7, .inl (xe_aload 0 8)),
  (8, .inl (xe_getf (xj_1 0 1) 11)),
  (11, .inr (.inr (.inl (xc_V (xj_1 2 119) [])))),
  (14, .inl (xe_icmp (fun x y => decide (y ≤ x)) 77 17)),
  (17, .inl (xe_aload 0 18)),
  (18, .inl (xe_getf (xj_1 0 1) 21)),
  (21, .inl (xe_getf (xj_1 2 8) 24)),
  (24, .inl (xe_iload 4 26)),
  (26, .inr (.inr (.inl (xc_S 6 [0, 1])))),
  (29, .inl (xe_if (fun x => decide (x = 0)) 71 32)),
  (32, .inl (xe_aload 0 33)),
  (33, .inl (xe_iload 2 34)),
  (34, .inl (xe_iload 4 36)),
  (36, .inr (.inr (.inl (xc_V (xj_1 0 62) [0, 0])))),
  (39, .inl (xe_if (fun x => decide (¬ x = 0)) 45 42)),
  (42, .inl (xe_goto 71)),
  (45, .inl (xe_aload 0 46)),
  (46, .inl (xe_getf (xj_1 0 3) 49)),
  (49, .inl (xe_iload 1 50)),
  (50, .inr (.inr (.inl (xc_V (xj_1 25 281) [0])))),
  (53, .inl (xe_cast (fun ci => ([22] : List Nat).elem ci) 56)),
  (56, .inl (xe_getf (xj_1 22 2) 59)),
  (59, .inl (xe_iload 4 61)),
  (61, .inr (.inr (.inl (xc_S 6 [0, 1])))),
  (64, .inl (xe_if (fun x => decide (x = 0)) 69 67)),
  (67, .inl (xe_push (.int 1) 68)),
  (68, .inr (.inl xr_z)),
  (69, .inl (xe_push (.int 1) 70)),
  (70, .inl (xe_istore 3 71)),
  (71, .inl (xe_iinc 4 1 74)),
  (74, .inl (xe_goto 5)),
  (77, .inl (xe_iload 3 78)),
  (78, .inl (xe_if (fun x => decide (¬ x = 0)) 85 81)),
  (81, .inl (xe_push (.int 1) 82)),
  (82, .inl (xe_goto 86)),
  (85, .inl (xe_push (.int 0) 86)),
  (86, .inr (.inl xr_z))]
theorem xq_61_0 {G : xm_G} (hG : xm_W xk_B G) (hO : xm_Og G) : ∀ q ∈ xp_61_0, xm_op xk_B G xd xk_N "LiarsCock" "isHidden" prog_1_method_62_code 5 (some (FieldType.boolean)) q.1 q.2 :=
  xw_cons (xw_E xn_push (xo_iconst dX1_isHidden_0 (by decide))) <|
  xw_cons (xw_E xn_istore (xo_istore_n dX1_isHidden_1 rfl)) <|
  xw_cons (xw_E xn_push (xo_iconst dX1_isHidden_2 (by decide))) <|
  xw_cons (xw_E xn_istore (xo_istore dX1_isHidden_3)) <|
  xw_cons (xw_E xn_iload (xo_iload dX1_isHidden_5)) <|
  xw_cons (xw_E xn_aload (xo_aload_n dX1_isHidden_7 rfl)) <|
  xw_cons (xw_E xn_getf (xo_getf hG xg_0_20 dX1_isHidden_8)) <|
  xw_cons (xl_v_0_120 hG dX1_isHidden_11) <|
  xw_cons (xw_E xn_icmp (xo_icmp_ge dX1_isHidden_14 (by decide))) <|
  xw_cons (xw_E xn_aload (xo_aload_n dX1_isHidden_17 rfl)) <|
  xw_cons (xw_E xn_getf (xo_getf hG xg_0_20 dX1_isHidden_18)) <|
  xw_cons (xw_E xn_getf (xo_getf hG xg_0_81 dX1_isHidden_21)) <|
  xw_cons (xw_E xn_iload (xo_iload dX1_isHidden_24)) <|
  xw_cons (xl_s_0_172 hG dX1_isHidden_26) <|
  xw_cons (xw_E xn_if (xo_if_eq dX1_isHidden_29 (by decide))) <|
  xw_cons (xw_E xn_aload (xo_aload_n dX1_isHidden_32 rfl)) <|
  xw_cons (xw_E xn_iload (xo_iload_n dX1_isHidden_33 rfl)) <|
  xw_cons (xw_E xn_iload (xo_iload dX1_isHidden_34)) <|
  xw_cons (xl_v_0_342 hG dX1_isHidden_36) <|
  xw_cons (xw_E xn_if (xo_if_ne dX1_isHidden_39 (by decide))) <|
  xw_cons (xw_E xn_goto (xo_goto dX1_isHidden_42 (by decide))) <|
  xw_cons (xw_E xn_aload (xo_aload_n dX1_isHidden_45 rfl)) <|
  xw_cons (xw_E xn_getf (xo_getf hG xg_0_27 dX1_isHidden_46)) <|
  xw_cons (xw_E xn_iload (xo_iload_n dX1_isHidden_49 rfl)) <|
  xw_cons (xl_v_0_134 hG dX1_isHidden_50) <|
  xw_cons (xw_E xn_cast (xo_cast hG q1123 xca_0_138 dX1_isHidden_53)) <|
  xw_cons (xw_E xn_getf (xo_getf hG xg_0_203 dX1_isHidden_56)) <|
  xw_cons (xw_E xn_iload (xo_iload dX1_isHidden_59)) <|
  xw_cons (xl_s_0_172 hG dX1_isHidden_61) <|
  xw_cons (xw_E xn_if (xo_if_eq dX1_isHidden_64 (by decide))) <|
  xw_cons (xw_E xn_push (xo_iconst dX1_isHidden_67 (by decide))) <|
  xw_cons (xw_R (xt_z dX1_isHidden_68)) <|
  xw_cons (xw_E xn_push (xo_iconst dX1_isHidden_69 (by decide))) <|
  xw_cons (xw_E xn_istore (xo_istore_n dX1_isHidden_70 rfl)) <|
  xw_cons (xw_E xn_iinc (xo_iinc dX1_isHidden_71 (by decide))) <|
  xw_cons (xw_E xn_goto (xo_goto dX1_isHidden_74 (by decide))) <|
  xw_cons (xw_E xn_iload (xo_iload_n dX1_isHidden_77 rfl)) <|
  xw_cons (xw_E xn_if (xo_if_ne dX1_isHidden_78 (by decide))) <|
  xw_cons (xw_E xn_push (xo_iconst dX1_isHidden_81 (by decide))) <|
  xw_cons (xw_E xn_goto (xo_goto dX1_isHidden_82 (by decide))) <|
  xw_cons (xw_E xn_push (xo_iconst dX1_isHidden_85 (by decide))) <|
  xw_cons (xw_R (xt_z dX1_isHidden_86)) <|
  xw_nil _
def xp_61 : List (Nat × xm_O) := xp_61_0
theorem xq_61 {G : xm_G} (hG : xm_W xk_B G) (hO : xm_Og G) : ∀ q ∈ xp_61, xm_op xk_B G xd xk_N "LiarsCock" "isHidden" prog_1_method_62_code 5 (some (FieldType.boolean)) q.1 q.2 := xq_61_0 hG hO
/- 62: LiarsCock.isAlike(II)Z -/
def xp_62_0 : List (Nat × xm_O) := [
  (0, .inl (xe_push (.int 0) 1)),
  (1, .inl (xe_istore 3 2)),
  (2, .inl (xe_iload 3 3)),
  (3, .inl (xe_aload 0 4)),
  (4, .inl (xe_getf (xj_1 0 6) 7)),
  (7, .inr (.inr (.inl (xc_V (xj_1 25 280) [])))),
  (10, .inl (xe_icmp (fun x y => decide (y ≤ x)) 61 13)),
  (13, .inl (xe_aload 0 14)),
  (14, .inl (xe_aload 0 15)),
  (15, .inl (xe_getf (xj_1 0 6) 18)),
  (18, .inl (xe_iload 3 19)),
  (19, .inr (.inr (.inl (xc_V (xj_1 25 281) [0])))),
  (22, .inl (xe_cast (fun ci => ([23] : List Nat).elem ci) 25)),
  (25, .inl (xe_iload 1 26)),
  (26, .inl (xe_iload 2 27)),
  (27, .inr (.inr (.inl (xc_V (xj_1 0 63) [0, 0, 2])))),
  (30, .inl (xe_aload 0 31)),
  (31, .inl (xe_aload 0 32)),
  (32, .inl (xe_getf (xj_1 0 6) 35)),
  (35, .inl (xe_iload 3 36)),
  (36, .inr (.inr (.inl (xc_V (xj_1 25 281) [0])))),
  (39, .inl (xe_cast (fun ci => ([23] : List Nat).elem ci) 42)),
  (42, .inl (xe_iload 1 43)),
  (43, .inl (xe_aload 0 44)),
  (44, .inl (xe_getf (xj_1 0 2) 47)),
  (47, .inr (.inr (.inl (xc_V (xj_1 0 63) [0, 0, 2])))),
  (50, .inl (xe_icmp (fun x y => decide (x = y)) 55 53)),
  (53, .inl (xe_push (.int 0) 54)),
  (54, .inr (.inl xr_z)),
  (55, .inl (xe_iinc 3 1 58)),
  (58, .inl (xe_goto 2)),
  (61, .inl (xe_push (.int 1) 62)),
  (62, .inr (.inl xr_z))]
theorem xq_62_0 {G : xm_G} (hG : xm_W xk_B G) (hO : xm_Og G) : ∀ q ∈ xp_62_0, xm_op xk_B G xd xk_N "LiarsCock" "isAlike" prog_1_method_61_code 4 (some (FieldType.boolean)) q.1 q.2 :=
  xw_cons (xw_E xn_push (xo_iconst dX1_isAlike_0 (by decide))) <|
  xw_cons (xw_E xn_istore (xo_istore_n dX1_isAlike_1 rfl)) <|
  xw_cons (xw_E xn_iload (xo_iload_n dX1_isAlike_2 rfl)) <|
  xw_cons (xw_E xn_aload (xo_aload_n dX1_isAlike_3 rfl)) <|
  xw_cons (xw_E xn_getf (xo_getf hG xg_0_37 dX1_isAlike_4)) <|
  xw_cons (xl_v_0_109 hG dX1_isAlike_7) <|
  xw_cons (xw_E xn_icmp (xo_icmp_ge dX1_isAlike_10 (by decide))) <|
  xw_cons (xw_E xn_aload (xo_aload_n dX1_isAlike_13 rfl)) <|
  xw_cons (xw_E xn_aload (xo_aload_n dX1_isAlike_14 rfl)) <|
  xw_cons (xw_E xn_getf (xo_getf hG xg_0_37 dX1_isAlike_15)) <|
  xw_cons (xw_E xn_iload (xo_iload_n dX1_isAlike_18 rfl)) <|
  xw_cons (xl_v_0_134 hG dX1_isAlike_19) <|
  xw_cons (xw_E xn_cast (xo_cast hG q1212 xca_0_209 dX1_isAlike_22)) <|
  xw_cons (xw_E xn_iload (xo_iload_n dX1_isAlike_25 rfl)) <|
  xw_cons (xw_E xn_iload (xo_iload_n dX1_isAlike_26 rfl)) <|
  xw_cons (xl_v_0_338 hG dX1_isAlike_27) <|
  xw_cons (xw_E xn_aload (xo_aload_n dX1_isAlike_30 rfl)) <|
  xw_cons (xw_E xn_aload (xo_aload_n dX1_isAlike_31 rfl)) <|
  xw_cons (xw_E xn_getf (xo_getf hG xg_0_37 dX1_isAlike_32)) <|
  xw_cons (xw_E xn_iload (xo_iload_n dX1_isAlike_35 rfl)) <|
  xw_cons (xl_v_0_134 hG dX1_isAlike_36) <|
  xw_cons (xw_E xn_cast (xo_cast hG q1212 xca_0_209 dX1_isAlike_39)) <|
  xw_cons (xw_E xn_iload (xo_iload_n dX1_isAlike_42 rfl)) <|
  xw_cons (xw_E xn_aload (xo_aload_n dX1_isAlike_43 rfl)) <|
  xw_cons (xw_E xn_getf (xo_getf hG xg_0_95 dX1_isAlike_44)) <|
  xw_cons (xl_v_0_338 hG dX1_isAlike_47) <|
  xw_cons (xw_E xn_icmp (xo_icmp_eq dX1_isAlike_50 (by decide))) <|
  xw_cons (xw_E xn_push (xo_iconst dX1_isAlike_53 (by decide))) <|
  xw_cons (xw_R (xt_z dX1_isAlike_54)) <|
  xw_cons (xw_E xn_iinc (xo_iinc dX1_isAlike_55 (by decide))) <|
  xw_cons (xw_E xn_goto (xo_goto dX1_isAlike_58 (by decide))) <|
  xw_cons (xw_E xn_push (xo_iconst dX1_isAlike_61 (by decide))) <|
  xw_cons (xw_R (xt_z dX1_isAlike_62)) <|
  xw_nil _
def xp_62 : List (Nat × xm_O) := xp_62_0
theorem xq_62 {G : xm_G} (hG : xm_W xk_B G) (hO : xm_Og G) : ∀ q ∈ xp_62, xm_op xk_B G xd xk_N "LiarsCock" "isAlike" prog_1_method_61_code 4 (some (FieldType.boolean)) q.1 q.2 := xq_62_0 hG hO
/- 63: LiarsCock.watched(LLiarsCock$Look;II)I -/
def xp_63_0 : List (Nat × xm_O) := [
  (0, .inl (xe_aload 0 1)),
  (1, .inl (xe_getf (xj_1 0 1) 4)),
  (4, .inl (xe_getf (xj_1 2 6) 7)),
  (7, .inl (xe_aload 1 8)),
  (8, .inl (xe_getf (xj_1 23 0) 11)),
  (11, .inl (xe_ald (fun t => Nat.ble 4 t) 12)),
  (12, .inl (xe_astore 4 14)),
  (14, .inl (xe_aload 0 15)),
  (15, .inl (xe_getf (xj_1 0 1) 18)),
  (18, .inl (xe_aload 0 19)),
  (19, .inl (xe_iload 2 20)),
  (20, .inl (xe_aload 4 22)),
  (22, .inl (xe_getf (xj_1 4 0) 25)),
  (25, .inl (xe_aload 1 26)),
  (26, .inl (xe_getf (xj_1 23 1) 29)),
  (29, .inl (xe_aload 4 31)),
  (31, .inl (xe_getf (xj_1 4 1) 34)),
  (34, .inl (xe_ii (fun x y => x - y) 35)),
  (35, .inl (xe_iload 3 36)),
  (36, .inr (.inr (.inl (xc_V (xj_1 0 64) [0, 0, 0, 0])))),
  (39, .inr (.inr (.inl (xc_S 19 [2])))),
  (42, .inr (.inr (.inl (xc_V (xj_1 2 122) [0])))),
  (45, .inr (.inl xr_i))]
theorem xq_63_0 {G : xm_G} (hG : xm_W xk_B G) (hO : xm_Og G) : ∀ q ∈ xp_63_0, xm_op xk_B G xd xk_N "LiarsCock" "watched" prog_1_method_60_code 5 (some (FieldType.int)) q.1 q.2 :=
  xw_cons (xw_E xn_aload (xo_aload_n dX1_watched_0 rfl)) <|
  xw_cons (xw_E xn_getf (xo_getf hG xg_0_20 dX1_watched_1)) <|
  xw_cons (xw_E xn_getf (xo_getf hG xg_0_72 dX1_watched_4)) <|
  xw_cons (xw_E xn_aload (xo_aload_n dX1_watched_7 rfl)) <|
  xw_cons (xw_E xn_getf (xo_getf hG xg_0_214 dX1_watched_8)) <|
  xw_cons (xw_E xn_ald (xo_aald xk_hB dX1_watched_11)) <|
  xw_cons (xw_E xn_astore (xo_astore dX1_watched_12)) <|
  xw_cons (xw_E xn_aload (xo_aload_n dX1_watched_14 rfl)) <|
  xw_cons (xw_E xn_getf (xo_getf hG xg_0_20 dX1_watched_15)) <|
  xw_cons (xw_E xn_aload (xo_aload_n dX1_watched_18 rfl)) <|
  xw_cons (xw_E xn_iload (xo_iload_n dX1_watched_19 rfl)) <|
  xw_cons (xw_E xn_aload (xo_aload dX1_watched_20)) <|
  xw_cons (xw_E xn_getf (xo_getf hG xg_0_179 dX1_watched_22)) <|
  xw_cons (xw_E xn_aload (xo_aload_n dX1_watched_25 rfl)) <|
  xw_cons (xw_E xn_getf (xo_getf hG xg_0_217 dX1_watched_26)) <|
  xw_cons (xw_E xn_aload (xo_aload dX1_watched_29)) <|
  xw_cons (xw_E xn_getf (xo_getf hG xg_0_182 dX1_watched_31)) <|
  xw_cons (xw_E xn_ii (xo_isub dX1_watched_34)) <|
  xw_cons (xw_E xn_iload (xo_iload_n dX1_watched_35 rfl)) <|
  xw_cons (xl_v_0_334 hG dX1_watched_36) <|
  xw_cons (xl_s_0_185 hG dX1_watched_39) <|
  xw_cons (xl_v_0_193 hG dX1_watched_42) <|
  xw_cons (xw_R (xt_i dX1_watched_45)) <|
  xw_nil _
def xp_63 : List (Nat × xm_O) := xp_63_0
theorem xq_63 {G : xm_G} (hG : xm_W xk_B G) (hO : xm_Og G) : ∀ q ∈ xp_63, xm_op xk_B G xd xk_N "LiarsCock" "watched" prog_1_method_60_code 5 (some (FieldType.int)) q.1 q.2 := xq_63_0 hG hO
/- 64: LiarsCock.lastWith(IIII)LLiarsCock$Saying; -/
def xp_64_0 : List (Nat × xm_O) := [
  (0, .inl (xe_aload 0 1)),
  (1, .inl (xe_iload 2 2)),
  (2, .inl (xe_iload 3 3)),
  (3, .inl (xe_iload 4 5)),
  (5, .inr (.inr (.inl (xc_V (xj_1 0 18) [0, 0, 0])))),
  (8, .inl (xe_astore 5 10)),
  (10, .inl (xe_push (.int 0) 11)),
  (11, .inl (xe_istore 6 13)),
  (13, .inl (xe_iload 6 15)),
  (15, .inl (xe_aload 0 16)),
  (16, .inl (xe_getf (xj_1 0 4) 19)),
  (19, .inr (.inr (.inl (xc_V (xj_1 25 280) [])))),
  (22, .inl (xe_icmp (fun x y => decide (y ≤ x)) 97 25)),
  (25, .inl (xe_aload 0 26)),
  (26, .inl (xe_getf (xj_1 0 4) 29)),
  (29, .inl (xe_iload 6 31)),
  (31, .inr (.inr (.inl (xc_V (xj_1 25 281) [0])))),
  (34, .inl (xe_cast (fun ci => ([22] : List Nat).elem ci) 37)),
  (37, .inl (xe_astore 7 39)),
  (39, .inl (xe_iload 1 40)),
  (40, .inl (xe_i2l 41)),
  (41, .inl (xe_iload 6 43)),
  (43, .inr (.inr (.inl (xc_S 6 [0, 1])))),
  (46, .inl (xe_if (fun x => decide (x = 0)) 91 49)),
  (49, .inl (xe_aload 7 51)),
  (51, .inl (xe_getf (xj_1 22 1) 54)),
  (54, .inl (xe_iload 3 55)),
  (55, .inl (xe_icmp (fun x y => decide (y < x)) 91 58)),
  (58, .inl (xe_aload 7 60)),
  (60, .inl (xe_iload 2 61)),
  (61, .inl (xe_iload 4 63)),
  (63, .inr (.inr (.inl (xc_V (xj_1 22 270) [0, 0])))),
  (66, .inl (xe_if (fun x => decide (x = 0)) 91 69)),
  (69, .inl (xe_aload 5 71)),
  (71, .inl (xe_null 87 74)),
  (74, .inl (xe_aload 7 76)),
  (76, .inl (xe_getf (xj_1 22 1) 79)),
  (79, .inl (xe_aload 5 81)),
  (81, .inl (xe_getf (xj_1 22 1) 84)),
  (84, .inl (xe_icmp (fun x y => decide (x < y)) 91 87)),
  (87, .inl (xe_aload 7 89)),
  (89, .inl (xe_astore 5 91)),
  (91, .inl (xe_iinc 6 1 94)),
  (94, .inl (xe_goto 13)),
  (97, .inl (xe_aload 5 99)),
  (99, .inr (.inl xr_a))]
theorem xq_64_0 {G : xm_G} (hG : xm_W xk_B G) (hO : xm_Og G) : ∀ q ∈ xp_64_0, xm_op xk_B G xd xk_N "LiarsCock" "lastWith" prog_1_method_22_code 8 (some ((FieldType.object "LiarsCock$Saying"))) q.1 q.2 :=
  xw_cons (xw_E xn_aload (xo_aload_n dX1_lastWith_0 rfl)) <|
  xw_cons (xw_E xn_iload (xo_iload_n dX1_lastWith_1 rfl)) <|
  xw_cons (xw_E xn_iload (xo_iload_n dX1_lastWith_2 rfl)) <|
  xw_cons (xw_E xn_iload (xo_iload dX1_lastWith_3)) <|
  xw_cons (xl_v_0_168 hG dX1_lastWith_5) <|
  xw_cons (xw_E xn_astore (xo_astore dX1_lastWith_8)) <|
  xw_cons (xw_E xn_push (xo_iconst dX1_lastWith_10 (by decide))) <|
  xw_cons (xw_E xn_istore (xo_istore dX1_lastWith_11)) <|
  xw_cons (xw_E xn_iload (xo_iload dX1_lastWith_13)) <|
  xw_cons (xw_E xn_aload (xo_aload_n dX1_lastWith_15 rfl)) <|
  xw_cons (xw_E xn_getf (xo_getf hG xg_0_31 dX1_lastWith_16)) <|
  xw_cons (xl_v_0_109 hG dX1_lastWith_19) <|
  xw_cons (xw_E xn_icmp (xo_icmp_ge dX1_lastWith_22 (by decide))) <|
  xw_cons (xw_E xn_aload (xo_aload_n dX1_lastWith_25 rfl)) <|
  xw_cons (xw_E xn_getf (xo_getf hG xg_0_31 dX1_lastWith_26)) <|
  xw_cons (xw_E xn_iload (xo_iload dX1_lastWith_29)) <|
  xw_cons (xl_v_0_134 hG dX1_lastWith_31) <|
  xw_cons (xw_E xn_cast (xo_cast hG q1123 xca_0_138 dX1_lastWith_34)) <|
  xw_cons (xw_E xn_astore (xo_astore dX1_lastWith_37)) <|
  xw_cons (xw_E xn_iload (xo_iload_n dX1_lastWith_39 rfl)) <|
  xw_cons (xw_E xn_i2l (xo_i2l dX1_lastWith_40)) <|
  xw_cons (xw_E xn_iload (xo_iload dX1_lastWith_41)) <|
  xw_cons (xl_s_0_172 hG dX1_lastWith_43) <|
  xw_cons (xw_E xn_if (xo_if_eq dX1_lastWith_46 (by decide))) <|
  xw_cons (xw_E xn_aload (xo_aload dX1_lastWith_49)) <|
  xw_cons (xw_E xn_getf (xo_getf hG xg_0_140 dX1_lastWith_51)) <|
  xw_cons (xw_E xn_iload (xo_iload_n dX1_lastWith_54 rfl)) <|
  xw_cons (xw_E xn_icmp (xo_icmp_gt dX1_lastWith_55 (by decide))) <|
  xw_cons (xw_E xn_aload (xo_aload dX1_lastWith_58)) <|
  xw_cons (xw_E xn_iload (xo_iload_n dX1_lastWith_60 rfl)) <|
  xw_cons (xw_E xn_iload (xo_iload dX1_lastWith_61)) <|
  xw_cons (xl_v_0_164 hG dX1_lastWith_63) <|
  xw_cons (xw_E xn_if (xo_if_eq dX1_lastWith_66 (by decide))) <|
  xw_cons (xw_E xn_aload (xo_aload dX1_lastWith_69)) <|
  xw_cons (xw_E xn_null (xo_ifnull dX1_lastWith_71 (by decide))) <|
  xw_cons (xw_E xn_aload (xo_aload dX1_lastWith_74)) <|
  xw_cons (xw_E xn_getf (xo_getf hG xg_0_140 dX1_lastWith_76)) <|
  xw_cons (xw_E xn_aload (xo_aload dX1_lastWith_79)) <|
  xw_cons (xw_E xn_getf (xo_getf hG xg_0_140 dX1_lastWith_81)) <|
  xw_cons (xw_E xn_icmp (xo_icmp_lt dX1_lastWith_84 (by decide))) <|
  xw_cons (xw_E xn_aload (xo_aload dX1_lastWith_87)) <|
  xw_cons (xw_E xn_astore (xo_astore dX1_lastWith_89)) <|
  xw_cons (xw_E xn_iinc (xo_iinc dX1_lastWith_91 (by decide))) <|
  xw_cons (xw_E xn_goto (xo_goto dX1_lastWith_94 (by decide))) <|
  xw_cons (xw_E xn_aload (xo_aload dX1_lastWith_97)) <|
  xw_cons (xw_R (xt_a (Or.inl ⟨_, rfl⟩) dX1_lastWith_99)) <|
  xw_nil _
def xp_64 : List (Nat × xm_O) := xp_64_0
theorem xq_64 {G : xm_G} (hG : xm_W xk_B G) (hO : xm_Og G) : ∀ q ∈ xp_64, xm_op xk_B G xd xk_N "LiarsCock" "lastWith" prog_1_method_22_code 8 (some ((FieldType.object "LiarsCock$Saying"))) q.1 q.2 := xq_64_0 hG hO
/- 65: LiarsCock.hide(II)I -/
def xp_65_0 : List (Nat × xm_O) := [
  (0, .inl (xe_aload 0 1)),
  (1, .inl (xe_iload 1 2)),
  (2, .inr (.inr (.inl (xc_V (xj_1 0 59) [0])))),
  (5, .inl (xe_if (fun x => decide (x = 0)) 15 8)),
  (8, .inl (xe_iload 2 9)),
  (9, .inr (.inr (.inl (xc_S 40 [0])))),
  (12, .inl (xe_if (fun x => decide (¬ x = 0)) 17 15)),
  (15, .inl (xe_push (.int (-1)) 16)),
  (16, .inr (.inl xr_i)),
  (17, .inl (xe_push (.int (-1)) 18)),
  (18, .inl (xe_istore 3 19)),
  (19, .inl (xe_push (.int 0) 20)),
  (20, .inl (xe_istore 4 22)),
  (22, .inl (xe_iload 4 24)),
  (24, .inl (xe_push (.int 1) 25)),
  (25, .inl (xe_aload 0 26)),
  (26, .inl (xe_getf (xj_1 0 4) 29)),
  (29, .inr (.inr (.inl (xc_V (xj_1 25 280) [])))),
  (32, .inl (xe_ii (fun x y => x <<< (y &&& 31)) 33)),
  (33, .inl (xe_icmp (fun x y => decide (y ≤ x)) 74 36)),
  (36, .inl (xe_iload 3 37)),
  (37, .inl (xe_push (.int (-1)) 38)),
  (38, .inl (xe_icmp (fun x y => decide (x = y)) 55 41)),
  (41, .inl (xe_iload 4 43)),
  (43, .inl (xe_i2l 44)),
  (44, .inr (.inr (.inl (xc_S 35 [1])))),
  (47, .inl (xe_iload 3 48)),
  (48, .inl (xe_i2l 49)),
  (49, .inr (.inr (.inl (xc_S 35 [1])))),
  (52, .inl (xe_icmp (fun x y => decide (y ≤ x)) 68 55)),
  (55, .inl (xe_aload 0 56)),
  (56, .inl (xe_iload 1 57)),
  (57, .inl (xe_iload 4 59)),
  (59, .inr (.inr (.inl (xc_V (xj_1 0 61) [0, 0])))),
  (62, .inl (xe_if (fun x => decide (x = 0)) 68 65)),
  (65, .inl (xe_iload 4 67)),
  (67, .inl (xe_istore 3 68)),
  (68, .inl (xe_iinc 4 1 71)),
  (71, .inl (xe_goto 22)),
  (74, .inl (xe_iload 3 75)),
  (75, .inl (xe_iload 2 76)),
  (76, .inr (.inr (.inl (xc_S 45 [0, 0])))),
  (79, .inr (.inl xr_i))]
theorem xq_65_0 {G : xm_G} (hG : xm_W xk_B G) (hO : xm_Og G) : ∀ q ∈ xp_65_0, xm_op xk_B G xd xk_N "LiarsCock" "hide" prog_1_method_65_code 5 (some (FieldType.int)) q.1 q.2 :=
  xw_cons (xw_E xn_aload (xo_aload_n dX1_hide_0 rfl)) <|
  xw_cons (xw_E xn_iload (xo_iload_n dX1_hide_1 rfl)) <|
  xw_cons (xl_v_0_345 hG dX1_hide_2) <|
  xw_cons (xw_E xn_if (xo_if_eq dX1_hide_5 (by decide))) <|
  xw_cons (xw_E xn_iload (xo_iload_n dX1_hide_8 rfl)) <|
  xw_cons (xl_s_0_261 hG dX1_hide_9) <|
  xw_cons (xw_E xn_if (xo_if_ne dX1_hide_12 (by decide))) <|
  xw_cons (xw_E xn_push (xo_iconst dX1_hide_15 (by decide))) <|
  xw_cons (xw_R (xt_i dX1_hide_16)) <|
  xw_cons (xw_E xn_push (xo_iconst dX1_hide_17 (by decide))) <|
  xw_cons (xw_E xn_istore (xo_istore_n dX1_hide_18 rfl)) <|
  xw_cons (xw_E xn_push (xo_iconst dX1_hide_19 (by decide))) <|
  xw_cons (xw_E xn_istore (xo_istore dX1_hide_20)) <|
  xw_cons (xw_E xn_iload (xo_iload dX1_hide_22)) <|
  xw_cons (xw_E xn_push (xo_iconst dX1_hide_24 (by decide))) <|
  xw_cons (xw_E xn_aload (xo_aload_n dX1_hide_25 rfl)) <|
  xw_cons (xw_E xn_getf (xo_getf hG xg_0_31 dX1_hide_26)) <|
  xw_cons (xl_v_0_109 hG dX1_hide_29) <|
  xw_cons (xw_E xn_ii (xo_ishl dX1_hide_32)) <|
  xw_cons (xw_E xn_icmp (xo_icmp_ge dX1_hide_33 (by decide))) <|
  xw_cons (xw_E xn_iload (xo_iload_n dX1_hide_36 rfl)) <|
  xw_cons (xw_E xn_push (xo_iconst dX1_hide_37 (by decide))) <|
  xw_cons (xw_E xn_icmp (xo_icmp_eq dX1_hide_38 (by decide))) <|
  xw_cons (xw_E xn_iload (xo_iload dX1_hide_41)) <|
  xw_cons (xw_E xn_i2l (xo_i2l dX1_hide_43)) <|
  xw_cons (xl_s_0_244 hG dX1_hide_44) <|
  xw_cons (xw_E xn_iload (xo_iload_n dX1_hide_47 rfl)) <|
  xw_cons (xw_E xn_i2l (xo_i2l dX1_hide_48)) <|
  xw_cons (xl_s_0_244 hG dX1_hide_49) <|
  xw_cons (xw_E xn_icmp (xo_icmp_ge dX1_hide_52 (by decide))) <|
  xw_cons (xw_E xn_aload (xo_aload_n dX1_hide_55 rfl)) <|
  xw_cons (xw_E xn_iload (xo_iload_n dX1_hide_56 rfl)) <|
  xw_cons (xw_E xn_iload (xo_iload dX1_hide_57)) <|
  xw_cons (xl_v_0_351 hG dX1_hide_59) <|
  xw_cons (xw_E xn_if (xo_if_eq dX1_hide_62 (by decide))) <|
  xw_cons (xw_E xn_iload (xo_iload dX1_hide_65)) <|
  xw_cons (xw_E xn_istore (xo_istore_n dX1_hide_67 rfl)) <|
  xw_cons (xw_E xn_iinc (xo_iinc dX1_hide_68 (by decide))) <|
  xw_cons (xw_E xn_goto (xo_goto dX1_hide_71 (by decide))) <|
  xw_cons (xw_E xn_iload (xo_iload_n dX1_hide_74 rfl)) <|
  xw_cons (xw_E xn_iload (xo_iload_n dX1_hide_75 rfl)) <|
  xw_cons (xl_s_0_278 hG dX1_hide_76) <|
  xw_cons (xw_R (xt_i dX1_hide_79)) <|
  xw_nil _
def xp_65 : List (Nat × xm_O) := xp_65_0
theorem xq_65 {G : xm_G} (hG : xm_W xk_B G) (hO : xm_Og G) : ∀ q ∈ xp_65, xm_op xk_B G xd xk_N "LiarsCock" "hide" prog_1_method_65_code 5 (some (FieldType.int)) q.1 q.2 := xq_65_0 hG hO
/- 66: LiarsCock.sector(II)I -/
def xp_66_0 : List (Nat × xm_O) := [
  (0, .inl (xe_iload 1 1)),
  (1, .inr (.inr (.inl (xc_S 23 [0])))),
  (4, .inl (xe_if (fun x => decide (x = 0)) 14 7)),
  (7, .inl (xe_iload 2 8)),
  (8, .inr (.inr (.inl (xc_S 23 [0])))),
  (11, .inl (xe_if (fun x => decide (¬ x = 0)) 16 14)),
  (14, .inl (xe_push (.int (-1)) 15)),
  (15, .inr (.inl xr_i)),
  (16, .inl (xe_push (.int 0) 17)),
  (17, .inl (xe_istore 3 18)),
  (18, .inl (xe_push (.int 0) 19)),
  (19, .inl (xe_istore 4 21)),
  (21, .inl (xe_iload 4 23)),
  (23, .inl (xe_aload 0 24)),
  (24, .inl (xe_getf (xj_1 0 1) 27)),
  (27, .inl (xe_getf (xj_1 2 3) 30)),
  (30, .inr (.inr (.inl (xc_V (xj_1 25 280) [])))),
  (33, .inl (xe_icmp (fun x y => decide (y ≤ x)) 66 36)),
  (36, .inl (xe_aload 0 37)),
  (37, .inl (xe_getf (xj_1 0 1) 40)),
  (40, .inl (xe_iload 4 42)),
  (42, .inr (.inr (.inl (xc_V (xj_1 2 122) [0])))),
  (45, .inl (xe_iload 1 46)),
  (46, .inl (xe_iload 2 47)),
  (47, .inr (.inr (.inl (xc_S 31 [0, 0, 0])))),
  (50, .inl (xe_if (fun x => decide (x = 0)) 60 53)),
  (53, .inl (xe_iload 3 54)),
  (54, .inl (xe_push (.int 1) 55)),
  (55, .inl (xe_iload 4 57)),
  (57, .inl (xe_ii (fun x y => x <<< (y &&& 31)) 58)),
  (58, .inl (xe_ii (fun x y => x ||| y) 59)),
  (59, .inl (xe_istore 3 60)),
  (60, .inl (xe_iinc 4 1 63)),
  (63, .inl (xe_goto 21)),
  (66, .inl (xe_iload 3 67)),
  (67, .inr (.inl xr_i))]
theorem xq_66_0 {G : xm_G} (hG : xm_W xk_B G) (hO : xm_Og G) : ∀ q ∈ xp_66_0, xm_op xk_B G xd xk_N "LiarsCock" "sector" prog_1_method_67_code 5 (some (FieldType.int)) q.1 q.2 :=
  xw_cons (xw_E xn_iload (xo_iload_n dX1_sector_0 rfl)) <|
  xw_cons (xl_s_0_206 hG dX1_sector_1) <|
  xw_cons (xw_E xn_if (xo_if_eq dX1_sector_4 (by decide))) <|
  xw_cons (xw_E xn_iload (xo_iload_n dX1_sector_7 rfl)) <|
  xw_cons (xl_s_0_206 hG dX1_sector_8) <|
  xw_cons (xw_E xn_if (xo_if_ne dX1_sector_11 (by decide))) <|
  xw_cons (xw_E xn_push (xo_iconst dX1_sector_14 (by decide))) <|
  xw_cons (xw_R (xt_i dX1_sector_15)) <|
  xw_cons (xw_E xn_push (xo_iconst dX1_sector_16 (by decide))) <|
  xw_cons (xw_E xn_istore (xo_istore_n dX1_sector_17 rfl)) <|
  xw_cons (xw_E xn_push (xo_iconst dX1_sector_18 (by decide))) <|
  xw_cons (xw_E xn_istore (xo_istore dX1_sector_19)) <|
  xw_cons (xw_E xn_iload (xo_iload dX1_sector_21)) <|
  xw_cons (xw_E xn_aload (xo_aload_n dX1_sector_23 rfl)) <|
  xw_cons (xw_E xn_getf (xo_getf hG xg_0_20 dX1_sector_24)) <|
  xw_cons (xw_E xn_getf (xo_getf hG xg_0_117 dX1_sector_27)) <|
  xw_cons (xl_v_0_109 hG dX1_sector_30) <|
  xw_cons (xw_E xn_icmp (xo_icmp_ge dX1_sector_33 (by decide))) <|
  xw_cons (xw_E xn_aload (xo_aload_n dX1_sector_36 rfl)) <|
  xw_cons (xw_E xn_getf (xo_getf hG xg_0_20 dX1_sector_37)) <|
  xw_cons (xw_E xn_iload (xo_iload dX1_sector_40)) <|
  xw_cons (xl_v_0_193 hG dX1_sector_42) <|
  xw_cons (xw_E xn_iload (xo_iload_n dX1_sector_45 rfl)) <|
  xw_cons (xw_E xn_iload (xo_iload_n dX1_sector_46 rfl)) <|
  xw_cons (xl_s_0_359 hG dX1_sector_47) <|
  xw_cons (xw_E xn_if (xo_if_eq dX1_sector_50 (by decide))) <|
  xw_cons (xw_E xn_iload (xo_iload_n dX1_sector_53 rfl)) <|
  xw_cons (xw_E xn_push (xo_iconst dX1_sector_54 (by decide))) <|
  xw_cons (xw_E xn_iload (xo_iload dX1_sector_55)) <|
  xw_cons (xw_E xn_ii (xo_ishl dX1_sector_57)) <|
  xw_cons (xw_E xn_ii (xo_ior dX1_sector_58)) <|
  xw_cons (xw_E xn_istore (xo_istore_n dX1_sector_59 rfl)) <|
  xw_cons (xw_E xn_iinc (xo_iinc dX1_sector_60 (by decide))) <|
  xw_cons (xw_E xn_goto (xo_goto dX1_sector_63 (by decide))) <|
  xw_cons (xw_E xn_iload (xo_iload_n dX1_sector_66 rfl)) <|
  xw_cons (xw_R (xt_i dX1_sector_67)) <|
  xw_nil _
def xp_66 : List (Nat × xm_O) := xp_66_0
theorem xq_66 {G : xm_G} (hG : xm_W xk_B G) (hO : xm_Og G) : ∀ q ∈ xp_66, xm_op xk_B G xd xk_N "LiarsCock" "sector" prog_1_method_67_code 5 (some (FieldType.int)) q.1 q.2 := xq_66_0 hG hO
/- 67: LiarsCock.blind(II)I -/
def xp_67_0 : List (Nat × xm_O) := [
  (0, .inl (xe_iload 1 1)),
  (1, .inl (xe_push (.int 0) 2)),
  (2, .inl (xe_push (.int 180) 5)),
  (5, .inr (.inr (.inl (xc_S 4 [0, 0, 0])))),
  (8, .inl (xe_if (fun x => decide (x = 0)) 18 11)),
  (11, .inl (xe_iload 2 12)),
  (12, .inr (.inr (.inl (xc_S 40 [0])))),
  (15, .inl (xe_if (fun x => decide (¬ x = 0)) 20 18)),
  (18, .inl (xe_push (.int (-1)) 19)),
  (19, .inr (.inl xr_i)),
  (20, .inl (xe_push (.int 0) 21)),
  (21, .inl (xe_istore 3 22)),
  (22, .inl (xe_push (.int 0) 23)),
  (23, .inl (xe_istore 4 25)),
  (25, .inl (xe_iload 4 27)),
  (27, .inl (xe_aload 0 28)),
  (28, .inl (xe_getf (xj_1 0 1) 31)),
  (31, .inl (xe_getf (xj_1 2 3) 34)),
  (34, .inr (.inr (.inl (xc_V (xj_1 25 280) [])))),
  (37, .inl (xe_icmp (fun x y => decide (y ≤ x)) 102 40)),
  (40, .inl (xe_iload 2 41)),
  (41, .inl (xe_push (.int 1) 42)),
  (42, .inl (xe_icmp (fun x y => decide (¬ x = y)) 61 45)),
  (45, .inl (xe_iload 3 46)),
  (46, .inl (xe_aload 0 47)),
  (47, .inl (xe_iload 4 49)),
  (49, .inl (xe_iload 1 50)),
  (50, .inr (.inr (.inl (xc_V (xj_1 0 68) [0, 0])))),
  (53, .inl (xe_i2l 54)),
  (54, .inr (.inr (.inl (xc_S 35 [1])))),
  (57, .inr (.inr (.inl (xc_S 301 [0, 0])))),
  (60, .inl (xe_istore 3 61)),
  (61, .inl (xe_push (.int 0) 62)),
  (62, .inl (xe_istore 5 64)),
  (64, .inl (xe_iload 5 66)),
  (66, .inl (xe_iload 4 68)),
  (68, .inl (xe_icmp (fun x y => decide (y ≤ x)) 96 71)),
  (71, .inl (xe_iload 2 72)),
  (72, .inl (xe_if (fun x => decide (¬ x = 0)) 96 75)),
  (75, .inl (xe_aload 0 76)),
  (76, .inl (xe_iload 4 78)),
  (78, .inl (xe_iload 5 80)),
  (80, .inl (xe_iload 1 81)),
  (81, .inr (.inr (.inl (xc_V (xj_1 0 69) [0, 0, 0])))),
  (84, .inl (xe_if (fun x => decide (x = 0)) 90 87)),
  (87, .inl (xe_iinc 3 1 90)),
  (90, .inl (xe_iinc 5 1 93)),
  (93, .inl (xe_goto 64)),
  (96, .inl (xe_iinc 4 1 99)),
  (99, .inl (xe_goto 25))]
theorem xq_67_0 {G : xm_G} (hG : xm_W xk_B G) (hO : xm_Og G) : ∀ q ∈ xp_67_0, xm_op xk_B G xd xk_N "LiarsCock" "blind" prog_1_method_70_code 6 (some (FieldType.int)) q.1 q.2 :=
  xw_cons (xw_E xn_iload (xo_iload_n dX1_blind_0 rfl)) <|
  xw_cons (xw_E xn_push (xo_iconst dX1_blind_1 (by decide))) <|
  xw_cons (xw_E xn_push (xo_sipush dX1_blind_2 (by decide))) <|
  xw_cons (xl_s_0_113 hG dX1_blind_5) <|
  xw_cons (xw_E xn_if (xo_if_eq dX1_blind_8 (by decide))) <|
  xw_cons (xw_E xn_iload (xo_iload_n dX1_blind_11 rfl)) <|
  xw_cons (xl_s_0_261 hG dX1_blind_12) <|
  xw_cons (xw_E xn_if (xo_if_ne dX1_blind_15 (by decide))) <|
  xw_cons (xw_E xn_push (xo_iconst dX1_blind_18 (by decide))) <|
  xw_cons (xw_R (xt_i dX1_blind_19)) <|
  xw_cons (xw_E xn_push (xo_iconst dX1_blind_20 (by decide))) <|
  xw_cons (xw_E xn_istore (xo_istore_n dX1_blind_21 rfl)) <|
  xw_cons (xw_E xn_push (xo_iconst dX1_blind_22 (by decide))) <|
  xw_cons (xw_E xn_istore (xo_istore dX1_blind_23)) <|
  xw_cons (xw_E xn_iload (xo_iload dX1_blind_25)) <|
  xw_cons (xw_E xn_aload (xo_aload_n dX1_blind_27 rfl)) <|
  xw_cons (xw_E xn_getf (xo_getf hG xg_0_20 dX1_blind_28)) <|
  xw_cons (xw_E xn_getf (xo_getf hG xg_0_117 dX1_blind_31)) <|
  xw_cons (xl_v_0_109 hG dX1_blind_34) <|
  xw_cons (xw_E xn_icmp (xo_icmp_ge dX1_blind_37 (by decide))) <|
  xw_cons (xw_E xn_iload (xo_iload_n dX1_blind_40 rfl)) <|
  xw_cons (xw_E xn_push (xo_iconst dX1_blind_41 (by decide))) <|
  xw_cons (xw_E xn_icmp (xo_icmp_ne dX1_blind_42 (by decide))) <|
  xw_cons (xw_E xn_iload (xo_iload_n dX1_blind_45 rfl)) <|
  xw_cons (xw_E xn_aload (xo_aload_n dX1_blind_46 rfl)) <|
  xw_cons (xw_E xn_iload (xo_iload dX1_blind_47)) <|
  xw_cons (xw_E xn_iload (xo_iload_n dX1_blind_49 rfl)) <|
  xw_cons (xl_v_0_365 hG dX1_blind_50) <|
  xw_cons (xw_E xn_i2l (xo_i2l dX1_blind_53)) <|
  xw_cons (xl_s_0_244 hG dX1_blind_54) <|
  xw_cons (xl_s_0_368 hG dX1_blind_57) <|
  xw_cons (xw_E xn_istore (xo_istore_n dX1_blind_60 rfl)) <|
  xw_cons (xw_E xn_push (xo_iconst dX1_blind_61 (by decide))) <|
  xw_cons (xw_E xn_istore (xo_istore dX1_blind_62)) <|
  xw_cons (xw_E xn_iload (xo_iload dX1_blind_64)) <|
  xw_cons (xw_E xn_iload (xo_iload dX1_blind_66)) <|
  xw_cons (xw_E xn_icmp (xo_icmp_ge dX1_blind_68 (by decide))) <|
  xw_cons (xw_E xn_iload (xo_iload_n dX1_blind_71 rfl)) <|
  xw_cons (xw_E xn_if (xo_if_ne dX1_blind_72 (by decide))) <|
  xw_cons (xw_E xn_aload (xo_aload_n dX1_blind_75 rfl)) <|
  xw_cons (xw_E xn_iload (xo_iload dX1_blind_76)) <|
  xw_cons (xw_E xn_iload (xo_iload dX1_blind_78)) <|
  xw_cons (xw_E xn_iload (xo_iload_n dX1_blind_80 rfl)) <|
  xw_cons (xl_v_0_362 hG dX1_blind_81) <|
  xw_cons (xw_E xn_if (xo_if_eq dX1_blind_84 (by decide))) <|
  xw_cons (xw_E xn_iinc (xo_iinc dX1_blind_87 (by decide))) <|
  xw_cons (xw_E xn_iinc (xo_iinc dX1_blind_90 (by decide))) <|
  xw_cons (xw_E xn_goto (xo_goto dX1_blind_93 (by decide))) <|
  xw_cons (xw_E xn_iinc (xo_iinc dX1_blind_96 (by decide))) <|
  xw_cons (xw_E xn_goto (xo_goto dX1_blind_99 (by decide))) <|
  xw_nil _
def xp_67_1 : List (Nat × xm_O) := [
  (102, .inl (xe_iload 3 103)),
  (103, .inr (.inl xr_i))]
theorem xq_67_1 {G : xm_G} (hG : xm_W xk_B G) (hO : xm_Og G) : ∀ q ∈ xp_67_1, xm_op xk_B G xd xk_N "LiarsCock" "blind" prog_1_method_70_code 6 (some (FieldType.int)) q.1 q.2 :=
  xw_cons (xw_E xn_iload (xo_iload_n dX1_blind_102 rfl)) <|
  xw_cons (xw_R (xt_i dX1_blind_103)) <|
  xw_nil _
def xp_67 : List (Nat × xm_O) := xp_67_0 ++ xp_67_1
theorem xq_67 {G : xm_G} (hG : xm_W xk_B G) (hO : xm_Og G) : ∀ q ∈ xp_67, xm_op xk_B G xd xk_N "LiarsCock" "blind" prog_1_method_70_code 6 (some (FieldType.int)) q.1 q.2 := xw_app (xq_67_0 hG hO) (xq_67_1 hG hO)
/- 68: LiarsCock.crowd(II)I -/
def xp_68_0 : List (Nat × xm_O) := [
  (0, .inl (xe_push (.int 1) 1)),
  (1, .inl (xe_iload 1 2)),
  (2, .inl (xe_ii (fun x y => x <<< (y &&& 31)) 3)),
  (3, .inl (xe_istore 3 4)),
  (4, .inl (xe_push (.int 1) 5)),
  (5, .inl (xe_istore 4 7)),
  (7, .inl (xe_iload 4 9)),
  (9, .inl (xe_if (fun x => decide (x = 0)) 111 12)),
  (12, .inl (xe_push (.int 0) 13)),
  (13, .inl (xe_istore 4 15)),
  (15, .inl (xe_push (.int 0) 16)),
  (16, .inl (xe_istore 5 18)),
  (18, .inl (xe_iload 5 20)),
  (20, .inl (xe_aload 0 21)),
  (21, .inl (xe_getf (xj_1 0 1) 24)),
  (24, .inl (xe_getf (xj_1 2 3) 27)),
  (27, .inr (.inr (.inl (xc_V (xj_1 25 280) [])))),
  (30, .inl (xe_icmp (fun x y => decide (y ≤ x)) 108 33)),
  (33, .inl (xe_push (.int 0) 34)),
  (34, .inl (xe_istore 6 36)),
  (36, .inl (xe_iload 6 38)),
  (38, .inl (xe_aload 0 39)),
  (39, .inl (xe_getf (xj_1 0 1) 42)),
  (42, .inl (xe_getf (xj_1 2 3) 45)),
  (45, .inr (.inr (.inl (xc_V (xj_1 25 280) [])))),
  (48, .inl (xe_icmp (fun x y => decide (y ≤ x)) 102 51)),
  (51, .inl (xe_iload 3 52)),
  (52, .inl (xe_i2l 53)),
  (53, .inl (xe_iload 5 55)),
  (55, .inr (.inr (.inl (xc_S 6 [0, 1])))),
  (58, .inl (xe_if (fun x => decide (x = 0)) 96 61)),
  (61, .inl (xe_iload 3 62)),
  (62, .inl (xe_i2l 63)),
  (63, .inl (xe_iload 6 65)),
  (65, .inr (.inr (.inl (xc_S 6 [0, 1])))),
  (68, .inl (xe_if (fun x => decide (¬ x = 0)) 96 71)),
  (71, .inl (xe_aload 0 72)),
  (72, .inl (xe_iload 5 74)),
  (74, .inl (xe_iload 6 76)),
  (76, .inl (xe_iload 2 77)),
  (77, .inr (.inr (.inl (xc_V (xj_1 0 69) [0, 0, 0])))),
  (80, .inl (xe_if (fun x => decide (¬ x = 0)) 86 83)),
  (83, .inl (xe_goto 96)),
  (86, .inl (xe_iload 3 87)),
  (87, .inl (xe_push (.int 1) 88)),
  (88, .inl (xe_iload 6 90)),
  (90, .inl (xe_ii (fun x y => x <<< (y &&& 31)) 91)),
  (91, .inl (xe_ii (fun x y => x ||| y) 92)),
  (92, .inl (xe_istore 3 93)),
  (93, .inl (xe_push (.int 1) 94))]
theorem xq_68_0 {G : xm_G} (hG : xm_W xk_B G) (hO : xm_Og G) : ∀ q ∈ xp_68_0, xm_op xk_B G xd xk_N "LiarsCock" "crowd" prog_1_method_69_code 7 (some (FieldType.int)) q.1 q.2 :=
  xw_cons (xw_E xn_push (xo_iconst dX1_crowd_0 (by decide))) <|
  xw_cons (xw_E xn_iload (xo_iload_n dX1_crowd_1 rfl)) <|
  xw_cons (xw_E xn_ii (xo_ishl dX1_crowd_2)) <|
  xw_cons (xw_E xn_istore (xo_istore_n dX1_crowd_3 rfl)) <|
  xw_cons (xw_E xn_push (xo_iconst dX1_crowd_4 (by decide))) <|
  xw_cons (xw_E xn_istore (xo_istore dX1_crowd_5)) <|
  xw_cons (xw_E xn_iload (xo_iload dX1_crowd_7)) <|
  xw_cons (xw_E xn_if (xo_if_eq dX1_crowd_9 (by decide))) <|
  xw_cons (xw_E xn_push (xo_iconst dX1_crowd_12 (by decide))) <|
  xw_cons (xw_E xn_istore (xo_istore dX1_crowd_13)) <|
  xw_cons (xw_E xn_push (xo_iconst dX1_crowd_15 (by decide))) <|
  xw_cons (xw_E xn_istore (xo_istore dX1_crowd_16)) <|
  xw_cons (xw_E xn_iload (xo_iload dX1_crowd_18)) <|
  xw_cons (xw_E xn_aload (xo_aload_n dX1_crowd_20 rfl)) <|
  xw_cons (xw_E xn_getf (xo_getf hG xg_0_20 dX1_crowd_21)) <|
  xw_cons (xw_E xn_getf (xo_getf hG xg_0_117 dX1_crowd_24)) <|
  xw_cons (xl_v_0_109 hG dX1_crowd_27) <|
  xw_cons (xw_E xn_icmp (xo_icmp_ge dX1_crowd_30 (by decide))) <|
  xw_cons (xw_E xn_push (xo_iconst dX1_crowd_33 (by decide))) <|
  xw_cons (xw_E xn_istore (xo_istore dX1_crowd_34)) <|
  xw_cons (xw_E xn_iload (xo_iload dX1_crowd_36)) <|
  xw_cons (xw_E xn_aload (xo_aload_n dX1_crowd_38 rfl)) <|
  xw_cons (xw_E xn_getf (xo_getf hG xg_0_20 dX1_crowd_39)) <|
  xw_cons (xw_E xn_getf (xo_getf hG xg_0_117 dX1_crowd_42)) <|
  xw_cons (xl_v_0_109 hG dX1_crowd_45) <|
  xw_cons (xw_E xn_icmp (xo_icmp_ge dX1_crowd_48 (by decide))) <|
  xw_cons (xw_E xn_iload (xo_iload_n dX1_crowd_51 rfl)) <|
  xw_cons (xw_E xn_i2l (xo_i2l dX1_crowd_52)) <|
  xw_cons (xw_E xn_iload (xo_iload dX1_crowd_53)) <|
  xw_cons (xl_s_0_172 hG dX1_crowd_55) <|
  xw_cons (xw_E xn_if (xo_if_eq dX1_crowd_58 (by decide))) <|
  xw_cons (xw_E xn_iload (xo_iload_n dX1_crowd_61 rfl)) <|
  xw_cons (xw_E xn_i2l (xo_i2l dX1_crowd_62)) <|
  xw_cons (xw_E xn_iload (xo_iload dX1_crowd_63)) <|
  xw_cons (xl_s_0_172 hG dX1_crowd_65) <|
  xw_cons (xw_E xn_if (xo_if_ne dX1_crowd_68 (by decide))) <|
  xw_cons (xw_E xn_aload (xo_aload_n dX1_crowd_71 rfl)) <|
  xw_cons (xw_E xn_iload (xo_iload dX1_crowd_72)) <|
  xw_cons (xw_E xn_iload (xo_iload dX1_crowd_74)) <|
  xw_cons (xw_E xn_iload (xo_iload_n dX1_crowd_76 rfl)) <|
  xw_cons (xl_v_0_362 hG dX1_crowd_77) <|
  xw_cons (xw_E xn_if (xo_if_ne dX1_crowd_80 (by decide))) <|
  xw_cons (xw_E xn_goto (xo_goto dX1_crowd_83 (by decide))) <|
  xw_cons (xw_E xn_iload (xo_iload_n dX1_crowd_86 rfl)) <|
  xw_cons (xw_E xn_push (xo_iconst dX1_crowd_87 (by decide))) <|
  xw_cons (xw_E xn_iload (xo_iload dX1_crowd_88)) <|
  xw_cons (xw_E xn_ii (xo_ishl dX1_crowd_90)) <|
  xw_cons (xw_E xn_ii (xo_ior dX1_crowd_91)) <|
  xw_cons (xw_E xn_istore (xo_istore_n dX1_crowd_92 rfl)) <|
  xw_cons (xw_E xn_push (xo_iconst dX1_crowd_93 (by decide))) <|
  xw_nil _
def xp_68_1 : List (Nat × xm_O) := [
  (94, .inl (xe_istore 4 96)),
  (96, .inl (xe_iinc 6 1 99)),
  (99, .inl (xe_goto 36)),
  (102, .inl (xe_iinc 5 1 105)),
  (105, .inl (xe_goto 18)),
  (108, .inl (xe_goto 7)),
  (111, .inl (xe_iload 3 112)),
  (112, .inr (.inl xr_i))]
theorem xq_68_1 {G : xm_G} (hG : xm_W xk_B G) (hO : xm_Og G) : ∀ q ∈ xp_68_1, xm_op xk_B G xd xk_N "LiarsCock" "crowd" prog_1_method_69_code 7 (some (FieldType.int)) q.1 q.2 :=
  xw_cons (xw_E xn_istore (xo_istore dX1_crowd_94)) <|
  xw_cons (xw_E xn_iinc (xo_iinc dX1_crowd_96 (by decide))) <|
  xw_cons (xw_E xn_goto (xo_goto dX1_crowd_99 (by decide))) <|
  xw_cons (xw_E xn_iinc (xo_iinc dX1_crowd_102 (by decide))) <|
  xw_cons (xw_E xn_goto (xo_goto dX1_crowd_105 (by decide))) <|
  xw_cons (xw_E xn_goto (xo_goto dX1_crowd_108 (by decide))) <|
  xw_cons (xw_E xn_iload (xo_iload_n dX1_crowd_111 rfl)) <|
  xw_cons (xw_R (xt_i dX1_crowd_112)) <|
  xw_nil _
def xp_68 : List (Nat × xm_O) := xp_68_0 ++ xp_68_1
theorem xq_68 {G : xm_G} (hG : xm_W xk_B G) (hO : xm_Og G) : ∀ q ∈ xp_68, xm_op xk_B G xd xk_N "LiarsCock" "crowd" prog_1_method_69_code 7 (some (FieldType.int)) q.1 q.2 := xw_app (xq_68_0 hG hO) (xq_68_1 hG hO)
/- 69: LiarsCock.areBlind(III)Z -/
def xp_69_0 : List (Nat × xm_O) := [
  (0, .inl (xe_aload 0 1)),
  (1, .inl (xe_getf (xj_1 0 1) 4)),
  (4, .inl (xe_iload 1 5)),
  (5, .inr (.inr (.inl (xc_V (xj_1 2 122) [0])))),
  (8, .inl (xe_aload 0 9)),
  (9, .inl (xe_getf (xj_1 0 1) 12)),
  (12, .inl (xe_iload 2 13)),
  (13, .inr (.inr (.inl (xc_V (xj_1 2 122) [0])))),
  (16, .inr (.inr (.inl (xc_S 57 [0, 0])))),
  (19, .inl (xe_iload 3 20)),
  (20, .inl (xe_icmp (fun x y => decide (y < x)) 27 23)),
  (23, .inl (xe_push (.int 1) 24)),
  (24, .inl (xe_goto 28)),
  (27, .inl (xe_push (.int 0) 28)),
  (28, .inr (.inl xr_z))]
theorem xq_69_0 {G : xm_G} (hG : xm_W xk_B G) (hO : xm_Og G) : ∀ q ∈ xp_69_0, xm_op xk_B G xd xk_N "LiarsCock" "areBlind" prog_1_method_68_code 4 (some (FieldType.boolean)) q.1 q.2 :=
  xw_cons (xw_E xn_aload (xo_aload_n dX1_areBlind_0 rfl)) <|
  xw_cons (xw_E xn_getf (xo_getf hG xg_0_20 dX1_areBlind_1)) <|
  xw_cons (xw_E xn_iload (xo_iload_n dX1_areBlind_4 rfl)) <|
  xw_cons (xl_v_0_193 hG dX1_areBlind_5) <|
  xw_cons (xw_E xn_aload (xo_aload_n dX1_areBlind_8 rfl)) <|
  xw_cons (xw_E xn_getf (xo_getf hG xg_0_20 dX1_areBlind_9)) <|
  xw_cons (xw_E xn_iload (xo_iload_n dX1_areBlind_12 rfl)) <|
  xw_cons (xl_v_0_193 hG dX1_areBlind_13) <|
  xw_cons (xl_s_0_331 hG dX1_areBlind_16) <|
  xw_cons (xw_E xn_iload (xo_iload_n dX1_areBlind_19 rfl)) <|
  xw_cons (xw_E xn_icmp (xo_icmp_gt dX1_areBlind_20 (by decide))) <|
  xw_cons (xw_E xn_push (xo_iconst dX1_areBlind_23 (by decide))) <|
  xw_cons (xw_E xn_goto (xo_goto dX1_areBlind_24 (by decide))) <|
  xw_cons (xw_E xn_push (xo_iconst dX1_areBlind_27 (by decide))) <|
  xw_cons (xw_R (xt_z dX1_areBlind_28)) <|
  xw_nil _
def xp_69 : List (Nat × xm_O) := xp_69_0
theorem xq_69 {G : xm_G} (hG : xm_W xk_B G) (hO : xm_Og G) : ∀ q ∈ xp_69, xm_op xk_B G xd xk_N "LiarsCock" "areBlind" prog_1_method_68_code 4 (some (FieldType.boolean)) q.1 q.2 := xq_69_0 hG hO
/- 70: LiarsCock.told(I)I -/
def xp_70_0 : List (Nat × xm_O) := [
  (0, .inl (xe_iload 1 1)),
  (1, .inl (xe_push (.int 0) 2)),
  (2, .inl (xe_aload 0 3)),
  (3, .inr (.inr (.inl (xc_V (xj_1 0 71) [])))),
  (6, .inr (.inr (.inl (xc_S 4 [0, 0, 0])))),
  (9, .inl (xe_if (fun x => decide (x = 0)) 20 12)),
  (12, .inl (xe_aload 0 13)),
  (13, .inl (xe_iload 1 14)),
  (14, .inr (.inr (.inl (xc_V (xj_1 0 72) [0])))),
  (17, .inl (xe_goto 21)),
  (20, .inl (xe_push (.int (-1)) 21)),
  (21, .inr (.inl xr_i))]
theorem xq_70_0 {G : xm_G} (hG : xm_W xk_B G) (hO : xm_Og G) : ∀ q ∈ xp_70_0, xm_op xk_B G xd xk_N "LiarsCock" "told" prog_1_method_74_code 2 (some (FieldType.int)) q.1 q.2 :=
  xw_cons (xw_E xn_iload (xo_iload_n dX1_told_3_0 rfl)) <|
  xw_cons (xw_E xn_push (xo_iconst dX1_told_3_1 (by decide))) <|
  xw_cons (xw_E xn_aload (xo_aload_n dX1_told_3_2 rfl)) <|
  xw_cons (xl_v_0_374 hG dX1_told_3_3) <|
  xw_cons (xl_s_0_113 hG dX1_told_3_6) <|
  xw_cons (xw_E xn_if (xo_if_eq dX1_told_3_9 (by decide))) <|
  xw_cons (xw_E xn_aload (xo_aload_n dX1_told_3_12 rfl)) <|
  xw_cons (xw_E xn_iload (xo_iload_n dX1_told_3_13 rfl)) <|
  xw_cons (xl_v_0_377 hG dX1_told_3_14) <|
  xw_cons (xw_E xn_goto (xo_goto dX1_told_3_17 (by decide))) <|
  xw_cons (xw_E xn_push (xo_iconst dX1_told_3_20 (by decide))) <|
  xw_cons (xw_R (xt_i dX1_told_3_21)) <|
  xw_nil _
def xp_70 : List (Nat × xm_O) := xp_70_0
theorem xq_70 {G : xm_G} (hG : xm_W xk_B G) (hO : xm_Og G) : ∀ q ∈ xp_70, xm_op xk_B G xd xk_N "LiarsCock" "told" prog_1_method_74_code 2 (some (FieldType.int)) q.1 q.2 := xq_70_0 hG hO
