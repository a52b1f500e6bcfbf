/-! rows of methods, by program -/
set_option maxRecDepth 100000
/- 183: LiarsCockModel.liesOf(I)V -/
def xp_183_0 : List (Nat × xm_O) := [
  (0, .inl (xe_push (.int 0) 1)),
  (1, .inl (xe_istore 2 2)),
  (2, .inl (xe_iload 2 3)),
  (3, .inl (xe_push (.int 2) 4)),
  (4, .inl (xe_icmp (fun x y => decide (y ≤ x)) 72 7)),
  (7, .inl (xe_aload 0 8)),
  (8, .inl (xe_getf (xj_1 8 51) 11)),
  (11, .inl (xe_push (.int 31) 13)),
  (13, .inl (xe_iload 2 14)),
  (14, .inl (xe_ii (fun x y => x * y) 15)),
  (15, .inl (xe_iload 1 16)),
  (16, .inl (xe_ii (fun x y => x + y) 17)),
  (17, .inl (xe_push (.long 0) 18)),
  (18, .inl (xe_ast 300 1 (xm_kd 1) 19)),
  (19, .inl (xe_push (.int 0) 20)),
  (20, .inl (xe_istore 3 21)),
  (21, .inl (xe_iload 3 22)),
  (22, .inl (xe_push (.int 1) 23)),
  (23, .inl (xe_aload 0 24)),
  (24, .inl (xe_getf (xj_1 8 10) 27)),
  (27, .inl (xe_push (.int 0) 28)),
  (28, .inl (xe_ald (fun t => t == 0) 29)),
  (29, .inl (xe_ii (fun x y => x <<< (y &&& 31)) 30)),
  (30, .inl (xe_icmp (fun x y => decide (y ≤ x)) 66 33)),
  (33, .inl (xe_aload 0 34)),
  (34, .inl (xe_iload 1 35)),
  (35, .inl (xe_iload 2 36)),
  (36, .inl (xe_iload 3 37)),
  (37, .inr (.inr (.inl (xc_V (xj_1 8 178) [0, 0, 0])))),
  (40, .inl (xe_if (fun x => decide (x = 0)) 60 43)),
  (43, .inl (xe_aload 0 44)),
  (44, .inl (xe_getf (xj_1 8 51) 47)),
  (47, .inl (xe_push (.int 31) 49)),
  (49, .inl (xe_iload 2 50)),
  (50, .inl (xe_ii (fun x y => x * y) 51)),
  (51, .inl (xe_iload 1 52)),
  (52, .inl (xe_ii (fun x y => x + y) 53)),
  (53, .inl (xe_dup2 54)),
  (54, .inl (xe_ald (fun t => t == 1) 55)),
  (55, .inl (xe_push (.long 1) 56)),
  (56, .inl (xe_iload 3 57)),
  (57, .inl (xe_li (fun x y => x <<< (y.toInt64 &&& 63)) 58)),
  (58, .inl (xe_ll (fun x y => x ||| y) 59)),
  (59, .inl (xe_ast 300 1 (xm_kd 1) 60)),
  (60, .inl (xe_iinc 3 1 63)),
  (63, .inl (xe_goto 21)),
  (66, .inl (xe_iinc 2 1 69)),
  (69, .inl (xe_goto 2)),
  (72, .inr (.inl xr_v))]
theorem xq_183_0 {G : xm_G} (hG : xm_W xk_B G) (hO : xm_Og G) : ∀ q ∈ xp_183_0, xm_op xk_B G xd xk_N "LiarsCockModel" "liesOf" prog_28_method_48_code 4 none q.1 q.2 :=
  xw_cons (xw_E xn_push (xo_iconst dX9_liesOf_0 (by decide))) <|
  xw_cons (xw_E xn_istore (xo_istore_n dX9_liesOf_1 rfl)) <|
  xw_cons (xw_E xn_iload (xo_iload_n dX9_liesOf_2 rfl)) <|
  xw_cons (xw_E xn_push (xo_iconst dX9_liesOf_3 (by decide))) <|
  xw_cons (xw_E xn_icmp (xo_icmp_ge dX9_liesOf_4 (by decide))) <|
  xw_cons (xw_E xn_aload (xo_aload_n dX9_liesOf_7 rfl)) <|
  xw_cons (xw_E xn_getf (xo_getf hG xg_27_111 dX9_liesOf_8)) <|
  xw_cons (xw_E xn_push (xo_bipush dX9_liesOf_11 (by decide))) <|
  xw_cons (xw_E xn_iload (xo_iload_n dX9_liesOf_13 rfl)) <|
  xw_cons (xw_E xn_ii (xo_imul dX9_liesOf_14)) <|
  xw_cons (xw_E xn_iload (xo_iload_n dX9_liesOf_15 rfl)) <|
  xw_cons (xw_E xn_ii (xo_iadd dX9_liesOf_16)) <|
  xw_cons (xw_E xn_push (xo_lconst dX9_liesOf_17 (by decide))) <|
  xw_cons (xw_E xn_ast (xo_last hG xk_hB rfl dX9_liesOf_18)) <|
  xw_cons (xw_E xn_push (xo_iconst dX9_liesOf_19 (by decide))) <|
  xw_cons (xw_E xn_istore (xo_istore_n dX9_liesOf_20 rfl)) <|
  xw_cons (xw_E xn_iload (xo_iload_n dX9_liesOf_21 rfl)) <|
  xw_cons (xw_E xn_push (xo_iconst dX9_liesOf_22 (by decide))) <|
  xw_cons (xw_E xn_aload (xo_aload_n dX9_liesOf_23 rfl)) <|
  xw_cons (xw_E xn_getf (xo_getf hG xg_27_13 dX9_liesOf_24)) <|
  xw_cons (xw_E xn_push (xo_iconst dX9_liesOf_27 (by decide))) <|
  xw_cons (xw_E xn_ald (xo_iald xk_hB dX9_liesOf_28)) <|
  xw_cons (xw_E xn_ii (xo_ishl dX9_liesOf_29)) <|
  xw_cons (xw_E xn_icmp (xo_icmp_ge dX9_liesOf_30 (by decide))) <|
  xw_cons (xw_E xn_aload (xo_aload_n dX9_liesOf_33 rfl)) <|
  xw_cons (xw_E xn_iload (xo_iload_n dX9_liesOf_34 rfl)) <|
  xw_cons (xw_E xn_iload (xo_iload_n dX9_liesOf_35 rfl)) <|
  xw_cons (xw_E xn_iload (xo_iload_n dX9_liesOf_36 rfl)) <|
  xw_cons (xl_v_27_358 hG dX9_liesOf_37) <|
  xw_cons (xw_E xn_if (xo_if_eq dX9_liesOf_40 (by decide))) <|
  xw_cons (xw_E xn_aload (xo_aload_n dX9_liesOf_43 rfl)) <|
  xw_cons (xw_E xn_getf (xo_getf hG xg_27_111 dX9_liesOf_44)) <|
  xw_cons (xw_E xn_push (xo_bipush dX9_liesOf_47 (by decide))) <|
  xw_cons (xw_E xn_iload (xo_iload_n dX9_liesOf_49 rfl)) <|
  xw_cons (xw_E xn_ii (xo_imul dX9_liesOf_50)) <|
  xw_cons (xw_E xn_iload (xo_iload_n dX9_liesOf_51 rfl)) <|
  xw_cons (xw_E xn_ii (xo_iadd dX9_liesOf_52)) <|
  xw_cons (xw_E xn_dup2 (xo_dup2 dX9_liesOf_53)) <|
  xw_cons (xw_E xn_ald (xo_lald xk_hB dX9_liesOf_54)) <|
  xw_cons (xw_E xn_push (xo_lconst dX9_liesOf_55 (by decide))) <|
  xw_cons (xw_E xn_iload (xo_iload_n dX9_liesOf_56 rfl)) <|
  xw_cons (xw_E xn_li (xo_lshl dX9_liesOf_57)) <|
  xw_cons (xw_E xn_ll (xo_lor dX9_liesOf_58)) <|
  xw_cons (xw_E xn_ast (xo_last hG xk_hB rfl dX9_liesOf_59)) <|
  xw_cons (xw_E xn_iinc (xo_iinc dX9_liesOf_60 (by decide))) <|
  xw_cons (xw_E xn_goto (xo_goto dX9_liesOf_63 (by decide))) <|
  xw_cons (xw_E xn_iinc (xo_iinc dX9_liesOf_66 (by decide))) <|
  xw_cons (xw_E xn_goto (xo_goto dX9_liesOf_69 (by decide))) <|
  xw_cons (xw_R (xt_v dX9_liesOf_72)) <|
  xw_nil _
def xp_183 : List (Nat × xm_O) := xp_183_0
theorem xq_183 {G : xm_G} (hG : xm_W xk_B G) (hO : xm_Og G) : ∀ q ∈ xp_183, xm_op xk_B G xd xk_N "LiarsCockModel" "liesOf" prog_28_method_48_code 4 none q.1 q.2 := xq_183_0 hG hO
/- 184: LiarsCockModel.pointsTo(III)I -/
def xp_184_0 : List (Nat × xm_O) := [
  (0, .inl (xe_aload 0 1)),
  (1, .inl (xe_getf (xj_1 8 50) 4)),
  (4, .inl (xe_push (.int 1) 5)),
  (5, .inl (xe_ii (fun x y => x - y) 6)),
  (6, .inl (xe_istore 4 8)),
  (8, .inl (xe_iload 4 10)),
  (10, .inl (xe_if (fun x => decide (x < 0)) 84 13)),
  (13, .inl (xe_aload 0 14)),
  (14, .inl (xe_getf (xj_1 8 46) 17)),
  (17, .inl (xe_aload 0 18)),
  (18, .inl (xe_getf (xj_1 8 49) 21)),
  (21, .inl (xe_iload 4 23)),
  (23, .inl (xe_ald (fun t => t == 0) 24)),
  (24, .inl (xe_ald (fun t => t == 0) 25)),
  (25, .inl (xe_aload 0 26)),
  (26, .inl (xe_getf (xj_1 8 17) 29)),
  (29, .inl (xe_iload 1 30)),
  (30, .inl (xe_ald (fun t => t == 0) 31)),
  (31, .inl (xe_ii (fun x y => x + y) 32)),
  (32, .inl (xe_iload 2 33)),
  (33, .inl (xe_icmp (fun x y => decide (y < x)) 78 36)),
  (36, .inl (xe_aload 0 37)),
  (37, .inl (xe_getf (xj_1 8 51) 40)),
  (40, .inl (xe_push (.int 31) 42)),
  (42, .inl (xe_aload 0 43)),
  (43, .inl (xe_getf (xj_1 8 16) 46)),
  (46, .inl (xe_iload 1 47)),
  (47, .inl (xe_ald (fun t => t == 0) 48)),
  (48, .inl (xe_ii (fun x y => x * y) 49)),
  (49, .inl (xe_aload 0 50)),
  (50, .inl (xe_getf (xj_1 8 49) 53)),
  (53, .inl (xe_iload 4 55)),
  (55, .inl (xe_ald (fun t => t == 0) 56)),
  (56, .inl (xe_ii (fun x y => x + y) 57)),
  (57, .inl (xe_ald (fun t => t == 1) 58)),
  (58, .inl (xe_iload 3 59)),
  (59, .inr (.inr (.inl (xc_S 177 [0, 1])))),
  (62, .inl (xe_if (fun x => decide (x = 0)) 78 65)),
  (65, .inl (xe_aload 0 66)),
  (66, .inl (xe_getf (xj_1 8 45) 69)),
  (69, .inl (xe_aload 0 70)),
  (70, .inl (xe_getf (xj_1 8 49) 73)),
  (73, .inl (xe_iload 4 75)),
  (75, .inl (xe_ald (fun t => t == 0) 76)),
  (76, .inl (xe_ald (fun t => t == 0) 77)),
  (77, .inr (.inl xr_i)),
  (78, .inl (xe_iinc 4 (-1) 81)),
  (81, .inl (xe_goto 8)),
  (84, .inl (xe_push (.int (-1)) 85)),
  (85, .inr (.inl xr_i))]
theorem xq_184_0 {G : xm_G} (hG : xm_W xk_B G) (hO : xm_Og G) : ∀ q ∈ xp_184_0, xm_op xk_B G xd xk_N "LiarsCockModel" "pointsTo" prog_28_method_50_code 5 (some (FieldType.int)) q.1 q.2 :=
  xw_cons (xw_E xn_aload (xo_aload_n dX9_pointsTo_0 rfl)) <|
  xw_cons (xw_E xn_getf (xo_getf hG xg_27_362 dX9_pointsTo_1)) <|
  xw_cons (xw_E xn_push (xo_iconst dX9_pointsTo_4 (by decide))) <|
  xw_cons (xw_E xn_ii (xo_isub dX9_pointsTo_5)) <|
  xw_cons (xw_E xn_istore (xo_istore dX9_pointsTo_6)) <|
  xw_cons (xw_E xn_iload (xo_iload dX9_pointsTo_8)) <|
  xw_cons (xw_E xn_if (xo_if_lt dX9_pointsTo_10 (by decide))) <|
  xw_cons (xw_E xn_aload (xo_aload_n dX9_pointsTo_13 rfl)) <|
  xw_cons (xw_E xn_getf (xo_getf hG xg_27_99 dX9_pointsTo_14)) <|
  xw_cons (xw_E xn_aload (xo_aload_n dX9_pointsTo_17 rfl)) <|
  xw_cons (xw_E xn_getf (xo_getf hG xg_27_108 dX9_pointsTo_18)) <|
  xw_cons (xw_E xn_iload (xo_iload dX9_pointsTo_21)) <|
  xw_cons (xw_E xn_ald (xo_iald xk_hB dX9_pointsTo_23)) <|
  xw_cons (xw_E xn_ald (xo_iald xk_hB dX9_pointsTo_24)) <|
  xw_cons (xw_E xn_aload (xo_aload_n dX9_pointsTo_25 rfl)) <|
  xw_cons (xw_E xn_getf (xo_getf hG xg_27_35 dX9_pointsTo_26)) <|
  xw_cons (xw_E xn_iload (xo_iload_n dX9_pointsTo_29 rfl)) <|
  xw_cons (xw_E xn_ald (xo_iald xk_hB dX9_pointsTo_30)) <|
  xw_cons (xw_E xn_ii (xo_iadd dX9_pointsTo_31)) <|
  xw_cons (xw_E xn_iload (xo_iload_n dX9_pointsTo_32 rfl)) <|
  xw_cons (xw_E xn_icmp (xo_icmp_gt dX9_pointsTo_33 (by decide))) <|
  xw_cons (xw_E xn_aload (xo_aload_n dX9_pointsTo_36 rfl)) <|
  xw_cons (xw_E xn_getf (xo_getf hG xg_27_111 dX9_pointsTo_37)) <|
  xw_cons (xw_E xn_push (xo_bipush dX9_pointsTo_40 (by decide))) <|
  xw_cons (xw_E xn_aload (xo_aload_n dX9_pointsTo_42 rfl)) <|
  xw_cons (xw_E xn_getf (xo_getf hG xg_27_32 dX9_pointsTo_43)) <|
  xw_cons (xw_E xn_iload (xo_iload_n dX9_pointsTo_46 rfl)) <|
  xw_cons (xw_E xn_ald (xo_iald xk_hB dX9_pointsTo_47)) <|
  xw_cons (xw_E xn_ii (xo_imul dX9_pointsTo_48)) <|
  xw_cons (xw_E xn_aload (xo_aload_n dX9_pointsTo_49 rfl)) <|
  xw_cons (xw_E xn_getf (xo_getf hG xg_27_108 dX9_pointsTo_50)) <|
  xw_cons (xw_E xn_iload (xo_iload dX9_pointsTo_53)) <|
  xw_cons (xw_E xn_ald (xo_iald xk_hB dX9_pointsTo_55)) <|
  xw_cons (xw_E xn_ii (xo_iadd dX9_pointsTo_56)) <|
  xw_cons (xw_E xn_ald (xo_lald xk_hB dX9_pointsTo_57)) <|
  xw_cons (xw_E xn_iload (xo_iload_n dX9_pointsTo_58 rfl)) <|
  xw_cons (xl_s_27_350 hG dX9_pointsTo_59) <|
  xw_cons (xw_E xn_if (xo_if_eq dX9_pointsTo_62 (by decide))) <|
  xw_cons (xw_E xn_aload (xo_aload_n dX9_pointsTo_65 rfl)) <|
  xw_cons (xw_E xn_getf (xo_getf hG xg_27_96 dX9_pointsTo_66)) <|
  xw_cons (xw_E xn_aload (xo_aload_n dX9_pointsTo_69 rfl)) <|
  xw_cons (xw_E xn_getf (xo_getf hG xg_27_108 dX9_pointsTo_70)) <|
  xw_cons (xw_E xn_iload (xo_iload dX9_pointsTo_73)) <|
  xw_cons (xw_E xn_ald (xo_iald xk_hB dX9_pointsTo_75)) <|
  xw_cons (xw_E xn_ald (xo_iald xk_hB dX9_pointsTo_76)) <|
  xw_cons (xw_R (xt_i dX9_pointsTo_77)) <|
  xw_cons (xw_E xn_iinc (xo_iinc dX9_pointsTo_78 (by decide))) <|
  xw_cons (xw_E xn_goto (xo_goto dX9_pointsTo_81 (by decide))) <|
  xw_cons (xw_E xn_push (xo_iconst dX9_pointsTo_84 (by decide))) <|
  xw_cons (xw_R (xt_i dX9_pointsTo_85)) <|
  xw_nil _
def xp_184 : List (Nat × xm_O) := xp_184_0
theorem xq_184 {G : xm_G} (hG : xm_W xk_B G) (hO : xm_Og G) : ∀ q ∈ xp_184, xm_op xk_B G xd xk_N "LiarsCockModel" "pointsTo" prog_28_method_50_code 5 (some (FieldType.int)) q.1 q.2 := xq_184_0 hG hO
/- 185: LiarsCockModel.look(IIII)I -/
def xp_185_0 : List (Nat × xm_O) := [
  (0, .inl (xe_aload 0 1)),
  (1, .inl (xe_push (.int 0) 2)),
  (2, .inl (xe_putf 300 0 (xj_1 8 0) 5)),
  (5, .inl (xe_aload 0 6)),
  (6, .inl (xe_iload 1 7)),
  (7, .inr (.inr (.inl (xc_V (xj_1 8 181) [0])))),
  (10, .inl (xe_if (fun x => decide (x = 0)) 44 13)),
  (13, .inl (xe_iload 2 14)),
  (14, .inr (.inr (.inl (xc_S 171 [0])))),
  (17, .inl (xe_if (fun x => decide (x = 0)) 44 20)),
  (20, .inl (xe_iload 3 21)),
  (21, .inr (.inr (.inl (xc_S 186 [0])))),
  (24, .inl (xe_if (fun x => decide (x = 0)) 44 27)),
  (27, .inl (xe_iload 4 29)),
  (29, .inr (.inr (.inl (xc_S 186 [0])))),
  (32, .inl (xe_if (fun x => decide (x = 0)) 44 35)),
  (35, .inl (xe_aload 0 36)),
  (36, .inl (xe_getf (xj_1 8 42) 39)),
  (39, .inl (xe_push (.int 12) 41)),
  (41, .inl (xe_icmp (fun x y => decide (¬ x = y)) 46 44)),
  (44, .inl (xe_push (.int (-1)) 45)),
  (45, .inr (.inl xr_i)),
  (46, .inl (xe_aload 0 47)),
  (47, .inl (xe_getf (xj_1 8 52) 50)),
  (50, .inl (xe_aload 0 51)),
  (51, .inl (xe_getf (xj_1 8 42) 54)),
  (54, .inl (xe_iload 1 55)),
  (55, .inl (xe_ast 300 0 (xm_kd 0) 56)),
  (56, .inl (xe_aload 0 57)),
  (57, .inl (xe_getf (xj_1 8 53) 60)),
  (60, .inl (xe_aload 0 61)),
  (61, .inl (xe_getf (xj_1 8 42) 64)),
  (64, .inl (xe_iload 2 65)),
  (65, .inl (xe_ast 300 0 (xm_kd 0) 66)),
  (66, .inl (xe_aload 0 67)),
  (67, .inl (xe_getf (xj_1 8 54) 70)),
  (70, .inl (xe_aload 0 71)),
  (71, .inl (xe_getf (xj_1 8 42) 74)),
  (74, .inl (xe_iload 3 75)),
  (75, .inl (xe_ast 300 0 (xm_kd 0) 76)),
  (76, .inl (xe_aload 0 77)),
  (77, .inl (xe_getf (xj_1 8 55) 80)),
  (80, .inl (xe_aload 0 81)),
  (81, .inl (xe_getf (xj_1 8 42) 84)),
  (84, .inl (xe_iload 4 86)),
  (86, .inl (xe_ast 300 0 (xm_kd 0) 87)),
  (87, .inl (xe_aload 0 88)),
  (88, .inl (xe_dup 89)),
  (89, .inl (xe_getf (xj_1 8 42) 92)),
  (92, .inl (xe_push (.int 1) 93))]
theorem xq_185_0 {G : xm_G} (hG : xm_W xk_B G) (hO : xm_Og G) : ∀ q ∈ xp_185_0, xm_op xk_B G xd xk_N "LiarsCockModel" "look" prog_28_method_55_code 5 (some (FieldType.int)) q.1 q.2 :=
  xw_cons (xw_E xn_aload (xo_aload_n dX9_look_0 rfl)) <|
  xw_cons (xw_E xn_push (xo_iconst dX9_look_1 (by decide))) <|
  xw_cons (xw_E xn_putf (xo_putf hG rfl xu_27_162 dX9_look_2)) <|
  xw_cons (xw_E xn_aload (xo_aload_n dX9_look_5 rfl)) <|
  xw_cons (xw_E xn_iload (xo_iload_n dX9_look_6 rfl)) <|
  xw_cons (xl_v_27_371 hG dX9_look_7) <|
  xw_cons (xw_E xn_if (xo_if_eq dX9_look_10 (by decide))) <|
  xw_cons (xw_E xn_iload (xo_iload_n dX9_look_13 rfl)) <|
  xw_cons (xl_s_27_340 hG dX9_look_14) <|
  xw_cons (xw_E xn_if (xo_if_eq dX9_look_17 (by decide))) <|
  xw_cons (xw_E xn_iload (xo_iload_n dX9_look_20 rfl)) <|
  xw_cons (xl_s_27_377 hG dX9_look_21) <|
  xw_cons (xw_E xn_if (xo_if_eq dX9_look_24 (by decide))) <|
  xw_cons (xw_E xn_iload (xo_iload dX9_look_27)) <|
  xw_cons (xl_s_27_377 hG dX9_look_29) <|
  xw_cons (xw_E xn_if (xo_if_eq dX9_look_32 (by decide))) <|
  xw_cons (xw_E xn_aload (xo_aload_n dX9_look_35 rfl)) <|
  xw_cons (xw_E xn_getf (xo_getf hG xg_27_328 dX9_look_36)) <|
  xw_cons (xw_E xn_push (xo_bipush dX9_look_39 (by decide))) <|
  xw_cons (xw_E xn_icmp (xo_icmp_ne dX9_look_41 (by decide))) <|
  xw_cons (xw_E xn_push (xo_iconst dX9_look_44 (by decide))) <|
  xw_cons (xw_R (xt_i dX9_look_45)) <|
  xw_cons (xw_E xn_aload (xo_aload_n dX9_look_46 rfl)) <|
  xw_cons (xw_E xn_getf (xo_getf hG xg_27_114 dX9_look_47)) <|
  xw_cons (xw_E xn_aload (xo_aload_n dX9_look_50 rfl)) <|
  xw_cons (xw_E xn_getf (xo_getf hG xg_27_328 dX9_look_51)) <|
  xw_cons (xw_E xn_iload (xo_iload_n dX9_look_54 rfl)) <|
  xw_cons (xw_E xn_ast (xo_iast hG xk_hB rfl dX9_look_55)) <|
  xw_cons (xw_E xn_aload (xo_aload_n dX9_look_56 rfl)) <|
  xw_cons (xw_E xn_getf (xo_getf hG xg_27_117 dX9_look_57)) <|
  xw_cons (xw_E xn_aload (xo_aload_n dX9_look_60 rfl)) <|
  xw_cons (xw_E xn_getf (xo_getf hG xg_27_328 dX9_look_61)) <|
  xw_cons (xw_E xn_iload (xo_iload_n dX9_look_64 rfl)) <|
  xw_cons (xw_E xn_ast (xo_iast hG xk_hB rfl dX9_look_65)) <|
  xw_cons (xw_E xn_aload (xo_aload_n dX9_look_66 rfl)) <|
  xw_cons (xw_E xn_getf (xo_getf hG xg_27_120 dX9_look_67)) <|
  xw_cons (xw_E xn_aload (xo_aload_n dX9_look_70 rfl)) <|
  xw_cons (xw_E xn_getf (xo_getf hG xg_27_328 dX9_look_71)) <|
  xw_cons (xw_E xn_iload (xo_iload_n dX9_look_74 rfl)) <|
  xw_cons (xw_E xn_ast (xo_iast hG xk_hB rfl dX9_look_75)) <|
  xw_cons (xw_E xn_aload (xo_aload_n dX9_look_76 rfl)) <|
  xw_cons (xw_E xn_getf (xo_getf hG xg_27_123 dX9_look_77)) <|
  xw_cons (xw_E xn_aload (xo_aload_n dX9_look_80 rfl)) <|
  xw_cons (xw_E xn_getf (xo_getf hG xg_27_328 dX9_look_81)) <|
  xw_cons (xw_E xn_iload (xo_iload dX9_look_84)) <|
  xw_cons (xw_E xn_ast (xo_iast hG xk_hB rfl dX9_look_86)) <|
  xw_cons (xw_E xn_aload (xo_aload_n dX9_look_87 rfl)) <|
  xw_cons (xw_E xn_dup (xo_dup dX9_look_88)) <|
  xw_cons (xw_E xn_getf (xo_getf hG xg_27_328 dX9_look_89)) <|
  xw_cons (xw_E xn_push (xo_iconst dX9_look_92 (by decide))) <|
  xw_nil _
def xp_185_1 : List (Nat × xm_O) := [
  (93, .inl (xe_ii (fun x y => x + y) 94)),
  (94, .inl (xe_putf 300 0 (xj_1 8 42) 97)),
  (97, .inl (xe_aload 0 98)),
  (98, .inl (xe_getf (xj_1 8 42) 101)),
  (101, .inl (xe_push (.int 1) 102)),
  (102, .inl (xe_ii (fun x y => x - y) 103)),
  (103, .inr (.inl xr_i))]
theorem xq_185_1 {G : xm_G} (hG : xm_W xk_B G) (hO : xm_Og G) : ∀ q ∈ xp_185_1, xm_op xk_B G xd xk_N "LiarsCockModel" "look" prog_28_method_55_code 5 (some (FieldType.int)) q.1 q.2 :=
  xw_cons (xw_E xn_ii (xo_iadd dX9_look_93)) <|
  xw_cons (xw_E xn_putf (xo_putf hG rfl xu_27_328 dX9_look_94)) <|
  xw_cons (xw_E xn_aload (xo_aload_n dX9_look_97 rfl)) <|
  xw_cons (xw_E xn_getf (xo_getf hG xg_27_328 dX9_look_98)) <|
  xw_cons (xw_E xn_push (xo_iconst dX9_look_101 (by decide))) <|
  xw_cons (xw_E xn_ii (xo_isub dX9_look_102)) <|
  xw_cons (xw_R (xt_i dX9_look_103)) <|
  xw_nil _
def xp_185 : List (Nat × xm_O) := xp_185_0 ++ xp_185_1
theorem xq_185 {G : xm_G} (hG : xm_W xk_B G) (hO : xm_Og G) : ∀ q ∈ xp_185, xm_op xk_B G xd xk_N "LiarsCockModel" "look" prog_28_method_55_code 5 (some (FieldType.int)) q.1 q.2 := xw_app (xq_185_0 hG hO) (xq_185_1 hG hO)
/- 186: LiarsCockModel.isBearing(I)Z -/
def xp_186_0 : List (Nat × xm_O) := [
  (0, .inl (xe_iload 0 1)),
  (1, .inl (xe_if (fun x => decide (x < 0)) 15 4)),
  (4, .inl (xe_iload 0 5)),
  (5, .inl (xe_push (.int 360) 8)),
  (8, .inl (xe_icmp (fun x y => decide (y ≤ x)) 15 11)),
  (11, .inl (xe_push (.int 1) 12)),
  (12, .inl (xe_goto 16)),
  (15, .inl (xe_push (.int 0) 16)),
  (16, .inr (.inl xr_z))]
theorem xq_186_0 {G : xm_G} (hG : xm_W xk_B G) (hO : xm_Og G) : ∀ q ∈ xp_186_0, xm_op xk_B G xd xk_N "LiarsCockModel" "isBearing" prog_28_method_53_code 1 (some (FieldType.boolean)) q.1 q.2 :=
  xw_cons (xw_E xn_iload (xo_iload_n dX9_isBearing_0 rfl)) <|
  xw_cons (xw_E xn_if (xo_if_lt dX9_isBearing_1 (by decide))) <|
  xw_cons (xw_E xn_iload (xo_iload_n dX9_isBearing_4 rfl)) <|
  xw_cons (xw_E xn_push (xo_sipush dX9_isBearing_5 (by decide))) <|
  xw_cons (xw_E xn_icmp (xo_icmp_ge dX9_isBearing_8 (by decide))) <|
  xw_cons (xw_E xn_push (xo_iconst dX9_isBearing_11 (by decide))) <|
  xw_cons (xw_E xn_goto (xo_goto dX9_isBearing_12 (by decide))) <|
  xw_cons (xw_E xn_push (xo_iconst dX9_isBearing_15 (by decide))) <|
  xw_cons (xw_R (xt_z dX9_isBearing_16)) <|
  xw_nil _
def xp_186 : List (Nat × xm_O) := xp_186_0
theorem xq_186 {G : xm_G} (hG : xm_W xk_B G) (hO : xm_Og G) : ∀ q ∈ xp_186, xm_op xk_B G xd xk_N "LiarsCockModel" "isBearing" prog_28_method_53_code 1 (some (FieldType.boolean)) q.1 q.2 := xq_186_0 hG hO
/- 187: LiarsCockModel.world(I)I -/
def xp_187_0 : List (Nat × xm_O) := [
  (0, .inl (xe_aload 0 1)),
  (1, .inl (xe_push (.int 0) 2)),
  (2, .inl (xe_putf 300 0 (xj_1 8 0) 5)),
  (5, .inl (xe_aload 0 6)),
  (6, .inl (xe_iload 1 7)),
  (7, .inr (.inr (.inl (xc_V (xj_1 8 175) [0])))),
  (10, .inl (xe_if (fun x => decide (¬ x = 0)) 17 13)),
  (13, .inl (xe_push (.int (-1)) 14)),
  (14, .inl (xe_goto 50)),
  (17, .inl (xe_aload 0 18)),
  (18, .inr (.inr (.inl (xc_V (xj_1 8 188) [])))),
  (21, .inl (xe_iload 1 22)),
  (22, .inr (.inr (.inl (xc_S 177 [0, 1])))),
  (25, .inl (xe_if (fun x => decide (x = 0)) 32 28)),
  (28, .inl (xe_push (.int 2) 29)),
  (29, .inl (xe_goto 50)),
  (32, .inl (xe_aload 0 33)),
  (33, .inl (xe_getf (xj_1 8 19) 36)),
  (36, .inl (xe_push (.int 0) 37)),
  (37, .inl (xe_ald (fun t => t == 1) 38)),
  (38, .inl (xe_iload 1 39)),
  (39, .inr (.inr (.inl (xc_S 177 [0, 1])))),
  (42, .inl (xe_if (fun x => decide (x = 0)) 49 45)),
  (45, .inl (xe_push (.int 1) 46)),
  (46, .inl (xe_goto 50)),
  (49, .inl (xe_push (.int 0) 50)),
  (50, .inr (.inl xr_i))]
theorem xq_187_0 {G : xm_G} (hG : xm_W xk_B G) (hO : xm_Og G) : ∀ q ∈ xp_187_0, xm_op xk_B G xd xk_N "LiarsCockModel" "world" prog_28_method_58_code 2 (some (FieldType.int)) q.1 q.2 :=
  xw_cons (xw_E xn_aload (xo_aload_n dX9_world_0 rfl)) <|
  xw_cons (xw_E xn_push (xo_iconst dX9_world_1 (by decide))) <|
  xw_cons (xw_E xn_putf (xo_putf hG rfl xu_27_162 dX9_world_2)) <|
  xw_cons (xw_E xn_aload (xo_aload_n dX9_world_5 rfl)) <|
  xw_cons (xw_E xn_iload (xo_iload_n dX9_world_6 rfl)) <|
  xw_cons (xl_v_27_347 hG dX9_world_7) <|
  xw_cons (xw_E xn_if (xo_if_ne dX9_world_10 (by decide))) <|
  xw_cons (xw_E xn_push (xo_iconst dX9_world_13 (by decide))) <|
  xw_cons (xw_E xn_goto (xo_goto dX9_world_14 (by decide))) <|
  xw_cons (xw_E xn_aload (xo_aload_n dX9_world_17 rfl)) <|
  xw_cons (xl_v_27_390 hG dX9_world_18) <|
  xw_cons (xw_E xn_iload (xo_iload_n dX9_world_21 rfl)) <|
  xw_cons (xl_s_27_350 hG dX9_world_22) <|
  xw_cons (xw_E xn_if (xo_if_eq dX9_world_25 (by decide))) <|
  xw_cons (xw_E xn_push (xo_iconst dX9_world_28 (by decide))) <|
  xw_cons (xw_E xn_goto (xo_goto dX9_world_29 (by decide))) <|
  xw_cons (xw_E xn_aload (xo_aload_n dX9_world_32 rfl)) <|
  xw_cons (xw_E xn_getf (xo_getf hG xg_27_42 dX9_world_33)) <|
  xw_cons (xw_E xn_push (xo_iconst dX9_world_36 (by decide))) <|
  xw_cons (xw_E xn_ald (xo_lald xk_hB dX9_world_37)) <|
  xw_cons (xw_E xn_iload (xo_iload_n dX9_world_38 rfl)) <|
  xw_cons (xl_s_27_350 hG dX9_world_39) <|
  xw_cons (xw_E xn_if (xo_if_eq dX9_world_42 (by decide))) <|
  xw_cons (xw_E xn_push (xo_iconst dX9_world_45 (by decide))) <|
  xw_cons (xw_E xn_goto (xo_goto dX9_world_46 (by decide))) <|
  xw_cons (xw_E xn_push (xo_iconst dX9_world_49 (by decide))) <|
  xw_cons (xw_R (xt_i dX9_world_50)) <|
  xw_nil _
def xp_187 : List (Nat × xm_O) := xp_187_0
theorem xq_187 {G : xm_G} (hG : xm_W xk_B G) (hO : xm_Og G) : ∀ q ∈ xp_187, xm_op xk_B G xd xk_N "LiarsCockModel" "world" prog_28_method_58_code 2 (some (FieldType.int)) q.1 q.2 := xq_187_0 hG hO
/- 188: LiarsCockModel.canBe()J -/
def xp_188_0 : List (Nat × xm_O) := [
  (0, .inl (xe_aload 0 1)),
  (1, .inl (xe_push (.int 0) 2)),
  (2, .inr (.inr (.inl (xc_V (xj_1 8 182) [0])))),
  (5, .inl (xe_aload 0 6)),
  (6, .inl (xe_getf (xj_1 8 19) 9)),
  (9, .inl (xe_push (.int 0) 10)),
  (10, .inl (xe_ald (fun t => t == 1) 11)),
  (11, .inl (xe_lstore 1 12)),
  (12, .inl (xe_push (.int 0) 13)),
  (13, .inl (xe_istore 3 14)),
  (14, .inl (xe_iload 3 15)),
  (15, .inl (xe_aload 0 16)),
  (16, .inl (xe_getf (xj_1 8 42) 19)),
  (19, .inl (xe_icmp (fun x y => decide (y ≤ x)) 89 22)),
  (22, .inl (xe_aload 0 23)),
  (23, .inl (xe_getf (xj_1 8 56) 26)),
  (26, .inl (xe_iload 3 27)),
  (27, .inl (xe_push (.long 0) 28)),
  (28, .inl (xe_ast 300 1 (xm_kd 1) 29)),
  (29, .inl (xe_push (.int 0) 30)),
  (30, .inl (xe_istore 4 32)),
  (32, .inl (xe_iload 4 34)),
  (34, .inl (xe_push (.int 1) 35)),
  (35, .inl (xe_aload 0 36)),
  (36, .inl (xe_getf (xj_1 8 10) 39)),
  (39, .inl (xe_push (.int 0) 40)),
  (40, .inl (xe_ald (fun t => t == 0) 41)),
  (41, .inl (xe_ii (fun x y => x <<< (y &&& 31)) 42)),
  (42, .inl (xe_icmp (fun x y => decide (y ≤ x)) 74 45)),
  (45, .inl (xe_aload 0 46)),
  (46, .inl (xe_iload 3 47)),
  (47, .inl (xe_iload 4 49)),
  (49, .inr (.inr (.inl (xc_V (xj_1 8 189) [0, 0])))),
  (52, .inl (xe_if (fun x => decide (x = 0)) 68 55)),
  (55, .inl (xe_aload 0 56)),
  (56, .inl (xe_getf (xj_1 8 56) 59)),
  (59, .inl (xe_iload 3 60)),
  (60, .inl (xe_dup2 61)),
  (61, .inl (xe_ald (fun t => t == 1) 62)),
  (62, .inl (xe_push (.long 1) 63)),
  (63, .inl (xe_iload 4 65)),
  (65, .inl (xe_li (fun x y => x <<< (y.toInt64 &&& 63)) 66)),
  (66, .inl (xe_ll (fun x y => x ||| y) 67)),
  (67, .inl (xe_ast 300 1 (xm_kd 1) 68)),
  (68, .inl (xe_iinc 4 1 71)),
  (71, .inl (xe_goto 32)),
  (74, .inl (xe_lload 1 75)),
  (75, .inl (xe_aload 0 76)),
  (76, .inl (xe_getf (xj_1 8 56) 79)),
  (79, .inl (xe_iload 3 80))]
theorem xq_188_0 {G : xm_G} (hG : xm_W xk_B G) (hO : xm_Og G) : ∀ q ∈ xp_188_0, xm_op xk_B G xd xk_N "LiarsCockModel" "canBe" prog_28_method_57_code 5 (some (FieldType.long)) q.1 q.2 :=
  xw_cons (xw_E xn_aload (xo_aload_n dX9_canBe_0 rfl)) <|
  xw_cons (xw_E xn_push (xo_iconst dX9_canBe_1 (by decide))) <|
  xw_cons (xl_v_27_374 hG dX9_canBe_2) <|
  xw_cons (xw_E xn_aload (xo_aload_n dX9_canBe_5 rfl)) <|
  xw_cons (xw_E xn_getf (xo_getf hG xg_27_42 dX9_canBe_6)) <|
  xw_cons (xw_E xn_push (xo_iconst dX9_canBe_9 (by decide))) <|
  xw_cons (xw_E xn_ald (xo_lald xk_hB dX9_canBe_10)) <|
  xw_cons (xw_E xn_lstore (xo_lstore_n dX9_canBe_11 rfl)) <|
  xw_cons (xw_E xn_push (xo_iconst dX9_canBe_12 (by decide))) <|
  xw_cons (xw_E xn_istore (xo_istore_n dX9_canBe_13 rfl)) <|
  xw_cons (xw_E xn_iload (xo_iload_n dX9_canBe_14 rfl)) <|
  xw_cons (xw_E xn_aload (xo_aload_n dX9_canBe_15 rfl)) <|
  xw_cons (xw_E xn_getf (xo_getf hG xg_27_328 dX9_canBe_16)) <|
  xw_cons (xw_E xn_icmp (xo_icmp_ge dX9_canBe_19 (by decide))) <|
  xw_cons (xw_E xn_aload (xo_aload_n dX9_canBe_22 rfl)) <|
  xw_cons (xw_E xn_getf (xo_getf hG xg_27_126 dX9_canBe_23)) <|
  xw_cons (xw_E xn_iload (xo_iload_n dX9_canBe_26 rfl)) <|
  xw_cons (xw_E xn_push (xo_lconst dX9_canBe_27 (by decide))) <|
  xw_cons (xw_E xn_ast (xo_last hG xk_hB rfl dX9_canBe_28)) <|
  xw_cons (xw_E xn_push (xo_iconst dX9_canBe_29 (by decide))) <|
  xw_cons (xw_E xn_istore (xo_istore dX9_canBe_30)) <|
  xw_cons (xw_E xn_iload (xo_iload dX9_canBe_32)) <|
  xw_cons (xw_E xn_push (xo_iconst dX9_canBe_34 (by decide))) <|
  xw_cons (xw_E xn_aload (xo_aload_n dX9_canBe_35 rfl)) <|
  xw_cons (xw_E xn_getf (xo_getf hG xg_27_13 dX9_canBe_36)) <|
  xw_cons (xw_E xn_push (xo_iconst dX9_canBe_39 (by decide))) <|
  xw_cons (xw_E xn_ald (xo_iald xk_hB dX9_canBe_40)) <|
  xw_cons (xw_E xn_ii (xo_ishl dX9_canBe_41)) <|
  xw_cons (xw_E xn_icmp (xo_icmp_ge dX9_canBe_42 (by decide))) <|
  xw_cons (xw_E xn_aload (xo_aload_n dX9_canBe_45 rfl)) <|
  xw_cons (xw_E xn_iload (xo_iload_n dX9_canBe_46 rfl)) <|
  xw_cons (xw_E xn_iload (xo_iload dX9_canBe_47)) <|
  xw_cons (xl_v_27_386 hG dX9_canBe_49) <|
  xw_cons (xw_E xn_if (xo_if_eq dX9_canBe_52 (by decide))) <|
  xw_cons (xw_E xn_aload (xo_aload_n dX9_canBe_55 rfl)) <|
  xw_cons (xw_E xn_getf (xo_getf hG xg_27_126 dX9_canBe_56)) <|
  xw_cons (xw_E xn_iload (xo_iload_n dX9_canBe_59 rfl)) <|
  xw_cons (xw_E xn_dup2 (xo_dup2 dX9_canBe_60)) <|
  xw_cons (xw_E xn_ald (xo_lald xk_hB dX9_canBe_61)) <|
  xw_cons (xw_E xn_push (xo_lconst dX9_canBe_62 (by decide))) <|
  xw_cons (xw_E xn_iload (xo_iload dX9_canBe_63)) <|
  xw_cons (xw_E xn_li (xo_lshl dX9_canBe_65)) <|
  xw_cons (xw_E xn_ll (xo_lor dX9_canBe_66)) <|
  xw_cons (xw_E xn_ast (xo_last hG xk_hB rfl dX9_canBe_67)) <|
  xw_cons (xw_E xn_iinc (xo_iinc dX9_canBe_68 (by decide))) <|
  xw_cons (xw_E xn_goto (xo_goto dX9_canBe_71 (by decide))) <|
  xw_cons (xw_E xn_lload (xo_lload_n dX9_canBe_74 rfl)) <|
  xw_cons (xw_E xn_aload (xo_aload_n dX9_canBe_75 rfl)) <|
  xw_cons (xw_E xn_getf (xo_getf hG xg_27_126 dX9_canBe_76)) <|
  xw_cons (xw_E xn_iload (xo_iload_n dX9_canBe_79 rfl)) <|
  xw_nil _
def xp_188_1 : List (Nat × xm_O) := [
  (80, .inl (xe_ald (fun t => t == 1) 81)),
  (81, .inl (xe_ll (fun x y => x &&& y) 82)),
  (82, .inl (xe_lstore 1 83)),
  (83, .inl (xe_iinc 3 1 86)),
  (86, .inl (xe_goto 14)),
  (89, .inl (xe_lload 1 90)),
  (90, .inr (.inl xr_l))]
theorem xq_188_1 {G : xm_G} (hG : xm_W xk_B G) (hO : xm_Og G) : ∀ q ∈ xp_188_1, xm_op xk_B G xd xk_N "LiarsCockModel" "canBe" prog_28_method_57_code 5 (some (FieldType.long)) q.1 q.2 :=
  xw_cons (xw_E xn_ald (xo_lald xk_hB dX9_canBe_80)) <|
  xw_cons (xw_E xn_ll (xo_land dX9_canBe_81)) <|
  xw_cons (xw_E xn_lstore (xo_lstore_n dX9_canBe_82 rfl)) <|
  xw_cons (xw_E xn_iinc (xo_iinc dX9_canBe_83 (by decide))) <|
  xw_cons (xw_E xn_goto (xo_goto dX9_canBe_86 (by decide))) <|
  xw_cons (xw_E xn_lload (xo_lload_n dX9_canBe_89 rfl)) <|
  xw_cons (xw_R (xt_l dX9_canBe_90)) <|
  xw_nil _
def xp_188 : List (Nat × xm_O) := xp_188_0 ++ xp_188_1
theorem xq_188 {G : xm_G} (hG : xm_W xk_B G) (hO : xm_Og G) : ∀ q ∈ xp_188, xm_op xk_B G xd xk_N "LiarsCockModel" "canBe" prog_28_method_57_code 5 (some (FieldType.long)) q.1 q.2 := xw_app (xq_188_0 hG hO) (xq_188_1 hG hO)
/- 189: LiarsCockModel.fitsIn(II)Z -/
def xp_189_0 : List (Nat × xm_O) := [
  (0, .inl (xe_aload 0 1)),
  (1, .inl (xe_aload 0 2)),
  (2, .inl (xe_getf (xj_1 8 52) 5)),
  (5, .inl (xe_iload 1 6)),
  (6, .inl (xe_ald (fun t => t == 0) 7)),
  (7, .inl (xe_aload 0 8)),
  (8, .inl (xe_getf (xj_1 8 53) 11)),
  (11, .inl (xe_iload 1 12)),
  (12, .inl (xe_ald (fun t => t == 0) 13)),
  (13, .inl (xe_iload 2 14)),
  (14, .inr (.inr (.inl (xc_V (xj_1 8 190) [0, 0, 0])))),
  (17, .inl (xe_aload 0 18)),
  (18, .inl (xe_getf (xj_1 8 54) 21)),
  (21, .inl (xe_iload 1 22)),
  (22, .inl (xe_ald (fun t => t == 0) 23)),
  (23, .inl (xe_aload 0 24)),
  (24, .inl (xe_getf (xj_1 8 55) 27)),
  (27, .inl (xe_iload 1 28)),
  (28, .inl (xe_ald (fun t => t == 0) 29)),
  (29, .inr (.inr (.inl (xc_S 191 [0, 0, 0])))),
  (32, .inr (.inl xr_z))]
theorem xq_189_0 {G : xm_G} (hG : xm_W xk_B G) (hO : xm_Og G) : ∀ q ∈ xp_189_0, xm_op xk_B G xd xk_N "LiarsCockModel" "fitsIn" prog_28_method_56_code 3 (some (FieldType.boolean)) q.1 q.2 :=
  xw_cons (xw_E xn_aload (xo_aload_n dX9_fitsIn_0 rfl)) <|
  xw_cons (xw_E xn_aload (xo_aload_n dX9_fitsIn_1 rfl)) <|
  xw_cons (xw_E xn_getf (xo_getf hG xg_27_114 dX9_fitsIn_2)) <|
  xw_cons (xw_E xn_iload (xo_iload_n dX9_fitsIn_5 rfl)) <|
  xw_cons (xw_E xn_ald (xo_iald xk_hB dX9_fitsIn_6)) <|
  xw_cons (xw_E xn_aload (xo_aload_n dX9_fitsIn_7 rfl)) <|
  xw_cons (xw_E xn_getf (xo_getf hG xg_27_117 dX9_fitsIn_8)) <|
  xw_cons (xw_E xn_iload (xo_iload_n dX9_fitsIn_11 rfl)) <|
  xw_cons (xw_E xn_ald (xo_iald xk_hB dX9_fitsIn_12)) <|
  xw_cons (xw_E xn_iload (xo_iload_n dX9_fitsIn_13 rfl)) <|
  xw_cons (xl_v_27_380 hG dX9_fitsIn_14) <|
  xw_cons (xw_E xn_aload (xo_aload_n dX9_fitsIn_17 rfl)) <|
  xw_cons (xw_E xn_getf (xo_getf hG xg_27_120 dX9_fitsIn_18)) <|
  xw_cons (xw_E xn_iload (xo_iload_n dX9_fitsIn_21 rfl)) <|
  xw_cons (xw_E xn_ald (xo_iald xk_hB dX9_fitsIn_22)) <|
  xw_cons (xw_E xn_aload (xo_aload_n dX9_fitsIn_23 rfl)) <|
  xw_cons (xw_E xn_getf (xo_getf hG xg_27_123 dX9_fitsIn_24)) <|
  xw_cons (xw_E xn_iload (xo_iload_n dX9_fitsIn_27 rfl)) <|
  xw_cons (xw_E xn_ald (xo_iald xk_hB dX9_fitsIn_28)) <|
  xw_cons (xl_s_27_383 hG dX9_fitsIn_29) <|
  xw_cons (xw_R (xt_z dX9_fitsIn_32)) <|
  xw_nil _
def xp_189 : List (Nat × xm_O) := xp_189_0
theorem xq_189 {G : xm_G} (hG : xm_W xk_B G) (hO : xm_Og G) : ∀ q ∈ xp_189, xm_op xk_B G xd xk_N "LiarsCockModel" "fitsIn" prog_28_method_56_code 3 (some (FieldType.boolean)) q.1 q.2 := xq_189_0 hG hO
/- 190: LiarsCockModel.bearingAt(III)I -/
def xp_190_0 : List (Nat × xm_O) := [
  (0, .inl (xe_aload 0 1)),
  (1, .inl (xe_iload 1 2)),
  (2, .inl (xe_iload 2 3)),
  (3, .inl (xe_iload 3 4)),
  (4, .inr (.inr (.inl (xc_V (xj_1 8 184) [0, 0, 0])))),
  (7, .inl (xe_istore 4 9)),
  (9, .inl (xe_iload 4 11)),
  (11, .inl (xe_if (fun x => decide (0 ≤ x)) 18 14)),
  (14, .inl (xe_push (.int 0) 15)),
  (15, .inl (xe_goto 30)),
  (18, .inl (xe_aload 0 19)),
  (19, .inl (xe_getf (xj_1 8 13) 22)),
  (22, .inl (xe_aload 0 23)),
  (23, .inl (xe_getf (xj_1 8 14) 26)),
  (26, .inl (xe_iload 4 28)),
  (28, .inl (xe_ald (fun t => t == 0) 29)),
  (29, .inl (xe_ald (fun t => t == 0) 30)),
  (30, .inr (.inl xr_i))]
theorem xq_190_0 {G : xm_G} (hG : xm_W xk_B G) (hO : xm_Og G) : ∀ q ∈ xp_190_0, xm_op xk_B G xd xk_N "LiarsCockModel" "bearingAt" prog_28_method_51_code 5 (some (FieldType.int)) q.1 q.2 :=
  xw_cons (xw_E xn_aload (xo_aload_n dX9_bearingAt_0 rfl)) <|
  xw_cons (xw_E xn_iload (xo_iload_n dX9_bearingAt_1 rfl)) <|
  xw_cons (xw_E xn_iload (xo_iload_n dX9_bearingAt_2 rfl)) <|
  xw_cons (xw_E xn_iload (xo_iload_n dX9_bearingAt_3 rfl)) <|
  xw_cons (xl_v_27_368 hG dX9_bearingAt_4) <|
  xw_cons (xw_E xn_istore (xo_istore dX9_bearingAt_7)) <|
  xw_cons (xw_E xn_iload (xo_iload dX9_bearingAt_9)) <|
  xw_cons (xw_E xn_if (xo_if_ge dX9_bearingAt_11 (by decide))) <|
  xw_cons (xw_E xn_push (xo_iconst dX9_bearingAt_14 (by decide))) <|
  xw_cons (xw_E xn_goto (xo_goto dX9_bearingAt_15 (by decide))) <|
  xw_cons (xw_E xn_aload (xo_aload_n dX9_bearingAt_18 rfl)) <|
  xw_cons (xw_E xn_getf (xo_getf hG xg_27_23 dX9_bearingAt_19)) <|
  xw_cons (xw_E xn_aload (xo_aload_n dX9_bearingAt_22 rfl)) <|
  xw_cons (xw_E xn_getf (xo_getf hG xg_27_26 dX9_bearingAt_23)) <|
  xw_cons (xw_E xn_iload (xo_iload dX9_bearingAt_26)) <|
  xw_cons (xw_E xn_ald (xo_iald xk_hB dX9_bearingAt_28)) <|
  xw_cons (xw_E xn_ald (xo_iald xk_hB dX9_bearingAt_29)) <|
  xw_cons (xw_R (xt_i dX9_bearingAt_30)) <|
  xw_nil _
def xp_190 : List (Nat × xm_O) := xp_190_0
theorem xq_190 {G : xm_G} (hG : xm_W xk_B G) (hO : xm_Og G) : ∀ q ∈ xp_190, xm_op xk_B G xd xk_N "LiarsCockModel" "bearingAt" prog_28_method_51_code 5 (some (FieldType.int)) q.1 q.2 := xq_190_0 hG hO
/- 191: LiarsCockModel.isWithin(III)Z -/
def xp_191_0 : List (Nat × xm_O) := [
  (0, .inl (xe_iload 1 1)),
  (1, .inl (xe_iload 2 2)),
  (2, .inl (xe_icmp (fun x y => decide (y < x)) 23 5)),
  (5, .inl (xe_iload 0 6)),
  (6, .inl (xe_iload 1 7)),
  (7, .inl (xe_icmp (fun x y => decide (x < y)) 19 10)),
  (10, .inl (xe_iload 0 11)),
  (11, .inl (xe_iload 2 12)),
  (12, .inl (xe_icmp (fun x y => decide (y < x)) 19 15)),
  (15, .inl (xe_push (.int 1) 16)),
  (16, .inl (xe_goto 38)),
  (19, .inl (xe_push (.int 0) 20)),
  (20, .inl (xe_goto 38)),
  (23, .inl (xe_iload 0 24)),
  (24, .inl (xe_iload 1 25)),
  (25, .inl (xe_icmp (fun x y => decide (y ≤ x)) 33 28)),
  (28, .inl (xe_iload 0 29)),
  (29, .inl (xe_iload 2 30)),
  (30, .inl (xe_icmp (fun x y => decide (y < x)) 37 33)),
  (33, .inl (xe_push (.int 1) 34)),
  (34, .inl (xe_goto 38)),
  (37, .inl (xe_push (.int 0) 38)),
  (38, .inr (.inl xr_z))]
theorem xq_191_0 {G : xm_G} (hG : xm_W xk_B G) (hO : xm_Og G) : ∀ q ∈ xp_191_0, xm_op xk_B G xd xk_N "LiarsCockModel" "isWithin" prog_28_method_54_code 3 (some (FieldType.boolean)) q.1 q.2 :=
  xw_cons (xw_E xn_iload (xo_iload_n dX9_isWithin_0 rfl)) <|
  xw_cons (xw_E xn_iload (xo_iload_n dX9_isWithin_1 rfl)) <|
  xw_cons (xw_E xn_icmp (xo_icmp_gt dX9_isWithin_2 (by decide))) <|
  xw_cons (xw_E xn_iload (xo_iload_n dX9_isWithin_5 rfl)) <|
  xw_cons (xw_E xn_iload (xo_iload_n dX9_isWithin_6 rfl)) <|
  xw_cons (xw_E xn_icmp (xo_icmp_lt dX9_isWithin_7 (by decide))) <|
  xw_cons (xw_E xn_iload (xo_iload_n dX9_isWithin_10 rfl)) <|
  xw_cons (xw_E xn_iload (xo_iload_n dX9_isWithin_11 rfl)) <|
  xw_cons (xw_E xn_icmp (xo_icmp_gt dX9_isWithin_12 (by decide))) <|
  xw_cons (xw_E xn_push (xo_iconst dX9_isWithin_15 (by decide))) <|
  xw_cons (xw_E xn_goto (xo_goto dX9_isWithin_16 (by decide))) <|
  xw_cons (xw_E xn_push (xo_iconst dX9_isWithin_19 (by decide))) <|
  xw_cons (xw_E xn_goto (xo_goto dX9_isWithin_20 (by decide))) <|
  xw_cons (xw_E xn_iload (xo_iload_n dX9_isWithin_23 rfl)) <|
  xw_cons (xw_E xn_iload (xo_iload_n dX9_isWithin_24 rfl)) <|
  xw_cons (xw_E xn_icmp (xo_icmp_ge dX9_isWithin_25 (by decide))) <|
  xw_cons (xw_E xn_iload (xo_iload_n dX9_isWithin_28 rfl)) <|
  xw_cons (xw_E xn_iload (xo_iload_n dX9_isWithin_29 rfl)) <|
  xw_cons (xw_E xn_icmp (xo_icmp_gt dX9_isWithin_30 (by decide))) <|
  xw_cons (xw_E xn_push (xo_iconst dX9_isWithin_33 (by decide))) <|
  xw_cons (xw_E xn_goto (xo_goto dX9_isWithin_34 (by decide))) <|
  xw_cons (xw_E xn_push (xo_iconst dX9_isWithin_37 (by decide))) <|
  xw_cons (xw_R (xt_z dX9_isWithin_38)) <|
  xw_nil _
def xp_191 : List (Nat × xm_O) := xp_191_0
theorem xq_191 {G : xm_G} (hG : xm_W xk_B G) (hO : xm_Og G) : ∀ q ∈ xp_191, xm_op xk_B G xd xk_N "LiarsCockModel" "isWithin" prog_28_method_54_code 3 (some (FieldType.boolean)) q.1 q.2 := xq_191_0 hG hO
/- 192: LiarsCockModel.worlds(I)I -/
def xp_192_0 : List (Nat × xm_O) := [
  (0, .inl (xe_aload 0 1)),
  (1, .inl (xe_push (.int 0) 2)),
  (2, .inl (xe_putf 300 0 (xj_1 8 0) 5)),
  (5, .inl (xe_iload 1 6)),
  (6, .inl (xe_push (.int (-1)) 7)),
  (7, .inl (xe_icmp (fun x y => decide (x = y)) 20 10)),
  (10, .inl (xe_aload 0 11)),
  (11, .inl (xe_iload 1 12)),
  (12, .inr (.inr (.inl (xc_V (xj_1 8 193) [0])))),
  (15, .inl (xe_if (fun x => decide (¬ x = 0)) 20 18)),
  (18, .inl (xe_push (.int (-1)) 19)),
  (19, .inr (.inl xr_i)),
  (20, .inl (xe_aload 0 21)),
  (21, .inr (.inr (.inl (xc_V (xj_1 8 188) [])))),
  (24, .inl (xe_lstore 2 25)),
  (25, .inl (xe_iload 1 26)),
  (26, .inl (xe_if (fun x => decide (0 ≤ x)) 33 29)),
  (29, .inl (xe_lload 2 30)),
  (30, .inl (xe_goto 40)),
  (33, .inl (xe_lload 2 34)),
  (34, .inl (xe_aload 0 35)),
  (35, .inl (xe_iload 1 36)),
  (36, .inr (.inr (.inl (xc_V (xj_1 8 194) [0])))),
  (39, .inl (xe_ll (fun x y => x &&& y) 40)),
  (40, .inr (.inr (.inl (xc_S 195 [1])))),
  (43, .inr (.inl xr_i))]
theorem xq_192_0 {G : xm_G} (hG : xm_W xk_B G) (hO : xm_Og G) : ∀ q ∈ xp_192_0, xm_op xk_B G xd xk_N "LiarsCockModel" "worlds" prog_28_method_60_code 4 (some (FieldType.int)) q.1 q.2 :=
  xw_cons (xw_E xn_aload (xo_aload_n dX9_worlds_0 rfl)) <|
  xw_cons (xw_E xn_push (xo_iconst dX9_worlds_1 (by decide))) <|
  xw_cons (xw_E xn_putf (xo_putf hG rfl xu_27_162 dX9_worlds_2)) <|
  xw_cons (xw_E xn_iload (xo_iload_n dX9_worlds_5 rfl)) <|
  xw_cons (xw_E xn_push (xo_iconst dX9_worlds_6 (by decide))) <|
  xw_cons (xw_E xn_icmp (xo_icmp_eq dX9_worlds_7 (by decide))) <|
  xw_cons (xw_E xn_aload (xo_aload_n dX9_worlds_10 rfl)) <|
  xw_cons (xw_E xn_iload (xo_iload_n dX9_worlds_11 rfl)) <|
  xw_cons (xl_v_27_393 hG dX9_worlds_12) <|
  xw_cons (xw_E xn_if (xo_if_ne dX9_worlds_15 (by decide))) <|
  xw_cons (xw_E xn_push (xo_iconst dX9_worlds_18 (by decide))) <|
  xw_cons (xw_R (xt_i dX9_worlds_19)) <|
  xw_cons (xw_E xn_aload (xo_aload_n dX9_worlds_20 rfl)) <|
  xw_cons (xl_v_27_390 hG dX9_worlds_21) <|
  xw_cons (xw_E xn_lstore (xo_lstore_n dX9_worlds_24 rfl)) <|
  xw_cons (xw_E xn_iload (xo_iload_n dX9_worlds_25 rfl)) <|
  xw_cons (xw_E xn_if (xo_if_ge dX9_worlds_26 (by decide))) <|
  xw_cons (xw_E xn_lload (xo_lload_n dX9_worlds_29 rfl)) <|
  xw_cons (xw_E xn_goto (xo_goto dX9_worlds_30 (by decide))) <|
  xw_cons (xw_E xn_lload (xo_lload_n dX9_worlds_33 rfl)) <|
  xw_cons (xw_E xn_aload (xo_aload_n dX9_worlds_34 rfl)) <|
  xw_cons (xw_E xn_iload (xo_iload_n dX9_worlds_35 rfl)) <|
  xw_cons (xl_v_27_396 hG dX9_worlds_36) <|
  xw_cons (xw_E xn_ll (xo_land dX9_worlds_39)) <|
  xw_cons (xl_s_27_399 hG dX9_worlds_40) <|
  xw_cons (xw_R (xt_i dX9_worlds_43)) <|
  xw_nil _
def xp_192 : List (Nat × xm_O) := xp_192_0
theorem xq_192 {G : xm_G} (hG : xm_W xk_B G) (hO : xm_Og G) : ∀ q ∈ xp_192, xm_op xk_B G xd xk_N "LiarsCockModel" "worlds" prog_28_method_60_code 4 (some (FieldType.int)) q.1 q.2 := xq_192_0 hG hO
/- 193: LiarsCockModel.isFact(I)Z -/
def xp_193_0 : List (Nat × xm_O) := [
  (0, .inl (xe_iload 1 1)),
  (1, .inl (xe_if (fun x => decide (x < 0)) 18 4)),
  (4, .inl (xe_iload 1 5)),
  (5, .inl (xe_aload 0 6)),
  (6, .inl (xe_getf (xj_1 8 10) 9)),
  (9, .inl (xe_push (.int 0) 10)),
  (10, .inl (xe_ald (fun t => t == 0) 11)),
  (11, .inl (xe_icmp (fun x y => decide (y ≤ x)) 18 14)),
  (14, .inl (xe_push (.int 1) 15)),
  (15, .inl (xe_goto 19)),
  (18, .inl (xe_push (.int 0) 19)),
  (19, .inr (.inl xr_z))]
theorem xq_193_0 {G : xm_G} (hG : xm_W xk_B G) (hO : xm_Og G) : ∀ q ∈ xp_193_0, xm_op xk_B G xd xk_N "LiarsCockModel" "isFact" prog_28_method_37_code 2 (some (FieldType.boolean)) q.1 q.2 :=
  xw_cons (xw_E xn_iload (xo_iload_n dX9_isFact_0 rfl)) <|
  xw_cons (xw_E xn_if (xo_if_lt dX9_isFact_1 (by decide))) <|
  xw_cons (xw_E xn_iload (xo_iload_n dX9_isFact_4 rfl)) <|
  xw_cons (xw_E xn_aload (xo_aload_n dX9_isFact_5 rfl)) <|
  xw_cons (xw_E xn_getf (xo_getf hG xg_27_13 dX9_isFact_6)) <|
  xw_cons (xw_E xn_push (xo_iconst dX9_isFact_9 (by decide))) <|
  xw_cons (xw_E xn_ald (xo_iald xk_hB dX9_isFact_10)) <|
  xw_cons (xw_E xn_icmp (xo_icmp_ge dX9_isFact_11 (by decide))) <|
  xw_cons (xw_E xn_push (xo_iconst dX9_isFact_14 (by decide))) <|
  xw_cons (xw_E xn_goto (xo_goto dX9_isFact_15 (by decide))) <|
  xw_cons (xw_E xn_push (xo_iconst dX9_isFact_18 (by decide))) <|
  xw_cons (xw_R (xt_z dX9_isFact_19)) <|
  xw_nil _
def xp_193 : List (Nat × xm_O) := xp_193_0
theorem xq_193 {G : xm_G} (hG : xm_W xk_B G) (hO : xm_Og G) : ∀ q ∈ xp_193, xm_op xk_B G xd xk_N "LiarsCockModel" "isFact" prog_28_method_37_code 2 (some (FieldType.boolean)) q.1 q.2 := xq_193_0 hG hO
/- 194: LiarsCockModel.factSet(I)J -/
def xp_194_0 : List (Nat × xm_O) := [
  (0, .inl (xe_push (.long 0) 1)),
  (1, .inl (xe_lstore 2 2)),
  (2, .inl (xe_push (.int 0) 3)),
  (3, .inl (xe_istore 4 5)),
  (5, .inl (xe_iload 4 7)),
  (7, .inl (xe_push (.int 1) 8)),
  (8, .inl (xe_aload 0 9)),
  (9, .inl (xe_getf (xj_1 8 10) 12)),
  (12, .inl (xe_push (.int 0) 13)),
  (13, .inl (xe_ald (fun t => t == 0) 14)),
  (14, .inl (xe_ii (fun x y => x <<< (y &&& 31)) 15)),
  (15, .inl (xe_icmp (fun x y => decide (y ≤ x)) 37 18)),
  (18, .inl (xe_lload 2 19)),
  (19, .inl (xe_iload 4 21)),
  (21, .inl (xe_iload 1 22)),
  (22, .inl (xe_ii (fun x y => x >>> (y &&& 31)) 23)),
  (23, .inl (xe_push (.int 1) 24)),
  (24, .inl (xe_ii (fun x y => x &&& y) 25)),
  (25, .inl (xe_i2l 26)),
  (26, .inl (xe_iload 4 28)),
  (28, .inl (xe_li (fun x y => x <<< (y.toInt64 &&& 63)) 29)),
  (29, .inl (xe_ll (fun x y => x ||| y) 30)),
  (30, .inl (xe_lstore 2 31)),
  (31, .inl (xe_iinc 4 1 34)),
  (34, .inl (xe_goto 5)),
  (37, .inl (xe_lload 2 38)),
  (38, .inr (.inl xr_l))]
theorem xq_194_0 {G : xm_G} (hG : xm_W xk_B G) (hO : xm_Og G) : ∀ q ∈ xp_194_0, xm_op xk_B G xd xk_N "LiarsCockModel" "factSet" prog_28_method_59_code 5 (some (FieldType.long)) q.1 q.2 :=
  xw_cons (xw_E xn_push (xo_lconst dX9_factSet_0 (by decide))) <|
  xw_cons (xw_E xn_lstore (xo_lstore_n dX9_factSet_1 rfl)) <|
  xw_cons (xw_E xn_push (xo_iconst dX9_factSet_2 (by decide))) <|
  xw_cons (xw_E xn_istore (xo_istore dX9_factSet_3)) <|
  xw_cons (xw_E xn_iload (xo_iload dX9_factSet_5)) <|
  xw_cons (xw_E xn_push (xo_iconst dX9_factSet_7 (by decide))) <|
  xw_cons (xw_E xn_aload (xo_aload_n dX9_factSet_8 rfl)) <|
  xw_cons (xw_E xn_getf (xo_getf hG xg_27_13 dX9_factSet_9)) <|
  xw_cons (xw_E xn_push (xo_iconst dX9_factSet_12 (by decide))) <|
  xw_cons (xw_E xn_ald (xo_iald xk_hB dX9_factSet_13)) <|
  xw_cons (xw_E xn_ii (xo_ishl dX9_factSet_14)) <|
  xw_cons (xw_E xn_icmp (xo_icmp_ge dX9_factSet_15 (by decide))) <|
  xw_cons (xw_E xn_lload (xo_lload_n dX9_factSet_18 rfl)) <|
  xw_cons (xw_E xn_iload (xo_iload dX9_factSet_19)) <|
  xw_cons (xw_E xn_iload (xo_iload_n dX9_factSet_21 rfl)) <|
  xw_cons (xw_E xn_ii (xo_ishr dX9_factSet_22)) <|
  xw_cons (xw_E xn_push (xo_iconst dX9_factSet_23 (by decide))) <|
  xw_cons (xw_E xn_ii (xo_iand dX9_factSet_24)) <|
  xw_cons (xw_E xn_i2l (xo_i2l dX9_factSet_25)) <|
  xw_cons (xw_E xn_iload (xo_iload dX9_factSet_26)) <|
  xw_cons (xw_E xn_li (xo_lshl dX9_factSet_28)) <|
  xw_cons (xw_E xn_ll (xo_lor dX9_factSet_29)) <|
  xw_cons (xw_E xn_lstore (xo_lstore_n dX9_factSet_30 rfl)) <|
  xw_cons (xw_E xn_iinc (xo_iinc dX9_factSet_31 (by decide))) <|
  xw_cons (xw_E xn_goto (xo_goto dX9_factSet_34 (by decide))) <|
  xw_cons (xw_E xn_lload (xo_lload_n dX9_factSet_37 rfl)) <|
  xw_cons (xw_R (xt_l dX9_factSet_38)) <|
  xw_nil _
def xp_194 : List (Nat × xm_O) := xp_194_0
theorem xq_194 {G : xm_G} (hG : xm_W xk_B G) (hO : xm_Og G) : ∀ q ∈ xp_194, xm_op xk_B G xd xk_N "LiarsCockModel" "factSet" prog_28_method_59_code 5 (some (FieldType.long)) q.1 q.2 := xq_194_0 hG hO
/- 195: LiarsCockModel.bits(J)I -/
def xp_195_0 : List (Nat × xm_O) := [
  (0, .inl (xe_push (.int 0) 1)),
  (1, .inl (xe_istore 2 2)),
  (2, .inl (xe_push (.int 0) 3)),
  (3, .inl (xe_istore 3 4)),
  (4, .inl (xe_iload 3 5)),
  (5, .inl (xe_push (.int 64) 7)),
  (7, .inl (xe_icmp (fun x y => decide (y ≤ x)) 25 10)),
  (10, .inl (xe_iload 2 11)),
  (11, .inl (xe_lload 0 12)),
  (12, .inl (xe_iload 3 13)),
  (13, .inl (xe_li (fun x y => x >>> (y.toInt64 &&& 63)) 14)),
  (14, .inl (xe_push (.long 1) 15)),
  (15, .inl (xe_ll (fun x y => x &&& y) 16)),
  (16, .inl (xe_l2i 17)),
  (17, .inl (xe_ii (fun x y => x + y) 18)),
  (18, .inl (xe_istore 2 19)),
  (19, .inl (xe_iinc 3 1 22)),
  (22, .inl (xe_goto 4)),
  (25, .inl (xe_iload 2 26)),
  (26, .inr (.inl xr_i))]
theorem xq_195_0 {G : xm_G} (hG : xm_W xk_B G) (hO : xm_Og G) : ∀ q ∈ xp_195_0, xm_op xk_B G xd xk_N "LiarsCockModel" "bits" prog_28_method_4_code 4 (some (FieldType.int)) q.1 q.2 :=
  xw_cons (xw_E xn_push (xo_iconst dX9_bits_0 (by decide))) <|
  xw_cons (xw_E xn_istore (xo_istore_n dX9_bits_1 rfl)) <|
  xw_cons (xw_E xn_push (xo_iconst dX9_bits_2 (by decide))) <|
  xw_cons (xw_E xn_istore (xo_istore_n dX9_bits_3 rfl)) <|
  xw_cons (xw_E xn_iload (xo_iload_n dX9_bits_4 rfl)) <|
  xw_cons (xw_E xn_push (xo_bipush dX9_bits_5 (by decide))) <|
  xw_cons (xw_E xn_icmp (xo_icmp_ge dX9_bits_7 (by decide))) <|
  xw_cons (xw_E xn_iload (xo_iload_n dX9_bits_10 rfl)) <|
  xw_cons (xw_E xn_lload (xo_lload_n dX9_bits_11 rfl)) <|
  xw_cons (xw_E xn_iload (xo_iload_n dX9_bits_12 rfl)) <|
  xw_cons (xw_E xn_li (xo_lshr dX9_bits_13)) <|
  xw_cons (xw_E xn_push (xo_lconst dX9_bits_14 (by decide))) <|
  xw_cons (xw_E xn_ll (xo_land dX9_bits_15)) <|
  xw_cons (xw_E xn_l2i (xo_l2i dX9_bits_16)) <|
  xw_cons (xw_E xn_ii (xo_iadd dX9_bits_17)) <|
  xw_cons (xw_E xn_istore (xo_istore_n dX9_bits_18 rfl)) <|
  xw_cons (xw_E xn_iinc (xo_iinc dX9_bits_19 (by decide))) <|
  xw_cons (xw_E xn_goto (xo_goto dX9_bits_22 (by decide))) <|
  xw_cons (xw_E xn_iload (xo_iload_n dX9_bits_25 rfl)) <|
  xw_cons (xw_R (xt_i dX9_bits_26)) <|
  xw_nil _
def xp_195 : List (Nat × xm_O) := xp_195_0
theorem xq_195 {G : xm_G} (hG : xm_W xk_B G) (hO : xm_Og G) : ∀ q ∈ xp_195, xm_op xk_B G xd xk_N "LiarsCockModel" "bits" prog_28_method_4_code 4 (some (FieldType.int)) q.1 q.2 := xq_195_0 hG hO
/- 196: LiarsCockModel.sureFact(I)I -/
def xp_196_0 : List (Nat × xm_O) := [
  (0, .inl (xe_aload 0 1)),
  (1, .inl (xe_push (.int 0) 2)),
  (2, .inl (xe_putf 300 0 (xj_1 8 0) 5)),
  (5, .inl (xe_aload 0 6)),
  (6, .inl (xe_iload 1 7)),
  (7, .inr (.inr (.inl (xc_V (xj_1 8 193) [0])))),
  (10, .inl (xe_if (fun x => decide (x = 0)) 28 13)),
  (13, .inl (xe_aload 0 14)),
  (14, .inr (.inr (.inl (xc_V (xj_1 8 188) [])))),
  (17, .inl (xe_aload 0 18)),
  (18, .inl (xe_iload 1 19)),
  (19, .inr (.inr (.inl (xc_V (xj_1 8 194) [0])))),
  (22, .inr (.inr (.inl (xc_S 197 [1, 1])))),
  (25, .inl (xe_goto 29)),
  (28, .inl (xe_push (.int (-1)) 29)),
  (29, .inr (.inl xr_i))]
theorem xq_196_0 {G : xm_G} (hG : xm_W xk_B G) (hO : xm_Og G) : ∀ q ∈ xp_196_0, xm_op xk_B G xd xk_N "LiarsCockModel" "sureFact" prog_28_method_62_code 2 (some (FieldType.int)) q.1 q.2 :=
  xw_cons (xw_E xn_aload (xo_aload_n dX9_sureFact_0 rfl)) <|
  xw_cons (xw_E xn_push (xo_iconst dX9_sureFact_1 (by decide))) <|
  xw_cons (xw_E xn_putf (xo_putf hG rfl xu_27_162 dX9_sureFact_2)) <|
  xw_cons (xw_E xn_aload (xo_aload_n dX9_sureFact_5 rfl)) <|
  xw_cons (xw_E xn_iload (xo_iload_n dX9_sureFact_6 rfl)) <|
  xw_cons (xl_v_27_393 hG dX9_sureFact_7) <|
  xw_cons (xw_E xn_if (xo_if_eq dX9_sureFact_10 (by decide))) <|
  xw_cons (xw_E xn_aload (xo_aload_n dX9_sureFact_13 rfl)) <|
  xw_cons (xl_v_27_390 hG dX9_sureFact_14) <|
  xw_cons (xw_E xn_aload (xo_aload_n dX9_sureFact_17 rfl)) <|
  xw_cons (xw_E xn_iload (xo_iload_n dX9_sureFact_18 rfl)) <|
  xw_cons (xl_v_27_396 hG dX9_sureFact_19) <|
  xw_cons (xl_s_27_403 hG dX9_sureFact_22) <|
  xw_cons (xw_E xn_goto (xo_goto dX9_sureFact_25 (by decide))) <|
  xw_cons (xw_E xn_push (xo_iconst dX9_sureFact_28 (by decide))) <|
  xw_cons (xw_R (xt_i dX9_sureFact_29)) <|
  xw_nil _
def xp_196 : List (Nat × xm_O) := xp_196_0
theorem xq_196 {G : xm_G} (hG : xm_W xk_B G) (hO : xm_Og G) : ∀ q ∈ xp_196, xm_op xk_B G xd xk_N "LiarsCockModel" "sureFact" prog_28_method_62_code 2 (some (FieldType.int)) q.1 q.2 := xq_196_0 hG hO
/- 197: LiarsCockModel.sureOf(JJ)I -/
def xp_197_0 : List (Nat × xm_O) := [
  (0, .inl (xe_lload 0 1)),
  (1, .inl (xe_push (.long 0) 2)),
  (2, .inl (xe_lcmp 3)),
  (3, .inl (xe_if (fun x => decide (¬ x = 0)) 10 6)),
  (6, .inl (xe_push (.int 3) 7)),
  (7, .inl (xe_goto 39)),
  (10, .inl (xe_lload 0 11)),
  (11, .inl (xe_lload 2 12)),
  (12, .inl (xe_push (.long (-1 : Int64)) 15)),
  (15, .inl (xe_ll (fun x y => x ^^^ y) 16)),
  (16, .inl (xe_ll (fun x y => x &&& y) 17)),
  (17, .inl (xe_push (.long 0) 18)),
  (18, .inl (xe_lcmp 19)),
  (19, .inl (xe_if (fun x => decide (¬ x = 0)) 26 22)),
  (22, .inl (xe_push (.int 1) 23)),
  (23, .inl (xe_goto 39)),
  (26, .inl (xe_lload 0 27)),
  (27, .inl (xe_lload 2 28)),
  (28, .inl (xe_ll (fun x y => x &&& y) 29)),
  (29, .inl (xe_push (.long 0) 30)),
  (30, .inl (xe_lcmp 31)),
  (31, .inl (xe_if (fun x => decide (¬ x = 0)) 38 34)),
  (34, .inl (xe_push (.int 0) 35)),
  (35, .inl (xe_goto 39)),
  (38, .inl (xe_push (.int 2) 39)),
  (39, .inr (.inl xr_i))]
theorem xq_197_0 {G : xm_G} (hG : xm_W xk_B G) (hO : xm_Og G) : ∀ q ∈ xp_197_0, xm_op xk_B G xd xk_N "LiarsCockModel" "sureOf" prog_28_method_61_code 4 (some (FieldType.int)) q.1 q.2 :=
  xw_cons (xw_E xn_lload (xo_lload_n dX9_sureOf_0 rfl)) <|
  xw_cons (xw_E xn_push (xo_lconst dX9_sureOf_1 (by decide))) <|
  xw_cons (xw_E xn_lcmp (xo_lcmp dX9_sureOf_2)) <|
  xw_cons (xw_E xn_if (xo_if_ne dX9_sureOf_3 (by decide))) <|
  xw_cons (xw_E xn_push (xo_iconst dX9_sureOf_6 (by decide))) <|
  xw_cons (xw_E xn_goto (xo_goto dX9_sureOf_7 (by decide))) <|
  xw_cons (xw_E xn_lload (xo_lload_n dX9_sureOf_10 rfl)) <|
  xw_cons (xw_E xn_lload (xo_lload_n dX9_sureOf_11 rfl)) <|
  xw_cons (xw_E xn_push (xo_ldc2 hG q1956 dX9_sureOf_12)) <|
  xw_cons (xw_E xn_ll (xo_lxor dX9_sureOf_15)) <|
  xw_cons (xw_E xn_ll (xo_land dX9_sureOf_16)) <|
  xw_cons (xw_E xn_push (xo_lconst dX9_sureOf_17 (by decide))) <|
  xw_cons (xw_E xn_lcmp (xo_lcmp dX9_sureOf_18)) <|
  xw_cons (xw_E xn_if (xo_if_ne dX9_sureOf_19 (by decide))) <|
  xw_cons (xw_E xn_push (xo_iconst dX9_sureOf_22 (by decide))) <|
  xw_cons (xw_E xn_goto (xo_goto dX9_sureOf_23 (by decide))) <|
  xw_cons (xw_E xn_lload (xo_lload_n dX9_sureOf_26 rfl)) <|
  xw_cons (xw_E xn_lload (xo_lload_n dX9_sureOf_27 rfl)) <|
  xw_cons (xw_E xn_ll (xo_land dX9_sureOf_28)) <|
  xw_cons (xw_E xn_push (xo_lconst dX9_sureOf_29 (by decide))) <|
  xw_cons (xw_E xn_lcmp (xo_lcmp dX9_sureOf_30)) <|
  xw_cons (xw_E xn_if (xo_if_ne dX9_sureOf_31 (by decide))) <|
  xw_cons (xw_E xn_push (xo_iconst dX9_sureOf_34 (by decide))) <|
  xw_cons (xw_E xn_goto (xo_goto dX9_sureOf_35 (by decide))) <|
  xw_cons (xw_E xn_push (xo_iconst dX9_sureOf_38 (by decide))) <|
  xw_cons (xw_R (xt_i dX9_sureOf_39)) <|
  xw_nil _
def xp_197 : List (Nat × xm_O) := xp_197_0
theorem xq_197 {G : xm_G} (hG : xm_W xk_B G) (hO : xm_Og G) : ∀ q ∈ xp_197, xm_op xk_B G xd xk_N "LiarsCockModel" "sureOf" prog_28_method_61_code 4 (some (FieldType.int)) q.1 q.2 := xq_197_0 hG hO
/- 198: LiarsCockModel.sure(I)I -/
def xp_198_0 : List (Nat × xm_O) := [
  (0, .inl (xe_aload 0 1)),
  (1, .inl (xe_push (.int 0) 2)),
  (2, .inl (xe_putf 300 0 (xj_1 8 0) 5)),
  (5, .inl (xe_iload 1 6)),
  (6, .inl (xe_if (fun x => decide (x < 0)) 33 9)),
  (9, .inl (xe_iload 1 10)),
  (10, .inl (xe_aload 0 11)),
  (11, .inl (xe_getf (xj_1 8 40) 14)),
  (14, .inl (xe_icmp (fun x y => decide (y ≤ x)) 33 17)),
  (17, .inl (xe_aload 0 18)),
  (18, .inr (.inr (.inl (xc_V (xj_1 8 188) [])))),
  (21, .inl (xe_aload 0 22)),
  (22, .inl (xe_getf (xj_1 8 47) 25)),
  (25, .inl (xe_iload 1 26)),
  (26, .inl (xe_ald (fun t => t == 1) 27)),
  (27, .inr (.inr (.inl (xc_S 197 [1, 1])))),
  (30, .inl (xe_goto 34)),
  (33, .inl (xe_push (.int (-1)) 34)),
  (34, .inr (.inl xr_i))]
theorem xq_198_0 {G : xm_G} (hG : xm_W xk_B G) (hO : xm_Og G) : ∀ q ∈ xp_198_0, xm_op xk_B G xd xk_N "LiarsCockModel" "sure" prog_28_method_63_code 2 (some (FieldType.int)) q.1 q.2 :=
  xw_cons (xw_E xn_aload (xo_aload_n dX9_sure_0 rfl)) <|
  xw_cons (xw_E xn_push (xo_iconst dX9_sure_1 (by decide))) <|
  xw_cons (xw_E xn_putf (xo_putf hG rfl xu_27_162 dX9_sure_2)) <|
  xw_cons (xw_E xn_iload (xo_iload_n dX9_sure_5 rfl)) <|
  xw_cons (xw_E xn_if (xo_if_lt dX9_sure_6 (by decide))) <|
  xw_cons (xw_E xn_iload (xo_iload_n dX9_sure_9 rfl)) <|
  xw_cons (xw_E xn_aload (xo_aload_n dX9_sure_10 rfl)) <|
  xw_cons (xw_E xn_getf (xo_getf hG xg_27_322 dX9_sure_11)) <|
  xw_cons (xw_E xn_icmp (xo_icmp_ge dX9_sure_14 (by decide))) <|
  xw_cons (xw_E xn_aload (xo_aload_n dX9_sure_17 rfl)) <|
  xw_cons (xl_v_27_390 hG dX9_sure_18) <|
  xw_cons (xw_E xn_aload (xo_aload_n dX9_sure_21 rfl)) <|
  xw_cons (xw_E xn_getf (xo_getf hG xg_27_102 dX9_sure_22)) <|
  xw_cons (xw_E xn_iload (xo_iload_n dX9_sure_25 rfl)) <|
  xw_cons (xw_E xn_ald (xo_lald xk_hB dX9_sure_26)) <|
  xw_cons (xl_s_27_403 hG dX9_sure_27) <|
  xw_cons (xw_E xn_goto (xo_goto dX9_sure_30 (by decide))) <|
  xw_cons (xw_E xn_push (xo_iconst dX9_sure_33 (by decide))) <|
  xw_cons (xw_R (xt_i dX9_sure_34)) <|
  xw_nil _
def xp_198 : List (Nat × xm_O) := xp_198_0
theorem xq_198 {G : xm_G} (hG : xm_W xk_B G) (hO : xm_Og G) : ∀ q ∈ xp_198, xm_op xk_B G xd xk_N "LiarsCockModel" "sure" prog_28_method_63_code 2 (some (FieldType.int)) q.1 q.2 := xq_198_0 hG hO
/- 199: LiarsCockModel.odds(II)J -/
def xp_199_0 : List (Nat × xm_O) := [
  (0, .inl (xe_aload 0 1)),
  (1, .inl (xe_push (.int 0) 2)),
  (2, .inl (xe_putf 300 0 (xj_1 8 0) 5)),
  (5, .inl (xe_aload 0 6)),
  (6, .inl (xe_iload 1 7)),
  (7, .inr (.inr (.inl (xc_V (xj_1 8 193) [0])))),
  (10, .inl (xe_if (fun x => decide (x = 0)) 22 13)),
  (13, .inl (xe_iload 2 14)),
  (14, .inl (xe_push (.int 0) 15)),
  (15, .inl (xe_push (.int 1) 16)),
  (16, .inr (.inr (.inl (xc_S 200 [0, 0, 0])))),
  (19, .inl (xe_if (fun x => decide (¬ x = 0)) 26 22)),
  (22, .inl (xe_push (.long (-1 : Int64)) 25)),
  (25, .inr (.inl xr_l)),
  (26, .inl (xe_aload 0 27)),
  (27, .inr (.inr (.inl (xc_V (xj_1 8 188) [])))),
  (30, .inl (xe_lstore 3 31)),
  (31, .inl (xe_push (.long 0) 32)),
  (32, .inl (xe_lstore 5 34)),
  (34, .inl (xe_push (.long 0) 35)),
  (35, .inl (xe_lstore 7 37)),
  (37, .inl (xe_push (.int 0) 38)),
  (38, .inl (xe_istore 9 40)),
  (40, .inl (xe_iload 9 42)),
  (42, .inl (xe_push (.int 1) 43)),
  (43, .inl (xe_aload 0 44)),
  (44, .inl (xe_getf (xj_1 8 10) 47)),
  (47, .inl (xe_push (.int 0) 48)),
  (48, .inl (xe_ald (fun t => t == 0) 49)),
  (49, .inl (xe_ii (fun x y => x <<< (y &&& 31)) 50)),
  (50, .inl (xe_icmp (fun x y => decide (y ≤ x)) 101 53)),
  (53, .inl (xe_lload 3 54)),
  (54, .inl (xe_iload 9 56)),
  (56, .inr (.inr (.inl (xc_S 177 [0, 1])))),
  (59, .inl (xe_if (fun x => decide (¬ x = 0)) 65 62)),
  (62, .inl (xe_goto 95)),
  (65, .inl (xe_lload 7 67)),
  (67, .inl (xe_aload 0 68)),
  (68, .inl (xe_iload 9 70)),
  (70, .inr (.inr (.inl (xc_V (xj_1 8 201) [0])))),
  (73, .inl (xe_ll (fun x y => x + y) 74)),
  (74, .inl (xe_lstore 7 76)),
  (76, .inl (xe_lload 5 78)),
  (78, .inl (xe_iload 9 80)),
  (80, .inl (xe_iload 1 81)),
  (81, .inl (xe_ii (fun x y => x >>> (y &&& 31)) 82)),
  (82, .inl (xe_push (.int 1) 83)),
  (83, .inl (xe_ii (fun x y => x &&& y) 84)),
  (84, .inl (xe_i2l 85)),
  (85, .inl (xe_aload 0 86))]
theorem xq_199_0 {G : xm_G} (hG : xm_W xk_B G) (hO : xm_Og G) : ∀ q ∈ xp_199_0, xm_op xk_B G xd xk_N "LiarsCockModel" "odds" prog_28_method_65_code 10 (some (FieldType.long)) q.1 q.2 :=
  xw_cons (xw_E xn_aload (xo_aload_n dX9_odds_0 rfl)) <|
  xw_cons (xw_E xn_push (xo_iconst dX9_odds_1 (by decide))) <|
  xw_cons (xw_E xn_putf (xo_putf hG rfl xu_27_162 dX9_odds_2)) <|
  xw_cons (xw_E xn_aload (xo_aload_n dX9_odds_5 rfl)) <|
  xw_cons (xw_E xn_iload (xo_iload_n dX9_odds_6 rfl)) <|
  xw_cons (xl_v_27_393 hG dX9_odds_7) <|
  xw_cons (xw_E xn_if (xo_if_eq dX9_odds_10 (by decide))) <|
  xw_cons (xw_E xn_iload (xo_iload_n dX9_odds_13 rfl)) <|
  xw_cons (xw_E xn_push (xo_iconst dX9_odds_14 (by decide))) <|
  xw_cons (xw_E xn_push (xo_iconst dX9_odds_15 (by decide))) <|
  xw_cons (xl_s_27_407 hG dX9_odds_16) <|
  xw_cons (xw_E xn_if (xo_if_ne dX9_odds_19 (by decide))) <|
  xw_cons (xw_E xn_push (xo_ldc2 hG q1956 dX9_odds_22)) <|
  xw_cons (xw_R (xt_l dX9_odds_25)) <|
  xw_cons (xw_E xn_aload (xo_aload_n dX9_odds_26 rfl)) <|
  xw_cons (xl_v_27_390 hG dX9_odds_27) <|
  xw_cons (xw_E xn_lstore (xo_lstore_n dX9_odds_30 rfl)) <|
  xw_cons (xw_E xn_push (xo_lconst dX9_odds_31 (by decide))) <|
  xw_cons (xw_E xn_lstore (xo_lstore dX9_odds_32)) <|
  xw_cons (xw_E xn_push (xo_lconst dX9_odds_34 (by decide))) <|
  xw_cons (xw_E xn_lstore (xo_lstore dX9_odds_35)) <|
  xw_cons (xw_E xn_push (xo_iconst dX9_odds_37 (by decide))) <|
  xw_cons (xw_E xn_istore (xo_istore dX9_odds_38)) <|
  xw_cons (xw_E xn_iload (xo_iload dX9_odds_40)) <|
  xw_cons (xw_E xn_push (xo_iconst dX9_odds_42 (by decide))) <|
  xw_cons (xw_E xn_aload (xo_aload_n dX9_odds_43 rfl)) <|
  xw_cons (xw_E xn_getf (xo_getf hG xg_27_13 dX9_odds_44)) <|
  xw_cons (xw_E xn_push (xo_iconst dX9_odds_47 (by decide))) <|
  xw_cons (xw_E xn_ald (xo_iald xk_hB dX9_odds_48)) <|
  xw_cons (xw_E xn_ii (xo_ishl dX9_odds_49)) <|
  xw_cons (xw_E xn_icmp (xo_icmp_ge dX9_odds_50 (by decide))) <|
  xw_cons (xw_E xn_lload (xo_lload_n dX9_odds_53 rfl)) <|
  xw_cons (xw_E xn_iload (xo_iload dX9_odds_54)) <|
  xw_cons (xl_s_27_350 hG dX9_odds_56) <|
  xw_cons (xw_E xn_if (xo_if_ne dX9_odds_59 (by decide))) <|
  xw_cons (xw_E xn_goto (xo_goto dX9_odds_62 (by decide))) <|
  xw_cons (xw_E xn_lload (xo_lload dX9_odds_65)) <|
  xw_cons (xw_E xn_aload (xo_aload_n dX9_odds_67 rfl)) <|
  xw_cons (xw_E xn_iload (xo_iload dX9_odds_68)) <|
  xw_cons (xl_v_27_410 hG dX9_odds_70) <|
  xw_cons (xw_E xn_ll (xo_ladd dX9_odds_73)) <|
  xw_cons (xw_E xn_lstore (xo_lstore dX9_odds_74)) <|
  xw_cons (xw_E xn_lload (xo_lload dX9_odds_76)) <|
  xw_cons (xw_E xn_iload (xo_iload dX9_odds_78)) <|
  xw_cons (xw_E xn_iload (xo_iload_n dX9_odds_80 rfl)) <|
  xw_cons (xw_E xn_ii (xo_ishr dX9_odds_81)) <|
  xw_cons (xw_E xn_push (xo_iconst dX9_odds_82 (by decide))) <|
  xw_cons (xw_E xn_ii (xo_iand dX9_odds_83)) <|
  xw_cons (xw_E xn_i2l (xo_i2l dX9_odds_84)) <|
  xw_cons (xw_E xn_aload (xo_aload_n dX9_odds_85 rfl)) <|
  xw_nil _
def xp_199_1 : List (Nat × xm_O) := [
  (86, .inl (xe_iload 9 88)),
  (88, .inr (.inr (.inl (xc_V (xj_1 8 201) [0])))),
  (91, .inl (xe_ll (fun x y => x * y) 92)),
  (92, .inl (xe_ll (fun x y => x + y) 93)),
  (93, .inl (xe_lstore 5 95)),
  (95, .inl (xe_iinc 9 1 98)),
  (98, .inl (xe_goto 40)),
  (101, .inl (xe_lload 7 103)),
  (103, .inl (xe_push (.long 0) 104)),
  (104, .inl (xe_lcmp 105)),
  (105, .inl (xe_if (fun x => decide (¬ x = 0)) 114 108)),
  (108, .inl (xe_push (.long (-1 : Int64)) 111)),
  (111, .inl (xe_goto 122)),
  (114, .inl (xe_lload 5 116)),
  (116, .inl (xe_lload 7 118)),
  (118, .inl (xe_iload 2 119)),
  (119, .inr (.inr (.inl (xc_S 202 [0, 1, 1])))),
  (122, .inr (.inl xr_l))]
theorem xq_199_1 {G : xm_G} (hG : xm_W xk_B G) (hO : xm_Og G) : ∀ q ∈ xp_199_1, xm_op xk_B G xd xk_N "LiarsCockModel" "odds" prog_28_method_65_code 10 (some (FieldType.long)) q.1 q.2 :=
  xw_cons (xw_E xn_iload (xo_iload dX9_odds_86)) <|
  xw_cons (xl_v_27_410 hG dX9_odds_88) <|
  xw_cons (xw_E xn_ll (xo_lmul dX9_odds_91)) <|
  xw_cons (xw_E xn_ll (xo_ladd dX9_odds_92)) <|
  xw_cons (xw_E xn_lstore (xo_lstore dX9_odds_93)) <|
  xw_cons (xw_E xn_iinc (xo_iinc dX9_odds_95 (by decide))) <|
  xw_cons (xw_E xn_goto (xo_goto dX9_odds_98 (by decide))) <|
  xw_cons (xw_E xn_lload (xo_lload dX9_odds_101)) <|
  xw_cons (xw_E xn_push (xo_lconst dX9_odds_103 (by decide))) <|
  xw_cons (xw_E xn_lcmp (xo_lcmp dX9_odds_104)) <|
  xw_cons (xw_E xn_if (xo_if_ne dX9_odds_105 (by decide))) <|
  xw_cons (xw_E xn_push (xo_ldc2 hG q1956 dX9_odds_108)) <|
  xw_cons (xw_E xn_goto (xo_goto dX9_odds_111 (by decide))) <|
  xw_cons (xw_E xn_lload (xo_lload dX9_odds_114)) <|
  xw_cons (xw_E xn_lload (xo_lload dX9_odds_116)) <|
  xw_cons (xw_E xn_iload (xo_iload_n dX9_odds_118 rfl)) <|
  xw_cons (xl_s_27_413 hG dX9_odds_119) <|
  xw_cons (xw_R (xt_l dX9_odds_122)) <|
  xw_nil _
def xp_199 : List (Nat × xm_O) := xp_199_0 ++ xp_199_1
theorem xq_199 {G : xm_G} (hG : xm_W xk_B G) (hO : xm_Og G) : ∀ q ∈ xp_199, xm_op xk_B G xd xk_N "LiarsCockModel" "odds" prog_28_method_65_code 10 (some (FieldType.long)) q.1 q.2 := xw_app (xq_199_0 hG hO) (xq_199_1 hG hO)
/- 200: LiarsCockModel.within(III)Z -/
def xp_200_0 : List (Nat × xm_O) := [
  (0, .inl (xe_iload 0 1)),
  (1, .inl (xe_iload 1 2)),
  (2, .inl (xe_icmp (fun x y => decide (x < y)) 14 5)),
  (5, .inl (xe_iload 0 6)),
  (6, .inl (xe_iload 2 7)),
  (7, .inl (xe_icmp (fun x y => decide (y < x)) 14 10)),
  (10, .inl (xe_push (.int 1) 11)),
  (11, .inl (xe_goto 15)),
  (14, .inl (xe_push (.int 0) 15)),
  (15, .inr (.inl xr_z))]
theorem xq_200_0 {G : xm_G} (hG : xm_W xk_B G) (hO : xm_Og G) : ∀ q ∈ xp_200_0, xm_op xk_B G xd xk_N "LiarsCockModel" "within" prog_28_method_3_code 3 (some (FieldType.boolean)) q.1 q.2 :=
  xw_cons (xw_E xn_iload (xo_iload_n dX9_within_0 rfl)) <|
  xw_cons (xw_E xn_iload (xo_iload_n dX9_within_1 rfl)) <|
  xw_cons (xw_E xn_icmp (xo_icmp_lt dX9_within_2 (by decide))) <|
  xw_cons (xw_E xn_iload (xo_iload_n dX9_within_5 rfl)) <|
  xw_cons (xw_E xn_iload (xo_iload_n dX9_within_6 rfl)) <|
  xw_cons (xw_E xn_icmp (xo_icmp_gt dX9_within_7 (by decide))) <|
  xw_cons (xw_E xn_push (xo_iconst dX9_within_10 (by decide))) <|
  xw_cons (xw_E xn_goto (xo_goto dX9_within_11 (by decide))) <|
  xw_cons (xw_E xn_push (xo_iconst dX9_within_14 (by decide))) <|
  xw_cons (xw_R (xt_z dX9_within_15)) <|
  xw_nil _
def xp_200 : List (Nat × xm_O) := xp_200_0
theorem xq_200 {G : xm_G} (hG : xm_W xk_B G) (hO : xm_Og G) : ∀ q ∈ xp_200, xm_op xk_B G xd xk_N "LiarsCockModel" "within" prog_28_method_3_code 3 (some (FieldType.boolean)) q.1 q.2 := xq_200_0 hG hO
/- 201: LiarsCockModel.weight(I)J -/
def xp_201_0 : List (Nat × xm_O) := [
  (0, .inl (xe_push (.long 1) 1)),
  (1, .inl (xe_lstore 2 2)),
  (2, .inl (xe_push (.int 0) 3)),
  (3, .inl (xe_istore 4 5)),
  (5, .inl (xe_iload 4 7)),
  (7, .inl (xe_aload 0 8)),
  (8, .inl (xe_getf (xj_1 8 10) 11)),
  (11, .inl (xe_push (.int 0) 12)),
  (12, .inl (xe_ald (fun t => t == 0) 13)),
  (13, .inl (xe_icmp (fun x y => decide (y ≤ x)) 57 16)),
  (16, .inl (xe_lload 2 17)),
  (17, .inl (xe_iload 1 18)),
  (18, .inl (xe_iload 4 20)),
  (20, .inl (xe_ii (fun x y => x >>> (y &&& 31)) 21)),
  (21, .inl (xe_push (.int 1) 22)),
  (22, .inl (xe_ii (fun x y => x &&& y) 23)),
  (23, .inl (xe_push (.int 1) 24)),
  (24, .inl (xe_icmp (fun x y => decide (¬ x = y)) 38 27)),
  (27, .inl (xe_aload 0 28)),
  (28, .inl (xe_getf (xj_1 8 12) 31)),
  (31, .inl (xe_iload 4 33)),
  (33, .inl (xe_ald (fun t => t == 0) 34)),
  (34, .inl (xe_i2l 35)),
  (35, .inl (xe_goto 49)),
  (38, .inl (xe_push (.int 10) 40)),
  (40, .inl (xe_aload 0 41)),
  (41, .inl (xe_getf (xj_1 8 12) 44)),
  (44, .inl (xe_iload 4 46)),
  (46, .inl (xe_ald (fun t => t == 0) 47)),
  (47, .inl (xe_ii (fun x y => x - y) 48)),
  (48, .inl (xe_i2l 49)),
  (49, .inl (xe_ll (fun x y => x * y) 50)),
  (50, .inl (xe_lstore 2 51)),
  (51, .inl (xe_iinc 4 1 54)),
  (54, .inl (xe_goto 5)),
  (57, .inl (xe_lload 2 58)),
  (58, .inr (.inl xr_l))]
theorem xq_201_0 {G : xm_G} (hG : xm_W xk_B G) (hO : xm_Og G) : ∀ q ∈ xp_201_0, xm_op xk_B G xd xk_N "LiarsCockModel" "weight" prog_28_method_64_code 5 (some (FieldType.long)) q.1 q.2 :=
  xw_cons (xw_E xn_push (xo_lconst dX9_weight_0 (by decide))) <|
  xw_cons (xw_E xn_lstore (xo_lstore_n dX9_weight_1 rfl)) <|
  xw_cons (xw_E xn_push (xo_iconst dX9_weight_2 (by decide))) <|
  xw_cons (xw_E xn_istore (xo_istore dX9_weight_3)) <|
  xw_cons (xw_E xn_iload (xo_iload dX9_weight_5)) <|
  xw_cons (xw_E xn_aload (xo_aload_n dX9_weight_7 rfl)) <|
  xw_cons (xw_E xn_getf (xo_getf hG xg_27_13 dX9_weight_8)) <|
  xw_cons (xw_E xn_push (xo_iconst dX9_weight_11 (by decide))) <|
  xw_cons (xw_E xn_ald (xo_iald xk_hB dX9_weight_12)) <|
  xw_cons (xw_E xn_icmp (xo_icmp_ge dX9_weight_13 (by decide))) <|
  xw_cons (xw_E xn_lload (xo_lload_n dX9_weight_16 rfl)) <|
  xw_cons (xw_E xn_iload (xo_iload_n dX9_weight_17 rfl)) <|
  xw_cons (xw_E xn_iload (xo_iload dX9_weight_18)) <|
  xw_cons (xw_E xn_ii (xo_ishr dX9_weight_20)) <|
  xw_cons (xw_E xn_push (xo_iconst dX9_weight_21 (by decide))) <|
  xw_cons (xw_E xn_ii (xo_iand dX9_weight_22)) <|
  xw_cons (xw_E xn_push (xo_iconst dX9_weight_23 (by decide))) <|
  xw_cons (xw_E xn_icmp (xo_icmp_ne dX9_weight_24 (by decide))) <|
  xw_cons (xw_E xn_aload (xo_aload_n dX9_weight_27 rfl)) <|
  xw_cons (xw_E xn_getf (xo_getf hG xg_27_20 dX9_weight_28)) <|
  xw_cons (xw_E xn_iload (xo_iload dX9_weight_31)) <|
  xw_cons (xw_E xn_ald (xo_iald xk_hB dX9_weight_33)) <|
  xw_cons (xw_E xn_i2l (xo_i2l dX9_weight_34)) <|
  xw_cons (xw_E xn_goto (xo_goto dX9_weight_35 (by decide))) <|
  xw_cons (xw_E xn_push (xo_bipush dX9_weight_38 (by decide))) <|
  xw_cons (xw_E xn_aload (xo_aload_n dX9_weight_40 rfl)) <|
  xw_cons (xw_E xn_getf (xo_getf hG xg_27_20 dX9_weight_41)) <|
  xw_cons (xw_E xn_iload (xo_iload dX9_weight_44)) <|
  xw_cons (xw_E xn_ald (xo_iald xk_hB dX9_weight_46)) <|
  xw_cons (xw_E xn_ii (xo_isub dX9_weight_47)) <|
  xw_cons (xw_E xn_i2l (xo_i2l dX9_weight_48)) <|
  xw_cons (xw_E xn_ll (xo_lmul dX9_weight_49)) <|
  xw_cons (xw_E xn_lstore (xo_lstore_n dX9_weight_50 rfl)) <|
  xw_cons (xw_E xn_iinc (xo_iinc dX9_weight_51 (by decide))) <|
  xw_cons (xw_E xn_goto (xo_goto dX9_weight_54 (by decide))) <|
  xw_cons (xw_E xn_lload (xo_lload_n dX9_weight_57 rfl)) <|
  xw_cons (xw_R (xt_l dX9_weight_58)) <|
  xw_nil _
def xp_201 : List (Nat × xm_O) := xp_201_0
theorem xq_201 {G : xm_G} (hG : xm_W xk_B G) (hO : xm_Og G) : ∀ q ∈ xp_201, xm_op xk_B G xd xk_N "LiarsCockModel" "weight" prog_28_method_64_code 5 (some (FieldType.long)) q.1 q.2 := xq_201_0 hG hO
/- 202: LiarsCockModel.lowest(JJI)J -/
def xp_202_0 : List (Nat × xm_O) := [
  (0, .inl (xe_lload 0 1)),
  (1, .inl (xe_lstore 5 3)),
  (3, .inl (xe_lload 2 4)),
  (4, .inl (xe_lstore 7 6)),
  (6, .inl (xe_lload 7 8)),
  (8, .inl (xe_push (.long 0) 9)),
  (9, .inl (xe_lcmp 10)),
  (10, .inl (xe_if (fun x => decide (x = 0)) 31 13)),
  (13, .inl (xe_lload 5 15)),
  (15, .inl (xe_lload 7 17)),
  (17, .inl (xe_lld (fun x y => x - x / y * y) 18)),
  (18, .inl (xe_lstore 9 20)),
  (20, .inl (xe_lload 7 22)),
  (22, .inl (xe_lstore 5 24)),
  (24, .inl (xe_lload 9 26)),
  (26, .inl (xe_lstore 7 28)),
  (28, .inl (xe_goto 6)),
  (31, .inl (xe_iload 4 33)),
  (33, .inl (xe_if (fun x => decide (¬ x = 0)) 43 36)),
  (36, .inl (xe_lload 0 37)),
  (37, .inl (xe_lload 5 39)),
  (39, .inl (xe_lld (fun x y => x / y) 40)),
  (40, .inl (xe_goto 47)),
  (43, .inl (xe_lload 2 44)),
  (44, .inl (xe_lload 5 46)),
  (46, .inl (xe_lld (fun x y => x / y) 47)),
  (47, .inr (.inl xr_l))]
theorem xq_202_0 {G : xm_G} (hG : xm_W xk_B G) (hO : xm_Og G) : ∀ q ∈ xp_202_0, xm_op xk_B G xd xk_N "LiarsCockModel" "lowest" prog_28_method_6_code 11 (some (FieldType.long)) q.1 q.2 :=
  xw_cons (xw_E xn_lload (xo_lload_n dX9_lowest_0 rfl)) <|
  xw_cons (xw_E xn_lstore (xo_lstore dX9_lowest_1)) <|
  xw_cons (xw_E xn_lload (xo_lload_n dX9_lowest_3 rfl)) <|
  xw_cons (xw_E xn_lstore (xo_lstore dX9_lowest_4)) <|
  xw_cons (xw_E xn_lload (xo_lload dX9_lowest_6)) <|
  xw_cons (xw_E xn_push (xo_lconst dX9_lowest_8 (by decide))) <|
  xw_cons (xw_E xn_lcmp (xo_lcmp dX9_lowest_9)) <|
  xw_cons (xw_E xn_if (xo_if_eq dX9_lowest_10 (by decide))) <|
  xw_cons (xw_E xn_lload (xo_lload dX9_lowest_13)) <|
  xw_cons (xw_E xn_lload (xo_lload dX9_lowest_15)) <|
  xw_cons (xw_E xn_lld (xo_lrem dX9_lowest_17)) <|
  xw_cons (xw_E xn_lstore (xo_lstore dX9_lowest_18)) <|
  xw_cons (xw_E xn_lload (xo_lload dX9_lowest_20)) <|
  xw_cons (xw_E xn_lstore (xo_lstore dX9_lowest_22)) <|
  xw_cons (xw_E xn_lload (xo_lload dX9_lowest_24)) <|
  xw_cons (xw_E xn_lstore (xo_lstore dX9_lowest_26)) <|
  xw_cons (xw_E xn_goto (xo_goto dX9_lowest_28 (by decide))) <|
  xw_cons (xw_E xn_iload (xo_iload dX9_lowest_31)) <|
  xw_cons (xw_E xn_if (xo_if_ne dX9_lowest_33 (by decide))) <|
  xw_cons (xw_E xn_lload (xo_lload_n dX9_lowest_36 rfl)) <|
  xw_cons (xw_E xn_lload (xo_lload dX9_lowest_37)) <|
  xw_cons (xw_E xn_lld (xo_ldiv dX9_lowest_39)) <|
  xw_cons (xw_E xn_goto (xo_goto dX9_lowest_40 (by decide))) <|
  xw_cons (xw_E xn_lload (xo_lload_n dX9_lowest_43 rfl)) <|
  xw_cons (xw_E xn_lload (xo_lload dX9_lowest_44)) <|
  xw_cons (xw_E xn_lld (xo_ldiv dX9_lowest_46)) <|
  xw_cons (xw_R (xt_l dX9_lowest_47)) <|
  xw_nil _
def xp_202 : List (Nat × xm_O) := xp_202_0
theorem xq_202 {G : xm_G} (hG : xm_W xk_B G) (hO : xm_Og G) : ∀ q ∈ xp_202, xm_op xk_B G xd xk_N "LiarsCockModel" "lowest" prog_28_method_6_code 11 (some (FieldType.long)) q.1 q.2 := xq_202_0 hG hO
/- 203: LiarsCockModel.proof(II)I -/
def xp_203_0 : List (Nat × xm_O) := [
  (0, .inl (xe_aload 0 1)),
  (1, .inl (xe_push (.int 0) 2)),
  (2, .inl (xe_putf 300 0 (xj_1 8 0) 5)),
  (5, .inl (xe_iload 1 6)),
  (6, .inl (xe_if (fun x => decide (x < 0)) 26 9)),
  (9, .inl (xe_iload 1 10)),
  (10, .inl (xe_aload 0 11)),
  (11, .inl (xe_getf (xj_1 8 40) 14)),
  (14, .inl (xe_icmp (fun x y => decide (y ≤ x)) 26 17)),
  (17, .inl (xe_iload 2 18)),
  (18, .inl (xe_push (.int 0) 19)),
  (19, .inl (xe_push (.int 1) 20)),
  (20, .inr (.inr (.inl (xc_S 200 [0, 0, 0])))),
  (23, .inl (xe_if (fun x => decide (¬ x = 0)) 28 26)),
  (26, .inl (xe_push (.int (-1)) 27)),
  (27, .inr (.inl xr_i)),
  (28, .inl (xe_aload 0 29)),
  (29, .inr (.inr (.inl (xc_V (xj_1 8 188) [])))),
  (32, .inl (xe_aload 0 33)),
  (33, .inl (xe_getf (xj_1 8 47) 36)),
  (36, .inl (xe_iload 1 37)),
  (37, .inl (xe_ald (fun t => t == 1) 38)),
  (38, .inr (.inr (.inl (xc_S 197 [1, 1])))),
  (41, .inl (xe_istore 3 42)),
  (42, .inl (xe_iload 3 43)),
  (43, .inl (xe_push (.int 1) 44)),
  (44, .inl (xe_icmp (fun x y => decide (x ≤ y)) 49 47)),
  (47, .inl (xe_push (.int (-1)) 48)),
  (48, .inr (.inl xr_i)),
  (49, .inl (xe_push (.int (-1)) 50)),
  (50, .inl (xe_istore 4 52)),
  (52, .inl (xe_push (.int 0) 53)),
  (53, .inl (xe_istore 5 55)),
  (55, .inl (xe_iload 5 57)),
  (57, .inl (xe_push (.int 1) 58)),
  (58, .inl (xe_aload 0 59)),
  (59, .inl (xe_getf (xj_1 8 42) 62)),
  (62, .inl (xe_ii (fun x y => x <<< (y &&& 31)) 63)),
  (63, .inl (xe_icmp (fun x y => decide (y ≤ x)) 115 66)),
  (66, .inl (xe_aload 0 67)),
  (67, .inl (xe_iload 5 69)),
  (69, .inr (.inr (.inl (xc_V (xj_1 8 204) [0])))),
  (72, .inl (xe_aload 0 73)),
  (73, .inl (xe_getf (xj_1 8 47) 76)),
  (76, .inl (xe_iload 1 77)),
  (77, .inl (xe_ald (fun t => t == 1) 78)),
  (78, .inr (.inr (.inl (xc_S 197 [1, 1])))),
  (81, .inl (xe_iload 3 82)),
  (82, .inl (xe_icmp (fun x y => decide (¬ x = y)) 109 85)),
  (85, .inl (xe_iload 4 87))]
theorem xq_203_0 {G : xm_G} (hG : xm_W xk_B G) (hO : xm_Og G) : ∀ q ∈ xp_203_0, xm_op xk_B G xd xk_N "LiarsCockModel" "proof" prog_28_method_67_code 6 (some (FieldType.int)) q.1 q.2 :=
  xw_cons (xw_E xn_aload (xo_aload_n dX9_proof_0 rfl)) <|
  xw_cons (xw_E xn_push (xo_iconst dX9_proof_1 (by decide))) <|
  xw_cons (xw_E xn_putf (xo_putf hG rfl xu_27_162 dX9_proof_2)) <|
  xw_cons (xw_E xn_iload (xo_iload_n dX9_proof_5 rfl)) <|
  xw_cons (xw_E xn_if (xo_if_lt dX9_proof_6 (by decide))) <|
  xw_cons (xw_E xn_iload (xo_iload_n dX9_proof_9 rfl)) <|
  xw_cons (xw_E xn_aload (xo_aload_n dX9_proof_10 rfl)) <|
  xw_cons (xw_E xn_getf (xo_getf hG xg_27_322 dX9_proof_11)) <|
  xw_cons (xw_E xn_icmp (xo_icmp_ge dX9_proof_14 (by decide))) <|
  xw_cons (xw_E xn_iload (xo_iload_n dX9_proof_17 rfl)) <|
  xw_cons (xw_E xn_push (xo_iconst dX9_proof_18 (by decide))) <|
  xw_cons (xw_E xn_push (xo_iconst dX9_proof_19 (by decide))) <|
  xw_cons (xl_s_27_407 hG dX9_proof_20) <|
  xw_cons (xw_E xn_if (xo_if_ne dX9_proof_23 (by decide))) <|
  xw_cons (xw_E xn_push (xo_iconst dX9_proof_26 (by decide))) <|
  xw_cons (xw_R (xt_i dX9_proof_27)) <|
  xw_cons (xw_E xn_aload (xo_aload_n dX9_proof_28 rfl)) <|
  xw_cons (xl_v_27_390 hG dX9_proof_29) <|
  xw_cons (xw_E xn_aload (xo_aload_n dX9_proof_32 rfl)) <|
  xw_cons (xw_E xn_getf (xo_getf hG xg_27_102 dX9_proof_33)) <|
  xw_cons (xw_E xn_iload (xo_iload_n dX9_proof_36 rfl)) <|
  xw_cons (xw_E xn_ald (xo_lald xk_hB dX9_proof_37)) <|
  xw_cons (xl_s_27_403 hG dX9_proof_38) <|
  xw_cons (xw_E xn_istore (xo_istore_n dX9_proof_41 rfl)) <|
  xw_cons (xw_E xn_iload (xo_iload_n dX9_proof_42 rfl)) <|
  xw_cons (xw_E xn_push (xo_iconst dX9_proof_43 (by decide))) <|
  xw_cons (xw_E xn_icmp (xo_icmp_le dX9_proof_44 (by decide))) <|
  xw_cons (xw_E xn_push (xo_iconst dX9_proof_47 (by decide))) <|
  xw_cons (xw_R (xt_i dX9_proof_48)) <|
  xw_cons (xw_E xn_push (xo_iconst dX9_proof_49 (by decide))) <|
  xw_cons (xw_E xn_istore (xo_istore dX9_proof_50)) <|
  xw_cons (xw_E xn_push (xo_iconst dX9_proof_52 (by decide))) <|
  xw_cons (xw_E xn_istore (xo_istore dX9_proof_53)) <|
  xw_cons (xw_E xn_iload (xo_iload dX9_proof_55)) <|
  xw_cons (xw_E xn_push (xo_iconst dX9_proof_57 (by decide))) <|
  xw_cons (xw_E xn_aload (xo_aload_n dX9_proof_58 rfl)) <|
  xw_cons (xw_E xn_getf (xo_getf hG xg_27_328 dX9_proof_59)) <|
  xw_cons (xw_E xn_ii (xo_ishl dX9_proof_62)) <|
  xw_cons (xw_E xn_icmp (xo_icmp_ge dX9_proof_63 (by decide))) <|
  xw_cons (xw_E xn_aload (xo_aload_n dX9_proof_66 rfl)) <|
  xw_cons (xw_E xn_iload (xo_iload dX9_proof_67)) <|
  xw_cons (xl_v_27_417 hG dX9_proof_69) <|
  xw_cons (xw_E xn_aload (xo_aload_n dX9_proof_72 rfl)) <|
  xw_cons (xw_E xn_getf (xo_getf hG xg_27_102 dX9_proof_73)) <|
  xw_cons (xw_E xn_iload (xo_iload_n dX9_proof_76 rfl)) <|
  xw_cons (xw_E xn_ald (xo_lald xk_hB dX9_proof_77)) <|
  xw_cons (xl_s_27_403 hG dX9_proof_78) <|
  xw_cons (xw_E xn_iload (xo_iload_n dX9_proof_81 rfl)) <|
  xw_cons (xw_E xn_icmp (xo_icmp_ne dX9_proof_82 (by decide))) <|
  xw_cons (xw_E xn_iload (xo_iload dX9_proof_85)) <|
  xw_nil _
def xp_203_1 : List (Nat × xm_O) := [
  (87, .inl (xe_if (fun x => decide (x < 0)) 105 90)),
  (90, .inl (xe_iload 5 92)),
  (92, .inl (xe_i2l 93)),
  (93, .inr (.inr (.inl (xc_S 195 [1])))),
  (96, .inl (xe_iload 4 98)),
  (98, .inl (xe_i2l 99)),
  (99, .inr (.inr (.inl (xc_S 195 [1])))),
  (102, .inl (xe_icmp (fun x y => decide (y ≤ x)) 109 105)),
  (105, .inl (xe_iload 5 107)),
  (107, .inl (xe_istore 4 109)),
  (109, .inl (xe_iinc 5 1 112)),
  (112, .inl (xe_goto 55)),
  (115, .inl (xe_iload 2 116)),
  (116, .inl (xe_if (fun x => decide (¬ x = 0)) 128 119)),
  (119, .inl (xe_iload 4 121)),
  (121, .inl (xe_i2l 122)),
  (122, .inr (.inr (.inl (xc_S 195 [1])))),
  (125, .inl (xe_goto 130)),
  (128, .inl (xe_iload 4 130)),
  (130, .inr (.inl xr_i))]
theorem xq_203_1 {G : xm_G} (hG : xm_W xk_B G) (hO : xm_Og G) : ∀ q ∈ xp_203_1, xm_op xk_B G xd xk_N "LiarsCockModel" "proof" prog_28_method_67_code 6 (some (FieldType.int)) q.1 q.2 :=
  xw_cons (xw_E xn_if (xo_if_lt dX9_proof_87 (by decide))) <|
  xw_cons (xw_E xn_iload (xo_iload dX9_proof_90)) <|
  xw_cons (xw_E xn_i2l (xo_i2l dX9_proof_92)) <|
  xw_cons (xl_s_27_399 hG dX9_proof_93) <|
  xw_cons (xw_E xn_iload (xo_iload dX9_proof_96)) <|
  xw_cons (xw_E xn_i2l (xo_i2l dX9_proof_98)) <|
  xw_cons (xl_s_27_399 hG dX9_proof_99) <|
  xw_cons (xw_E xn_icmp (xo_icmp_ge dX9_proof_102 (by decide))) <|
  xw_cons (xw_E xn_iload (xo_iload dX9_proof_105)) <|
  xw_cons (xw_E xn_istore (xo_istore dX9_proof_107)) <|
  xw_cons (xw_E xn_iinc (xo_iinc dX9_proof_109 (by decide))) <|
  xw_cons (xw_E xn_goto (xo_goto dX9_proof_112 (by decide))) <|
  xw_cons (xw_E xn_iload (xo_iload_n dX9_proof_115 rfl)) <|
  xw_cons (xw_E xn_if (xo_if_ne dX9_proof_116 (by decide))) <|
  xw_cons (xw_E xn_iload (xo_iload dX9_proof_119)) <|
  xw_cons (xw_E xn_i2l (xo_i2l dX9_proof_121)) <|
  xw_cons (xl_s_27_399 hG dX9_proof_122) <|
  xw_cons (xw_E xn_goto (xo_goto dX9_proof_125 (by decide))) <|
  xw_cons (xw_E xn_iload (xo_iload dX9_proof_128)) <|
  xw_cons (xw_R (xt_i dX9_proof_130)) <|
  xw_nil _
def xp_203 : List (Nat × xm_O) := xp_203_0 ++ xp_203_1
theorem xq_203 {G : xm_G} (hG : xm_W xk_B G) (hO : xm_Og G) : ∀ q ∈ xp_203, xm_op xk_B G xd xk_N "LiarsCockModel" "proof" prog_28_method_67_code 6 (some (FieldType.int)) q.1 q.2 := xw_app (xq_203_0 hG hO) (xq_203_1 hG hO)
/- 204: LiarsCockModel.withLooks(I)J -/
def xp_204_0 : List (Nat × xm_O) := [
  (0, .inl (xe_aload 0 1)),
  (1, .inl (xe_getf (xj_1 8 19) 4)),
  (4, .inl (xe_push (.int 0) 5)),
  (5, .inl (xe_ald (fun t => t == 1) 6)),
  (6, .inl (xe_lstore 2 7)),
  (7, .inl (xe_push (.int 0) 8)),
  (8, .inl (xe_istore 4 10)),
  (10, .inl (xe_iload 4 12)),
  (12, .inl (xe_aload 0 13)),
  (13, .inl (xe_getf (xj_1 8 42) 16)),
  (16, .inl (xe_icmp (fun x y => decide (y ≤ x)) 45 19)),
  (19, .inl (xe_iload 1 20)),
  (20, .inl (xe_iload 4 22)),
  (22, .inl (xe_ii (fun x y => x >>> (y &&& 31)) 23)),
  (23, .inl (xe_push (.int 1) 24)),
  (24, .inl (xe_ii (fun x y => x &&& y) 25)),
  (25, .inl (xe_push (.int 1) 26)),
  (26, .inl (xe_icmp (fun x y => decide (¬ x = y)) 39 29)),
  (29, .inl (xe_lload 2 30)),
  (30, .inl (xe_aload 0 31)),
  (31, .inl (xe_getf (xj_1 8 56) 34)),
  (34, .inl (xe_iload 4 36)),
  (36, .inl (xe_ald (fun t => t == 1) 37)),
  (37, .inl (xe_ll (fun x y => x &&& y) 38)),
  (38, .inl (xe_lstore 2 39)),
  (39, .inl (xe_iinc 4 1 42)),
  (42, .inl (xe_goto 10)),
  (45, .inl (xe_lload 2 46)),
  (46, .inr (.inl xr_l))]
theorem xq_204_0 {G : xm_G} (hG : xm_W xk_B G) (hO : xm_Og G) : ∀ q ∈ xp_204_0, xm_op xk_B G xd xk_N "LiarsCockModel" "withLooks" prog_28_method_66_code 5 (some (FieldType.long)) q.1 q.2 :=
  xw_cons (xw_E xn_aload (xo_aload_n dX9_withLooks_0 rfl)) <|
  xw_cons (xw_E xn_getf (xo_getf hG xg_27_42 dX9_withLooks_1)) <|
  xw_cons (xw_E xn_push (xo_iconst dX9_withLooks_4 (by decide))) <|
  xw_cons (xw_E xn_ald (xo_lald xk_hB dX9_withLooks_5)) <|
  xw_cons (xw_E xn_lstore (xo_lstore_n dX9_withLooks_6 rfl)) <|
  xw_cons (xw_E xn_push (xo_iconst dX9_withLooks_7 (by decide))) <|
  xw_cons (xw_E xn_istore (xo_istore dX9_withLooks_8)) <|
  xw_cons (xw_E xn_iload (xo_iload dX9_withLooks_10)) <|
  xw_cons (xw_E xn_aload (xo_aload_n dX9_withLooks_12 rfl)) <|
  xw_cons (xw_E xn_getf (xo_getf hG xg_27_328 dX9_withLooks_13)) <|
  xw_cons (xw_E xn_icmp (xo_icmp_ge dX9_withLooks_16 (by decide))) <|
  xw_cons (xw_E xn_iload (xo_iload_n dX9_withLooks_19 rfl)) <|
  xw_cons (xw_E xn_iload (xo_iload dX9_withLooks_20)) <|
  xw_cons (xw_E xn_ii (xo_ishr dX9_withLooks_22)) <|
  xw_cons (xw_E xn_push (xo_iconst dX9_withLooks_23 (by decide))) <|
  xw_cons (xw_E xn_ii (xo_iand dX9_withLooks_24)) <|
  xw_cons (xw_E xn_push (xo_iconst dX9_withLooks_25 (by decide))) <|
  xw_cons (xw_E xn_icmp (xo_icmp_ne dX9_withLooks_26 (by decide))) <|
  xw_cons (xw_E xn_lload (xo_lload_n dX9_withLooks_29 rfl)) <|
  xw_cons (xw_E xn_aload (xo_aload_n dX9_withLooks_30 rfl)) <|
  xw_cons (xw_E xn_getf (xo_getf hG xg_27_126 dX9_withLooks_31)) <|
  xw_cons (xw_E xn_iload (xo_iload dX9_withLooks_34)) <|
  xw_cons (xw_E xn_ald (xo_lald xk_hB dX9_withLooks_36)) <|
  xw_cons (xw_E xn_ll (xo_land dX9_withLooks_37)) <|
  xw_cons (xw_E xn_lstore (xo_lstore_n dX9_withLooks_38 rfl)) <|
  xw_cons (xw_E xn_iinc (xo_iinc dX9_withLooks_39 (by decide))) <|
  xw_cons (xw_E xn_goto (xo_goto dX9_withLooks_42 (by decide))) <|
  xw_cons (xw_E xn_lload (xo_lload_n dX9_withLooks_45 rfl)) <|
  xw_cons (xw_R (xt_l dX9_withLooks_46)) <|
  xw_nil _
def xp_204 : List (Nat × xm_O) := xp_204_0
theorem xq_204 {G : xm_G} (hG : xm_W xk_B G) (hO : xm_Og G) : ∀ q ∈ xp_204, xm_op xk_B G xd xk_N "LiarsCockModel" "withLooks" prog_28_method_66_code 5 (some (FieldType.long)) q.1 q.2 := xq_204_0 hG hO
/- 205: LiarsCockModel.clash(I)I -/
def xp_205_0 : List (Nat × xm_O) := [
  (0, .inl (xe_aload 0 1)),
  (1, .inl (xe_push (.int 0) 2)),
  (2, .inl (xe_putf 300 0 (xj_1 8 0) 5)),
  (5, .inl (xe_iload 1 6)),
  (6, .inl (xe_push (.int 0) 7)),
  (7, .inl (xe_push (.int 1) 8)),
  (8, .inr (.inr (.inl (xc_S 200 [0, 0, 0])))),
  (11, .inl (xe_if (fun x => decide (x = 0)) 23 14)),
  (14, .inl (xe_aload 0 15)),
  (15, .inr (.inr (.inl (xc_V (xj_1 8 188) [])))),
  (18, .inl (xe_push (.long 0) 19)),
  (19, .inl (xe_lcmp 20)),
  (20, .inl (xe_if (fun x => decide (x = 0)) 25 23)),
  (23, .inl (xe_push (.int (-1)) 24)),
  (24, .inr (.inl xr_i)),
  (25, .inl (xe_push (.int (-1)) 26)),
  (26, .inl (xe_istore 2 27)),
  (27, .inl (xe_push (.int 0) 28)),
  (28, .inl (xe_istore 3 29)),
  (29, .inl (xe_iload 3 30)),
  (30, .inl (xe_push (.int 1) 31)),
  (31, .inl (xe_aload 0 32)),
  (32, .inl (xe_getf (xj_1 8 42) 35)),
  (35, .inl (xe_ii (fun x y => x <<< (y &&& 31)) 36)),
  (36, .inl (xe_icmp (fun x y => decide (y ≤ x)) 74 39)),
  (39, .inl (xe_aload 0 40)),
  (40, .inl (xe_iload 3 41)),
  (41, .inr (.inr (.inl (xc_V (xj_1 8 204) [0])))),
  (44, .inl (xe_push (.long 0) 45)),
  (45, .inl (xe_lcmp 46)),
  (46, .inl (xe_if (fun x => decide (¬ x = 0)) 68 49)),
  (49, .inl (xe_iload 2 50)),
  (50, .inl (xe_if (fun x => decide (x < 0)) 66 53)),
  (53, .inl (xe_iload 3 54)),
  (54, .inl (xe_i2l 55)),
  (55, .inr (.inr (.inl (xc_S 195 [1])))),
  (58, .inl (xe_iload 2 59)),
  (59, .inl (xe_i2l 60)),
  (60, .inr (.inr (.inl (xc_S 195 [1])))),
  (63, .inl (xe_icmp (fun x y => decide (y ≤ x)) 68 66)),
  (66, .inl (xe_iload 3 67)),
  (67, .inl (xe_istore 2 68)),
  (68, .inl (xe_iinc 3 1 71)),
  (71, .inl (xe_goto 29)),
  (74, .inl (xe_iload 1 75)),
  (75, .inl (xe_if (fun x => decide (¬ x = 0)) 86 78)),
  (78, .inl (xe_iload 2 79)),
  (79, .inl (xe_i2l 80)),
  (80, .inr (.inr (.inl (xc_S 195 [1])))),
  (83, .inl (xe_goto 87))]
theorem xq_205_0 {G : xm_G} (hG : xm_W xk_B G) (hO : xm_Og G) : ∀ q ∈ xp_205_0, xm_op xk_B G xd xk_N "LiarsCockModel" "clash" prog_28_method_68_code 4 (some (FieldType.int)) q.1 q.2 :=
  xw_cons (xw_E xn_aload (xo_aload_n dX9_clash_0 rfl)) <|
  xw_cons (xw_E xn_push (xo_iconst dX9_clash_1 (by decide))) <|
  xw_cons (xw_E xn_putf (xo_putf hG rfl xu_27_162 dX9_clash_2)) <|
  xw_cons (xw_E xn_iload (xo_iload_n dX9_clash_5 rfl)) <|
  xw_cons (xw_E xn_push (xo_iconst dX9_clash_6 (by decide))) <|
  xw_cons (xw_E xn_push (xo_iconst dX9_clash_7 (by decide))) <|
  xw_cons (xl_s_27_407 hG dX9_clash_8) <|
  xw_cons (xw_E xn_if (xo_if_eq dX9_clash_11 (by decide))) <|
  xw_cons (xw_E xn_aload (xo_aload_n dX9_clash_14 rfl)) <|
  xw_cons (xl_v_27_390 hG dX9_clash_15) <|
  xw_cons (xw_E xn_push (xo_lconst dX9_clash_18 (by decide))) <|
  xw_cons (xw_E xn_lcmp (xo_lcmp dX9_clash_19)) <|
  xw_cons (xw_E xn_if (xo_if_eq dX9_clash_20 (by decide))) <|
  xw_cons (xw_E xn_push (xo_iconst dX9_clash_23 (by decide))) <|
  xw_cons (xw_R (xt_i dX9_clash_24)) <|
  xw_cons (xw_E xn_push (xo_iconst dX9_clash_25 (by decide))) <|
  xw_cons (xw_E xn_istore (xo_istore_n dX9_clash_26 rfl)) <|
  xw_cons (xw_E xn_push (xo_iconst dX9_clash_27 (by decide))) <|
  xw_cons (xw_E xn_istore (xo_istore_n dX9_clash_28 rfl)) <|
  xw_cons (xw_E xn_iload (xo_iload_n dX9_clash_29 rfl)) <|
  xw_cons (xw_E xn_push (xo_iconst dX9_clash_30 (by decide))) <|
  xw_cons (xw_E xn_aload (xo_aload_n dX9_clash_31 rfl)) <|
  xw_cons (xw_E xn_getf (xo_getf hG xg_27_328 dX9_clash_32)) <|
  xw_cons (xw_E xn_ii (xo_ishl dX9_clash_35)) <|
  xw_cons (xw_E xn_icmp (xo_icmp_ge dX9_clash_36 (by decide))) <|
  xw_cons (xw_E xn_aload (xo_aload_n dX9_clash_39 rfl)) <|
  xw_cons (xw_E xn_iload (xo_iload_n dX9_clash_40 rfl)) <|
  xw_cons (xl_v_27_417 hG dX9_clash_41) <|
  xw_cons (xw_E xn_push (xo_lconst dX9_clash_44 (by decide))) <|
  xw_cons (xw_E xn_lcmp (xo_lcmp dX9_clash_45)) <|
  xw_cons (xw_E xn_if (xo_if_ne dX9_clash_46 (by decide))) <|
  xw_cons (xw_E xn_iload (xo_iload_n dX9_clash_49 rfl)) <|
  xw_cons (xw_E xn_if (xo_if_lt dX9_clash_50 (by decide))) <|
  xw_cons (xw_E xn_iload (xo_iload_n dX9_clash_53 rfl)) <|
  xw_cons (xw_E xn_i2l (xo_i2l dX9_clash_54)) <|
  xw_cons (xl_s_27_399 hG dX9_clash_55) <|
  xw_cons (xw_E xn_iload (xo_iload_n dX9_clash_58 rfl)) <|
  xw_cons (xw_E xn_i2l (xo_i2l dX9_clash_59)) <|
  xw_cons (xl_s_27_399 hG dX9_clash_60) <|
  xw_cons (xw_E xn_icmp (xo_icmp_ge dX9_clash_63 (by decide))) <|
  xw_cons (xw_E xn_iload (xo_iload_n dX9_clash_66 rfl)) <|
  xw_cons (xw_E xn_istore (xo_istore_n dX9_clash_67 rfl)) <|
  xw_cons (xw_E xn_iinc (xo_iinc dX9_clash_68 (by decide))) <|
  xw_cons (xw_E xn_goto (xo_goto dX9_clash_71 (by decide))) <|
  xw_cons (xw_E xn_iload (xo_iload_n dX9_clash_74 rfl)) <|
  xw_cons (xw_E xn_if (xo_if_ne dX9_clash_75 (by decide))) <|
  xw_cons (xw_E xn_iload (xo_iload_n dX9_clash_78 rfl)) <|
  xw_cons (xw_E xn_i2l (xo_i2l dX9_clash_79)) <|
  xw_cons (xl_s_27_399 hG dX9_clash_80) <|
  xw_cons (xw_E xn_goto (xo_goto dX9_clash_83 (by decide))) <|
  xw_nil _
def xp_205_1 : List (Nat × xm_O) := [
  (86, .inl (xe_iload 2 87)),
  (87, .inr (.inl xr_i))]
theorem xq_205_1 {G : xm_G} (hG : xm_W xk_B G) (hO : xm_Og G) : ∀ q ∈ xp_205_1, xm_op xk_B G xd xk_N "LiarsCockModel" "clash" prog_28_method_68_code 4 (some (FieldType.int)) q.1 q.2 :=
  xw_cons (xw_E xn_iload (xo_iload_n dX9_clash_86 rfl)) <|
  xw_cons (xw_R (xt_i dX9_clash_87)) <|
  xw_nil _
def xp_205 : List (Nat × xm_O) := xp_205_0 ++ xp_205_1
theorem xq_205 {G : xm_G} (hG : xm_W xk_B G) (hO : xm_Og G) : ∀ q ∈ xp_205, xm_op xk_B G xd xk_N "LiarsCockModel" "clash" prog_28_method_68_code 4 (some (FieldType.int)) q.1 q.2 := xw_app (xq_205_0 hG hO) (xq_205_1 hG hO)
/- 206: LiarsCockModel.next(IIII)I -/
def xp_206_0 : List (Nat × xm_O) := [
  (0, .inl (xe_aload 0 1)),
  (1, .inl (xe_push (.int 0) 2)),
  (2, .inl (xe_putf 300 0 (xj_1 8 0) 5)),
  (5, .inl (xe_aload 0 6)),
  (6, .inl (xe_iload 1 7)),
  (7, .inl (xe_iload 2 8)),
  (8, .inl (xe_iload 3 9)),
  (9, .inr (.inr (.inl (xc_V (xj_1 8 207) [0, 0, 0])))),
  (12, .inl (xe_if (fun x => decide (x = 0)) 25 15)),
  (15, .inl (xe_iload 4 17)),
  (17, .inl (xe_push (.int 0) 18)),
  (18, .inl (xe_push (.int 1) 19)),
  (19, .inr (.inr (.inl (xc_S 200 [0, 0, 0])))),
  (22, .inl (xe_if (fun x => decide (¬ x = 0)) 27 25)),
  (25, .inl (xe_push (.int (-1)) 26)),
  (26, .inr (.inl xr_i)),
  (27, .inl (xe_aload 0 28)),
  (28, .inr (.inr (.inl (xc_V (xj_1 8 188) [])))),
  (31, .inl (xe_lstore 5 33)),
  (33, .inl (xe_lload 5 35)),
  (35, .inl (xe_push (.long 0) 36)),
  (36, .inl (xe_lcmp 37)),
  (37, .inl (xe_if (fun x => decide (¬ x = 0)) 42 40)),
  (40, .inl (xe_push (.int (-1)) 41)),
  (41, .inr (.inl xr_i)),
  (42, .inl (xe_push (.int (-1)) 43)),
  (43, .inl (xe_istore 7 45)),
  (45, .inl (xe_push (.int 99) 47)),
  (47, .inl (xe_istore 8 49)),
  (49, .inl (xe_iload 2 50)),
  (50, .inl (xe_istore 9 52)),
  (52, .inl (xe_iload 9 54)),
  (54, .inl (xe_iload 3 55)),
  (55, .inl (xe_icmp (fun x y => decide (y < x)) 108 58)),
  (58, .inl (xe_aload 0 59)),
  (59, .inl (xe_iload 1 60)),
  (60, .inl (xe_iload 9 62)),
  (62, .inl (xe_iload 2 63)),
  (63, .inr (.inr (.inl (xc_V (xj_1 8 208) [0, 0, 0])))),
  (66, .inl (xe_if (fun x => decide (x = 0)) 72 69)),
  (69, .inl (xe_goto 102)),
  (72, .inl (xe_aload 0 73)),
  (73, .inl (xe_iload 1 74)),
  (74, .inl (xe_iload 9 76)),
  (76, .inl (xe_lload 5 78)),
  (78, .inl (xe_push (.int 1) 79)),
  (79, .inr (.inr (.inl (xc_V (xj_1 8 209) [0, 1, 0, 0])))),
  (82, .inl (xe_istore 10 84)),
  (84, .inl (xe_iload 10 86)),
  (86, .inl (xe_iload 8 88))]
theorem xq_206_0 {G : xm_G} (hG : xm_W xk_B G) (hO : xm_Og G) : ∀ q ∈ xp_206_0, xm_op xk_B G xd xk_N "LiarsCockModel" "next" prog_28_method_72_code 11 (some (FieldType.int)) q.1 q.2 :=
  xw_cons (xw_E xn_aload (xo_aload_n dX9_next_0 rfl)) <|
  xw_cons (xw_E xn_push (xo_iconst dX9_next_1 (by decide))) <|
  xw_cons (xw_E xn_putf (xo_putf hG rfl xu_27_162 dX9_next_2)) <|
  xw_cons (xw_E xn_aload (xo_aload_n dX9_next_5 rfl)) <|
  xw_cons (xw_E xn_iload (xo_iload_n dX9_next_6 rfl)) <|
  xw_cons (xw_E xn_iload (xo_iload_n dX9_next_7 rfl)) <|
  xw_cons (xw_E xn_iload (xo_iload_n dX9_next_8 rfl)) <|
  xw_cons (xl_v_27_426 hG dX9_next_9) <|
  xw_cons (xw_E xn_if (xo_if_eq dX9_next_12 (by decide))) <|
  xw_cons (xw_E xn_iload (xo_iload dX9_next_15)) <|
  xw_cons (xw_E xn_push (xo_iconst dX9_next_17 (by decide))) <|
  xw_cons (xw_E xn_push (xo_iconst dX9_next_18 (by decide))) <|
  xw_cons (xl_s_27_407 hG dX9_next_19) <|
  xw_cons (xw_E xn_if (xo_if_ne dX9_next_22 (by decide))) <|
  xw_cons (xw_E xn_push (xo_iconst dX9_next_25 (by decide))) <|
  xw_cons (xw_R (xt_i dX9_next_26)) <|
  xw_cons (xw_E xn_aload (xo_aload_n dX9_next_27 rfl)) <|
  xw_cons (xl_v_27_390 hG dX9_next_28) <|
  xw_cons (xw_E xn_lstore (xo_lstore dX9_next_31)) <|
  xw_cons (xw_E xn_lload (xo_lload dX9_next_33)) <|
  xw_cons (xw_E xn_push (xo_lconst dX9_next_35 (by decide))) <|
  xw_cons (xw_E xn_lcmp (xo_lcmp dX9_next_36)) <|
  xw_cons (xw_E xn_if (xo_if_ne dX9_next_37 (by decide))) <|
  xw_cons (xw_E xn_push (xo_iconst dX9_next_40 (by decide))) <|
  xw_cons (xw_R (xt_i dX9_next_41)) <|
  xw_cons (xw_E xn_push (xo_iconst dX9_next_42 (by decide))) <|
  xw_cons (xw_E xn_istore (xo_istore dX9_next_43)) <|
  xw_cons (xw_E xn_push (xo_bipush dX9_next_45 (by decide))) <|
  xw_cons (xw_E xn_istore (xo_istore dX9_next_47)) <|
  xw_cons (xw_E xn_iload (xo_iload_n dX9_next_49 rfl)) <|
  xw_cons (xw_E xn_istore (xo_istore dX9_next_50)) <|
  xw_cons (xw_E xn_iload (xo_iload dX9_next_52)) <|
  xw_cons (xw_E xn_iload (xo_iload_n dX9_next_54 rfl)) <|
  xw_cons (xw_E xn_icmp (xo_icmp_gt dX9_next_55 (by decide))) <|
  xw_cons (xw_E xn_aload (xo_aload_n dX9_next_58 rfl)) <|
  xw_cons (xw_E xn_iload (xo_iload_n dX9_next_59 rfl)) <|
  xw_cons (xw_E xn_iload (xo_iload dX9_next_60)) <|
  xw_cons (xw_E xn_iload (xo_iload_n dX9_next_62 rfl)) <|
  xw_cons (xl_v_27_429 hG dX9_next_63) <|
  xw_cons (xw_E xn_if (xo_if_eq dX9_next_66 (by decide))) <|
  xw_cons (xw_E xn_goto (xo_goto dX9_next_69 (by decide))) <|
  xw_cons (xw_E xn_aload (xo_aload_n dX9_next_72 rfl)) <|
  xw_cons (xw_E xn_iload (xo_iload_n dX9_next_73 rfl)) <|
  xw_cons (xw_E xn_iload (xo_iload dX9_next_74)) <|
  xw_cons (xw_E xn_lload (xo_lload dX9_next_76)) <|
  xw_cons (xw_E xn_push (xo_iconst dX9_next_78 (by decide))) <|
  xw_cons (xl_v_27_432 hG dX9_next_79) <|
  xw_cons (xw_E xn_istore (xo_istore dX9_next_82)) <|
  xw_cons (xw_E xn_iload (xo_iload dX9_next_84)) <|
  xw_cons (xw_E xn_iload (xo_iload dX9_next_86)) <|
  xw_nil _
def xp_206_1 : List (Nat × xm_O) := [
  (88, .inl (xe_icmp (fun x y => decide (x < y)) 94 91)),
  (91, .inl (xe_goto 102)),
  (94, .inl (xe_iload 10 96)),
  (96, .inl (xe_istore 8 98)),
  (98, .inl (xe_iload 9 100)),
  (100, .inl (xe_istore 7 102)),
  (102, .inl (xe_iinc 9 1 105)),
  (105, .inl (xe_goto 52)),
  (108, .inl (xe_iload 4 110)),
  (110, .inl (xe_if (fun x => decide (¬ x = 0)) 118 113)),
  (113, .inl (xe_iload 7 115)),
  (115, .inl (xe_goto 120)),
  (118, .inl (xe_iload 8 120)),
  (120, .inr (.inl xr_i))]
theorem xq_206_1 {G : xm_G} (hG : xm_W xk_B G) (hO : xm_Og G) : ∀ q ∈ xp_206_1, xm_op xk_B G xd xk_N "LiarsCockModel" "next" prog_28_method_72_code 11 (some (FieldType.int)) q.1 q.2 :=
  xw_cons (xw_E xn_icmp (xo_icmp_lt dX9_next_88 (by decide))) <|
  xw_cons (xw_E xn_goto (xo_goto dX9_next_91 (by decide))) <|
  xw_cons (xw_E xn_iload (xo_iload dX9_next_94)) <|
  xw_cons (xw_E xn_istore (xo_istore dX9_next_96)) <|
  xw_cons (xw_E xn_iload (xo_iload dX9_next_98)) <|
  xw_cons (xw_E xn_istore (xo_istore dX9_next_100)) <|
  xw_cons (xw_E xn_iinc (xo_iinc dX9_next_102 (by decide))) <|
  xw_cons (xw_E xn_goto (xo_goto dX9_next_105 (by decide))) <|
  xw_cons (xw_E xn_iload (xo_iload dX9_next_108)) <|
  xw_cons (xw_E xn_if (xo_if_ne dX9_next_110 (by decide))) <|
  xw_cons (xw_E xn_iload (xo_iload dX9_next_113)) <|
  xw_cons (xw_E xn_goto (xo_goto dX9_next_115 (by decide))) <|
  xw_cons (xw_E xn_iload (xo_iload dX9_next_118)) <|
  xw_cons (xw_R (xt_i dX9_next_120)) <|
  xw_nil _
def xp_206 : List (Nat × xm_O) := xp_206_0 ++ xp_206_1
theorem xq_206 {G : xm_G} (hG : xm_W xk_B G) (hO : xm_Og G) : ∀ q ∈ xp_206, xm_op xk_B G xd xk_N "LiarsCockModel" "next" prog_28_method_72_code 11 (some (FieldType.int)) q.1 q.2 := xw_app (xq_206_0 hG hO) (xq_206_1 hG hO)
/- 207: LiarsCockModel.isSpan(III)Z -/
def xp_207_0 : List (Nat × xm_O) := [
  (0, .inl (xe_aload 0 1)),
  (1, .inl (xe_iload 1 2)),
  (2, .inr (.inr (.inl (xc_V (xj_1 8 181) [0])))),
  (5, .inl (xe_if (fun x => decide (x = 0)) 31 8)),
  (8, .inl (xe_iload 2 9)),
  (9, .inr (.inr (.inl (xc_S 171 [0])))),
  (12, .inl (xe_if (fun x => decide (x = 0)) 31 15)),
  (15, .inl (xe_iload 3 16)),
  (16, .inr (.inr (.inl (xc_S 171 [0])))),
  (19, .inl (xe_if (fun x => decide (x = 0)) 31 22)),
  (22, .inl (xe_iload 2 23)),
  (23, .inl (xe_iload 3 24)),
  (24, .inl (xe_icmp (fun x y => decide (y < x)) 31 27)),
  (27, .inl (xe_push (.int 1) 28)),
  (28, .inl (xe_goto 32)),
  (31, .inl (xe_push (.int 0) 32)),
  (32, .inr (.inl xr_z))]
theorem xq_207_0 {G : xm_G} (hG : xm_W xk_B G) (hO : xm_Og G) : ∀ q ∈ xp_207_0, xm_op xk_B G xd xk_N "LiarsCockModel" "isSpan" prog_28_method_70_code 4 (some (FieldType.boolean)) q.1 q.2 :=
  xw_cons (xw_E xn_aload (xo_aload_n dX9_isSpan_0 rfl)) <|
  xw_cons (xw_E xn_iload (xo_iload_n dX9_isSpan_1 rfl)) <|
  xw_cons (xl_v_27_371 hG dX9_isSpan_2) <|
  xw_cons (xw_E xn_if (xo_if_eq dX9_isSpan_5 (by decide))) <|
  xw_cons (xw_E xn_iload (xo_iload_n dX9_isSpan_8 rfl)) <|
  xw_cons (xl_s_27_340 hG dX9_isSpan_9) <|
  xw_cons (xw_E xn_if (xo_if_eq dX9_isSpan_12 (by decide))) <|
  xw_cons (xw_E xn_iload (xo_iload_n dX9_isSpan_15 rfl)) <|
  xw_cons (xl_s_27_340 hG dX9_isSpan_16) <|
  xw_cons (xw_E xn_if (xo_if_eq dX9_isSpan_19 (by decide))) <|
  xw_cons (xw_E xn_iload (xo_iload_n dX9_isSpan_22 rfl)) <|
  xw_cons (xw_E xn_iload (xo_iload_n dX9_isSpan_23 rfl)) <|
  xw_cons (xw_E xn_icmp (xo_icmp_gt dX9_isSpan_24 (by decide))) <|
  xw_cons (xw_E xn_push (xo_iconst dX9_isSpan_27 (by decide))) <|
  xw_cons (xw_E xn_goto (xo_goto dX9_isSpan_28 (by decide))) <|
  xw_cons (xw_E xn_push (xo_iconst dX9_isSpan_31 (by decide))) <|
  xw_cons (xw_R (xt_z dX9_isSpan_32)) <|
  xw_nil _
def xp_207 : List (Nat × xm_O) := xp_207_0
theorem xq_207 {G : xm_G} (hG : xm_W xk_B G) (hO : xm_Og G) : ∀ q ∈ xp_207, xm_op xk_B G xd xk_N "LiarsCockModel" "isSpan" prog_28_method_70_code 4 (some (FieldType.boolean)) q.1 q.2 := xq_207_0 hG hO
/- 208: LiarsCockModel.isAsBefore(III)Z -/
def xp_208_0 : List (Nat × xm_O) := [
  (0, .inl (xe_iload 2 1)),
  (1, .inl (xe_iload 3 2)),
  (2, .inl (xe_icmp (fun x y => decide (¬ x = y)) 7 5)),
  (5, .inl (xe_push (.int 0) 6)),
  (6, .inr (.inl xr_z)),
  (7, .inl (xe_push (.int 0) 8)),
  (8, .inl (xe_istore 4 10)),
  (10, .inl (xe_iload 4 12)),
  (12, .inl (xe_aload 0 13)),
  (13, .inl (xe_getf (xj_1 8 40) 16)),
  (16, .inl (xe_icmp (fun x y => decide (y ≤ x)) 45 19)),
  (19, .inl (xe_aload 0 20)),
  (20, .inl (xe_getf (xj_1 8 46) 23)),
  (23, .inl (xe_iload 4 25)),
  (25, .inl (xe_ald (fun t => t == 0) 26)),
  (26, .inl (xe_aload 0 27)),
  (27, .inl (xe_getf (xj_1 8 17) 30)),
  (30, .inl (xe_iload 1 31)),
  (31, .inl (xe_ald (fun t => t == 0) 32)),
  (32, .inl (xe_ii (fun x y => x + y) 33)),
  (33, .inl (xe_iload 2 34)),
  (34, .inl (xe_icmp (fun x y => decide (¬ x = y)) 39 37)),
  (37, .inl (xe_push (.int 0) 38)),
  (38, .inr (.inl xr_z)),
  (39, .inl (xe_iinc 4 1 42)),
  (42, .inl (xe_goto 10)),
  (45, .inl (xe_push (.int 1) 46)),
  (46, .inr (.inl xr_z))]
theorem xq_208_0 {G : xm_G} (hG : xm_W xk_B G) (hO : xm_Og G) : ∀ q ∈ xp_208_0, xm_op xk_B G xd xk_N "LiarsCockModel" "isAsBefore" prog_28_method_71_code 5 (some (FieldType.boolean)) q.1 q.2 :=
  xw_cons (xw_E xn_iload (xo_iload_n dX9_isAsBefore_0 rfl)) <|
  xw_cons (xw_E xn_iload (xo_iload_n dX9_isAsBefore_1 rfl)) <|
  xw_cons (xw_E xn_icmp (xo_icmp_ne dX9_isAsBefore_2 (by decide))) <|
  xw_cons (xw_E xn_push (xo_iconst dX9_isAsBefore_5 (by decide))) <|
  xw_cons (xw_R (xt_z dX9_isAsBefore_6)) <|
  xw_cons (xw_E xn_push (xo_iconst dX9_isAsBefore_7 (by decide))) <|
  xw_cons (xw_E xn_istore (xo_istore dX9_isAsBefore_8)) <|
  xw_cons (xw_E xn_iload (xo_iload dX9_isAsBefore_10)) <|
  xw_cons (xw_E xn_aload (xo_aload_n dX9_isAsBefore_12 rfl)) <|
  xw_cons (xw_E xn_getf (xo_getf hG xg_27_322 dX9_isAsBefore_13)) <|
  xw_cons (xw_E xn_icmp (xo_icmp_ge dX9_isAsBefore_16 (by decide))) <|
  xw_cons (xw_E xn_aload (xo_aload_n dX9_isAsBefore_19 rfl)) <|
  xw_cons (xw_E xn_getf (xo_getf hG xg_27_99 dX9_isAsBefore_20)) <|
  xw_cons (xw_E xn_iload (xo_iload dX9_isAsBefore_23)) <|
  xw_cons (xw_E xn_ald (xo_iald xk_hB dX9_isAsBefore_25)) <|
  xw_cons (xw_E xn_aload (xo_aload_n dX9_isAsBefore_26 rfl)) <|
  xw_cons (xw_E xn_getf (xo_getf hG xg_27_35 dX9_isAsBefore_27)) <|
  xw_cons (xw_E xn_iload (xo_iload_n dX9_isAsBefore_30 rfl)) <|
  xw_cons (xw_E xn_ald (xo_iald xk_hB dX9_isAsBefore_31)) <|
  xw_cons (xw_E xn_ii (xo_iadd dX9_isAsBefore_32)) <|
  xw_cons (xw_E xn_iload (xo_iload_n dX9_isAsBefore_33 rfl)) <|
  xw_cons (xw_E xn_icmp (xo_icmp_ne dX9_isAsBefore_34 (by decide))) <|
  xw_cons (xw_E xn_push (xo_iconst dX9_isAsBefore_37 (by decide))) <|
  xw_cons (xw_R (xt_z dX9_isAsBefore_38)) <|
  xw_cons (xw_E xn_iinc (xo_iinc dX9_isAsBefore_39 (by decide))) <|
  xw_cons (xw_E xn_goto (xo_goto dX9_isAsBefore_42 (by decide))) <|
  xw_cons (xw_E xn_push (xo_iconst dX9_isAsBefore_45 (by decide))) <|
  xw_cons (xw_R (xt_z dX9_isAsBefore_46)) <|
  xw_nil _
def xp_208 : List (Nat × xm_O) := xp_208_0
theorem xq_208 {G : xm_G} (hG : xm_W xk_B G) (hO : xm_Og G) : ∀ q ∈ xp_208, xm_op xk_B G xd xk_N "LiarsCockModel" "isAsBefore" prog_28_method_71_code 5 (some (FieldType.boolean)) q.1 q.2 := xq_208_0 hG hO
