/-! rows of methods, by program -/
set_option maxRecDepth 100000
/- 109: LiarsCock$Reader.isSign(I)Z -/
def xp_109_0 : List (Nat × xm_O) := [
  (0, .inl (xe_aload 0 1)),
  (1, .inl (xe_getf (xj_1 1 4) 4)),
  (4, .inl (xe_aload 0 5)),
  (5, .inl (xe_getf (xj_1 1 7) 8)),
  (8, .inl (xe_ald (fun t => t == 0) 9)),
  (9, .inl (xe_push (.int 3) 10)),
  (10, .inl (xe_icmp (fun x y => decide (¬ x = y)) 32 13)),
  (13, .inl (xe_aload 0 14)),
  (14, .inl (xe_getf (xj_1 1 5) 17)),
  (17, .inl (xe_aload 0 18)),
  (18, .inl (xe_getf (xj_1 1 7) 21)),
  (21, .inl (xe_ald (fun t => t == 1) 22)),
  (22, .inl (xe_iload 1 23)),
  (23, .inl (xe_i2l 24)),
  (24, .inl (xe_lcmp 25)),
  (25, .inl (xe_if (fun x => decide (¬ x = 0)) 32 28)),
  (28, .inl (xe_push (.int 1) 29)),
  (29, .inl (xe_goto 33)),
  (32, .inl (xe_push (.int 0) 33)),
  (33, .inr (.inl xr_z))]
theorem xq_109_0 {G : xm_G} (hG : xm_W xk_B G) (hO : xm_Og G) : ∀ q ∈ xp_109_0, xm_op xk_B G xd xk_N "LiarsCock$Reader" "isSign" prog_21_method_11_code 2 (some (FieldType.boolean)) q.1 q.2 :=
  xw_cons (xw_E xn_aload (xo_aload_n dX2_isSign_0 rfl)) <|
  xw_cons (xw_E xn_getf (xo_getf hG xg_20_49 dX2_isSign_1)) <|
  xw_cons (xw_E xn_aload (xo_aload_n dX2_isSign_4 rfl)) <|
  xw_cons (xw_E xn_getf (xo_getf hG xg_20_97 dX2_isSign_5)) <|
  xw_cons (xw_E xn_ald (xo_iald xk_hB dX2_isSign_8)) <|
  xw_cons (xw_E xn_push (xo_iconst dX2_isSign_9 (by decide))) <|
  xw_cons (xw_E xn_icmp (xo_icmp_ne dX2_isSign_10 (by decide))) <|
  xw_cons (xw_E xn_aload (xo_aload_n dX2_isSign_13 rfl)) <|
  xw_cons (xw_E xn_getf (xo_getf hG xg_20_52 dX2_isSign_14)) <|
  xw_cons (xw_E xn_aload (xo_aload_n dX2_isSign_17 rfl)) <|
  xw_cons (xw_E xn_getf (xo_getf hG xg_20_97 dX2_isSign_18)) <|
  xw_cons (xw_E xn_ald (xo_lald xk_hB dX2_isSign_21)) <|
  xw_cons (xw_E xn_iload (xo_iload_n dX2_isSign_22 rfl)) <|
  xw_cons (xw_E xn_i2l (xo_i2l dX2_isSign_23)) <|
  xw_cons (xw_E xn_lcmp (xo_lcmp dX2_isSign_24)) <|
  xw_cons (xw_E xn_if (xo_if_ne dX2_isSign_25 (by decide))) <|
  xw_cons (xw_E xn_push (xo_iconst dX2_isSign_28 (by decide))) <|
  xw_cons (xw_E xn_goto (xo_goto dX2_isSign_29 (by decide))) <|
  xw_cons (xw_E xn_push (xo_iconst dX2_isSign_32 (by decide))) <|
  xw_cons (xw_R (xt_z dX2_isSign_33)) <|
  xw_nil _
def xp_109 : List (Nat × xm_O) := xp_109_0
theorem xq_109 {G : xm_G} (hG : xm_W xk_B G) (hO : xm_Og G) : ∀ q ∈ xp_109, xm_op xk_B G xd xk_N "LiarsCock$Reader" "isSign" prog_21_method_11_code 2 (some (FieldType.boolean)) q.1 q.2 := xq_109_0 hG hO
/- 110: LiarsCock$Reader.sign(I)V -/
def xp_110_0 : List (Nat × xm_O) := [
  (0, .inl (xe_aload 0 1)),
  (1, .inl (xe_iload 1 2)),
  (2, .inr (.inr (.inl (xc_V (xj_1 1 111) [0])))),
  (5, .inl (xe_if (fun x => decide (¬ x = 0)) 14 8)),
  (8, .inl (xe_aload 0 9)),
  (9, .inl (xe_push (.int 1) 10)),
  (10, .inr (.inr (.inl (xc_V (xj_1 1 93) [0])))),
  (13, .inr (.inr (.inr ()))),
  (14, .inr (.inl xr_v))]
theorem xq_110_0 {G : xm_G} (hG : xm_W xk_B G) (hO : xm_Og G) : ∀ q ∈ xp_110_0, xm_op xk_B G xd xk_N "LiarsCock$Reader" "sign" prog_21_method_13_code 2 none q.1 q.2 :=
  xw_cons (xw_E xn_aload (xo_aload_n dX2_sign_0 rfl)) <|
  xw_cons (xw_E xn_iload (xo_iload_n dX2_sign_1 rfl)) <|
  xw_cons (xl_v_20_115 hG dX2_sign_2) <|
  xw_cons (xw_E xn_if (xo_if_ne dX2_sign_5 (by decide))) <|
  xw_cons (xw_E xn_aload (xo_aload_n dX2_sign_8 rfl)) <|
  xw_cons (xw_E xn_push (xo_iconst dX2_sign_9 (by decide))) <|
  xw_cons (xl_v_20_118 hG dX2_sign_10) <|
  xw_cons (xw_T dX2_sign_13) <|
  xw_cons (xw_R (xt_v dX2_sign_14)) <|
  xw_nil _
def xp_110 : List (Nat × xm_O) := xp_110_0
theorem xq_110 {G : xm_G} (hG : xm_W xk_B G) (hO : xm_Og G) : ∀ q ∈ xp_110, xm_op xk_B G xd xk_N "LiarsCock$Reader" "sign" prog_21_method_13_code 2 none q.1 q.2 := xq_110_0 hG hO
/- 111: LiarsCock$Reader.hasSign(I)Z -/
def xp_111_0 : List (Nat × xm_O) := [
  (0, .inl (xe_aload 0 1)),
  (1, .inl (xe_iload 1 2)),
  (2, .inr (.inr (.inl (xc_V (xj_1 1 109) [0])))),
  (5, .inl (xe_istore 2 6)),
  (6, .inl (xe_iload 2 7)),
  (7, .inl (xe_if (fun x => decide (x = 0)) 20 10)),
  (10, .inl (xe_aload 0 11)),
  (11, .inl (xe_dup 12)),
  (12, .inl (xe_getf (xj_1 1 7) 15)),
  (15, .inl (xe_push (.int 1) 16)),
  (16, .inl (xe_ii (fun x y => x + y) 17)),
  (17, .inl (xe_putf 300 0 (xj_1 1 7) 20)),
  (20, .inl (xe_iload 2 21)),
  (21, .inr (.inl xr_z))]
theorem xq_111_0 {G : xm_G} (hG : xm_W xk_B G) (hO : xm_Og G) : ∀ q ∈ xp_111_0, xm_op xk_B G xd xk_N "LiarsCock$Reader" "hasSign" prog_21_method_12_code 3 (some (FieldType.boolean)) q.1 q.2 :=
  xw_cons (xw_E xn_aload (xo_aload_n dX2_hasSign_0 rfl)) <|
  xw_cons (xw_E xn_iload (xo_iload_n dX2_hasSign_1 rfl)) <|
  xw_cons (xl_v_20_112 hG dX2_hasSign_2) <|
  xw_cons (xw_E xn_istore (xo_istore_n dX2_hasSign_5 rfl)) <|
  xw_cons (xw_E xn_iload (xo_iload_n dX2_hasSign_6 rfl)) <|
  xw_cons (xw_E xn_if (xo_if_eq dX2_hasSign_7 (by decide))) <|
  xw_cons (xw_E xn_aload (xo_aload_n dX2_hasSign_10 rfl)) <|
  xw_cons (xw_E xn_dup (xo_dup dX2_hasSign_11)) <|
  xw_cons (xw_E xn_getf (xo_getf hG xg_20_97 dX2_hasSign_12)) <|
  xw_cons (xw_E xn_push (xo_iconst dX2_hasSign_15 (by decide))) <|
  xw_cons (xw_E xn_ii (xo_iadd dX2_hasSign_16)) <|
  xw_cons (xw_E xn_putf (xo_putf hG rfl xu_20_97 dX2_hasSign_17)) <|
  xw_cons (xw_E xn_iload (xo_iload_n dX2_hasSign_20 rfl)) <|
  xw_cons (xw_R (xt_z dX2_hasSign_21)) <|
  xw_nil _
def xp_111 : List (Nat × xm_O) := xp_111_0
theorem xq_111 {G : xm_G} (hG : xm_W xk_B G) (hO : xm_Og G) : ∀ q ∈ xp_111, xm_op xk_B G xd xk_N "LiarsCock$Reader" "hasSign" prog_21_method_12_code 3 (some (FieldType.boolean)) q.1 q.2 := xq_111_0 hG hO
/- 112: LiarsCock$Reader.chain(LLiarsCock$Expression;LLiarsCock$Chain;)LLiarsCock$Chain; -/
def xp_112_0 : List (Nat × xm_O) := [
  (0, .inl (xe_aload 1 1)),
  (1, .inl (xe_null 4 15)),
  (4, .inl (xe_new 14 2 xk_f14 7)),
  (7, .inl (xe_dup 8)),
  (8, .inl (xe_aload 0 9)),
  (9, .inr (.inr (.inl (xc_I 251 [2])))),
  (12, .inl (xe_goto 16)),
  (15, .inl (xe_aload 1 16)),
  (16, .inr (.inl xr_a))]
theorem xq_112_0 {G : xm_G} (hG : xm_W xk_B G) (hO : xm_Og G) : ∀ q ∈ xp_112_0, xm_op xk_B G xd xk_N "LiarsCock$Reader" "chain" prog_21_method_27_code 2 (some ((FieldType.object "LiarsCock$Chain"))) q.1 q.2 :=
  xw_cons (xw_E xn_aload (xo_aload_n dX2_chain_0 rfl)) <|
  xw_cons (xw_E xn_null (xo_ifnonnull dX2_chain_1 (by decide))) <|
  xw_cons (xw_E xn_new (xo_new hG xnw_20_265 dX2_chain_4)) <|
  xw_cons (xw_E xn_dup (xo_dup dX2_chain_7)) <|
  xw_cons (xw_E xn_aload (xo_aload_n dX2_chain_8 rfl)) <|
  xw_cons (xl_s_20_267 hG dX2_chain_9) <|
  xw_cons (xw_E xn_goto (xo_goto dX2_chain_12 (by decide))) <|
  xw_cons (xw_E xn_aload (xo_aload_n dX2_chain_15 rfl)) <|
  xw_cons (xw_R (xt_a (Or.inl ⟨_, rfl⟩) dX2_chain_16)) <|
  xw_nil _
def xp_112 : List (Nat × xm_O) := xp_112_0
theorem xq_112 {G : xm_G} (hG : xm_W xk_B G) (hO : xm_Og G) : ∀ q ∈ xp_112, xm_op xk_B G xd xk_N "LiarsCock$Reader" "chain" prog_21_method_27_code 2 (some ((FieldType.object "LiarsCock$Chain"))) q.1 q.2 := xq_112_0 hG hO
/- 113: LiarsCock$Reader.cock()V -/
def xp_113_0 : List (Nat × xm_O) := [
  (0, .inl (xe_aload 0 1)),
  (1, .inl (xe_dup 2)),
  (2, .inl (xe_getf (xj_1 1 7) 5)),
  (5, .inl (xe_push (.int 1) 6)),
  (6, .inl (xe_ii (fun x y => x + y) 7)),
  (7, .inl (xe_putf 300 0 (xj_1 1 7) 10)),
  (10, .inl (xe_aload 0 11)),
  (11, .inl (xe_getf (xj_1 1 4) 14)),
  (14, .inl (xe_aload 0 15)),
  (15, .inl (xe_getf (xj_1 1 7) 18)),
  (18, .inl (xe_ald (fun t => t == 0) 19)),
  (19, .inl (xe_push (.int 2) 20)),
  (20, .inl (xe_icmp (fun x y => decide (¬ x = y)) 66 23)),
  (23, .inl (xe_aload 0 24)),
  (24, .inl (xe_getf (xj_1 1 5) 27)),
  (27, .inl (xe_aload 0 28)),
  (28, .inl (xe_getf (xj_1 1 7) 31)),
  (31, .inl (xe_ald (fun t => t == 1) 32)),
  (32, .inl (xe_push (.long (2 : Int64)) 35)),
  (35, .inl (xe_lcmp 36)),
  (36, .inl (xe_if (fun x => decide (0 ≤ x)) 66 39)),
  (39, .inl (xe_aload 0 40)),
  (40, .inl (xe_getf (xj_1 1 1) 43)),
  (43, .inl (xe_getf (xj_1 2 6) 46)),
  (46, .inl (xe_aload 0 47)),
  (47, .inl (xe_getf (xj_1 1 5) 50)),
  (50, .inl (xe_aload 0 51)),
  (51, .inl (xe_getf (xj_1 1 7) 54)),
  (54, .inl (xe_ald (fun t => t == 1) 55)),
  (55, .inl (xe_l2i 56)),
  (56, .inl (xe_ald (fun t => Nat.ble 4 t) 57)),
  (57, .inl (xe_null 66 60)),
  (60, .inl (xe_aload 0 61)),
  (61, .inl (xe_push (.int 3) 62)),
  (62, .inr (.inr (.inl (xc_V (xj_1 1 93) [0])))),
  (65, .inr (.inr (.inr ()))),
  (66, .inl (xe_aload 0 67)),
  (67, .inl (xe_push (.int 0) 68)),
  (68, .inl (xe_push (.int 1) 69)),
  (69, .inr (.inr (.inl (xc_V (xj_1 1 96) [0, 0])))),
  (72, .inl (xe_istore 1 73)),
  (73, .inl (xe_aload 0 74)),
  (74, .inl (xe_push (.ref 13) 76)),
  (76, .inr (.inr (.inl (xc_V (xj_1 1 98) [2])))),
  (79, .inl (xe_aload 0 80)),
  (80, .inl (xe_push (.int 0) 81)),
  (81, .inl (xe_push (.int 1) 82)),
  (82, .inr (.inr (.inl (xc_V (xj_1 1 96) [0, 0])))),
  (85, .inl (xe_istore 2 86)),
  (86, .inl (xe_aload 0 87))]
theorem xq_113_0 {G : xm_G} (hG : xm_W xk_B G) (hO : xm_Og G) : ∀ q ∈ xp_113_0, xm_op xk_B G xd xk_N "LiarsCock$Reader" "cock" prog_21_method_23_code 3 none q.1 q.2 :=
  xw_cons (xw_E xn_aload (xo_aload_n dX2_cock_0 rfl)) <|
  xw_cons (xw_E xn_dup (xo_dup dX2_cock_1)) <|
  xw_cons (xw_E xn_getf (xo_getf hG xg_20_97 dX2_cock_2)) <|
  xw_cons (xw_E xn_push (xo_iconst dX2_cock_5 (by decide))) <|
  xw_cons (xw_E xn_ii (xo_iadd dX2_cock_6)) <|
  xw_cons (xw_E xn_putf (xo_putf hG rfl xu_20_97 dX2_cock_7)) <|
  xw_cons (xw_E xn_aload (xo_aload_n dX2_cock_10 rfl)) <|
  xw_cons (xw_E xn_getf (xo_getf hG xg_20_49 dX2_cock_11)) <|
  xw_cons (xw_E xn_aload (xo_aload_n dX2_cock_14 rfl)) <|
  xw_cons (xw_E xn_getf (xo_getf hG xg_20_97 dX2_cock_15)) <|
  xw_cons (xw_E xn_ald (xo_iald xk_hB dX2_cock_18)) <|
  xw_cons (xw_E xn_push (xo_iconst dX2_cock_19 (by decide))) <|
  xw_cons (xw_E xn_icmp (xo_icmp_ne dX2_cock_20 (by decide))) <|
  xw_cons (xw_E xn_aload (xo_aload_n dX2_cock_23 rfl)) <|
  xw_cons (xw_E xn_getf (xo_getf hG xg_20_52 dX2_cock_24)) <|
  xw_cons (xw_E xn_aload (xo_aload_n dX2_cock_27 rfl)) <|
  xw_cons (xw_E xn_getf (xo_getf hG xg_20_97 dX2_cock_28)) <|
  xw_cons (xw_E xn_ald (xo_lald xk_hB dX2_cock_31)) <|
  xw_cons (xw_E xn_push (xo_ldc2 hG q1014 dX2_cock_32)) <|
  xw_cons (xw_E xn_lcmp (xo_lcmp dX2_cock_35)) <|
  xw_cons (xw_E xn_if (xo_if_ge dX2_cock_36 (by decide))) <|
  xw_cons (xw_E xn_aload (xo_aload_n dX2_cock_39 rfl)) <|
  xw_cons (xw_E xn_getf (xo_getf hG xg_20_132 dX2_cock_40)) <|
  xw_cons (xw_E xn_getf (xo_getf hG xg_20_153 dX2_cock_43)) <|
  xw_cons (xw_E xn_aload (xo_aload_n dX2_cock_46 rfl)) <|
  xw_cons (xw_E xn_getf (xo_getf hG xg_20_52 dX2_cock_47)) <|
  xw_cons (xw_E xn_aload (xo_aload_n dX2_cock_50 rfl)) <|
  xw_cons (xw_E xn_getf (xo_getf hG xg_20_97 dX2_cock_51)) <|
  xw_cons (xw_E xn_ald (xo_lald xk_hB dX2_cock_54)) <|
  xw_cons (xw_E xn_l2i (xo_l2i dX2_cock_55)) <|
  xw_cons (xw_E xn_ald (xo_aald xk_hB dX2_cock_56)) <|
  xw_cons (xw_E xn_null (xo_ifnull dX2_cock_57 (by decide))) <|
  xw_cons (xw_E xn_aload (xo_aload_n dX2_cock_60 rfl)) <|
  xw_cons (xw_E xn_push (xo_iconst dX2_cock_61 (by decide))) <|
  xw_cons (xl_v_20_118 hG dX2_cock_62) <|
  xw_cons (xw_T dX2_cock_65) <|
  xw_cons (xw_E xn_aload (xo_aload_n dX2_cock_66 rfl)) <|
  xw_cons (xw_E xn_push (xo_iconst dX2_cock_67 (by decide))) <|
  xw_cons (xw_E xn_push (xo_iconst dX2_cock_68 (by decide))) <|
  xw_cons (xl_v_20_204 hG dX2_cock_69) <|
  xw_cons (xw_E xn_istore (xo_istore_n dX2_cock_72 rfl)) <|
  xw_cons (xw_E xn_aload (xo_aload_n dX2_cock_73 rfl)) <|
  xw_cons (xw_E xn_push (xo_ldcS (xog_s13 hO) dX2_cock_74)) <|
  xw_cons (xl_v_20_224 hG dX2_cock_76) <|
  xw_cons (xw_E xn_aload (xo_aload_n dX2_cock_79 rfl)) <|
  xw_cons (xw_E xn_push (xo_iconst dX2_cock_80 (by decide))) <|
  xw_cons (xw_E xn_push (xo_iconst dX2_cock_81 (by decide))) <|
  xw_cons (xl_v_20_204 hG dX2_cock_82) <|
  xw_cons (xw_E xn_istore (xo_istore_n dX2_cock_85 rfl)) <|
  xw_cons (xw_E xn_aload (xo_aload_n dX2_cock_86 rfl)) <|
  xw_nil _
def xp_113_1 : List (Nat × xm_O) := [
  (87, .inl (xe_push (.ref 14) 89)),
  (89, .inr (.inr (.inl (xc_V (xj_1 1 98) [2])))),
  (92, .inl (xe_aload 0 93)),
  (93, .inl (xe_getf (xj_1 1 1) 96)),
  (96, .inl (xe_getf (xj_1 2 6) 99)),
  (99, .inl (xe_iload 1 100)),
  (100, .inl (xe_new 4 2 xk_f4 103)),
  (103, .inl (xe_dup 104)),
  (104, .inl (xe_iload 2 105)),
  (105, .inl (xe_aload 0 106)),
  (106, .inl (xe_push (.int 0) 107)),
  (107, .inl (xe_push (.int 60) 109)),
  (109, .inr (.inr (.inl (xc_V (xj_1 1 96) [0, 0])))),
  (112, .inr (.inr (.inl (xc_I 125 [0, 0])))),
  (115, .inl (xe_aast 300 xk_as 116)),
  (116, .inr (.inl xr_v))]
theorem xq_113_1 {G : xm_G} (hG : xm_W xk_B G) (hO : xm_Og G) : ∀ q ∈ xp_113_1, xm_op xk_B G xd xk_N "LiarsCock$Reader" "cock" prog_21_method_23_code 3 none q.1 q.2 :=
  xw_cons (xw_E xn_push (xo_ldcS (xog_s14 hO) dX2_cock_87)) <|
  xw_cons (xl_v_20_224 hG dX2_cock_89) <|
  xw_cons (xw_E xn_aload (xo_aload_n dX2_cock_92 rfl)) <|
  xw_cons (xw_E xn_getf (xo_getf hG xg_20_132 dX2_cock_93)) <|
  xw_cons (xw_E xn_getf (xo_getf hG xg_20_153 dX2_cock_96)) <|
  xw_cons (xw_E xn_iload (xo_iload_n dX2_cock_99 rfl)) <|
  xw_cons (xw_E xn_new (xo_new hG xnw_20_157 dX2_cock_100)) <|
  xw_cons (xw_E xn_dup (xo_dup dX2_cock_103)) <|
  xw_cons (xw_E xn_iload (xo_iload_n dX2_cock_104 rfl)) <|
  xw_cons (xw_E xn_aload (xo_aload_n dX2_cock_105 rfl)) <|
  xw_cons (xw_E xn_push (xo_iconst dX2_cock_106 (by decide))) <|
  xw_cons (xw_E xn_push (xo_bipush dX2_cock_107 (by decide))) <|
  xw_cons (xl_v_20_204 hG dX2_cock_109) <|
  xw_cons (xl_s_20_159 hG dX2_cock_112) <|
  xw_cons (xw_E xn_aast (xo_aast hG xk_hB rfl xk_as_ok dX2_cock_115)) <|
  xw_cons (xw_R (xt_v dX2_cock_116)) <|
  xw_nil _
def xp_113 : List (Nat × xm_O) := xp_113_0 ++ xp_113_1
theorem xq_113 {G : xm_G} (hG : xm_W xk_B G) (hO : xm_Og G) : ∀ q ∈ xp_113, xm_op xk_B G xd xk_N "LiarsCock$Reader" "cock" prog_21_method_23_code 3 none q.1 q.2 := xw_app (xq_113_0 hG hO) (xq_113_1 hG hO)
/- 114: LiarsCock$Reader.saying(LLiarsCock$Parish;)LLiarsCock$Expression; -/
def xp_114_0 : List (Nat × xm_O) := [
  (0, .inl (xe_aload 0 1)),
  (1, .inr (.inr (.inl (xc_V (xj_1 1 86) [])))),
  (4, .inl (xe_aload 0 5)),
  (5, .inl (xe_aload 1 6)),
  (6, .inl (xe_putf 300 2 (xj_1 1 1) 9)),
  (9, .inl (xe_aload 0 10)),
  (10, .inl (xe_getf (xj_1 1 4) 13)),
  (13, .inl (xe_aload 0 14)),
  (14, .inl (xe_getf (xj_1 1 7) 17)),
  (17, .inl (xe_ald (fun t => t == 0) 18)),
  (18, .inl (xe_if (fun x => decide (¬ x = 0)) 23 21)),
  (21, .inl (xe_push .null 22)),
  (22, .inr (.inl xr_a)),
  (23, .inl (xe_aload 0 24)),
  (24, .inr (.inr (.inl (xc_V (xj_1 1 103) [])))),
  (27, .inl (xe_astore 2 28)),
  (28, .inl (xe_aload 0 29)),
  (29, .inl (xe_getf (xj_1 1 4) 32)),
  (32, .inl (xe_aload 0 33)),
  (33, .inl (xe_getf (xj_1 1 7) 36)),
  (36, .inl (xe_ald (fun t => t == 0) 37)),
  (37, .inl (xe_if (fun x => decide (x = 0)) 46 40)),
  (40, .inl (xe_aload 0 41)),
  (41, .inl (xe_push (.int 1) 42)),
  (42, .inr (.inr (.inl (xc_V (xj_1 1 93) [0])))),
  (45, .inr (.inr (.inr ()))),
  (46, .inl (xe_aload 2 47)),
  (47, .inr (.inl xr_a))]
theorem xq_114_0 {G : xm_G} (hG : xm_W xk_B G) (hO : xm_Og G) : ∀ q ∈ xp_114_0, xm_op xk_B G xd xk_N "LiarsCock$Reader" "saying" prog_21_method_24_code 3 (some ((FieldType.object "LiarsCock$Expression"))) q.1 q.2 :=
  xw_cons (xw_E xn_aload (xo_aload_n dX2_saying_0 rfl)) <|
  xw_cons (xl_v_20_126 hG dX2_saying_1) <|
  xw_cons (xw_E xn_aload (xo_aload_n dX2_saying_4 rfl)) <|
  xw_cons (xw_E xn_aload (xo_aload_n dX2_saying_5 rfl)) <|
  xw_cons (xw_E xn_putf (xo_putf hG rfl xu_20_132 dX2_saying_6)) <|
  xw_cons (xw_E xn_aload (xo_aload_n dX2_saying_9 rfl)) <|
  xw_cons (xw_E xn_getf (xo_getf hG xg_20_49 dX2_saying_10)) <|
  xw_cons (xw_E xn_aload (xo_aload_n dX2_saying_13 rfl)) <|
  xw_cons (xw_E xn_getf (xo_getf hG xg_20_97 dX2_saying_14)) <|
  xw_cons (xw_E xn_ald (xo_iald xk_hB dX2_saying_17)) <|
  xw_cons (xw_E xn_if (xo_if_ne dX2_saying_18 (by decide))) <|
  xw_cons (xw_E xn_push (xo_anull dX2_saying_21)) <|
  xw_cons (xw_R (xt_a (Or.inl ⟨_, rfl⟩) dX2_saying_22)) <|
  xw_cons (xw_E xn_aload (xo_aload_n dX2_saying_23 rfl)) <|
  xw_cons (xl_v_20_250 hG dX2_saying_24) <|
  xw_cons (xw_E xn_astore (xo_astore_n dX2_saying_27 rfl)) <|
  xw_cons (xw_E xn_aload (xo_aload_n dX2_saying_28 rfl)) <|
  xw_cons (xw_E xn_getf (xo_getf hG xg_20_49 dX2_saying_29)) <|
  xw_cons (xw_E xn_aload (xo_aload_n dX2_saying_32 rfl)) <|
  xw_cons (xw_E xn_getf (xo_getf hG xg_20_97 dX2_saying_33)) <|
  xw_cons (xw_E xn_ald (xo_iald xk_hB dX2_saying_36)) <|
  xw_cons (xw_E xn_if (xo_if_eq dX2_saying_37 (by decide))) <|
  xw_cons (xw_E xn_aload (xo_aload_n dX2_saying_40 rfl)) <|
  xw_cons (xw_E xn_push (xo_iconst dX2_saying_41 (by decide))) <|
  xw_cons (xl_v_20_118 hG dX2_saying_42) <|
  xw_cons (xw_T dX2_saying_45) <|
  xw_cons (xw_E xn_aload (xo_aload_n dX2_saying_46 rfl)) <|
  xw_cons (xw_R (xt_a (Or.inl ⟨_, rfl⟩) dX2_saying_47)) <|
  xw_nil _
def xp_114 : List (Nat × xm_O) := xp_114_0
theorem xq_114 {G : xm_G} (hG : xm_W xk_B G) (hO : xm_Og G) : ∀ q ∈ xp_114, xm_op xk_B G xd xk_N "LiarsCock$Reader" "saying" prog_21_method_24_code 3 (some ((FieldType.object "LiarsCock$Expression"))) q.1 q.2 := xq_114_0 hG hO
/- 115: LiarsCock$Parish.<init>()V -/
def xp_115_0 : List (Nat × xm_O) := [
  (0, .inl (xe_aload 0 1)),
  (1, .inl (xe_objInit 4)),
  (4, .inl (xe_aload 0 5)),
  (5, .inl (xe_new 25 3 xk_f25 8)),
  (8, .inl (xe_dup 9)),
  (9, .inl (xe_push (.int 6) 11)),
  (11, .inr (.inr (.inl (xc_I 278 [0])))),
  (14, .inl (xe_putf 300 2 (xj_1 2 0) 17)),
  (17, .inl (xe_aload 0 18)),
  (18, .inl (xe_new 25 3 xk_f25 21)),
  (21, .inl (xe_dup 22)),
  (22, .inl (xe_push (.int 6) 24)),
  (24, .inr (.inr (.inl (xc_I 278 [0])))),
  (27, .inl (xe_putf 300 2 (xj_1 2 1) 30)),
  (30, .inl (xe_aload 0 31)),
  (31, .inl (xe_new 25 3 xk_f25 34)),
  (34, .inl (xe_dup 35)),
  (35, .inl (xe_push (.int 6) 37)),
  (37, .inr (.inr (.inl (xc_I 278 [0])))),
  (40, .inl (xe_putf 300 2 (xj_1 2 2) 43)),
  (43, .inl (xe_aload 0 44)),
  (44, .inl (xe_new 25 3 xk_f25 47)),
  (47, .inl (xe_dup 48)),
  (48, .inl (xe_push (.int 6) 50)),
  (50, .inr (.inr (.inl (xc_I 278 [0])))),
  (53, .inl (xe_putf 300 2 (xj_1 2 3) 56)),
  (56, .inl (xe_aload 0 57)),
  (57, .inl (xe_push (.int 6) 59)),
  (59, .inl (xe_newa 0 (.int 0) 100000 61)),
  (61, .inl (xe_putf 300 2 (xj_1 2 4) 64)),
  (64, .inl (xe_aload 0 65)),
  (65, .inl (xe_push (.int 6) 67)),
  (67, .inl (xe_newa 0 (.int 0) 100000 69)),
  (69, .inl (xe_putf 300 2 (xj_1 2 5) 72)),
  (72, .inl (xe_aload 0 73)),
  (73, .inl (xe_push (.int 2) 74)),
  (74, .inl (xe_newa 6 .null 100000 77)),
  (77, .inl (xe_putf 300 2 (xj_1 2 6) 80)),
  (80, .inl (xe_aload 0 81)),
  (81, .inl (xe_new 3 1 xk_f3 84)),
  (84, .inl (xe_dup 85)),
  (85, .inr (.inr (.inl (xc_I 123 [])))),
  (88, .inl (xe_putf 300 2 (xj_1 2 9) 91)),
  (91, .inr (.inl xr_v))]
theorem xq_115_0 {G : xm_G} (hG : xm_W xk_B G) (hO : xm_Og G) : ∀ q ∈ xp_115_0, xm_op xk_B G xd xk_N "LiarsCock$Parish" "<init>" prog_17_method_1_code 1 none q.1 q.2 :=
  xw_cons (xw_E xn_aload (xo_aload_n dX3_init_0 rfl)) <|
  xw_cons (xw_E xn_objInit (xo_objInit hG q236 q172 q173 dX3_init_1)) <|
  xw_cons (xw_E xn_aload (xo_aload_n dX3_init_4 rfl)) <|
  xw_cons (xw_E xn_new (xo_new hG xnw_16_9 dX3_init_5)) <|
  xw_cons (xw_E xn_dup (xo_dup dX3_init_8)) <|
  xw_cons (xw_E xn_push (xo_bipush dX3_init_9 (by decide))) <|
  xw_cons (xl_s_16_11 hG dX3_init_11) <|
  xw_cons (xw_E xn_putf (xo_putf hG rfl xu_16_14 dX3_init_14)) <|
  xw_cons (xw_E xn_aload (xo_aload_n dX3_init_17 rfl)) <|
  xw_cons (xw_E xn_new (xo_new hG xnw_16_9 dX3_init_18)) <|
  xw_cons (xw_E xn_dup (xo_dup dX3_init_21)) <|
  xw_cons (xw_E xn_push (xo_bipush dX3_init_22 (by decide))) <|
  xw_cons (xl_s_16_11 hG dX3_init_24) <|
  xw_cons (xw_E xn_putf (xo_putf hG rfl xu_16_20 dX3_init_27)) <|
  xw_cons (xw_E xn_aload (xo_aload_n dX3_init_30 rfl)) <|
  xw_cons (xw_E xn_new (xo_new hG xnw_16_9 dX3_init_31)) <|
  xw_cons (xw_E xn_dup (xo_dup dX3_init_34)) <|
  xw_cons (xw_E xn_push (xo_bipush dX3_init_35 (by decide))) <|
  xw_cons (xl_s_16_11 hG dX3_init_37) <|
  xw_cons (xw_E xn_putf (xo_putf hG rfl xu_16_23 dX3_init_40)) <|
  xw_cons (xw_E xn_aload (xo_aload_n dX3_init_43 rfl)) <|
  xw_cons (xw_E xn_new (xo_new hG xnw_16_9 dX3_init_44)) <|
  xw_cons (xw_E xn_dup (xo_dup dX3_init_47)) <|
  xw_cons (xw_E xn_push (xo_bipush dX3_init_48 (by decide))) <|
  xw_cons (xl_s_16_11 hG dX3_init_50) <|
  xw_cons (xw_E xn_putf (xo_putf hG rfl xu_16_26 dX3_init_53)) <|
  xw_cons (xw_E xn_aload (xo_aload_n dX3_init_56 rfl)) <|
  xw_cons (xw_E xn_push (xo_bipush dX3_init_57 (by decide))) <|
  xw_cons (xw_E xn_newa (xo_newa (at0 := .int) hG (by decide) rfl rfl (by decide) q226 dX3_init_59)) <|
  xw_cons (xw_E xn_putf (xo_putf hG rfl xu_16_29 dX3_init_61)) <|
  xw_cons (xw_E xn_aload (xo_aload_n dX3_init_64 rfl)) <|
  xw_cons (xw_E xn_push (xo_bipush dX3_init_65 (by decide))) <|
  xw_cons (xw_E xn_newa (xo_newa (at0 := .int) hG (by decide) rfl rfl (by decide) q226 dX3_init_67)) <|
  xw_cons (xw_E xn_putf (xo_putf hG rfl xu_16_33 dX3_init_69)) <|
  xw_cons (xw_E xn_aload (xo_aload_n dX3_init_72 rfl)) <|
  xw_cons (xw_E xn_push (xo_iconst dX3_init_73 (by decide))) <|
  xw_cons (xw_E xn_newa (xo_anewa hG (by decide) rfl (by decide) q265 q266 dX3_init_74)) <|
  xw_cons (xw_E xn_putf (xo_putf hG rfl xu_16_38 dX3_init_77)) <|
  xw_cons (xw_E xn_aload (xo_aload_n dX3_init_80 rfl)) <|
  xw_cons (xw_E xn_new (xo_new hG xnw_16_42 dX3_init_81)) <|
  xw_cons (xw_E xn_dup (xo_dup dX3_init_84)) <|
  xw_cons (xl_s_16_44 hG dX3_init_85) <|
  xw_cons (xw_E xn_putf (xo_putf hG rfl xu_16_45 dX3_init_88)) <|
  xw_cons (xw_R (xt_v dX3_init_91)) <|
  xw_nil _
def xp_115 : List (Nat × xm_O) := xp_115_0
theorem xq_115 {G : xm_G} (hG : xm_W xk_B G) (hO : xm_Og G) : ∀ q ∈ xp_115, xm_op xk_B G xd xk_N "LiarsCock$Parish" "<init>" prog_17_method_1_code 1 none q.1 q.2 := xq_115_0 hG hO
/- 116: LiarsCock$Parish.isTold(J)Z -/
def xp_116_0 : List (Nat × xm_O) := [
  (0, .inl (xe_aload 0 1)),
  (1, .inl (xe_getf (xj_1 2 0) 4)),
  (4, .inl (xe_lload 1 5)),
  (5, .inr (.inr (.inl (xc_S 117 [1, 2])))),
  (8, .inl (xe_push (.int (-1)) 9)),
  (9, .inl (xe_icmp (fun x y => decide (¬ x = y)) 36 12)),
  (12, .inl (xe_aload 0 13)),
  (13, .inl (xe_getf (xj_1 2 1) 16)),
  (16, .inl (xe_lload 1 17)),
  (17, .inr (.inr (.inl (xc_S 117 [1, 2])))),
  (20, .inl (xe_push (.int (-1)) 21)),
  (21, .inl (xe_icmp (fun x y => decide (¬ x = y)) 36 24)),
  (24, .inl (xe_aload 0 25)),
  (25, .inl (xe_getf (xj_1 2 2) 28)),
  (28, .inl (xe_lload 1 29)),
  (29, .inr (.inr (.inl (xc_S 117 [1, 2])))),
  (32, .inl (xe_push (.int (-1)) 33)),
  (33, .inl (xe_icmp (fun x y => decide (x = y)) 40 36)),
  (36, .inl (xe_push (.int 1) 37)),
  (37, .inl (xe_goto 41)),
  (40, .inl (xe_push (.int 0) 41)),
  (41, .inr (.inl xr_z))]
theorem xq_116_0 {G : xm_G} (hG : xm_W xk_B G) (hO : xm_Og G) : ∀ q ∈ xp_116_0, xm_op xk_B G xd xk_N "LiarsCock$Parish" "isTold" prog_17_method_3_code 3 (some (FieldType.boolean)) q.1 q.2 :=
  xw_cons (xw_E xn_aload (xo_aload_n dX3_isTold_0 rfl)) <|
  xw_cons (xw_E xn_getf (xo_getf hG xg_16_14 dX3_isTold_1)) <|
  xw_cons (xw_E xn_lload (xo_lload_n dX3_isTold_4 rfl)) <|
  xw_cons (xl_s_16_63 hG dX3_isTold_5) <|
  xw_cons (xw_E xn_push (xo_iconst dX3_isTold_8 (by decide))) <|
  xw_cons (xw_E xn_icmp (xo_icmp_ne dX3_isTold_9 (by decide))) <|
  xw_cons (xw_E xn_aload (xo_aload_n dX3_isTold_12 rfl)) <|
  xw_cons (xw_E xn_getf (xo_getf hG xg_16_20 dX3_isTold_13)) <|
  xw_cons (xw_E xn_lload (xo_lload_n dX3_isTold_16 rfl)) <|
  xw_cons (xl_s_16_63 hG dX3_isTold_17) <|
  xw_cons (xw_E xn_push (xo_iconst dX3_isTold_20 (by decide))) <|
  xw_cons (xw_E xn_icmp (xo_icmp_ne dX3_isTold_21 (by decide))) <|
  xw_cons (xw_E xn_aload (xo_aload_n dX3_isTold_24 rfl)) <|
  xw_cons (xw_E xn_getf (xo_getf hG xg_16_23 dX3_isTold_25)) <|
  xw_cons (xw_E xn_lload (xo_lload_n dX3_isTold_28 rfl)) <|
  xw_cons (xl_s_16_63 hG dX3_isTold_29) <|
  xw_cons (xw_E xn_push (xo_iconst dX3_isTold_32 (by decide))) <|
  xw_cons (xw_E xn_icmp (xo_icmp_eq dX3_isTold_33 (by decide))) <|
  xw_cons (xw_E xn_push (xo_iconst dX3_isTold_36 (by decide))) <|
  xw_cons (xw_E xn_goto (xo_goto dX3_isTold_37 (by decide))) <|
  xw_cons (xw_E xn_push (xo_iconst dX3_isTold_40 (by decide))) <|
  xw_cons (xw_R (xt_z dX3_isTold_41)) <|
  xw_nil _
def xp_116 : List (Nat × xm_O) := xp_116_0
theorem xq_116 {G : xm_G} (hG : xm_W xk_B G) (hO : xm_Og G) : ∀ q ∈ xp_116, xm_op xk_B G xd xk_N "LiarsCock$Parish" "isTold" prog_17_method_3_code 3 (some (FieldType.boolean)) q.1 q.2 := xq_116_0 hG hO
/- 117: LiarsCock$Parish.find(Ljava/util/ArrayList;J)I -/
def xp_117_0 : List (Nat × xm_O) := [
  (0, .inl (xe_push (.int 0) 1)),
  (1, .inl (xe_istore 3 2)),
  (2, .inl (xe_iload 3 3)),
  (3, .inl (xe_aload 0 4)),
  (4, .inr (.inr (.inl (xc_V (xj_1 25 280) [])))),
  (7, .inl (xe_icmp (fun x y => decide (y ≤ x)) 34 10)),
  (10, .inl (xe_aload 0 11)),
  (11, .inl (xe_iload 3 12)),
  (12, .inr (.inr (.inl (xc_V (xj_1 25 281) [0])))),
  (15, .inl (xe_cast (fun ci => ([26] : List Nat).elem ci) 18)),
  (18, .inr (.inr (.inl (xc_V (xj_1 26 308) [])))),
  (21, .inl (xe_lload 1 22)),
  (22, .inl (xe_lcmp 23)),
  (23, .inl (xe_if (fun x => decide (¬ x = 0)) 28 26)),
  (26, .inl (xe_iload 3 27)),
  (27, .inr (.inl xr_i)),
  (28, .inl (xe_iinc 3 1 31)),
  (31, .inl (xe_goto 2)),
  (34, .inl (xe_push (.int (-1)) 35)),
  (35, .inr (.inl xr_i))]
theorem xq_117_0 {G : xm_G} (hG : xm_W xk_B G) (hO : xm_Og G) : ∀ q ∈ xp_117_0, xm_op xk_B G xd xk_N "LiarsCock$Parish" "find" prog_17_method_2_code 4 (some (FieldType.int)) q.1 q.2 :=
  xw_cons (xw_E xn_push (xo_iconst dX3_find_0 (by decide))) <|
  xw_cons (xw_E xn_istore (xo_istore_n dX3_find_1 rfl)) <|
  xw_cons (xw_E xn_iload (xo_iload_n dX3_find_2 rfl)) <|
  xw_cons (xw_E xn_aload (xo_aload_n dX3_find_3 rfl)) <|
  xw_cons (xl_v_16_49 hG dX3_find_4) <|
  xw_cons (xw_E xn_icmp (xo_icmp_ge dX3_find_7 (by decide))) <|
  xw_cons (xw_E xn_aload (xo_aload_n dX3_find_10 rfl)) <|
  xw_cons (xw_E xn_iload (xo_iload_n dX3_find_11 rfl)) <|
  xw_cons (xl_v_16_53 hG dX3_find_12) <|
  xw_cons (xw_E xn_cast (xo_cast hG q718 xca_16_57 dX3_find_15)) <|
  xw_cons (xl_v_16_59 hG dX3_find_18) <|
  xw_cons (xw_E xn_lload (xo_lload_n dX3_find_21 rfl)) <|
  xw_cons (xw_E xn_lcmp (xo_lcmp dX3_find_22)) <|
  xw_cons (xw_E xn_if (xo_if_ne dX3_find_23 (by decide))) <|
  xw_cons (xw_E xn_iload (xo_iload_n dX3_find_26 rfl)) <|
  xw_cons (xw_R (xt_i dX3_find_27)) <|
  xw_cons (xw_E xn_iinc (xo_iinc dX3_find_28 (by decide))) <|
  xw_cons (xw_E xn_goto (xo_goto dX3_find_31 (by decide))) <|
  xw_cons (xw_E xn_push (xo_iconst dX3_find_34 (by decide))) <|
  xw_cons (xw_R (xt_i dX3_find_35)) <|
  xw_nil _
def xp_117 : List (Nat × xm_O) := xp_117_0
theorem xq_117 {G : xm_G} (hG : xm_W xk_B G) (hO : xm_Og G) : ∀ q ∈ xp_117, xm_op xk_B G xd xk_N "LiarsCock$Parish" "find" prog_17_method_2_code 4 (some (FieldType.int)) q.1 q.2 := xq_117_0 hG hO
/- 118: LiarsCock$Parish.so(LLiarsCock$Expression;)J -/
def xp_118_0 : List (Nat × xm_O) := [
  (0, .inl (xe_push (.long 0) 1)),
  (1, .inl (xe_lstore 2 2)),
  (2, .inl (xe_push (.int 0) 3)),
  (3, .inl (xe_istore 4 5)),
  (5, .inl (xe_iload 4 7)),
  (7, .inl (xe_aload 0 8)),
  (8, .inr (.inr (.inl (xc_V (xj_1 2 119) [])))),
  (11, .inl (xe_icmp (fun x y => decide (y ≤ x)) 43 14)),
  (14, .inl (xe_aload 1 15)),
  (15, .inl (xe_aload 0 16)),
  (16, .inl (xe_getf (xj_1 2 9) 19)),
  (19, .inl (xe_iload 4 21)),
  (21, .inr (.inr (.inl (xc_V (xj_1 3 124) [0])))),
  (24, .inr (.inr (.inl (xc_V (xj_l [(11, 246), (12, 248), (13, 250), (14, 252)]) [2])))),
  (27, .inl (xe_if (fun x => decide (x = 0)) 37 30)),
  (30, .inl (xe_lload 2 31)),
  (31, .inl (xe_push (.long 1) 32)),
  (32, .inl (xe_iload 4 34)),
  (34, .inl (xe_li (fun x y => x <<< (y.toInt64 &&& 63)) 35)),
  (35, .inl (xe_ll (fun x y => x ||| y) 36)),
  (36, .inl (xe_lstore 2 37)),
  (37, .inl (xe_iinc 4 1 40)),
  (40, .inl (xe_goto 5)),
  (43, .inl (xe_lload 2 44)),
  (44, .inr (.inl xr_l))]
theorem xq_118_0 {G : xm_G} (hG : xm_W xk_B G) (hO : xm_Og G) : ∀ q ∈ xp_118_0, xm_op xk_B G xd xk_N "LiarsCock$Parish" "so" prog_17_method_5_code 5 (some (FieldType.long)) q.1 q.2 :=
  xw_cons (xw_E xn_push (xo_lconst dX3_so_0 (by decide))) <|
  xw_cons (xw_E xn_lstore (xo_lstore_n dX3_so_1 rfl)) <|
  xw_cons (xw_E xn_push (xo_iconst dX3_so_2 (by decide))) <|
  xw_cons (xw_E xn_istore (xo_istore dX3_so_3)) <|
  xw_cons (xw_E xn_iload (xo_iload dX3_so_5)) <|
  xw_cons (xw_E xn_aload (xo_aload_n dX3_so_7 rfl)) <|
  xw_cons (xl_v_16_67 hG dX3_so_8) <|
  xw_cons (xw_E xn_icmp (xo_icmp_ge dX3_so_11 (by decide))) <|
  xw_cons (xw_E xn_aload (xo_aload_n dX3_so_14 rfl)) <|
  xw_cons (xw_E xn_aload (xo_aload_n dX3_so_15 rfl)) <|
  xw_cons (xw_E xn_getf (xo_getf hG xg_16_45 dX3_so_16)) <|
  xw_cons (xw_E xn_iload (xo_iload dX3_so_19)) <|
  xw_cons (xl_v_16_70 hG dX3_so_21) <|
  xw_cons (xl_v_16_74 hG dX3_so_24) <|
  xw_cons (xw_E xn_if (xo_if_eq dX3_so_27 (by decide))) <|
  xw_cons (xw_E xn_lload (xo_lload_n dX3_so_30 rfl)) <|
  xw_cons (xw_E xn_push (xo_lconst dX3_so_31 (by decide))) <|
  xw_cons (xw_E xn_iload (xo_iload dX3_so_32)) <|
  xw_cons (xw_E xn_li (xo_lshl dX3_so_34)) <|
  xw_cons (xw_E xn_ll (xo_lor dX3_so_35)) <|
  xw_cons (xw_E xn_lstore (xo_lstore_n dX3_so_36 rfl)) <|
  xw_cons (xw_E xn_iinc (xo_iinc dX3_so_37 (by decide))) <|
  xw_cons (xw_E xn_goto (xo_goto dX3_so_40 (by decide))) <|
  xw_cons (xw_E xn_lload (xo_lload_n dX3_so_43 rfl)) <|
  xw_cons (xw_R (xt_l dX3_so_44)) <|
  xw_nil _
def xp_118 : List (Nat × xm_O) := xp_118_0
theorem xq_118 {G : xm_G} (hG : xm_W xk_B G) (hO : xm_Og G) : ∀ q ∈ xp_118, xm_op xk_B G xd xk_N "LiarsCock$Parish" "so" prog_17_method_5_code 5 (some (FieldType.long)) q.1 q.2 := xq_118_0 hG hO
/- 119: LiarsCock$Parish.worlds()I -/
def xp_119_0 : List (Nat × xm_O) := [
  (0, .inl (xe_push (.int 1) 1)),
  (1, .inl (xe_aload 0 2)),
  (2, .inl (xe_getf (xj_1 2 0) 5)),
  (5, .inr (.inr (.inl (xc_V (xj_1 25 280) [])))),
  (8, .inl (xe_ii (fun x y => x <<< (y &&& 31)) 9)),
  (9, .inr (.inl xr_i))]
theorem xq_119_0 {G : xm_G} (hG : xm_W xk_B G) (hO : xm_Og G) : ∀ q ∈ xp_119_0, xm_op xk_B G xd xk_N "LiarsCock$Parish" "worlds" prog_17_method_4_code 1 (some (FieldType.int)) q.1 q.2 :=
  xw_cons (xw_E xn_push (xo_iconst dX3_worlds_0 (by decide))) <|
  xw_cons (xw_E xn_aload (xo_aload_n dX3_worlds_1 rfl)) <|
  xw_cons (xw_E xn_getf (xo_getf hG xg_16_14 dX3_worlds_2)) <|
  xw_cons (xl_v_16_49 hG dX3_worlds_5) <|
  xw_cons (xw_E xn_ii (xo_ishl dX3_worlds_8)) <|
  xw_cons (xw_R (xt_i dX3_worlds_9)) <|
  xw_nil _
def xp_119 : List (Nat × xm_O) := xp_119_0
theorem xq_119 {G : xm_G} (hG : xm_W xk_B G) (hO : xm_Og G) : ∀ q ∈ xp_119, xm_op xk_B G xd xk_N "LiarsCock$Parish" "worlds" prog_17_method_4_code 1 (some (FieldType.int)) q.1 q.2 := xq_119_0 hG hO
/- 120: LiarsCock$Parish.known(JI)J -/
def xp_120_0 : List (Nat × xm_O) := [
  (0, .inl (xe_push (.long 0) 1)),
  (1, .inl (xe_lstore 4 3)),
  (3, .inl (xe_push (.int 0) 4)),
  (4, .inl (xe_istore 6 6)),
  (6, .inl (xe_iload 6 8)),
  (8, .inl (xe_aload 0 9)),
  (9, .inr (.inr (.inl (xc_V (xj_1 2 119) [])))),
  (12, .inl (xe_icmp (fun x y => decide (y ≤ x)) 49 15)),
  (15, .inl (xe_aload 0 16)),
  (16, .inl (xe_iload 6 18)),
  (18, .inl (xe_iload 3 19)),
  (19, .inr (.inr (.inl (xc_V (xj_1 2 121) [0, 0])))),
  (22, .inl (xe_aload 0 23)),
  (23, .inl (xe_getf (xj_1 2 8) 26)),
  (26, .inl (xe_ll (fun x y => x &&& y) 27)),
  (27, .inl (xe_lload 1 28)),
  (28, .inl (xe_ll (fun x y => x &&& y) 29)),
  (29, .inl (xe_push (.long 0) 30)),
  (30, .inl (xe_lcmp 31)),
  (31, .inl (xe_if (fun x => decide (¬ x = 0)) 43 34)),
  (34, .inl (xe_lload 4 36)),
  (36, .inl (xe_push (.long 1) 37)),
  (37, .inl (xe_iload 6 39)),
  (39, .inl (xe_li (fun x y => x <<< (y.toInt64 &&& 63)) 40)),
  (40, .inl (xe_ll (fun x y => x ||| y) 41)),
  (41, .inl (xe_lstore 4 43)),
  (43, .inl (xe_iinc 6 1 46)),
  (46, .inl (xe_goto 6)),
  (49, .inl (xe_lload 4 51)),
  (51, .inr (.inl xr_l))]
theorem xq_120_0 {G : xm_G} (hG : xm_W xk_B G) (hO : xm_Og G) : ∀ q ∈ xp_120_0, xm_op xk_B G xd xk_N "LiarsCock$Parish" "known" prog_17_method_7_code 7 (some (FieldType.long)) q.1 q.2 :=
  xw_cons (xw_E xn_push (xo_lconst dX3_known_0 (by decide))) <|
  xw_cons (xw_E xn_lstore (xo_lstore dX3_known_1)) <|
  xw_cons (xw_E xn_push (xo_iconst dX3_known_3 (by decide))) <|
  xw_cons (xw_E xn_istore (xo_istore dX3_known_4)) <|
  xw_cons (xw_E xn_iload (xo_iload dX3_known_6)) <|
  xw_cons (xw_E xn_aload (xo_aload_n dX3_known_8 rfl)) <|
  xw_cons (xl_v_16_67 hG dX3_known_9) <|
  xw_cons (xw_E xn_icmp (xo_icmp_ge dX3_known_12 (by decide))) <|
  xw_cons (xw_E xn_aload (xo_aload_n dX3_known_15 rfl)) <|
  xw_cons (xw_E xn_iload (xo_iload dX3_known_16)) <|
  xw_cons (xw_E xn_iload (xo_iload_n dX3_known_18 rfl)) <|
  xw_cons (xl_v_16_79 hG dX3_known_19) <|
  xw_cons (xw_E xn_aload (xo_aload_n dX3_known_22 rfl)) <|
  xw_cons (xw_E xn_getf (xo_getf hG xg_16_83 dX3_known_23)) <|
  xw_cons (xw_E xn_ll (xo_land dX3_known_26)) <|
  xw_cons (xw_E xn_lload (xo_lload_n dX3_known_27 rfl)) <|
  xw_cons (xw_E xn_ll (xo_land dX3_known_28)) <|
  xw_cons (xw_E xn_push (xo_lconst dX3_known_29 (by decide))) <|
  xw_cons (xw_E xn_lcmp (xo_lcmp dX3_known_30)) <|
  xw_cons (xw_E xn_if (xo_if_ne dX3_known_31 (by decide))) <|
  xw_cons (xw_E xn_lload (xo_lload dX3_known_34)) <|
  xw_cons (xw_E xn_push (xo_lconst dX3_known_36 (by decide))) <|
  xw_cons (xw_E xn_iload (xo_iload dX3_known_37)) <|
  xw_cons (xw_E xn_li (xo_lshl dX3_known_39)) <|
  xw_cons (xw_E xn_ll (xo_lor dX3_known_40)) <|
  xw_cons (xw_E xn_lstore (xo_lstore dX3_known_41)) <|
  xw_cons (xw_E xn_iinc (xo_iinc dX3_known_43 (by decide))) <|
  xw_cons (xw_E xn_goto (xo_goto dX3_known_46 (by decide))) <|
  xw_cons (xw_E xn_lload (xo_lload dX3_known_49)) <|
  xw_cons (xw_R (xt_l dX3_known_51)) <|
  xw_nil _
def xp_120 : List (Nat × xm_O) := xp_120_0
theorem xq_120 {G : xm_G} (hG : xm_W xk_B G) (hO : xm_Og G) : ∀ q ∈ xp_120, xm_op xk_B G xd xk_N "LiarsCock$Parish" "known" prog_17_method_7_code 7 (some (FieldType.long)) q.1 q.2 := xq_120_0 hG hO
/- 121: LiarsCock$Parish.alike(II)J -/
def xp_121_0 : List (Nat × xm_O) := [
  (0, .inl (xe_push (.long 0) 1)),
  (1, .inl (xe_lstore 3 2)),
  (2, .inl (xe_push (.int 0) 3)),
  (3, .inl (xe_istore 5 5)),
  (5, .inl (xe_iload 5 7)),
  (7, .inl (xe_aload 0 8)),
  (8, .inr (.inr (.inl (xc_V (xj_1 2 119) [])))),
  (11, .inl (xe_icmp (fun x y => decide (y ≤ x)) 36 14)),
  (14, .inl (xe_iload 5 16)),
  (16, .inl (xe_iload 1 17)),
  (17, .inl (xe_ii (fun x y => x ^^^ y) 18)),
  (18, .inl (xe_iload 2 19)),
  (19, .inl (xe_ii (fun x y => x &&& y) 20)),
  (20, .inl (xe_if (fun x => decide (¬ x = 0)) 30 23)),
  (23, .inl (xe_lload 3 24)),
  (24, .inl (xe_push (.long 1) 25)),
  (25, .inl (xe_iload 5 27)),
  (27, .inl (xe_li (fun x y => x <<< (y.toInt64 &&& 63)) 28)),
  (28, .inl (xe_ll (fun x y => x ||| y) 29)),
  (29, .inl (xe_lstore 3 30)),
  (30, .inl (xe_iinc 5 1 33)),
  (33, .inl (xe_goto 5)),
  (36, .inl (xe_lload 3 37)),
  (37, .inr (.inl xr_l))]
theorem xq_121_0 {G : xm_G} (hG : xm_W xk_B G) (hO : xm_Og G) : ∀ q ∈ xp_121_0, xm_op xk_B G xd xk_N "LiarsCock$Parish" "alike" prog_17_method_6_code 6 (some (FieldType.long)) q.1 q.2 :=
  xw_cons (xw_E xn_push (xo_lconst dX3_alike_0 (by decide))) <|
  xw_cons (xw_E xn_lstore (xo_lstore_n dX3_alike_1 rfl)) <|
  xw_cons (xw_E xn_push (xo_iconst dX3_alike_2 (by decide))) <|
  xw_cons (xw_E xn_istore (xo_istore dX3_alike_3)) <|
  xw_cons (xw_E xn_iload (xo_iload dX3_alike_5)) <|
  xw_cons (xw_E xn_aload (xo_aload_n dX3_alike_7 rfl)) <|
  xw_cons (xl_v_16_67 hG dX3_alike_8) <|
  xw_cons (xw_E xn_icmp (xo_icmp_ge dX3_alike_11 (by decide))) <|
  xw_cons (xw_E xn_iload (xo_iload dX3_alike_14)) <|
  xw_cons (xw_E xn_iload (xo_iload_n dX3_alike_16 rfl)) <|
  xw_cons (xw_E xn_ii (xo_ixor dX3_alike_17)) <|
  xw_cons (xw_E xn_iload (xo_iload_n dX3_alike_18 rfl)) <|
  xw_cons (xw_E xn_ii (xo_iand dX3_alike_19)) <|
  xw_cons (xw_E xn_if (xo_if_ne dX3_alike_20 (by decide))) <|
  xw_cons (xw_E xn_lload (xo_lload_n dX3_alike_23 rfl)) <|
  xw_cons (xw_E xn_push (xo_lconst dX3_alike_24 (by decide))) <|
  xw_cons (xw_E xn_iload (xo_iload dX3_alike_25)) <|
  xw_cons (xw_E xn_li (xo_lshl dX3_alike_27)) <|
  xw_cons (xw_E xn_ll (xo_lor dX3_alike_28)) <|
  xw_cons (xw_E xn_lstore (xo_lstore_n dX3_alike_29 rfl)) <|
  xw_cons (xw_E xn_iinc (xo_iinc dX3_alike_30 (by decide))) <|
  xw_cons (xw_E xn_goto (xo_goto dX3_alike_33 (by decide))) <|
  xw_cons (xw_E xn_lload (xo_lload_n dX3_alike_36 rfl)) <|
  xw_cons (xw_R (xt_l dX3_alike_37)) <|
  xw_nil _
def xp_121 : List (Nat × xm_O) := xp_121_0
theorem xq_121 {G : xm_G} (hG : xm_W xk_B G) (hO : xm_Og G) : ∀ q ∈ xp_121, xm_op xk_B G xd xk_N "LiarsCock$Parish" "alike" prog_17_method_6_code 6 (some (FieldType.long)) q.1 q.2 := xq_121_0 hG hO
/- 122: LiarsCock$Parish.bearing(I)I -/
def xp_122_0 : List (Nat × xm_O) := [
  (0, .inl (xe_iload 1 1)),
  (1, .inl (xe_push (.int (-1)) 2)),
  (2, .inl (xe_icmp (fun x y => decide (¬ x = y)) 9 5)),
  (5, .inl (xe_push (.int 0) 6)),
  (6, .inl (xe_goto 28)),
  (9, .inl (xe_aload 0 10)),
  (10, .inl (xe_getf (xj_1 2 5) 13)),
  (13, .inl (xe_aload 0 14)),
  (14, .inl (xe_getf (xj_1 2 3) 17)),
  (17, .inl (xe_iload 1 18)),
  (18, .inr (.inr (.inl (xc_V (xj_1 25 281) [0])))),
  (21, .inl (xe_cast (fun ci => ([10] : List Nat).elem ci) 24)),
  (24, .inl (xe_getf (xj_1 10 0) 27)),
  (27, .inl (xe_ald (fun t => t == 0) 28)),
  (28, .inr (.inl xr_i))]
theorem xq_122_0 {G : xm_G} (hG : xm_W xk_B G) (hO : xm_Og G) : ∀ q ∈ xp_122_0, xm_op xk_B G xd xk_N "LiarsCock$Parish" "bearing" prog_17_method_8_code 2 (some (FieldType.int)) q.1 q.2 :=
  xw_cons (xw_E xn_iload (xo_iload_n dX3_bearing_0 rfl)) <|
  xw_cons (xw_E xn_push (xo_iconst dX3_bearing_1 (by decide))) <|
  xw_cons (xw_E xn_icmp (xo_icmp_ne dX3_bearing_2 (by decide))) <|
  xw_cons (xw_E xn_push (xo_iconst dX3_bearing_5 (by decide))) <|
  xw_cons (xw_E xn_goto (xo_goto dX3_bearing_6 (by decide))) <|
  xw_cons (xw_E xn_aload (xo_aload_n dX3_bearing_9 rfl)) <|
  xw_cons (xw_E xn_getf (xo_getf hG xg_16_33 dX3_bearing_10)) <|
  xw_cons (xw_E xn_aload (xo_aload_n dX3_bearing_13 rfl)) <|
  xw_cons (xw_E xn_getf (xo_getf hG xg_16_26 dX3_bearing_14)) <|
  xw_cons (xw_E xn_iload (xo_iload_n dX3_bearing_17 rfl)) <|
  xw_cons (xl_v_16_53 hG dX3_bearing_18) <|
  xw_cons (xw_E xn_cast (xo_cast hG q1265 xca_16_87 dX3_bearing_21)) <|
  xw_cons (xw_E xn_getf (xo_getf hG xg_16_89 dX3_bearing_24)) <|
  xw_cons (xw_E xn_ald (xo_iald xk_hB dX3_bearing_27)) <|
  xw_cons (xw_R (xt_i dX3_bearing_28)) <|
  xw_nil _
def xp_122 : List (Nat × xm_O) := xp_122_0
theorem xq_122 {G : xm_G} (hG : xm_W xk_B G) (hO : xm_Og G) : ∀ q ∈ xp_122, xm_op xk_B G xd xk_N "LiarsCock$Parish" "bearing" prog_17_method_8_code 2 (some (FieldType.int)) q.1 q.2 := xq_122_0 hG hO
/- 123: LiarsCock$Facts.<init>()V -/
def xp_123_0 : List (Nat × xm_O) := [
  (0, .inl (xe_aload 0 1)),
  (1, .inl (xe_objInit 4)),
  (4, .inl (xe_aload 0 5)),
  (5, .inl (xe_push (.int 6) 7)),
  (7, .inl (xe_newa 0 (.int 0) 100000 9)),
  (9, .inl (xe_putf 300 2 (xj_1 3 0) 12)),
  (12, .inr (.inl xr_v))]
theorem xq_123_0 {G : xm_G} (hG : xm_W xk_B G) (hO : xm_Og G) : ∀ q ∈ xp_123_0, xm_op xk_B G xd xk_N "LiarsCock$Facts" "<init>" prog_8_method_1_code 1 none q.1 q.2 :=
  xw_cons (xw_E xn_aload (xo_aload_n dX4_init_0 rfl)) <|
  xw_cons (xw_E xn_objInit (xo_objInit hG q272 q172 q173 dX4_init_1)) <|
  xw_cons (xw_E xn_aload (xo_aload_n dX4_init_4 rfl)) <|
  xw_cons (xw_E xn_push (xo_bipush dX4_init_5 (by decide))) <|
  xw_cons (xw_E xn_newa (xo_newa (at0 := .int) hG (by decide) rfl rfl (by decide) q226 dX4_init_7)) <|
  xw_cons (xw_E xn_putf (xo_putf hG rfl xu_7_9 dX4_init_9)) <|
  xw_cons (xw_R (xt_v dX4_init_12)) <|
  xw_nil _
def xp_123 : List (Nat × xm_O) := xp_123_0
theorem xq_123 {G : xm_G} (hG : xm_W xk_B G) (hO : xm_Og G) : ∀ q ∈ xp_123, xm_op xk_B G xd xk_N "LiarsCock$Facts" "<init>" prog_8_method_1_code 1 none q.1 q.2 := xq_123_0 hG hO
/- 124: LiarsCock$Facts.of(I)LLiarsCock$Facts; -/
def xp_124_0 : List (Nat × xm_O) := [
  (0, .inl (xe_push (.int 0) 1)),
  (1, .inl (xe_istore 2 2)),
  (2, .inl (xe_iload 2 3)),
  (3, .inl (xe_push (.int 6) 5)),
  (5, .inl (xe_icmp (fun x y => decide (y ≤ x)) 34 8)),
  (8, .inl (xe_aload 0 9)),
  (9, .inl (xe_getf (xj_1 3 0) 12)),
  (12, .inl (xe_iload 2 13)),
  (13, .inl (xe_iload 1 14)),
  (14, .inl (xe_i2l 15)),
  (15, .inl (xe_iload 2 16)),
  (16, .inr (.inr (.inl (xc_S 6 [0, 1])))),
  (19, .inl (xe_if (fun x => decide (x = 0)) 26 22)),
  (22, .inl (xe_push (.int 1) 23)),
  (23, .inl (xe_goto 27)),
  (26, .inl (xe_push (.int 0) 27)),
  (27, .inl (xe_ast 300 0 (xm_kd 0) 28)),
  (28, .inl (xe_iinc 2 1 31)),
  (31, .inl (xe_goto 2)),
  (34, .inl (xe_aload 0 35)),
  (35, .inr (.inl xr_a))]
theorem xq_124_0 {G : xm_G} (hG : xm_W xk_B G) (hO : xm_Og G) : ∀ q ∈ xp_124_0, xm_op xk_B G xd xk_N "LiarsCock$Facts" "of" prog_8_method_2_code 3 (some ((FieldType.object "LiarsCock$Facts"))) q.1 q.2 :=
  xw_cons (xw_E xn_push (xo_iconst dX4_of_0 (by decide))) <|
  xw_cons (xw_E xn_istore (xo_istore_n dX4_of_1 rfl)) <|
  xw_cons (xw_E xn_iload (xo_iload_n dX4_of_2 rfl)) <|
  xw_cons (xw_E xn_push (xo_bipush dX4_of_3 (by decide))) <|
  xw_cons (xw_E xn_icmp (xo_icmp_ge dX4_of_5 (by decide))) <|
  xw_cons (xw_E xn_aload (xo_aload_n dX4_of_8 rfl)) <|
  xw_cons (xw_E xn_getf (xo_getf hG xg_7_9 dX4_of_9)) <|
  xw_cons (xw_E xn_iload (xo_iload_n dX4_of_12 rfl)) <|
  xw_cons (xw_E xn_iload (xo_iload_n dX4_of_13 rfl)) <|
  xw_cons (xw_E xn_i2l (xo_i2l dX4_of_14)) <|
  xw_cons (xw_E xn_iload (xo_iload_n dX4_of_15 rfl)) <|
  xw_cons (xl_s_7_15 hG dX4_of_16) <|
  xw_cons (xw_E xn_if (xo_if_eq dX4_of_19 (by decide))) <|
  xw_cons (xw_E xn_push (xo_iconst dX4_of_22 (by decide))) <|
  xw_cons (xw_E xn_goto (xo_goto dX4_of_23 (by decide))) <|
  xw_cons (xw_E xn_push (xo_iconst dX4_of_26 (by decide))) <|
  xw_cons (xw_E xn_ast (xo_iast hG xk_hB rfl dX4_of_27)) <|
  xw_cons (xw_E xn_iinc (xo_iinc dX4_of_28 (by decide))) <|
  xw_cons (xw_E xn_goto (xo_goto dX4_of_31 (by decide))) <|
  xw_cons (xw_E xn_aload (xo_aload_n dX4_of_34 rfl)) <|
  xw_cons (xw_R (xt_a (Or.inl ⟨_, rfl⟩) dX4_of_35)) <|
  xw_nil _
def xp_124 : List (Nat × xm_O) := xp_124_0
theorem xq_124 {G : xm_G} (hG : xm_W xk_B G) (hO : xm_Og G) : ∀ q ∈ xp_124, xm_op xk_B G xd xk_N "LiarsCock$Facts" "of" prog_8_method_2_code 3 (some ((FieldType.object "LiarsCock$Facts"))) q.1 q.2 := xq_124_0 hG hO
/- 125: LiarsCock$Cock.<init>(II)V -/
def xp_125_0 : List (Nat × xm_O) := [
  (0, .inl (xe_aload 0 1)),
  (1, .inl (xe_objInit 4)),
  (4, .inl (xe_aload 0 5)),
  (5, .inl (xe_iload 1 6)),
  (6, .inl (xe_putf 300 0 (xj_1 4 0) 9)),
  (9, .inl (xe_aload 0 10)),
  (10, .inl (xe_iload 2 11)),
  (11, .inl (xe_putf 300 0 (xj_1 4 1) 14)),
  (14, .inr (.inl xr_v))]
theorem xq_125_0 {G : xm_G} (hG : xm_W xk_B G) (hO : xm_Og G) : ∀ q ∈ xp_125_0, xm_op xk_B G xd xk_N "LiarsCock$Cock" "<init>" prog_5_method_1_code 3 none q.1 q.2 :=
  xw_cons (xw_E xn_aload (xo_aload_n dX5_init_0 rfl)) <|
  xw_cons (xw_E xn_objInit (xo_objInit hG q331 q172 q173 dX5_init_1)) <|
  xw_cons (xw_E xn_aload (xo_aload_n dX5_init_4 rfl)) <|
  xw_cons (xw_E xn_iload (xo_iload_n dX5_init_5 rfl)) <|
  xw_cons (xw_E xn_putf (xo_putf hG rfl xu_4_7 dX5_init_6)) <|
  xw_cons (xw_E xn_aload (xo_aload_n dX5_init_9 rfl)) <|
  xw_cons (xw_E xn_iload (xo_iload_n dX5_init_10 rfl)) <|
  xw_cons (xw_E xn_putf (xo_putf hG rfl xu_4_13 dX5_init_11)) <|
  xw_cons (xw_R (xt_v dX5_init_14)) <|
  xw_nil _
def xp_125 : List (Nat × xm_O) := xp_125_0
theorem xq_125 {G : xm_G} (hG : xm_W xk_B G) (hO : xm_Og G) : ∀ q ∈ xp_125, xm_op xk_B G xd xk_N "LiarsCock$Cock" "<init>" prog_5_method_1_code 3 none q.1 q.2 := xq_125_0 hG hO
/- 126: LiarsCock$Sets.<init>(LLiarsCock;)V -/
def xp_126_0 : List (Nat × xm_O) := [
  (0, .inl (xe_aload 0 1)),
  (1, .inl (xe_aload 1 2)),
  (2, .inl (xe_putf 300 2 (xj_1 5 2) 5)),
  (5, .inl (xe_aload 0 6)),
  (6, .inl (xe_objInit 9)),
  (9, .inl (xe_aload 0 10)),
  (10, .inl (xe_push (.int 12) 12)),
  (12, .inl (xe_newa 1 (.long 0) 100000 14)),
  (14, .inl (xe_putf 300 2 (xj_1 5 0) 17)),
  (17, .inl (xe_aload 0 18)),
  (18, .inl (xe_push (.int 4096) 21)),
  (21, .inl (xe_newa 1 (.long 0) 100000 23)),
  (23, .inl (xe_putf 300 2 (xj_1 5 1) 26)),
  (26, .inr (.inl xr_v))]
theorem xq_126_0 {G : xm_G} (hG : xm_W xk_B G) (hO : xm_Og G) : ∀ q ∈ xp_126_0, xm_op xk_B G xd xk_N "LiarsCock$Sets" "<init>" prog_24_method_1_code 2 none q.1 q.2 :=
  xw_cons (xw_E xn_aload (xo_aload_n dX6_init_0 rfl)) <|
  xw_cons (xw_E xn_aload (xo_aload_n dX6_init_1 rfl)) <|
  xw_cons (xw_E xn_putf (xo_putf hG rfl xu_23_3 dX6_init_2)) <|
  xw_cons (xw_E xn_aload (xo_aload_n dX6_init_5 rfl)) <|
  xw_cons (xw_E xn_objInit (xo_objInit hG q352 q172 q173 dX6_init_6)) <|
  xw_cons (xw_E xn_aload (xo_aload_n dX6_init_9 rfl)) <|
  xw_cons (xw_E xn_push (xo_bipush dX6_init_10 (by decide))) <|
  xw_cons (xw_E xn_newa (xo_newa (at0 := .long) hG (by decide) rfl rfl (by decide) q227 dX6_init_12)) <|
  xw_cons (xw_E xn_putf (xo_putf hG rfl xu_23_15 dX6_init_14)) <|
  xw_cons (xw_E xn_aload (xo_aload_n dX6_init_17 rfl)) <|
  xw_cons (xw_E xn_push (xo_sipush dX6_init_18 (by decide))) <|
  xw_cons (xw_E xn_newa (xo_newa (at0 := .long) hG (by decide) rfl rfl (by decide) q227 dX6_init_21)) <|
  xw_cons (xw_E xn_putf (xo_putf hG rfl xu_23_19 dX6_init_23)) <|
  xw_cons (xw_R (xt_v dX6_init_26)) <|
  xw_nil _
def xp_126 : List (Nat × xm_O) := xp_126_0
theorem xq_126 {G : xm_G} (hG : xm_W xk_B G) (hO : xm_Og G) : ∀ q ∈ xp_126, xm_op xk_B G xd xk_N "LiarsCock$Sets" "<init>" prog_24_method_1_code 2 none q.1 q.2 := xq_126_0 hG hO
/- 127: LiarsCock$Sets.first(JI)I -/
def xp_127_0 : List (Nat × xm_O) := [
  (0, .inl (xe_aload 0 1)),
  (1, .inr (.inr (.inl (xc_V (xj_1 5 128) [])))),
  (4, .inl (xe_push (.int (-1)) 5)),
  (5, .inl (xe_istore 4 7)),
  (7, .inl (xe_push (.int 0) 8)),
  (8, .inl (xe_istore 5 10)),
  (10, .inl (xe_iload 5 12)),
  (12, .inl (xe_aload 0 13)),
  (13, .inl (xe_getf (xj_1 5 2) 16)),
  (16, .inr (.inr (.inl (xc_V (xj_1 0 27) [])))),
  (19, .inl (xe_icmp (fun x y => decide (y < x)) 68 22)),
  (22, .inl (xe_aload 0 23)),
  (23, .inl (xe_getf (xj_1 5 1) 26)),
  (26, .inl (xe_iload 5 28)),
  (28, .inl (xe_ald (fun t => t == 1) 29)),
  (29, .inl (xe_lload 1 30)),
  (30, .inr (.inr (.inl (xc_S 37 [1, 1])))),
  (33, .inl (xe_iload 3 34)),
  (34, .inl (xe_icmp (fun x y => decide (¬ x = y)) 62 37)),
  (37, .inl (xe_iload 4 39)),
  (39, .inl (xe_push (.int (-1)) 40)),
  (40, .inl (xe_icmp (fun x y => decide (x = y)) 58 43)),
  (43, .inl (xe_iload 5 45)),
  (45, .inl (xe_i2l 46)),
  (46, .inr (.inr (.inl (xc_S 35 [1])))),
  (49, .inl (xe_iload 4 51)),
  (51, .inl (xe_i2l 52)),
  (52, .inr (.inr (.inl (xc_S 35 [1])))),
  (55, .inl (xe_icmp (fun x y => decide (y ≤ x)) 62 58)),
  (58, .inl (xe_iload 5 60)),
  (60, .inl (xe_istore 4 62)),
  (62, .inl (xe_iinc 5 1 65)),
  (65, .inl (xe_goto 10)),
  (68, .inl (xe_iload 4 70)),
  (70, .inr (.inl xr_i))]
theorem xq_127_0 {G : xm_G} (hG : xm_W xk_B G) (hO : xm_Og G) : ∀ q ∈ xp_127_0, xm_op xk_B G xd xk_N "LiarsCock$Sets" "first" prog_24_method_3_code 6 (some (FieldType.int)) q.1 q.2 :=
  xw_cons (xw_E xn_aload (xo_aload_n dX6_first_0 rfl)) <|
  xw_cons (xl_v_23_59 hG dX6_first_1) <|
  xw_cons (xw_E xn_push (xo_iconst dX6_first_4 (by decide))) <|
  xw_cons (xw_E xn_istore (xo_istore dX6_first_5)) <|
  xw_cons (xw_E xn_push (xo_iconst dX6_first_7 (by decide))) <|
  xw_cons (xw_E xn_istore (xo_istore dX6_first_8)) <|
  xw_cons (xw_E xn_iload (xo_iload dX6_first_10)) <|
  xw_cons (xw_E xn_aload (xo_aload_n dX6_first_12 rfl)) <|
  xw_cons (xw_E xn_getf (xo_getf hG xg_23_3 dX6_first_13)) <|
  xw_cons (xl_v_23_52 hG dX6_first_16) <|
  xw_cons (xw_E xn_icmp (xo_icmp_gt dX6_first_19 (by decide))) <|
  xw_cons (xw_E xn_aload (xo_aload_n dX6_first_22 rfl)) <|
  xw_cons (xw_E xn_getf (xo_getf hG xg_23_19 dX6_first_23)) <|
  xw_cons (xw_E xn_iload (xo_iload dX6_first_26)) <|
  xw_cons (xw_E xn_ald (xo_lald xk_hB dX6_first_28)) <|
  xw_cons (xw_E xn_lload (xo_lload_n dX6_first_29 rfl)) <|
  xw_cons (xl_s_23_62 hG dX6_first_30) <|
  xw_cons (xw_E xn_iload (xo_iload_n dX6_first_33 rfl)) <|
  xw_cons (xw_E xn_icmp (xo_icmp_ne dX6_first_34 (by decide))) <|
  xw_cons (xw_E xn_iload (xo_iload dX6_first_37)) <|
  xw_cons (xw_E xn_push (xo_iconst dX6_first_39 (by decide))) <|
  xw_cons (xw_E xn_icmp (xo_icmp_eq dX6_first_40 (by decide))) <|
  xw_cons (xw_E xn_iload (xo_iload dX6_first_43)) <|
  xw_cons (xw_E xn_i2l (xo_i2l dX6_first_45)) <|
  xw_cons (xl_s_23_66 hG dX6_first_46) <|
  xw_cons (xw_E xn_iload (xo_iload dX6_first_49)) <|
  xw_cons (xw_E xn_i2l (xo_i2l dX6_first_51)) <|
  xw_cons (xl_s_23_66 hG dX6_first_52) <|
  xw_cons (xw_E xn_icmp (xo_icmp_ge dX6_first_55 (by decide))) <|
  xw_cons (xw_E xn_iload (xo_iload dX6_first_58)) <|
  xw_cons (xw_E xn_istore (xo_istore dX6_first_60)) <|
  xw_cons (xw_E xn_iinc (xo_iinc dX6_first_62 (by decide))) <|
  xw_cons (xw_E xn_goto (xo_goto dX6_first_65 (by decide))) <|
  xw_cons (xw_E xn_iload (xo_iload dX6_first_68)) <|
  xw_cons (xw_R (xt_i dX6_first_70)) <|
  xw_nil _
def xp_127 : List (Nat × xm_O) := xp_127_0
theorem xq_127 {G : xm_G} (hG : xm_W xk_B G) (hO : xm_Og G) : ∀ q ∈ xp_127, xm_op xk_B G xd xk_N "LiarsCock$Sets" "first" prog_24_method_3_code 6 (some (FieldType.int)) q.1 q.2 := xq_127_0 hG hO
/- 128: LiarsCock$Sets.find()V -/
def xp_128_0 : List (Nat × xm_O) := [
  (0, .inl (xe_push (.int 0) 1)),
  (1, .inl (xe_istore 1 2)),
  (2, .inl (xe_iload 1 3)),
  (3, .inl (xe_aload 0 4)),
  (4, .inl (xe_getf (xj_1 5 2) 7)),
  (7, .inl (xe_getf (xj_1 0 5) 10)),
  (10, .inr (.inr (.inl (xc_V (xj_1 25 280) [])))),
  (13, .inl (xe_icmp (fun x y => decide (y ≤ x)) 49 16)),
  (16, .inl (xe_aload 0 17)),
  (17, .inl (xe_getf (xj_1 5 0) 20)),
  (20, .inl (xe_iload 1 21)),
  (21, .inl (xe_aload 0 22)),
  (22, .inl (xe_getf (xj_1 5 2) 25)),
  (25, .inl (xe_aload 0 26)),
  (26, .inl (xe_getf (xj_1 5 2) 29)),
  (29, .inl (xe_getf (xj_1 0 5) 32)),
  (32, .inl (xe_iload 1 33)),
  (33, .inr (.inr (.inl (xc_V (xj_1 25 281) [0])))),
  (36, .inl (xe_cast (fun ci => ([23] : List Nat).elem ci) 39)),
  (39, .inr (.inr (.inl (xc_V (xj_1 0 29) [2])))),
  (42, .inl (xe_ast 300 1 (xm_kd 1) 43)),
  (43, .inl (xe_iinc 1 1 46)),
  (46, .inl (xe_goto 2)),
  (49, .inl (xe_aload 0 50)),
  (50, .inl (xe_getf (xj_1 5 1) 53)),
  (53, .inl (xe_push (.int 0) 54)),
  (54, .inl (xe_aload 0 55)),
  (55, .inl (xe_getf (xj_1 5 2) 58)),
  (58, .inl (xe_getf (xj_1 0 1) 61)),
  (61, .inl (xe_getf (xj_1 2 8) 64)),
  (64, .inl (xe_ast 300 1 (xm_kd 1) 65)),
  (65, .inl (xe_push (.int 1) 66)),
  (66, .inl (xe_istore 1 67)),
  (67, .inl (xe_iload 1 68)),
  (68, .inl (xe_aload 0 69)),
  (69, .inl (xe_getf (xj_1 5 2) 72)),
  (72, .inr (.inr (.inl (xc_V (xj_1 0 27) [])))),
  (75, .inl (xe_icmp (fun x y => decide (y < x)) 126 78)),
  (78, .inl (xe_push (.int 0) 79)),
  (79, .inl (xe_istore 2 80)),
  (80, .inl (xe_iload 1 81)),
  (81, .inl (xe_i2l 82)),
  (82, .inl (xe_iload 2 83)),
  (83, .inr (.inr (.inl (xc_S 6 [0, 1])))),
  (86, .inl (xe_if (fun x => decide (¬ x = 0)) 95 89)),
  (89, .inl (xe_iinc 2 1 92)),
  (92, .inl (xe_goto 80)),
  (95, .inl (xe_aload 0 96)),
  (96, .inl (xe_getf (xj_1 5 1) 99)),
  (99, .inl (xe_iload 1 100))]
theorem xq_128_0 {G : xm_G} (hG : xm_W xk_B G) (hO : xm_Og G) : ∀ q ∈ xp_128_0, xm_op xk_B G xd xk_N "LiarsCock$Sets" "find" prog_24_method_2_code 3 none q.1 q.2 :=
  xw_cons (xw_E xn_push (xo_iconst dX6_find_0 (by decide))) <|
  xw_cons (xw_E xn_istore (xo_istore_n dX6_find_1 rfl)) <|
  xw_cons (xw_E xn_iload (xo_iload_n dX6_find_2 rfl)) <|
  xw_cons (xw_E xn_aload (xo_aload_n dX6_find_3 rfl)) <|
  xw_cons (xw_E xn_getf (xo_getf hG xg_23_3 dX6_find_4)) <|
  xw_cons (xw_E xn_getf (xo_getf hG xg_23_22 dX6_find_7)) <|
  xw_cons (xl_v_23_26 hG dX6_find_10) <|
  xw_cons (xw_E xn_icmp (xo_icmp_ge dX6_find_13 (by decide))) <|
  xw_cons (xw_E xn_aload (xo_aload_n dX6_find_16 rfl)) <|
  xw_cons (xw_E xn_getf (xo_getf hG xg_23_15 dX6_find_17)) <|
  xw_cons (xw_E xn_iload (xo_iload_n dX6_find_20 rfl)) <|
  xw_cons (xw_E xn_aload (xo_aload_n dX6_find_21 rfl)) <|
  xw_cons (xw_E xn_getf (xo_getf hG xg_23_3 dX6_find_22)) <|
  xw_cons (xw_E xn_aload (xo_aload_n dX6_find_25 rfl)) <|
  xw_cons (xw_E xn_getf (xo_getf hG xg_23_3 dX6_find_26)) <|
  xw_cons (xw_E xn_getf (xo_getf hG xg_23_22 dX6_find_29)) <|
  xw_cons (xw_E xn_iload (xo_iload_n dX6_find_32 rfl)) <|
  xw_cons (xl_v_23_32 hG dX6_find_33) <|
  xw_cons (xw_E xn_cast (xo_cast hG q1332 xca_23_36 dX6_find_36)) <|
  xw_cons (xl_v_23_38 hG dX6_find_39) <|
  xw_cons (xw_E xn_ast (xo_last hG xk_hB rfl dX6_find_42)) <|
  xw_cons (xw_E xn_iinc (xo_iinc dX6_find_43 (by decide))) <|
  xw_cons (xw_E xn_goto (xo_goto dX6_find_46 (by decide))) <|
  xw_cons (xw_E xn_aload (xo_aload_n dX6_find_49 rfl)) <|
  xw_cons (xw_E xn_getf (xo_getf hG xg_23_19 dX6_find_50)) <|
  xw_cons (xw_E xn_push (xo_iconst dX6_find_53 (by decide))) <|
  xw_cons (xw_E xn_aload (xo_aload_n dX6_find_54 rfl)) <|
  xw_cons (xw_E xn_getf (xo_getf hG xg_23_3 dX6_find_55)) <|
  xw_cons (xw_E xn_getf (xo_getf hG xg_23_42 dX6_find_58)) <|
  xw_cons (xw_E xn_getf (xo_getf hG xg_23_46 dX6_find_61)) <|
  xw_cons (xw_E xn_ast (xo_last hG xk_hB rfl dX6_find_64)) <|
  xw_cons (xw_E xn_push (xo_iconst dX6_find_65 (by decide))) <|
  xw_cons (xw_E xn_istore (xo_istore_n dX6_find_66 rfl)) <|
  xw_cons (xw_E xn_iload (xo_iload_n dX6_find_67 rfl)) <|
  xw_cons (xw_E xn_aload (xo_aload_n dX6_find_68 rfl)) <|
  xw_cons (xw_E xn_getf (xo_getf hG xg_23_3 dX6_find_69)) <|
  xw_cons (xl_v_23_52 hG dX6_find_72) <|
  xw_cons (xw_E xn_icmp (xo_icmp_gt dX6_find_75 (by decide))) <|
  xw_cons (xw_E xn_push (xo_iconst dX6_find_78 (by decide))) <|
  xw_cons (xw_E xn_istore (xo_istore_n dX6_find_79 rfl)) <|
  xw_cons (xw_E xn_iload (xo_iload_n dX6_find_80 rfl)) <|
  xw_cons (xw_E xn_i2l (xo_i2l dX6_find_81)) <|
  xw_cons (xw_E xn_iload (xo_iload_n dX6_find_82 rfl)) <|
  xw_cons (xl_s_23_55 hG dX6_find_83) <|
  xw_cons (xw_E xn_if (xo_if_ne dX6_find_86 (by decide))) <|
  xw_cons (xw_E xn_iinc (xo_iinc dX6_find_89 (by decide))) <|
  xw_cons (xw_E xn_goto (xo_goto dX6_find_92 (by decide))) <|
  xw_cons (xw_E xn_aload (xo_aload_n dX6_find_95 rfl)) <|
  xw_cons (xw_E xn_getf (xo_getf hG xg_23_19 dX6_find_96)) <|
  xw_cons (xw_E xn_iload (xo_iload_n dX6_find_99 rfl)) <|
  xw_nil _
def xp_128_1 : List (Nat × xm_O) := [
  (100, .inl (xe_aload 0 101)),
  (101, .inl (xe_getf (xj_1 5 1) 104)),
  (104, .inl (xe_iload 1 105)),
  (105, .inl (xe_push (.int 1) 106)),
  (106, .inl (xe_iload 2 107)),
  (107, .inl (xe_ii (fun x y => x <<< (y &&& 31)) 108)),
  (108, .inl (xe_push (.int (-1)) 109)),
  (109, .inl (xe_ii (fun x y => x ^^^ y) 110)),
  (110, .inl (xe_ii (fun x y => x &&& y) 111)),
  (111, .inl (xe_ald (fun t => t == 1) 112)),
  (112, .inl (xe_aload 0 113)),
  (113, .inl (xe_getf (xj_1 5 0) 116)),
  (116, .inl (xe_iload 2 117)),
  (117, .inl (xe_ald (fun t => t == 1) 118)),
  (118, .inl (xe_ll (fun x y => x &&& y) 119)),
  (119, .inl (xe_ast 300 1 (xm_kd 1) 120)),
  (120, .inl (xe_iinc 1 1 123)),
  (123, .inl (xe_goto 67)),
  (126, .inr (.inl xr_v))]
theorem xq_128_1 {G : xm_G} (hG : xm_W xk_B G) (hO : xm_Og G) : ∀ q ∈ xp_128_1, xm_op xk_B G xd xk_N "LiarsCock$Sets" "find" prog_24_method_2_code 3 none q.1 q.2 :=
  xw_cons (xw_E xn_aload (xo_aload_n dX6_find_100 rfl)) <|
  xw_cons (xw_E xn_getf (xo_getf hG xg_23_19 dX6_find_101)) <|
  xw_cons (xw_E xn_iload (xo_iload_n dX6_find_104 rfl)) <|
  xw_cons (xw_E xn_push (xo_iconst dX6_find_105 (by decide))) <|
  xw_cons (xw_E xn_iload (xo_iload_n dX6_find_106 rfl)) <|
  xw_cons (xw_E xn_ii (xo_ishl dX6_find_107)) <|
  xw_cons (xw_E xn_push (xo_iconst dX6_find_108 (by decide))) <|
  xw_cons (xw_E xn_ii (xo_ixor dX6_find_109)) <|
  xw_cons (xw_E xn_ii (xo_iand dX6_find_110)) <|
  xw_cons (xw_E xn_ald (xo_lald xk_hB dX6_find_111)) <|
  xw_cons (xw_E xn_aload (xo_aload_n dX6_find_112 rfl)) <|
  xw_cons (xw_E xn_getf (xo_getf hG xg_23_15 dX6_find_113)) <|
  xw_cons (xw_E xn_iload (xo_iload_n dX6_find_116 rfl)) <|
  xw_cons (xw_E xn_ald (xo_lald xk_hB dX6_find_117)) <|
  xw_cons (xw_E xn_ll (xo_land dX6_find_118)) <|
  xw_cons (xw_E xn_ast (xo_last hG xk_hB rfl dX6_find_119)) <|
  xw_cons (xw_E xn_iinc (xo_iinc dX6_find_120 (by decide))) <|
  xw_cons (xw_E xn_goto (xo_goto dX6_find_123 (by decide))) <|
  xw_cons (xw_R (xt_v dX6_find_126)) <|
  xw_nil _
def xp_128 : List (Nat × xm_O) := xp_128_0 ++ xp_128_1
theorem xq_128 {G : xm_G} (hG : xm_W xk_B G) (hO : xm_Og G) : ∀ q ∈ xp_128, xm_op xk_B G xd xk_N "LiarsCock$Sets" "find" prog_24_method_2_code 3 none q.1 q.2 := xw_app (xq_128_0 hG hO) (xq_128_1 hG hO)
/- 129: LiarsCock$Bearings.<init>(LLiarsCock;)V -/
def xp_129_0 : List (Nat × xm_O) := [
  (0, .inl (xe_aload 0 1)),
  (1, .inl (xe_aload 1 2)),
  (2, .inl (xe_putf 300 2 (xj_1 6 3) 5)),
  (5, .inl (xe_aload 0 6)),
  (6, .inl (xe_objInit 9)),
  (9, .inl (xe_aload 0 10)),
  (10, .inl (xe_push (.int 360) 13)),
  (13, .inl (xe_newa 0 (.int 0) 100000 15)),
  (15, .inl (xe_putf 300 2 (xj_1 6 0) 18)),
  (18, .inr (.inl xr_v))]
theorem xq_129_0 {G : xm_G} (hG : xm_W xk_B G) (hO : xm_Og G) : ∀ q ∈ xp_129_0, xm_op xk_B G xd xk_N "LiarsCock$Bearings" "<init>" prog_3_method_1_code 2 none q.1 q.2 :=
  xw_cons (xw_E xn_aload (xo_aload_n dX7_init_0 rfl)) <|
  xw_cons (xw_E xn_aload (xo_aload_n dX7_init_1 rfl)) <|
  xw_cons (xw_E xn_putf (xo_putf hG rfl xu_2_3 dX7_init_2)) <|
  xw_cons (xw_E xn_aload (xo_aload_n dX7_init_5 rfl)) <|
  xw_cons (xw_E xn_objInit (xo_objInit hG q368 q172 q173 dX7_init_6)) <|
  xw_cons (xw_E xn_aload (xo_aload_n dX7_init_9 rfl)) <|
  xw_cons (xw_E xn_push (xo_sipush dX7_init_10 (by decide))) <|
  xw_cons (xw_E xn_newa (xo_newa (at0 := .int) hG (by decide) rfl rfl (by decide) q226 dX7_init_13)) <|
  xw_cons (xw_E xn_putf (xo_putf hG rfl xu_2_15 dX7_init_15)) <|
  xw_cons (xw_R (xt_v dX7_init_18)) <|
  xw_nil _
def xp_129 : List (Nat × xm_O) := xp_129_0
theorem xq_129 {G : xm_G} (hG : xm_W xk_B G) (hO : xm_Og G) : ∀ q ∈ xp_129, xm_op xk_B G xd xk_N "LiarsCock$Bearings" "<init>" prog_3_method_1_code 2 none q.1 q.2 := xq_129_0 hG hO
/- 130: LiarsCock$Bearings.find(JII)V -/
def xp_130_0 : List (Nat × xm_O) := [
  (0, .inl (xe_push (.int 0) 1)),
  (1, .inl (xe_istore 5 3)),
  (3, .inl (xe_iload 5 5)),
  (5, .inl (xe_push (.int 360) 8)),
  (8, .inl (xe_icmp (fun x y => decide (y ≤ x)) 25 11)),
  (11, .inl (xe_aload 0 12)),
  (12, .inl (xe_getf (xj_1 6 0) 15)),
  (15, .inl (xe_iload 5 17)),
  (17, .inl (xe_push (.int 0) 18)),
  (18, .inl (xe_ast 300 0 (xm_kd 0) 19)),
  (19, .inl (xe_iinc 5 1 22)),
  (22, .inl (xe_goto 3)),
  (25, .inl (xe_aload 0 26)),
  (26, .inl (xe_push (.int 0) 27)),
  (27, .inl (xe_putf 300 0 (xj_1 6 1) 30)),
  (30, .inl (xe_aload 0 31)),
  (31, .inl (xe_push (.int 0) 32)),
  (32, .inl (xe_putf 300 0 (xj_1 6 2) 35)),
  (35, .inl (xe_push (.int 0) 36)),
  (36, .inl (xe_istore 5 38)),
  (38, .inl (xe_iload 5 40)),
  (40, .inl (xe_aload 0 41)),
  (41, .inl (xe_getf (xj_1 6 3) 44)),
  (44, .inl (xe_getf (xj_1 0 1) 47)),
  (47, .inr (.inr (.inl (xc_V (xj_1 2 119) [])))),
  (50, .inl (xe_icmp (fun x y => decide (y ≤ x)) 134 53)),
  (53, .inl (xe_lload 1 54)),
  (54, .inl (xe_iload 5 56)),
  (56, .inr (.inr (.inl (xc_S 6 [0, 1])))),
  (59, .inl (xe_if (fun x => decide (¬ x = 0)) 65 62)),
  (62, .inl (xe_goto 128)),
  (65, .inl (xe_aload 0 66)),
  (66, .inl (xe_getf (xj_1 6 3) 69)),
  (69, .inl (xe_iload 3 70)),
  (70, .inl (xe_iload 4 72)),
  (72, .inl (xe_iload 5 74)),
  (74, .inr (.inr (.inl (xc_V (xj_1 0 30) [0, 0, 0])))),
  (77, .inl (xe_istore 6 79)),
  (79, .inl (xe_aload 0 80)),
  (80, .inl (xe_getf (xj_1 6 0) 83)),
  (83, .inl (xe_iload 6 85)),
  (85, .inl (xe_ald (fun t => t == 0) 86)),
  (86, .inl (xe_if (fun x => decide (¬ x = 0)) 99 89)),
  (89, .inl (xe_aload 0 90)),
  (90, .inl (xe_dup 91)),
  (91, .inl (xe_getf (xj_1 6 2) 94)),
  (94, .inl (xe_push (.int 1) 95)),
  (95, .inl (xe_ii (fun x y => x + y) 96)),
  (96, .inl (xe_putf 300 0 (xj_1 6 2) 99)),
  (99, .inl (xe_aload 0 100))]
theorem xq_130_0 {G : xm_G} (hG : xm_W xk_B G) (hO : xm_Og G) : ∀ q ∈ xp_130_0, xm_op xk_B G xd xk_N "LiarsCock$Bearings" "find" prog_3_method_2_code 7 none q.1 q.2 :=
  xw_cons (xw_E xn_push (xo_iconst dX7_find_0 (by decide))) <|
  xw_cons (xw_E xn_istore (xo_istore dX7_find_1)) <|
  xw_cons (xw_E xn_iload (xo_iload dX7_find_3)) <|
  xw_cons (xw_E xn_push (xo_sipush dX7_find_5 (by decide))) <|
  xw_cons (xw_E xn_icmp (xo_icmp_ge dX7_find_8 (by decide))) <|
  xw_cons (xw_E xn_aload (xo_aload_n dX7_find_11 rfl)) <|
  xw_cons (xw_E xn_getf (xo_getf hG xg_2_15 dX7_find_12)) <|
  xw_cons (xw_E xn_iload (xo_iload dX7_find_15)) <|
  xw_cons (xw_E xn_push (xo_iconst dX7_find_17 (by decide))) <|
  xw_cons (xw_E xn_ast (xo_iast hG xk_hB rfl dX7_find_18)) <|
  xw_cons (xw_E xn_iinc (xo_iinc dX7_find_19 (by decide))) <|
  xw_cons (xw_E xn_goto (xo_goto dX7_find_22 (by decide))) <|
  xw_cons (xw_E xn_aload (xo_aload_n dX7_find_25 rfl)) <|
  xw_cons (xw_E xn_push (xo_iconst dX7_find_26 (by decide))) <|
  xw_cons (xw_E xn_putf (xo_putf hG rfl xu_2_19 dX7_find_27)) <|
  xw_cons (xw_E xn_aload (xo_aload_n dX7_find_30 rfl)) <|
  xw_cons (xw_E xn_push (xo_iconst dX7_find_31 (by decide))) <|
  xw_cons (xw_E xn_putf (xo_putf hG rfl xu_2_23 dX7_find_32)) <|
  xw_cons (xw_E xn_push (xo_iconst dX7_find_35 (by decide))) <|
  xw_cons (xw_E xn_istore (xo_istore dX7_find_36)) <|
  xw_cons (xw_E xn_iload (xo_iload dX7_find_38)) <|
  xw_cons (xw_E xn_aload (xo_aload_n dX7_find_40 rfl)) <|
  xw_cons (xw_E xn_getf (xo_getf hG xg_2_3 dX7_find_41)) <|
  xw_cons (xw_E xn_getf (xo_getf hG xg_2_26 dX7_find_44)) <|
  xw_cons (xl_v_2_30 hG dX7_find_47) <|
  xw_cons (xw_E xn_icmp (xo_icmp_ge dX7_find_50 (by decide))) <|
  xw_cons (xw_E xn_lload (xo_lload_n dX7_find_53 rfl)) <|
  xw_cons (xw_E xn_iload (xo_iload dX7_find_54)) <|
  xw_cons (xl_s_2_36 hG dX7_find_56) <|
  xw_cons (xw_E xn_if (xo_if_ne dX7_find_59 (by decide))) <|
  xw_cons (xw_E xn_goto (xo_goto dX7_find_62 (by decide))) <|
  xw_cons (xw_E xn_aload (xo_aload_n dX7_find_65 rfl)) <|
  xw_cons (xw_E xn_getf (xo_getf hG xg_2_3 dX7_find_66)) <|
  xw_cons (xw_E xn_iload (xo_iload_n dX7_find_69 rfl)) <|
  xw_cons (xw_E xn_iload (xo_iload dX7_find_70)) <|
  xw_cons (xw_E xn_iload (xo_iload dX7_find_72)) <|
  xw_cons (xl_v_2_40 hG dX7_find_74) <|
  xw_cons (xw_E xn_istore (xo_istore dX7_find_77)) <|
  xw_cons (xw_E xn_aload (xo_aload_n dX7_find_79 rfl)) <|
  xw_cons (xw_E xn_getf (xo_getf hG xg_2_15 dX7_find_80)) <|
  xw_cons (xw_E xn_iload (xo_iload dX7_find_83)) <|
  xw_cons (xw_E xn_ald (xo_iald xk_hB dX7_find_85)) <|
  xw_cons (xw_E xn_if (xo_if_ne dX7_find_86 (by decide))) <|
  xw_cons (xw_E xn_aload (xo_aload_n dX7_find_89 rfl)) <|
  xw_cons (xw_E xn_dup (xo_dup dX7_find_90)) <|
  xw_cons (xw_E xn_getf (xo_getf hG xg_2_23 dX7_find_91)) <|
  xw_cons (xw_E xn_push (xo_iconst dX7_find_94 (by decide))) <|
  xw_cons (xw_E xn_ii (xo_iadd dX7_find_95)) <|
  xw_cons (xw_E xn_putf (xo_putf hG rfl xu_2_23 dX7_find_96)) <|
  xw_cons (xw_E xn_aload (xo_aload_n dX7_find_99 rfl)) <|
  xw_nil _
def xp_130_1 : List (Nat × xm_O) := [
  (100, .inl (xe_getf (xj_1 6 0) 103)),
  (103, .inl (xe_iload 6 105)),
  (105, .inl (xe_dup2 106)),
  (106, .inl (xe_ald (fun t => t == 0) 107)),
  (107, .inl (xe_push (.int 1) 108)),
  (108, .inl (xe_ii (fun x y => x + y) 109)),
  (109, .inl (xe_ast 300 0 (xm_kd 0) 110)),
  (110, .inl (xe_aload 0 111)),
  (111, .inl (xe_aload 0 112)),
  (112, .inl (xe_getf (xj_1 6 1) 115)),
  (115, .inl (xe_aload 0 116)),
  (116, .inl (xe_getf (xj_1 6 0) 119)),
  (119, .inl (xe_iload 6 121)),
  (121, .inl (xe_ald (fun t => t == 0) 122)),
  (122, .inr (.inr (.inl (xc_S 301 [0, 0])))),
  (125, .inl (xe_putf 300 0 (xj_1 6 1) 128)),
  (128, .inl (xe_iinc 5 1 131)),
  (131, .inl (xe_goto 38)),
  (134, .inr (.inl xr_v))]
theorem xq_130_1 {G : xm_G} (hG : xm_W xk_B G) (hO : xm_Og G) : ∀ q ∈ xp_130_1, xm_op xk_B G xd xk_N "LiarsCock$Bearings" "find" prog_3_method_2_code 7 none q.1 q.2 :=
  xw_cons (xw_E xn_getf (xo_getf hG xg_2_15 dX7_find_100)) <|
  xw_cons (xw_E xn_iload (xo_iload dX7_find_103)) <|
  xw_cons (xw_E xn_dup2 (xo_dup2 dX7_find_105)) <|
  xw_cons (xw_E xn_ald (xo_iald xk_hB dX7_find_106)) <|
  xw_cons (xw_E xn_push (xo_iconst dX7_find_107 (by decide))) <|
  xw_cons (xw_E xn_ii (xo_iadd dX7_find_108)) <|
  xw_cons (xw_E xn_ast (xo_iast hG xk_hB rfl dX7_find_109)) <|
  xw_cons (xw_E xn_aload (xo_aload_n dX7_find_110 rfl)) <|
  xw_cons (xw_E xn_aload (xo_aload_n dX7_find_111 rfl)) <|
  xw_cons (xw_E xn_getf (xo_getf hG xg_2_19 dX7_find_112)) <|
  xw_cons (xw_E xn_aload (xo_aload_n dX7_find_115 rfl)) <|
  xw_cons (xw_E xn_getf (xo_getf hG xg_2_15 dX7_find_116)) <|
  xw_cons (xw_E xn_iload (xo_iload dX7_find_119)) <|
  xw_cons (xw_E xn_ald (xo_iald xk_hB dX7_find_121)) <|
  xw_cons (xl_s_2_44 hG dX7_find_122) <|
  xw_cons (xw_E xn_putf (xo_putf hG rfl xu_2_19 dX7_find_125)) <|
  xw_cons (xw_E xn_iinc (xo_iinc dX7_find_128 (by decide))) <|
  xw_cons (xw_E xn_goto (xo_goto dX7_find_131 (by decide))) <|
  xw_cons (xw_R (xt_v dX7_find_134)) <|
  xw_nil _
def xp_130 : List (Nat × xm_O) := xp_130_0 ++ xp_130_1
theorem xq_130 {G : xm_G} (hG : xm_W xk_B G) (hO : xm_Og G) : ∀ q ∈ xp_130, xm_op xk_B G xd xk_N "LiarsCock$Bearings" "find" prog_3_method_2_code 7 none q.1 q.2 := xw_app (xq_130_0 hG hO) (xq_130_1 hG hO)
/- 131: LiarsCock$Lookout.<init>(LLiarsCock;)V -/
def xp_131_0 : List (Nat × xm_O) := [
  (0, .inl (xe_aload 0 1)),
  (1, .inl (xe_aload 1 2)),
  (2, .inl (xe_putf 300 2 (xj_1 7 6) 5)),
  (5, .inl (xe_aload 0 6)),
  (6, .inl (xe_objInit 9)),
  (9, .inl (xe_aload 0 10)),
  (10, .inl (xe_push (.int 1440) 13)),
  (13, .inl (xe_newa 0 (.int 0) 100000 15)),
  (15, .inl (xe_putf 300 2 (xj_1 7 0) 18)),
  (18, .inl (xe_aload 0 19)),
  (19, .inl (xe_push (.int 3) 20)),
  (20, .inl (xe_newa 0 (.int 0) 100000 22)),
  (22, .inl (xe_putf 300 2 (xj_1 7 2) 25)),
  (25, .inr (.inl xr_v))]
theorem xq_131_0 {G : xm_G} (hG : xm_W xk_B G) (hO : xm_Og G) : ∀ q ∈ xp_131_0, xm_op xk_B G xd xk_N "LiarsCock$Lookout" "<init>" prog_12_method_1_code 2 none q.1 q.2 :=
  xw_cons (xw_E xn_aload (xo_aload_n dX8_init_0 rfl)) <|
  xw_cons (xw_E xn_aload (xo_aload_n dX8_init_1 rfl)) <|
  xw_cons (xw_E xn_putf (xo_putf hG rfl xu_11_3 dX8_init_2)) <|
  xw_cons (xw_E xn_aload (xo_aload_n dX8_init_5 rfl)) <|
  xw_cons (xw_E xn_objInit (xo_objInit hG q389 q172 q173 dX8_init_6)) <|
  xw_cons (xw_E xn_aload (xo_aload_n dX8_init_9 rfl)) <|
  xw_cons (xw_E xn_push (xo_sipush dX8_init_10 (by decide))) <|
  xw_cons (xw_E xn_newa (xo_newa (at0 := .int) hG (by decide) rfl rfl (by decide) q226 dX8_init_13)) <|
  xw_cons (xw_E xn_putf (xo_putf hG rfl xu_11_15 dX8_init_15)) <|
  xw_cons (xw_E xn_aload (xo_aload_n dX8_init_18 rfl)) <|
  xw_cons (xw_E xn_push (xo_iconst dX8_init_19 (by decide))) <|
  xw_cons (xw_E xn_newa (xo_newa (at0 := .int) hG (by decide) rfl rfl (by decide) q226 dX8_init_20)) <|
  xw_cons (xw_E xn_putf (xo_putf hG rfl xu_11_19 dX8_init_22)) <|
  xw_cons (xw_R (xt_v dX8_init_25)) <|
  xw_nil _
def xp_131 : List (Nat × xm_O) := xp_131_0
theorem xq_131 {G : xm_G} (hG : xm_W xk_B G) (hO : xm_Og G) : ∀ q ∈ xp_131, xm_op xk_B G xd xk_N "LiarsCock$Lookout" "<init>" prog_12_method_1_code 2 none q.1 q.2 := xq_131_0 hG hO
/- 132: LiarsCock$Lookout.fewest(IJ)I -/
def xp_132_0 : List (Nat × xm_O) := [
  (0, .inl (xe_aload 0 1)),
  (1, .inl (xe_iload 1 2)),
  (2, .inl (xe_lload 2 3)),
  (3, .inr (.inr (.inl (xc_V (xj_1 7 133) [1, 0])))),
  (6, .inl (xe_push (.int 0) 7)),
  (7, .inl (xe_istore 4 9)),
  (9, .inl (xe_iload 4 11)),
  (11, .inl (xe_aload 0 12)),
  (12, .inl (xe_getf (xj_1 7 2) 15)),
  (15, .inl (xe_alen 16)),
  (16, .inl (xe_icmp (fun x y => decide (y < x)) 39 19)),
  (19, .inl (xe_aload 0 20)),
  (20, .inl (xe_push (.int 0) 21)),
  (21, .inl (xe_push (.int 0) 22)),
  (22, .inl (xe_iload 4 24)),
  (24, .inr (.inr (.inl (xc_V (xj_1 7 135) [0, 0, 0])))),
  (27, .inl (xe_if (fun x => decide (x = 0)) 33 30)),
  (30, .inl (xe_iload 4 32)),
  (32, .inr (.inl xr_i)),
  (33, .inl (xe_iinc 4 1 36)),
  (36, .inl (xe_goto 9)),
  (39, .inl (xe_push (.int (-1)) 40)),
  (40, .inr (.inl xr_i))]
theorem xq_132_0 {G : xm_G} (hG : xm_W xk_B G) (hO : xm_Og G) : ∀ q ∈ xp_132_0, xm_op xk_B G xd xk_N "LiarsCock$Lookout" "fewest" prog_12_method_4_code 5 (some (FieldType.int)) q.1 q.2 :=
  xw_cons (xw_E xn_aload (xo_aload_n dX8_fewest_0 rfl)) <|
  xw_cons (xw_E xn_iload (xo_iload_n dX8_fewest_1 rfl)) <|
  xw_cons (xw_E xn_lload (xo_lload_n dX8_fewest_2 rfl)) <|
  xw_cons (xl_v_11_62 hG dX8_fewest_3) <|
  xw_cons (xw_E xn_push (xo_iconst dX8_fewest_6 (by decide))) <|
  xw_cons (xw_E xn_istore (xo_istore dX8_fewest_7)) <|
  xw_cons (xw_E xn_iload (xo_iload dX8_fewest_9)) <|
  xw_cons (xw_E xn_aload (xo_aload_n dX8_fewest_11 rfl)) <|
  xw_cons (xw_E xn_getf (xo_getf hG xg_11_19 dX8_fewest_12)) <|
  xw_cons (xw_E xn_alen (xo_alen dX8_fewest_15)) <|
  xw_cons (xw_E xn_icmp (xo_icmp_gt dX8_fewest_16 (by decide))) <|
  xw_cons (xw_E xn_aload (xo_aload_n dX8_fewest_19 rfl)) <|
  xw_cons (xw_E xn_push (xo_iconst dX8_fewest_20 (by decide))) <|
  xw_cons (xw_E xn_push (xo_iconst dX8_fewest_21 (by decide))) <|
  xw_cons (xw_E xn_iload (xo_iload dX8_fewest_22)) <|
  xw_cons (xl_v_11_66 hG dX8_fewest_24) <|
  xw_cons (xw_E xn_if (xo_if_eq dX8_fewest_27 (by decide))) <|
  xw_cons (xw_E xn_iload (xo_iload dX8_fewest_30)) <|
  xw_cons (xw_R (xt_i dX8_fewest_32)) <|
  xw_cons (xw_E xn_iinc (xo_iinc dX8_fewest_33 (by decide))) <|
  xw_cons (xw_E xn_goto (xo_goto dX8_fewest_36 (by decide))) <|
  xw_cons (xw_E xn_push (xo_iconst dX8_fewest_39 (by decide))) <|
  xw_cons (xw_R (xt_i dX8_fewest_40)) <|
  xw_nil _
def xp_132 : List (Nat × xm_O) := xp_132_0
theorem xq_132 {G : xm_G} (hG : xm_W xk_B G) (hO : xm_Og G) : ∀ q ∈ xp_132, xm_op xk_B G xd xk_N "LiarsCock$Lookout" "fewest" prog_12_method_4_code 5 (some (FieldType.int)) q.1 q.2 := xq_132_0 hG hO
/- 133: LiarsCock$Lookout.find(IJ)V -/
def xp_133_0 : List (Nat × xm_O) := [
  (0, .inl (xe_aload 0 1)),
  (1, .inl (xe_iload 1 2)),
  (2, .inl (xe_putf 300 0 (xj_1 7 5) 5)),
  (5, .inl (xe_aload 0 6)),
  (6, .inl (xe_lload 2 7)),
  (7, .inl (xe_putf 300 1 (xj_1 7 4) 10)),
  (10, .inl (xe_aload 0 11)),
  (11, .inl (xe_aload 0 12)),
  (12, .inl (xe_getf (xj_1 7 6) 15)),
  (15, .inr (.inr (.inl (xc_V (xj_1 0 26) [])))),
  (18, .inl (xe_putf 300 1 (xj_1 7 3) 21)),
  (21, .inl (xe_aload 0 22)),
  (22, .inl (xe_push (.int 0) 23)),
  (23, .inl (xe_putf 300 0 (xj_1 7 1) 26)),
  (26, .inl (xe_push (.int 0) 27)),
  (27, .inl (xe_istore 4 29)),
  (29, .inl (xe_iload 4 31)),
  (31, .inl (xe_push (.int 1439) 34)),
  (34, .inl (xe_icmp (fun x y => decide (y < x)) 76 37)),
  (37, .inl (xe_aload 0 38)),
  (38, .inl (xe_iload 4 40)),
  (40, .inr (.inr (.inl (xc_V (xj_1 7 134) [0])))),
  (43, .inl (xe_if (fun x => decide (¬ x = 0)) 49 46)),
  (46, .inl (xe_goto 70)),
  (49, .inl (xe_aload 0 50)),
  (50, .inl (xe_getf (xj_1 7 0) 53)),
  (53, .inl (xe_aload 0 54)),
  (54, .inl (xe_getf (xj_1 7 1) 57)),
  (57, .inl (xe_iload 4 59)),
  (59, .inl (xe_ast 300 0 (xm_kd 0) 60)),
  (60, .inl (xe_aload 0 61)),
  (61, .inl (xe_dup 62)),
  (62, .inl (xe_getf (xj_1 7 1) 65)),
  (65, .inl (xe_push (.int 1) 66)),
  (66, .inl (xe_ii (fun x y => x + y) 67)),
  (67, .inl (xe_putf 300 0 (xj_1 7 1) 70)),
  (70, .inl (xe_iinc 4 1 73)),
  (73, .inl (xe_goto 29)),
  (76, .inr (.inl xr_v))]
theorem xq_133_0 {G : xm_G} (hG : xm_W xk_B G) (hO : xm_Og G) : ∀ q ∈ xp_133_0, xm_op xk_B G xd xk_N "LiarsCock$Lookout" "find" prog_12_method_2_code 5 none q.1 q.2 :=
  xw_cons (xw_E xn_aload (xo_aload_n dX8_find_0 rfl)) <|
  xw_cons (xw_E xn_iload (xo_iload_n dX8_find_1 rfl)) <|
  xw_cons (xw_E xn_putf (xo_putf hG rfl xu_11_22 dX8_find_2)) <|
  xw_cons (xw_E xn_aload (xo_aload_n dX8_find_5 rfl)) <|
  xw_cons (xw_E xn_lload (xo_lload_n dX8_find_6 rfl)) <|
  xw_cons (xw_E xn_putf (xo_putf hG rfl xu_11_26 dX8_find_7)) <|
  xw_cons (xw_E xn_aload (xo_aload_n dX8_find_10 rfl)) <|
  xw_cons (xw_E xn_aload (xo_aload_n dX8_find_11 rfl)) <|
  xw_cons (xw_E xn_getf (xo_getf hG xg_11_3 dX8_find_12)) <|
  xw_cons (xl_v_11_30 hG dX8_find_15) <|
  xw_cons (xw_E xn_putf (xo_putf hG rfl xu_11_34 dX8_find_18)) <|
  xw_cons (xw_E xn_aload (xo_aload_n dX8_find_21 rfl)) <|
  xw_cons (xw_E xn_push (xo_iconst dX8_find_22 (by decide))) <|
  xw_cons (xw_E xn_putf (xo_putf hG rfl xu_11_37 dX8_find_23)) <|
  xw_cons (xw_E xn_push (xo_iconst dX8_find_26 (by decide))) <|
  xw_cons (xw_E xn_istore (xo_istore dX8_find_27)) <|
  xw_cons (xw_E xn_iload (xo_iload dX8_find_29)) <|
  xw_cons (xw_E xn_push (xo_sipush dX8_find_31 (by decide))) <|
  xw_cons (xw_E xn_icmp (xo_icmp_gt dX8_find_34 (by decide))) <|
  xw_cons (xw_E xn_aload (xo_aload_n dX8_find_37 rfl)) <|
  xw_cons (xw_E xn_iload (xo_iload dX8_find_38)) <|
  xw_cons (xl_v_11_40 hG dX8_find_40) <|
  xw_cons (xw_E xn_if (xo_if_ne dX8_find_43 (by decide))) <|
  xw_cons (xw_E xn_goto (xo_goto dX8_find_46 (by decide))) <|
  xw_cons (xw_E xn_aload (xo_aload_n dX8_find_49 rfl)) <|
  xw_cons (xw_E xn_getf (xo_getf hG xg_11_15 dX8_find_50)) <|
  xw_cons (xw_E xn_aload (xo_aload_n dX8_find_53 rfl)) <|
  xw_cons (xw_E xn_getf (xo_getf hG xg_11_37 dX8_find_54)) <|
  xw_cons (xw_E xn_iload (xo_iload dX8_find_57)) <|
  xw_cons (xw_E xn_ast (xo_iast hG xk_hB rfl dX8_find_59)) <|
  xw_cons (xw_E xn_aload (xo_aload_n dX8_find_60 rfl)) <|
  xw_cons (xw_E xn_dup (xo_dup dX8_find_61)) <|
  xw_cons (xw_E xn_getf (xo_getf hG xg_11_37 dX8_find_62)) <|
  xw_cons (xw_E xn_push (xo_iconst dX8_find_65 (by decide))) <|
  xw_cons (xw_E xn_ii (xo_iadd dX8_find_66)) <|
  xw_cons (xw_E xn_putf (xo_putf hG rfl xu_11_37 dX8_find_67)) <|
  xw_cons (xw_E xn_iinc (xo_iinc dX8_find_70 (by decide))) <|
  xw_cons (xw_E xn_goto (xo_goto dX8_find_73 (by decide))) <|
  xw_cons (xw_R (xt_v dX8_find_76)) <|
  xw_nil _
def xp_133 : List (Nat × xm_O) := xp_133_0
theorem xq_133 {G : xm_G} (hG : xm_W xk_B G) (hO : xm_Og G) : ∀ q ∈ xp_133, xm_op xk_B G xd xk_N "LiarsCock$Lookout" "find" prog_12_method_2_code 5 none q.1 q.2 := xq_133_0 hG hO
/- 134: LiarsCock$Lookout.mayTurn(I)Z -/
def xp_134_0 : List (Nat × xm_O) := [
  (0, .inl (xe_push (.int 0) 1)),
  (1, .inl (xe_istore 2 2)),
  (2, .inl (xe_iload 2 3)),
  (3, .inl (xe_aload 0 4)),
  (4, .inl (xe_getf (xj_1 7 6) 7)),
  (7, .inl (xe_getf (xj_1 0 1) 10)),
  (10, .inr (.inr (.inl (xc_V (xj_1 2 119) [])))),
  (13, .inl (xe_icmp (fun x y => decide (y ≤ x)) 74 16)),
  (16, .inl (xe_aload 0 17)),
  (17, .inl (xe_getf (xj_1 7 3) 20)),
  (20, .inl (xe_iload 2 21)),
  (21, .inr (.inr (.inl (xc_S 6 [0, 1])))),
  (24, .inl (xe_if (fun x => decide (x = 0)) 68 27)),
  (27, .inl (xe_aload 0 28)),
  (28, .inl (xe_getf (xj_1 7 6) 31)),
  (31, .inl (xe_aload 0 32)),
  (32, .inl (xe_getf (xj_1 7 5) 35)),
  (35, .inl (xe_iload 1 36)),
  (36, .inl (xe_iload 2 37)),
  (37, .inr (.inr (.inl (xc_V (xj_1 0 17) [0, 0, 0])))),
  (40, .inl (xe_iload 1 41)),
  (41, .inl (xe_if (fun x => decide (¬ x = 0)) 48 44)),
  (44, .inl (xe_push (.int (-1)) 45)),
  (45, .inl (xe_goto 63)),
  (48, .inl (xe_aload 0 49)),
  (49, .inl (xe_getf (xj_1 7 6) 52)),
  (52, .inl (xe_aload 0 53)),
  (53, .inl (xe_getf (xj_1 7 5) 56)),
  (56, .inl (xe_iload 1 57)),
  (57, .inl (xe_push (.int 1) 58)),
  (58, .inl (xe_ii (fun x y => x - y) 59)),
  (59, .inl (xe_iload 2 60)),
  (60, .inr (.inr (.inl (xc_V (xj_1 0 17) [0, 0, 0])))),
  (63, .inl (xe_icmp (fun x y => decide (x = y)) 68 66)),
  (66, .inl (xe_push (.int 1) 67)),
  (67, .inr (.inl xr_z)),
  (68, .inl (xe_iinc 2 1 71)),
  (71, .inl (xe_goto 2)),
  (74, .inl (xe_push (.int 0) 75)),
  (75, .inr (.inl xr_z))]
theorem xq_134_0 {G : xm_G} (hG : xm_W xk_B G) (hO : xm_Og G) : ∀ q ∈ xp_134_0, xm_op xk_B G xd xk_N "LiarsCock$Lookout" "mayTurn" prog_12_method_3_code 3 (some (FieldType.boolean)) q.1 q.2 :=
  xw_cons (xw_E xn_push (xo_iconst dX8_mayTurn_0 (by decide))) <|
  xw_cons (xw_E xn_istore (xo_istore_n dX8_mayTurn_1 rfl)) <|
  xw_cons (xw_E xn_iload (xo_iload_n dX8_mayTurn_2 rfl)) <|
  xw_cons (xw_E xn_aload (xo_aload_n dX8_mayTurn_3 rfl)) <|
  xw_cons (xw_E xn_getf (xo_getf hG xg_11_3 dX8_mayTurn_4)) <|
  xw_cons (xw_E xn_getf (xo_getf hG xg_11_44 dX8_mayTurn_7)) <|
  xw_cons (xl_v_11_48 hG dX8_mayTurn_10) <|
  xw_cons (xw_E xn_icmp (xo_icmp_ge dX8_mayTurn_13 (by decide))) <|
  xw_cons (xw_E xn_aload (xo_aload_n dX8_mayTurn_16 rfl)) <|
  xw_cons (xw_E xn_getf (xo_getf hG xg_11_34 dX8_mayTurn_17)) <|
  xw_cons (xw_E xn_iload (xo_iload_n dX8_mayTurn_20 rfl)) <|
  xw_cons (xl_s_11_54 hG dX8_mayTurn_21) <|
  xw_cons (xw_E xn_if (xo_if_eq dX8_mayTurn_24 (by decide))) <|
  xw_cons (xw_E xn_aload (xo_aload_n dX8_mayTurn_27 rfl)) <|
  xw_cons (xw_E xn_getf (xo_getf hG xg_11_3 dX8_mayTurn_28)) <|
  xw_cons (xw_E xn_aload (xo_aload_n dX8_mayTurn_31 rfl)) <|
  xw_cons (xw_E xn_getf (xo_getf hG xg_11_22 dX8_mayTurn_32)) <|
  xw_cons (xw_E xn_iload (xo_iload_n dX8_mayTurn_35 rfl)) <|
  xw_cons (xw_E xn_iload (xo_iload_n dX8_mayTurn_36 rfl)) <|
  xw_cons (xl_v_11_58 hG dX8_mayTurn_37) <|
  xw_cons (xw_E xn_iload (xo_iload_n dX8_mayTurn_40 rfl)) <|
  xw_cons (xw_E xn_if (xo_if_ne dX8_mayTurn_41 (by decide))) <|
  xw_cons (xw_E xn_push (xo_iconst dX8_mayTurn_44 (by decide))) <|
  xw_cons (xw_E xn_goto (xo_goto dX8_mayTurn_45 (by decide))) <|
  xw_cons (xw_E xn_aload (xo_aload_n dX8_mayTurn_48 rfl)) <|
  xw_cons (xw_E xn_getf (xo_getf hG xg_11_3 dX8_mayTurn_49)) <|
  xw_cons (xw_E xn_aload (xo_aload_n dX8_mayTurn_52 rfl)) <|
  xw_cons (xw_E xn_getf (xo_getf hG xg_11_22 dX8_mayTurn_53)) <|
  xw_cons (xw_E xn_iload (xo_iload_n dX8_mayTurn_56 rfl)) <|
  xw_cons (xw_E xn_push (xo_iconst dX8_mayTurn_57 (by decide))) <|
  xw_cons (xw_E xn_ii (xo_isub dX8_mayTurn_58)) <|
  xw_cons (xw_E xn_iload (xo_iload_n dX8_mayTurn_59 rfl)) <|
  xw_cons (xl_v_11_58 hG dX8_mayTurn_60) <|
  xw_cons (xw_E xn_icmp (xo_icmp_eq dX8_mayTurn_63 (by decide))) <|
  xw_cons (xw_E xn_push (xo_iconst dX8_mayTurn_66 (by decide))) <|
  xw_cons (xw_R (xt_z dX8_mayTurn_67)) <|
  xw_cons (xw_E xn_iinc (xo_iinc dX8_mayTurn_68 (by decide))) <|
  xw_cons (xw_E xn_goto (xo_goto dX8_mayTurn_71 (by decide))) <|
  xw_cons (xw_E xn_push (xo_iconst dX8_mayTurn_74 (by decide))) <|
  xw_cons (xw_R (xt_z dX8_mayTurn_75)) <|
  xw_nil _
def xp_134 : List (Nat × xm_O) := xp_134_0
theorem xq_134 {G : xm_G} (hG : xm_W xk_B G) (hO : xm_Og G) : ∀ q ∈ xp_134, xm_op xk_B G xd xk_N "LiarsCock$Lookout" "mayTurn" prog_12_method_3_code 3 (some (FieldType.boolean)) q.1 q.2 := xq_134_0 hG hO
/- 135: LiarsCock$Lookout.tells(III)Z -/
def xp_135_0 : List (Nat × xm_O) := [
  (0, .inl (xe_iload 3 1)),
  (1, .inl (xe_if (fun x => decide (¬ x = 0)) 10 4)),
  (4, .inl (xe_aload 0 5)),
  (5, .inl (xe_iload 1 6)),
  (6, .inr (.inr (.inl (xc_V (xj_1 7 136) [0])))),
  (9, .inr (.inl xr_z)),
  (10, .inl (xe_iload 2 11)),
  (11, .inl (xe_istore 4 13)),
  (13, .inl (xe_iload 4 15)),
  (15, .inl (xe_aload 0 16)),
  (16, .inl (xe_getf (xj_1 7 1) 19)),
  (19, .inl (xe_icmp (fun x y => decide (y ≤ x)) 60 22)),
  (22, .inl (xe_aload 0 23)),
  (23, .inl (xe_getf (xj_1 7 2) 26)),
  (26, .inl (xe_iload 1 27)),
  (27, .inl (xe_aload 0 28)),
  (28, .inl (xe_getf (xj_1 7 0) 31)),
  (31, .inl (xe_iload 4 33)),
  (33, .inl (xe_ald (fun t => t == 0) 34)),
  (34, .inl (xe_ast 300 0 (xm_kd 0) 35)),
  (35, .inl (xe_aload 0 36)),
  (36, .inl (xe_iload 1 37)),
  (37, .inl (xe_push (.int 1) 38)),
  (38, .inl (xe_ii (fun x y => x + y) 39)),
  (39, .inl (xe_iload 4 41)),
  (41, .inl (xe_push (.int 1) 42)),
  (42, .inl (xe_ii (fun x y => x + y) 43)),
  (43, .inl (xe_iload 3 44)),
  (44, .inl (xe_push (.int 1) 45)),
  (45, .inl (xe_ii (fun x y => x - y) 46)),
  (46, .inr (.inr (.inl (xc_V (xj_1 7 135) [0, 0, 0])))),
  (49, .inl (xe_if (fun x => decide (x = 0)) 54 52)),
  (52, .inl (xe_push (.int 1) 53)),
  (53, .inr (.inl xr_z)),
  (54, .inl (xe_iinc 4 1 57)),
  (57, .inl (xe_goto 13)),
  (60, .inl (xe_push (.int 0) 61)),
  (61, .inr (.inl xr_z))]
theorem xq_135_0 {G : xm_G} (hG : xm_W xk_B G) (hO : xm_Og G) : ∀ q ∈ xp_135_0, xm_op xk_B G xd xk_N "LiarsCock$Lookout" "tells" prog_12_method_5_code 5 (some (FieldType.boolean)) q.1 q.2 :=
  xw_cons (xw_E xn_iload (xo_iload_n dX8_tells_0 rfl)) <|
  xw_cons (xw_E xn_if (xo_if_ne dX8_tells_1 (by decide))) <|
  xw_cons (xw_E xn_aload (xo_aload_n dX8_tells_4 rfl)) <|
  xw_cons (xw_E xn_iload (xo_iload_n dX8_tells_5 rfl)) <|
  xw_cons (xl_v_11_70 hG dX8_tells_6) <|
  xw_cons (xw_R (xt_z dX8_tells_9)) <|
  xw_cons (xw_E xn_iload (xo_iload_n dX8_tells_10 rfl)) <|
  xw_cons (xw_E xn_istore (xo_istore dX8_tells_11)) <|
  xw_cons (xw_E xn_iload (xo_iload dX8_tells_13)) <|
  xw_cons (xw_E xn_aload (xo_aload_n dX8_tells_15 rfl)) <|
  xw_cons (xw_E xn_getf (xo_getf hG xg_11_37 dX8_tells_16)) <|
  xw_cons (xw_E xn_icmp (xo_icmp_ge dX8_tells_19 (by decide))) <|
  xw_cons (xw_E xn_aload (xo_aload_n dX8_tells_22 rfl)) <|
  xw_cons (xw_E xn_getf (xo_getf hG xg_11_19 dX8_tells_23)) <|
  xw_cons (xw_E xn_iload (xo_iload_n dX8_tells_26 rfl)) <|
  xw_cons (xw_E xn_aload (xo_aload_n dX8_tells_27 rfl)) <|
  xw_cons (xw_E xn_getf (xo_getf hG xg_11_15 dX8_tells_28)) <|
  xw_cons (xw_E xn_iload (xo_iload dX8_tells_31)) <|
  xw_cons (xw_E xn_ald (xo_iald xk_hB dX8_tells_33)) <|
  xw_cons (xw_E xn_ast (xo_iast hG xk_hB rfl dX8_tells_34)) <|
  xw_cons (xw_E xn_aload (xo_aload_n dX8_tells_35 rfl)) <|
  xw_cons (xw_E xn_iload (xo_iload_n dX8_tells_36 rfl)) <|
  xw_cons (xw_E xn_push (xo_iconst dX8_tells_37 (by decide))) <|
  xw_cons (xw_E xn_ii (xo_iadd dX8_tells_38)) <|
  xw_cons (xw_E xn_iload (xo_iload dX8_tells_39)) <|
  xw_cons (xw_E xn_push (xo_iconst dX8_tells_41 (by decide))) <|
  xw_cons (xw_E xn_ii (xo_iadd dX8_tells_42)) <|
  xw_cons (xw_E xn_iload (xo_iload_n dX8_tells_43 rfl)) <|
  xw_cons (xw_E xn_push (xo_iconst dX8_tells_44 (by decide))) <|
  xw_cons (xw_E xn_ii (xo_isub dX8_tells_45)) <|
  xw_cons (xl_v_11_66 hG dX8_tells_46) <|
  xw_cons (xw_E xn_if (xo_if_eq dX8_tells_49 (by decide))) <|
  xw_cons (xw_E xn_push (xo_iconst dX8_tells_52 (by decide))) <|
  xw_cons (xw_R (xt_z dX8_tells_53)) <|
  xw_cons (xw_E xn_iinc (xo_iinc dX8_tells_54 (by decide))) <|
  xw_cons (xw_E xn_goto (xo_goto dX8_tells_57 (by decide))) <|
  xw_cons (xw_E xn_push (xo_iconst dX8_tells_60 (by decide))) <|
  xw_cons (xw_R (xt_z dX8_tells_61)) <|
  xw_nil _
def xp_135 : List (Nat × xm_O) := xp_135_0
theorem xq_135 {G : xm_G} (hG : xm_W xk_B G) (hO : xm_Og G) : ∀ q ∈ xp_135, xm_op xk_B G xd xk_N "LiarsCock$Lookout" "tells" prog_12_method_5_code 5 (some (FieldType.boolean)) q.1 q.2 := xq_135_0 hG hO
/- 136: LiarsCock$Lookout.partsAll(I)Z -/
def xp_136_0 : List (Nat × xm_O) := [
  (0, .inl (xe_push (.int 0) 1)),
  (1, .inl (xe_istore 2 2)),
  (2, .inl (xe_iload 2 3)),
  (3, .inl (xe_aload 0 4)),
  (4, .inl (xe_getf (xj_1 7 6) 7)),
  (7, .inl (xe_getf (xj_1 0 1) 10)),
  (10, .inr (.inr (.inl (xc_V (xj_1 2 119) [])))),
  (13, .inl (xe_icmp (fun x y => decide (y ≤ x)) 95 16)),
  (16, .inl (xe_aload 0 17)),
  (17, .inl (xe_getf (xj_1 7 3) 20)),
  (20, .inl (xe_aload 0 21)),
  (21, .inl (xe_getf (xj_1 7 4) 24)),
  (24, .inl (xe_ll (fun x y => x &&& y) 25)),
  (25, .inl (xe_iload 2 26)),
  (26, .inr (.inr (.inl (xc_S 6 [0, 1])))),
  (29, .inl (xe_if (fun x => decide (¬ x = 0)) 35 32)),
  (32, .inl (xe_goto 89)),
  (35, .inl (xe_push (.int 0) 36)),
  (36, .inl (xe_istore 3 37)),
  (37, .inl (xe_iload 3 38)),
  (38, .inl (xe_aload 0 39)),
  (39, .inl (xe_getf (xj_1 7 6) 42)),
  (42, .inl (xe_getf (xj_1 0 1) 45)),
  (45, .inr (.inr (.inl (xc_V (xj_1 2 119) [])))),
  (48, .inl (xe_icmp (fun x y => decide (y ≤ x)) 89 51)),
  (51, .inl (xe_aload 0 52)),
  (52, .inl (xe_getf (xj_1 7 3) 55)),
  (55, .inl (xe_aload 0 56)),
  (56, .inl (xe_getf (xj_1 7 4) 59)),
  (59, .inl (xe_push (.long (-1 : Int64)) 62)),
  (62, .inl (xe_ll (fun x y => x ^^^ y) 63)),
  (63, .inl (xe_ll (fun x y => x &&& y) 64)),
  (64, .inl (xe_iload 3 65)),
  (65, .inr (.inr (.inl (xc_S 6 [0, 1])))),
  (68, .inl (xe_if (fun x => decide (x = 0)) 83 71)),
  (71, .inl (xe_aload 0 72)),
  (72, .inl (xe_iload 1 73)),
  (73, .inl (xe_iload 2 74)),
  (74, .inl (xe_iload 3 75)),
  (75, .inr (.inr (.inl (xc_V (xj_1 7 137) [0, 0, 0])))),
  (78, .inl (xe_if (fun x => decide (¬ x = 0)) 83 81)),
  (81, .inl (xe_push (.int 0) 82)),
  (82, .inr (.inl xr_z)),
  (83, .inl (xe_iinc 3 1 86)),
  (86, .inl (xe_goto 37)),
  (89, .inl (xe_iinc 2 1 92)),
  (92, .inl (xe_goto 2)),
  (95, .inl (xe_push (.int 1) 96)),
  (96, .inr (.inl xr_z))]
theorem xq_136_0 {G : xm_G} (hG : xm_W xk_B G) (hO : xm_Og G) : ∀ q ∈ xp_136_0, xm_op xk_B G xd xk_N "LiarsCock$Lookout" "partsAll" prog_12_method_6_code 4 (some (FieldType.boolean)) q.1 q.2 :=
  xw_cons (xw_E xn_push (xo_iconst dX8_partsAll_0 (by decide))) <|
  xw_cons (xw_E xn_istore (xo_istore_n dX8_partsAll_1 rfl)) <|
  xw_cons (xw_E xn_iload (xo_iload_n dX8_partsAll_2 rfl)) <|
  xw_cons (xw_E xn_aload (xo_aload_n dX8_partsAll_3 rfl)) <|
  xw_cons (xw_E xn_getf (xo_getf hG xg_11_3 dX8_partsAll_4)) <|
  xw_cons (xw_E xn_getf (xo_getf hG xg_11_44 dX8_partsAll_7)) <|
  xw_cons (xl_v_11_48 hG dX8_partsAll_10) <|
  xw_cons (xw_E xn_icmp (xo_icmp_ge dX8_partsAll_13 (by decide))) <|
  xw_cons (xw_E xn_aload (xo_aload_n dX8_partsAll_16 rfl)) <|
  xw_cons (xw_E xn_getf (xo_getf hG xg_11_34 dX8_partsAll_17)) <|
  xw_cons (xw_E xn_aload (xo_aload_n dX8_partsAll_20 rfl)) <|
  xw_cons (xw_E xn_getf (xo_getf hG xg_11_26 dX8_partsAll_21)) <|
  xw_cons (xw_E xn_ll (xo_land dX8_partsAll_24)) <|
  xw_cons (xw_E xn_iload (xo_iload_n dX8_partsAll_25 rfl)) <|
  xw_cons (xl_s_11_54 hG dX8_partsAll_26) <|
  xw_cons (xw_E xn_if (xo_if_ne dX8_partsAll_29 (by decide))) <|
  xw_cons (xw_E xn_goto (xo_goto dX8_partsAll_32 (by decide))) <|
  xw_cons (xw_E xn_push (xo_iconst dX8_partsAll_35 (by decide))) <|
  xw_cons (xw_E xn_istore (xo_istore_n dX8_partsAll_36 rfl)) <|
  xw_cons (xw_E xn_iload (xo_iload_n dX8_partsAll_37 rfl)) <|
  xw_cons (xw_E xn_aload (xo_aload_n dX8_partsAll_38 rfl)) <|
  xw_cons (xw_E xn_getf (xo_getf hG xg_11_3 dX8_partsAll_39)) <|
  xw_cons (xw_E xn_getf (xo_getf hG xg_11_44 dX8_partsAll_42)) <|
  xw_cons (xl_v_11_48 hG dX8_partsAll_45) <|
  xw_cons (xw_E xn_icmp (xo_icmp_ge dX8_partsAll_48 (by decide))) <|
  xw_cons (xw_E xn_aload (xo_aload_n dX8_partsAll_51 rfl)) <|
  xw_cons (xw_E xn_getf (xo_getf hG xg_11_34 dX8_partsAll_52)) <|
  xw_cons (xw_E xn_aload (xo_aload_n dX8_partsAll_55 rfl)) <|
  xw_cons (xw_E xn_getf (xo_getf hG xg_11_26 dX8_partsAll_56)) <|
  xw_cons (xw_E xn_push (xo_ldc2 hG q1507 dX8_partsAll_59)) <|
  xw_cons (xw_E xn_ll (xo_lxor dX8_partsAll_62)) <|
  xw_cons (xw_E xn_ll (xo_land dX8_partsAll_63)) <|
  xw_cons (xw_E xn_iload (xo_iload_n dX8_partsAll_64 rfl)) <|
  xw_cons (xl_s_11_54 hG dX8_partsAll_65) <|
  xw_cons (xw_E xn_if (xo_if_eq dX8_partsAll_68 (by decide))) <|
  xw_cons (xw_E xn_aload (xo_aload_n dX8_partsAll_71 rfl)) <|
  xw_cons (xw_E xn_iload (xo_iload_n dX8_partsAll_72 rfl)) <|
  xw_cons (xw_E xn_iload (xo_iload_n dX8_partsAll_73 rfl)) <|
  xw_cons (xw_E xn_iload (xo_iload_n dX8_partsAll_74 rfl)) <|
  xw_cons (xl_v_11_75 hG dX8_partsAll_75) <|
  xw_cons (xw_E xn_if (xo_if_ne dX8_partsAll_78 (by decide))) <|
  xw_cons (xw_E xn_push (xo_iconst dX8_partsAll_81 (by decide))) <|
  xw_cons (xw_R (xt_z dX8_partsAll_82)) <|
  xw_cons (xw_E xn_iinc (xo_iinc dX8_partsAll_83 (by decide))) <|
  xw_cons (xw_E xn_goto (xo_goto dX8_partsAll_86 (by decide))) <|
  xw_cons (xw_E xn_iinc (xo_iinc dX8_partsAll_89 (by decide))) <|
  xw_cons (xw_E xn_goto (xo_goto dX8_partsAll_92 (by decide))) <|
  xw_cons (xw_E xn_push (xo_iconst dX8_partsAll_95 (by decide))) <|
  xw_cons (xw_R (xt_z dX8_partsAll_96)) <|
  xw_nil _
def xp_136 : List (Nat × xm_O) := xp_136_0
theorem xq_136 {G : xm_G} (hG : xm_W xk_B G) (hO : xm_Og G) : ∀ q ∈ xp_136, xm_op xk_B G xd xk_N "LiarsCock$Lookout" "partsAll" prog_12_method_6_code 4 (some (FieldType.boolean)) q.1 q.2 := xq_136_0 hG hO
/- 137: LiarsCock$Lookout.parts(III)Z -/
def xp_137_0 : List (Nat × xm_O) := [
  (0, .inl (xe_push (.int 0) 1)),
  (1, .inl (xe_istore 4 3)),
  (3, .inl (xe_iload 4 5)),
  (5, .inl (xe_iload 1 6)),
  (6, .inl (xe_icmp (fun x y => decide (y ≤ x)) 58 9)),
  (9, .inl (xe_aload 0 10)),
  (10, .inl (xe_getf (xj_1 7 6) 13)),
  (13, .inl (xe_aload 0 14)),
  (14, .inl (xe_getf (xj_1 7 5) 17)),
  (17, .inl (xe_aload 0 18)),
  (18, .inl (xe_getf (xj_1 7 2) 21)),
  (21, .inl (xe_iload 4 23)),
  (23, .inl (xe_ald (fun t => t == 0) 24)),
  (24, .inl (xe_iload 2 25)),
  (25, .inr (.inr (.inl (xc_V (xj_1 0 30) [0, 0, 0])))),
  (28, .inl (xe_aload 0 29)),
  (29, .inl (xe_getf (xj_1 7 6) 32)),
  (32, .inl (xe_aload 0 33)),
  (33, .inl (xe_getf (xj_1 7 5) 36)),
  (36, .inl (xe_aload 0 37)),
  (37, .inl (xe_getf (xj_1 7 2) 40)),
  (40, .inl (xe_iload 4 42)),
  (42, .inl (xe_ald (fun t => t == 0) 43)),
  (43, .inl (xe_iload 3 44)),
  (44, .inr (.inr (.inl (xc_V (xj_1 0 30) [0, 0, 0])))),
  (47, .inl (xe_icmp (fun x y => decide (x = y)) 52 50)),
  (50, .inl (xe_push (.int 1) 51)),
  (51, .inr (.inl xr_z)),
  (52, .inl (xe_iinc 4 1 55)),
  (55, .inl (xe_goto 3)),
  (58, .inl (xe_push (.int 0) 59)),
  (59, .inr (.inl xr_z))]
theorem xq_137_0 {G : xm_G} (hG : xm_W xk_B G) (hO : xm_Og G) : ∀ q ∈ xp_137_0, xm_op xk_B G xd xk_N "LiarsCock$Lookout" "parts" prog_12_method_7_code 5 (some (FieldType.boolean)) q.1 q.2 :=
  xw_cons (xw_E xn_push (xo_iconst dX8_parts_0 (by decide))) <|
  xw_cons (xw_E xn_istore (xo_istore dX8_parts_1)) <|
  xw_cons (xw_E xn_iload (xo_iload dX8_parts_3)) <|
  xw_cons (xw_E xn_iload (xo_iload_n dX8_parts_5 rfl)) <|
  xw_cons (xw_E xn_icmp (xo_icmp_ge dX8_parts_6 (by decide))) <|
  xw_cons (xw_E xn_aload (xo_aload_n dX8_parts_9 rfl)) <|
  xw_cons (xw_E xn_getf (xo_getf hG xg_11_3 dX8_parts_10)) <|
  xw_cons (xw_E xn_aload (xo_aload_n dX8_parts_13 rfl)) <|
  xw_cons (xw_E xn_getf (xo_getf hG xg_11_22 dX8_parts_14)) <|
  xw_cons (xw_E xn_aload (xo_aload_n dX8_parts_17 rfl)) <|
  xw_cons (xw_E xn_getf (xo_getf hG xg_11_19 dX8_parts_18)) <|
  xw_cons (xw_E xn_iload (xo_iload dX8_parts_21)) <|
  xw_cons (xw_E xn_ald (xo_iald xk_hB dX8_parts_23)) <|
  xw_cons (xw_E xn_iload (xo_iload_n dX8_parts_24 rfl)) <|
  xw_cons (xl_v_11_78 hG dX8_parts_25) <|
  xw_cons (xw_E xn_aload (xo_aload_n dX8_parts_28 rfl)) <|
  xw_cons (xw_E xn_getf (xo_getf hG xg_11_3 dX8_parts_29)) <|
  xw_cons (xw_E xn_aload (xo_aload_n dX8_parts_32 rfl)) <|
  xw_cons (xw_E xn_getf (xo_getf hG xg_11_22 dX8_parts_33)) <|
  xw_cons (xw_E xn_aload (xo_aload_n dX8_parts_36 rfl)) <|
  xw_cons (xw_E xn_getf (xo_getf hG xg_11_19 dX8_parts_37)) <|
  xw_cons (xw_E xn_iload (xo_iload dX8_parts_40)) <|
  xw_cons (xw_E xn_ald (xo_iald xk_hB dX8_parts_42)) <|
  xw_cons (xw_E xn_iload (xo_iload_n dX8_parts_43 rfl)) <|
  xw_cons (xl_v_11_78 hG dX8_parts_44) <|
  xw_cons (xw_E xn_icmp (xo_icmp_eq dX8_parts_47 (by decide))) <|
  xw_cons (xw_E xn_push (xo_iconst dX8_parts_50 (by decide))) <|
  xw_cons (xw_R (xt_z dX8_parts_51)) <|
  xw_cons (xw_E xn_iinc (xo_iinc dX8_parts_52 (by decide))) <|
  xw_cons (xw_E xn_goto (xo_goto dX8_parts_55 (by decide))) <|
  xw_cons (xw_E xn_push (xo_iconst dX8_parts_58 (by decide))) <|
  xw_cons (xw_R (xt_z dX8_parts_59)) <|
  xw_nil _
def xp_137 : List (Nat × xm_O) := xp_137_0
theorem xq_137 {G : xm_G} (hG : xm_W xk_B G) (hO : xm_Og G) : ∀ q ∈ xp_137, xm_op xk_B G xd xk_N "LiarsCock$Lookout" "parts" prog_12_method_7_code 5 (some (FieldType.boolean)) q.1 q.2 := xq_137_0 hG hO
