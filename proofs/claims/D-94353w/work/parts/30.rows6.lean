/-! rows of methods, by program -/
set_option maxRecDepth 100000
/- 150: LiarsCockModel.needsNew(I)Z -/
def xp_150_0 : List (Nat × xm_O) := [
  (0, .inl (xe_aload 0 1)),
  (1, .inr (.inr (.inl (xc_V (xj_1 8 151) [])))),
  (4, .inl (xe_if (fun x => decide (x = 0)) 13 7)),
  (7, .inl (xe_aload 0 8)),
  (8, .inl (xe_push (.int 1) 9)),
  (9, .inr (.inr (.inl (xc_V (xj_1 8 149) [0])))),
  (12, .inr (.inl xr_z)),
  (13, .inl (xe_aload 0 14)),
  (14, .inl (xe_push (.int 0) 15)),
  (15, .inr (.inr (.inl (xc_V (xj_1 8 152) [0])))),
  (18, .inl (xe_if (fun x => decide (0 ≤ x)) 37 21)),
  (21, .inl (xe_aload 0 22)),
  (22, .inl (xe_push (.int 1) 23)),
  (23, .inr (.inr (.inl (xc_V (xj_1 8 152) [0])))),
  (26, .inl (xe_if (fun x => decide (0 ≤ x)) 37 29)),
  (29, .inl (xe_aload 0 30)),
  (30, .inl (xe_push (.int 2) 31)),
  (31, .inr (.inr (.inl (xc_V (xj_1 8 152) [0])))),
  (34, .inl (xe_if (fun x => decide (x < 0)) 43 37)),
  (37, .inl (xe_aload 0 38)),
  (38, .inl (xe_push (.int 3) 39)),
  (39, .inr (.inr (.inl (xc_V (xj_1 8 149) [0])))),
  (42, .inr (.inl xr_z)),
  (43, .inl (xe_aload 0 44)),
  (44, .inl (xe_getf (xj_1 8 11) 47)),
  (47, .inl (xe_push (.int 18) 49)),
  (49, .inl (xe_push (.int 6) 51)),
  (51, .inl (xe_iload 1 52)),
  (52, .inl (xe_ii (fun x y => x * y) 53)),
  (53, .inl (xe_ii (fun x y => x + y) 54)),
  (54, .inl (xe_aload 0 55)),
  (55, .inl (xe_getf (xj_1 8 10) 58)),
  (58, .inl (xe_push (.int 3) 59)),
  (59, .inl (xe_iload 1 60)),
  (60, .inl (xe_ii (fun x y => x + y) 61)),
  (61, .inl (xe_ald (fun t => t == 0) 62)),
  (62, .inl (xe_ii (fun x y => x + y) 63)),
  (63, .inl (xe_aload 0 64)),
  (64, .inl (xe_getf (xj_1 8 7) 67)),
  (67, .inl (xe_ast 300 1 (xm_kd 1) 68)),
  (68, .inl (xe_aload 0 69)),
  (69, .inr (.inr (.inl (xc_V (xj_1 8 144) [])))),
  (72, .inl (xe_push (.int 1) 73)),
  (73, .inr (.inl xr_z))]
theorem xq_150_0 {G : xm_G} (hG : xm_W xk_B G) (hO : xm_Og G) : ∀ q ∈ xp_150_0, xm_op xk_B G xd xk_N "LiarsCockModel" "needsNew" prog_28_method_25_code 2 (some (FieldType.boolean)) q.1 q.2 :=
  xw_cons (xw_E xn_aload (xo_aload_n dX9_needsNew_0 rfl)) <|
  xw_cons (xl_v_27_232 hG dX9_needsNew_1) <|
  xw_cons (xw_E xn_if (xo_if_eq dX9_needsNew_4 (by decide))) <|
  xw_cons (xw_E xn_aload (xo_aload_n dX9_needsNew_7 rfl)) <|
  xw_cons (xw_E xn_push (xo_iconst dX9_needsNew_8 (by decide))) <|
  xw_cons (xl_v_27_247 hG dX9_needsNew_9) <|
  xw_cons (xw_R (xt_z dX9_needsNew_12)) <|
  xw_cons (xw_E xn_aload (xo_aload_n dX9_needsNew_13 rfl)) <|
  xw_cons (xw_E xn_push (xo_iconst dX9_needsNew_14 (by decide))) <|
  xw_cons (xl_v_27_236 hG dX9_needsNew_15) <|
  xw_cons (xw_E xn_if (xo_if_ge dX9_needsNew_18 (by decide))) <|
  xw_cons (xw_E xn_aload (xo_aload_n dX9_needsNew_21 rfl)) <|
  xw_cons (xw_E xn_push (xo_iconst dX9_needsNew_22 (by decide))) <|
  xw_cons (xl_v_27_236 hG dX9_needsNew_23) <|
  xw_cons (xw_E xn_if (xo_if_ge dX9_needsNew_26 (by decide))) <|
  xw_cons (xw_E xn_aload (xo_aload_n dX9_needsNew_29 rfl)) <|
  xw_cons (xw_E xn_push (xo_iconst dX9_needsNew_30 (by decide))) <|
  xw_cons (xl_v_27_236 hG dX9_needsNew_31) <|
  xw_cons (xw_E xn_if (xo_if_lt dX9_needsNew_34 (by decide))) <|
  xw_cons (xw_E xn_aload (xo_aload_n dX9_needsNew_37 rfl)) <|
  xw_cons (xw_E xn_push (xo_iconst dX9_needsNew_38 (by decide))) <|
  xw_cons (xl_v_27_247 hG dX9_needsNew_39) <|
  xw_cons (xw_R (xt_z dX9_needsNew_42)) <|
  xw_cons (xw_E xn_aload (xo_aload_n dX9_needsNew_43 rfl)) <|
  xw_cons (xw_E xn_getf (xo_getf hG xg_27_16 dX9_needsNew_44)) <|
  xw_cons (xw_E xn_push (xo_bipush dX9_needsNew_47 (by decide))) <|
  xw_cons (xw_E xn_push (xo_bipush dX9_needsNew_49 (by decide))) <|
  xw_cons (xw_E xn_iload (xo_iload_n dX9_needsNew_51 rfl)) <|
  xw_cons (xw_E xn_ii (xo_imul dX9_needsNew_52)) <|
  xw_cons (xw_E xn_ii (xo_iadd dX9_needsNew_53)) <|
  xw_cons (xw_E xn_aload (xo_aload_n dX9_needsNew_54 rfl)) <|
  xw_cons (xw_E xn_getf (xo_getf hG xg_27_13 dX9_needsNew_55)) <|
  xw_cons (xw_E xn_push (xo_iconst dX9_needsNew_58 (by decide))) <|
  xw_cons (xw_E xn_iload (xo_iload_n dX9_needsNew_59 rfl)) <|
  xw_cons (xw_E xn_ii (xo_iadd dX9_needsNew_60)) <|
  xw_cons (xw_E xn_ald (xo_iald xk_hB dX9_needsNew_61)) <|
  xw_cons (xw_E xn_ii (xo_iadd dX9_needsNew_62)) <|
  xw_cons (xw_E xn_aload (xo_aload_n dX9_needsNew_63 rfl)) <|
  xw_cons (xw_E xn_getf (xo_getf hG xg_27_180 dX9_needsNew_64)) <|
  xw_cons (xw_E xn_ast (xo_last hG xk_hB rfl dX9_needsNew_67)) <|
  xw_cons (xw_E xn_aload (xo_aload_n dX9_needsNew_68 rfl)) <|
  xw_cons (xl_v_27_254 hG dX9_needsNew_69) <|
  xw_cons (xw_E xn_push (xo_iconst dX9_needsNew_72 (by decide))) <|
  xw_cons (xw_R (xt_z dX9_needsNew_73)) <|
  xw_nil _
def xp_150 : List (Nat × xm_O) := xp_150_0
theorem xq_150 {G : xm_G} (hG : xm_W xk_B G) (hO : xm_Og G) : ∀ q ∈ xp_150, xm_op xk_B G xd xk_N "LiarsCockModel" "needsNew" prog_28_method_25_code 2 (some (FieldType.boolean)) q.1 q.2 := xq_150_0 hG hO
/- 151: LiarsCockModel.isKept()Z -/
def xp_151_0 : List (Nat × xm_O) := [
  (0, .inl (xe_aload 0 1)),
  (1, .inl (xe_getf (xj_1 8 6) 4)),
  (4, .inl (xe_push (.int 1) 5)),
  (5, .inl (xe_icmp (fun x y => decide (x = y)) 10 8)),
  (8, .inl (xe_push (.int 1) 9)),
  (9, .inr (.inl xr_z)),
  (10, .inl (xe_aload 0 11)),
  (11, .inl (xe_getf (xj_1 8 7) 14)),
  (14, .inl (xe_push (.long (118928 : Int64)) 17)),
  (17, .inl (xe_lcmp 18)),
  (18, .inl (xe_if (fun x => decide (x = 0)) 164 21)),
  (21, .inl (xe_aload 0 22)),
  (22, .inl (xe_getf (xj_1 8 7) 25)),
  (25, .inl (xe_push (.long (47328224 : Int64)) 28)),
  (28, .inl (xe_lcmp 29)),
  (29, .inl (xe_if (fun x => decide (x = 0)) 164 32)),
  (32, .inl (xe_aload 0 33)),
  (33, .inl (xe_getf (xj_1 8 7) 36)),
  (36, .inl (xe_push (.long (8740067 : Int64)) 39)),
  (39, .inl (xe_lcmp 40)),
  (40, .inl (xe_if (fun x => decide (x = 0)) 164 43)),
  (43, .inl (xe_aload 0 44)),
  (44, .inl (xe_getf (xj_1 8 7) 47)),
  (47, .inl (xe_push (.long (847478194 : Int64)) 50)),
  (50, .inl (xe_lcmp 51)),
  (51, .inl (xe_if (fun x => decide (x = 0)) 164 54)),
  (54, .inl (xe_aload 0 55)),
  (55, .inl (xe_getf (xj_1 8 7) 58)),
  (58, .inl (xe_push (.long (232608281 : Int64)) 61)),
  (61, .inl (xe_lcmp 62)),
  (62, .inl (xe_if (fun x => decide (x = 0)) 164 65)),
  (65, .inl (xe_aload 0 66)),
  (66, .inl (xe_getf (xj_1 8 7) 69)),
  (69, .inl (xe_push (.long (47 : Int64)) 72)),
  (72, .inl (xe_lcmp 73)),
  (73, .inl (xe_if (fun x => decide (x = 0)) 164 76)),
  (76, .inl (xe_aload 0 77)),
  (77, .inl (xe_getf (xj_1 8 7) 80)),
  (80, .inl (xe_push (.long (6132988 : Int64)) 83)),
  (83, .inl (xe_lcmp 84)),
  (84, .inl (xe_if (fun x => decide (x = 0)) 164 87)),
  (87, .inl (xe_aload 0 88)),
  (88, .inl (xe_getf (xj_1 8 7) 91)),
  (91, .inl (xe_push (.long (51284111 : Int64)) 94)),
  (94, .inl (xe_lcmp 95)),
  (95, .inl (xe_if (fun x => decide (x = 0)) 164 98)),
  (98, .inl (xe_aload 0 99)),
  (99, .inl (xe_getf (xj_1 8 7) 102)),
  (102, .inl (xe_push (.long (70076 : Int64)) 105)),
  (105, .inl (xe_lcmp 106))]
theorem xq_151_0 {G : xm_G} (hG : xm_W xk_B G) (hO : xm_Og G) : ∀ q ∈ xp_151_0, xm_op xk_B G xd xk_N "LiarsCockModel" "isKept" prog_28_method_14_code 1 (some (FieldType.boolean)) q.1 q.2 :=
  xw_cons (xw_E xn_aload (xo_aload_n dX9_isKept_0 rfl)) <|
  xw_cons (xw_E xn_getf (xo_getf hG xg_27_187 dX9_isKept_1)) <|
  xw_cons (xw_E xn_push (xo_iconst dX9_isKept_4 (by decide))) <|
  xw_cons (xw_E xn_icmp (xo_icmp_eq dX9_isKept_5 (by decide))) <|
  xw_cons (xw_E xn_push (xo_iconst dX9_isKept_8 (by decide))) <|
  xw_cons (xw_R (xt_z dX9_isKept_9)) <|
  xw_cons (xw_E xn_aload (xo_aload_n dX9_isKept_10 rfl)) <|
  xw_cons (xw_E xn_getf (xo_getf hG xg_27_180 dX9_isKept_11)) <|
  xw_cons (xw_E xn_push (xo_ldc2 hG q1854 dX9_isKept_14)) <|
  xw_cons (xw_E xn_lcmp (xo_lcmp dX9_isKept_17)) <|
  xw_cons (xw_E xn_if (xo_if_eq dX9_isKept_18 (by decide))) <|
  xw_cons (xw_E xn_aload (xo_aload_n dX9_isKept_21 rfl)) <|
  xw_cons (xw_E xn_getf (xo_getf hG xg_27_180 dX9_isKept_22)) <|
  xw_cons (xw_E xn_push (xo_ldc2 hG q1875 dX9_isKept_25)) <|
  xw_cons (xw_E xn_lcmp (xo_lcmp dX9_isKept_28)) <|
  xw_cons (xw_E xn_if (xo_if_eq dX9_isKept_29 (by decide))) <|
  xw_cons (xw_E xn_aload (xo_aload_n dX9_isKept_32 rfl)) <|
  xw_cons (xw_E xn_getf (xo_getf hG xg_27_180 dX9_isKept_33)) <|
  xw_cons (xw_E xn_push (xo_ldc2 hG q1876 dX9_isKept_36)) <|
  xw_cons (xw_E xn_lcmp (xo_lcmp dX9_isKept_39)) <|
  xw_cons (xw_E xn_if (xo_if_eq dX9_isKept_40 (by decide))) <|
  xw_cons (xw_E xn_aload (xo_aload_n dX9_isKept_43 rfl)) <|
  xw_cons (xw_E xn_getf (xo_getf hG xg_27_180 dX9_isKept_44)) <|
  xw_cons (xw_E xn_push (xo_ldc2 hG q1877 dX9_isKept_47)) <|
  xw_cons (xw_E xn_lcmp (xo_lcmp dX9_isKept_50)) <|
  xw_cons (xw_E xn_if (xo_if_eq dX9_isKept_51 (by decide))) <|
  xw_cons (xw_E xn_aload (xo_aload_n dX9_isKept_54 rfl)) <|
  xw_cons (xw_E xn_getf (xo_getf hG xg_27_180 dX9_isKept_55)) <|
  xw_cons (xw_E xn_push (xo_ldc2 hG q1878 dX9_isKept_58)) <|
  xw_cons (xw_E xn_lcmp (xo_lcmp dX9_isKept_61)) <|
  xw_cons (xw_E xn_if (xo_if_eq dX9_isKept_62 (by decide))) <|
  xw_cons (xw_E xn_aload (xo_aload_n dX9_isKept_65 rfl)) <|
  xw_cons (xw_E xn_getf (xo_getf hG xg_27_180 dX9_isKept_66)) <|
  xw_cons (xw_E xn_push (xo_ldc2 hG q1879 dX9_isKept_69)) <|
  xw_cons (xw_E xn_lcmp (xo_lcmp dX9_isKept_72)) <|
  xw_cons (xw_E xn_if (xo_if_eq dX9_isKept_73 (by decide))) <|
  xw_cons (xw_E xn_aload (xo_aload_n dX9_isKept_76 rfl)) <|
  xw_cons (xw_E xn_getf (xo_getf hG xg_27_180 dX9_isKept_77)) <|
  xw_cons (xw_E xn_push (xo_ldc2 hG q1880 dX9_isKept_80)) <|
  xw_cons (xw_E xn_lcmp (xo_lcmp dX9_isKept_83)) <|
  xw_cons (xw_E xn_if (xo_if_eq dX9_isKept_84 (by decide))) <|
  xw_cons (xw_E xn_aload (xo_aload_n dX9_isKept_87 rfl)) <|
  xw_cons (xw_E xn_getf (xo_getf hG xg_27_180 dX9_isKept_88)) <|
  xw_cons (xw_E xn_push (xo_ldc2 hG q1881 dX9_isKept_91)) <|
  xw_cons (xw_E xn_lcmp (xo_lcmp dX9_isKept_94)) <|
  xw_cons (xw_E xn_if (xo_if_eq dX9_isKept_95 (by decide))) <|
  xw_cons (xw_E xn_aload (xo_aload_n dX9_isKept_98 rfl)) <|
  xw_cons (xw_E xn_getf (xo_getf hG xg_27_180 dX9_isKept_99)) <|
  xw_cons (xw_E xn_push (xo_ldc2 hG q1882 dX9_isKept_102)) <|
  xw_cons (xw_E xn_lcmp (xo_lcmp dX9_isKept_105)) <|
  xw_nil _
def xp_151_1 : List (Nat × xm_O) := [
  (106, .inl (xe_if (fun x => decide (x = 0)) 164 109)),
  (109, .inl (xe_aload 0 110)),
  (110, .inl (xe_getf (xj_1 8 7) 113)),
  (113, .inl (xe_push (.long (8798 : Int64)) 116)),
  (116, .inl (xe_lcmp 117)),
  (117, .inl (xe_if (fun x => decide (x = 0)) 164 120)),
  (120, .inl (xe_aload 0 121)),
  (121, .inl (xe_getf (xj_1 8 7) 124)),
  (124, .inl (xe_push (.long (237470 : Int64)) 127)),
  (127, .inl (xe_lcmp 128)),
  (128, .inl (xe_if (fun x => decide (x = 0)) 164 131)),
  (131, .inl (xe_aload 0 132)),
  (132, .inl (xe_getf (xj_1 8 7) 135)),
  (135, .inl (xe_push (.long (10631 : Int64)) 138)),
  (138, .inl (xe_lcmp 139)),
  (139, .inl (xe_if (fun x => decide (x = 0)) 164 142)),
  (142, .inl (xe_aload 0 143)),
  (143, .inl (xe_getf (xj_1 8 7) 146)),
  (146, .inl (xe_push (.long (1111 : Int64)) 149)),
  (149, .inl (xe_lcmp 150)),
  (150, .inl (xe_if (fun x => decide (x = 0)) 164 153)),
  (153, .inl (xe_aload 0 154)),
  (154, .inl (xe_getf (xj_1 8 7) 157)),
  (157, .inl (xe_push (.long (423 : Int64)) 160)),
  (160, .inl (xe_lcmp 161)),
  (161, .inl (xe_if (fun x => decide (¬ x = 0)) 168 164)),
  (164, .inl (xe_push (.int 1) 165)),
  (165, .inl (xe_goto 169)),
  (168, .inl (xe_push (.int 0) 169)),
  (169, .inr (.inl xr_z))]
theorem xq_151_1 {G : xm_G} (hG : xm_W xk_B G) (hO : xm_Og G) : ∀ q ∈ xp_151_1, xm_op xk_B G xd xk_N "LiarsCockModel" "isKept" prog_28_method_14_code 1 (some (FieldType.boolean)) q.1 q.2 :=
  xw_cons (xw_E xn_if (xo_if_eq dX9_isKept_106 (by decide))) <|
  xw_cons (xw_E xn_aload (xo_aload_n dX9_isKept_109 rfl)) <|
  xw_cons (xw_E xn_getf (xo_getf hG xg_27_180 dX9_isKept_110)) <|
  xw_cons (xw_E xn_push (xo_ldc2 hG q1883 dX9_isKept_113)) <|
  xw_cons (xw_E xn_lcmp (xo_lcmp dX9_isKept_116)) <|
  xw_cons (xw_E xn_if (xo_if_eq dX9_isKept_117 (by decide))) <|
  xw_cons (xw_E xn_aload (xo_aload_n dX9_isKept_120 rfl)) <|
  xw_cons (xw_E xn_getf (xo_getf hG xg_27_180 dX9_isKept_121)) <|
  xw_cons (xw_E xn_push (xo_ldc2 hG q1884 dX9_isKept_124)) <|
  xw_cons (xw_E xn_lcmp (xo_lcmp dX9_isKept_127)) <|
  xw_cons (xw_E xn_if (xo_if_eq dX9_isKept_128 (by decide))) <|
  xw_cons (xw_E xn_aload (xo_aload_n dX9_isKept_131 rfl)) <|
  xw_cons (xw_E xn_getf (xo_getf hG xg_27_180 dX9_isKept_132)) <|
  xw_cons (xw_E xn_push (xo_ldc2 hG q1885 dX9_isKept_135)) <|
  xw_cons (xw_E xn_lcmp (xo_lcmp dX9_isKept_138)) <|
  xw_cons (xw_E xn_if (xo_if_eq dX9_isKept_139 (by decide))) <|
  xw_cons (xw_E xn_aload (xo_aload_n dX9_isKept_142 rfl)) <|
  xw_cons (xw_E xn_getf (xo_getf hG xg_27_180 dX9_isKept_143)) <|
  xw_cons (xw_E xn_push (xo_ldc2 hG q1886 dX9_isKept_146)) <|
  xw_cons (xw_E xn_lcmp (xo_lcmp dX9_isKept_149)) <|
  xw_cons (xw_E xn_if (xo_if_eq dX9_isKept_150 (by decide))) <|
  xw_cons (xw_E xn_aload (xo_aload_n dX9_isKept_153 rfl)) <|
  xw_cons (xw_E xn_getf (xo_getf hG xg_27_180 dX9_isKept_154)) <|
  xw_cons (xw_E xn_push (xo_ldc2 hG q1887 dX9_isKept_157)) <|
  xw_cons (xw_E xn_lcmp (xo_lcmp dX9_isKept_160)) <|
  xw_cons (xw_E xn_if (xo_if_ne dX9_isKept_161 (by decide))) <|
  xw_cons (xw_E xn_push (xo_iconst dX9_isKept_164 (by decide))) <|
  xw_cons (xw_E xn_goto (xo_goto dX9_isKept_165 (by decide))) <|
  xw_cons (xw_E xn_push (xo_iconst dX9_isKept_168 (by decide))) <|
  xw_cons (xw_R (xt_z dX9_isKept_169)) <|
  xw_nil _
def xp_151 : List (Nat × xm_O) := xp_151_0 ++ xp_151_1
theorem xq_151 {G : xm_G} (hG : xm_W xk_B G) (hO : xm_Og G) : ∀ q ∈ xp_151, xm_op xk_B G xd xk_N "LiarsCockModel" "isKept" prog_28_method_14_code 1 (some (FieldType.boolean)) q.1 q.2 := xw_app (xq_151_0 hG hO) (xq_151_1 hG hO)
/- 152: LiarsCockModel.whichOf(I)I -/
def xp_152_0 : List (Nat × xm_O) := [
  (0, .inl (xe_push (.int 0) 1)),
  (1, .inl (xe_istore 2 2)),
  (2, .inl (xe_iload 2 3)),
  (3, .inl (xe_aload 0 4)),
  (4, .inl (xe_getf (xj_1 8 10) 7)),
  (7, .inl (xe_push (.int 3) 8)),
  (8, .inl (xe_iload 1 9)),
  (9, .inl (xe_ii (fun x y => x + y) 10)),
  (10, .inl (xe_ald (fun t => t == 0) 11)),
  (11, .inl (xe_icmp (fun x y => decide (y ≤ x)) 44 14)),
  (14, .inl (xe_aload 0 15)),
  (15, .inl (xe_getf (xj_1 8 11) 18)),
  (18, .inl (xe_push (.int 18) 20)),
  (20, .inl (xe_push (.int 6) 22)),
  (22, .inl (xe_iload 1 23)),
  (23, .inl (xe_ii (fun x y => x * y) 24)),
  (24, .inl (xe_ii (fun x y => x + y) 25)),
  (25, .inl (xe_iload 2 26)),
  (26, .inl (xe_ii (fun x y => x + y) 27)),
  (27, .inl (xe_ald (fun t => t == 1) 28)),
  (28, .inl (xe_aload 0 29)),
  (29, .inl (xe_getf (xj_1 8 7) 32)),
  (32, .inl (xe_lcmp 33)),
  (33, .inl (xe_if (fun x => decide (¬ x = 0)) 38 36)),
  (36, .inl (xe_iload 2 37)),
  (37, .inr (.inl xr_i)),
  (38, .inl (xe_iinc 2 1 41)),
  (41, .inl (xe_goto 2)),
  (44, .inl (xe_push (.int (-1)) 45)),
  (45, .inr (.inl xr_i))]
theorem xq_152_0 {G : xm_G} (hG : xm_W xk_B G) (hO : xm_Og G) : ∀ q ∈ xp_152_0, xm_op xk_B G xd xk_N "LiarsCockModel" "whichOf" prog_28_method_15_code 3 (some (FieldType.int)) q.1 q.2 :=
  xw_cons (xw_E xn_push (xo_iconst dX9_whichOf_0 (by decide))) <|
  xw_cons (xw_E xn_istore (xo_istore_n dX9_whichOf_1 rfl)) <|
  xw_cons (xw_E xn_iload (xo_iload_n dX9_whichOf_2 rfl)) <|
  xw_cons (xw_E xn_aload (xo_aload_n dX9_whichOf_3 rfl)) <|
  xw_cons (xw_E xn_getf (xo_getf hG xg_27_13 dX9_whichOf_4)) <|
  xw_cons (xw_E xn_push (xo_iconst dX9_whichOf_7 (by decide))) <|
  xw_cons (xw_E xn_iload (xo_iload_n dX9_whichOf_8 rfl)) <|
  xw_cons (xw_E xn_ii (xo_iadd dX9_whichOf_9)) <|
  xw_cons (xw_E xn_ald (xo_iald xk_hB dX9_whichOf_10)) <|
  xw_cons (xw_E xn_icmp (xo_icmp_ge dX9_whichOf_11 (by decide))) <|
  xw_cons (xw_E xn_aload (xo_aload_n dX9_whichOf_14 rfl)) <|
  xw_cons (xw_E xn_getf (xo_getf hG xg_27_16 dX9_whichOf_15)) <|
  xw_cons (xw_E xn_push (xo_bipush dX9_whichOf_18 (by decide))) <|
  xw_cons (xw_E xn_push (xo_bipush dX9_whichOf_20 (by decide))) <|
  xw_cons (xw_E xn_iload (xo_iload_n dX9_whichOf_22 rfl)) <|
  xw_cons (xw_E xn_ii (xo_imul dX9_whichOf_23)) <|
  xw_cons (xw_E xn_ii (xo_iadd dX9_whichOf_24)) <|
  xw_cons (xw_E xn_iload (xo_iload_n dX9_whichOf_25 rfl)) <|
  xw_cons (xw_E xn_ii (xo_iadd dX9_whichOf_26)) <|
  xw_cons (xw_E xn_ald (xo_lald xk_hB dX9_whichOf_27)) <|
  xw_cons (xw_E xn_aload (xo_aload_n dX9_whichOf_28 rfl)) <|
  xw_cons (xw_E xn_getf (xo_getf hG xg_27_180 dX9_whichOf_29)) <|
  xw_cons (xw_E xn_lcmp (xo_lcmp dX9_whichOf_32)) <|
  xw_cons (xw_E xn_if (xo_if_ne dX9_whichOf_33 (by decide))) <|
  xw_cons (xw_E xn_iload (xo_iload_n dX9_whichOf_36 rfl)) <|
  xw_cons (xw_R (xt_i dX9_whichOf_37)) <|
  xw_cons (xw_E xn_iinc (xo_iinc dX9_whichOf_38 (by decide))) <|
  xw_cons (xw_E xn_goto (xo_goto dX9_whichOf_41 (by decide))) <|
  xw_cons (xw_E xn_push (xo_iconst dX9_whichOf_44 (by decide))) <|
  xw_cons (xw_R (xt_i dX9_whichOf_45)) <|
  xw_nil _
def xp_152 : List (Nat × xm_O) := xp_152_0
theorem xq_152 {G : xm_G} (hG : xm_W xk_B G) (hO : xm_Og G) : ∀ q ∈ xp_152, xm_op xk_B G xd xk_N "LiarsCockModel" "whichOf" prog_28_method_15_code 3 (some (FieldType.int)) q.1 q.2 := xq_152_0 hG hO
/- 153: LiarsCockModel.needsNumber(I)Z -/
def xp_153_0 : List (Nat × xm_O) := [
  (0, .inl (xe_aload 0 1)),
  (1, .inl (xe_getf (xj_1 8 6) 4)),
  (4, .inl (xe_push (.int 2) 5)),
  (5, .inl (xe_icmp (fun x y => decide (x = y)) 16 8)),
  (8, .inl (xe_aload 0 9)),
  (9, .inl (xe_push (.int 1) 10)),
  (10, .inr (.inr (.inl (xc_V (xj_1 8 149) [0])))),
  (13, .inl (xe_goto 37)),
  (16, .inl (xe_aload 0 17)),
  (17, .inl (xe_getf (xj_1 8 8) 20)),
  (20, .inl (xe_iload 1 21)),
  (21, .inl (xe_icmp (fun x y => decide (x ≤ y)) 32 24)),
  (24, .inl (xe_aload 0 25)),
  (25, .inl (xe_push (.int 4) 26)),
  (26, .inr (.inr (.inl (xc_V (xj_1 8 149) [0])))),
  (29, .inl (xe_if (fun x => decide (x = 0)) 36 32)),
  (32, .inl (xe_push (.int 1) 33)),
  (33, .inl (xe_goto 37)),
  (36, .inl (xe_push (.int 0) 37)),
  (37, .inr (.inl xr_z))]
theorem xq_153_0 {G : xm_G} (hG : xm_W xk_B G) (hO : xm_Og G) : ∀ q ∈ xp_153_0, xm_op xk_B G xd xk_N "LiarsCockModel" "needsNumber" prog_28_method_24_code 2 (some (FieldType.boolean)) q.1 q.2 :=
  xw_cons (xw_E xn_aload (xo_aload_n dX9_needsNumber_0 rfl)) <|
  xw_cons (xw_E xn_getf (xo_getf hG xg_27_187 dX9_needsNumber_1)) <|
  xw_cons (xw_E xn_push (xo_iconst dX9_needsNumber_4 (by decide))) <|
  xw_cons (xw_E xn_icmp (xo_icmp_eq dX9_needsNumber_5 (by decide))) <|
  xw_cons (xw_E xn_aload (xo_aload_n dX9_needsNumber_8 rfl)) <|
  xw_cons (xw_E xn_push (xo_iconst dX9_needsNumber_9 (by decide))) <|
  xw_cons (xl_v_27_247 hG dX9_needsNumber_10) <|
  xw_cons (xw_E xn_goto (xo_goto dX9_needsNumber_13 (by decide))) <|
  xw_cons (xw_E xn_aload (xo_aload_n dX9_needsNumber_16 rfl)) <|
  xw_cons (xw_E xn_getf (xo_getf hG xg_27_184 dX9_needsNumber_17)) <|
  xw_cons (xw_E xn_iload (xo_iload_n dX9_needsNumber_20 rfl)) <|
  xw_cons (xw_E xn_icmp (xo_icmp_le dX9_needsNumber_21 (by decide))) <|
  xw_cons (xw_E xn_aload (xo_aload_n dX9_needsNumber_24 rfl)) <|
  xw_cons (xw_E xn_push (xo_iconst dX9_needsNumber_25 (by decide))) <|
  xw_cons (xl_v_27_247 hG dX9_needsNumber_26) <|
  xw_cons (xw_E xn_if (xo_if_eq dX9_needsNumber_29 (by decide))) <|
  xw_cons (xw_E xn_push (xo_iconst dX9_needsNumber_32 (by decide))) <|
  xw_cons (xw_E xn_goto (xo_goto dX9_needsNumber_33 (by decide))) <|
  xw_cons (xw_E xn_push (xo_iconst dX9_needsNumber_36 (by decide))) <|
  xw_cons (xw_R (xt_z dX9_needsNumber_37)) <|
  xw_nil _
def xp_153 : List (Nat × xm_O) := xp_153_0
theorem xq_153 {G : xm_G} (hG : xm_W xk_B G) (hO : xm_Og G) : ∀ q ∈ xp_153, xm_op xk_B G xd xk_N "LiarsCockModel" "needsNumber" prog_28_method_24_code 2 (some (FieldType.boolean)) q.1 q.2 := xq_153_0 hG hO
/- 154: LiarsCockModel.ends()Z -/
def xp_154_0 : List (Nat × xm_O) := [
  (0, .inl (xe_aload 0 1)),
  (1, .inl (xe_push (.int 59) 3)),
  (3, .inr (.inr (.inl (xc_V (xj_1 8 155) [0])))),
  (6, .inl (xe_if (fun x => decide (¬ x = 0)) 15 9)),
  (9, .inl (xe_aload 0 10)),
  (10, .inl (xe_push (.int 1) 11)),
  (11, .inr (.inr (.inl (xc_V (xj_1 8 149) [0])))),
  (14, .inr (.inl xr_z)),
  (15, .inl (xe_aload 0 16)),
  (16, .inr (.inr (.inl (xc_V (xj_1 8 144) [])))),
  (19, .inl (xe_push (.int 1) 20)),
  (20, .inr (.inl xr_z))]
theorem xq_154_0 {G : xm_G} (hG : xm_W xk_B G) (hO : xm_Og G) : ∀ q ∈ xp_154_0, xm_op xk_B G xd xk_N "LiarsCockModel" "ends" prog_28_method_22_code 1 (some (FieldType.boolean)) q.1 q.2 :=
  xw_cons (xw_E xn_aload (xo_aload_n dX9_ends_0 rfl)) <|
  xw_cons (xw_E xn_push (xo_bipush dX9_ends_1 (by decide))) <|
  xw_cons (xl_v_27_243 hG dX9_ends_3) <|
  xw_cons (xw_E xn_if (xo_if_ne dX9_ends_6 (by decide))) <|
  xw_cons (xw_E xn_aload (xo_aload_n dX9_ends_9 rfl)) <|
  xw_cons (xw_E xn_push (xo_iconst dX9_ends_10 (by decide))) <|
  xw_cons (xl_v_27_247 hG dX9_ends_11) <|
  xw_cons (xw_R (xt_z dX9_ends_14)) <|
  xw_cons (xw_E xn_aload (xo_aload_n dX9_ends_15 rfl)) <|
  xw_cons (xl_v_27_254 hG dX9_ends_16) <|
  xw_cons (xw_E xn_push (xo_iconst dX9_ends_19 (by decide))) <|
  xw_cons (xw_R (xt_z dX9_ends_20)) <|
  xw_nil _
def xp_154 : List (Nat × xm_O) := xp_154_0
theorem xq_154 {G : xm_G} (hG : xm_W xk_B G) (hO : xm_Og G) : ∀ q ∈ xp_154, xm_op xk_B G xd xk_N "LiarsCockModel" "ends" prog_28_method_22_code 1 (some (FieldType.boolean)) q.1 q.2 := xq_154_0 hG hO
/- 155: LiarsCockModel.isSign(I)Z -/
def xp_155_0 : List (Nat × xm_O) := [
  (0, .inl (xe_aload 0 1)),
  (1, .inl (xe_getf (xj_1 8 6) 4)),
  (4, .inl (xe_push (.int 3) 5)),
  (5, .inl (xe_icmp (fun x y => decide (¬ x = y)) 25 8)),
  (8, .inl (xe_aload 0 9)),
  (9, .inl (xe_getf (xj_1 8 2) 12)),
  (12, .inl (xe_aload 0 13)),
  (13, .inl (xe_getf (xj_1 8 5) 16)),
  (16, .inl (xe_ald (fun t => t == 0) 17)),
  (17, .inl (xe_iload 1 18)),
  (18, .inl (xe_icmp (fun x y => decide (¬ x = y)) 25 21)),
  (21, .inl (xe_push (.int 1) 22)),
  (22, .inl (xe_goto 26)),
  (25, .inl (xe_push (.int 0) 26)),
  (26, .inr (.inl xr_z))]
theorem xq_155_0 {G : xm_G} (hG : xm_W xk_B G) (hO : xm_Og G) : ∀ q ∈ xp_155_0, xm_op xk_B G xd xk_N "LiarsCockModel" "isSign" prog_28_method_11_code 2 (some (FieldType.boolean)) q.1 q.2 :=
  xw_cons (xw_E xn_aload (xo_aload_n dX9_isSign_0 rfl)) <|
  xw_cons (xw_E xn_getf (xo_getf hG xg_27_187 dX9_isSign_1)) <|
  xw_cons (xw_E xn_push (xo_iconst dX9_isSign_4 (by decide))) <|
  xw_cons (xw_E xn_icmp (xo_icmp_ne dX9_isSign_5 (by decide))) <|
  xw_cons (xw_E xn_aload (xo_aload_n dX9_isSign_8 rfl)) <|
  xw_cons (xw_E xn_getf (xo_getf hG xg_27_7 dX9_isSign_9)) <|
  xw_cons (xw_E xn_aload (xo_aload_n dX9_isSign_12 rfl)) <|
  xw_cons (xw_E xn_getf (xo_getf hG xg_27_177 dX9_isSign_13)) <|
  xw_cons (xw_E xn_ald (xo_iald xk_hB dX9_isSign_16)) <|
  xw_cons (xw_E xn_iload (xo_iload_n dX9_isSign_17 rfl)) <|
  xw_cons (xw_E xn_icmp (xo_icmp_ne dX9_isSign_18 (by decide))) <|
  xw_cons (xw_E xn_push (xo_iconst dX9_isSign_21 (by decide))) <|
  xw_cons (xw_E xn_goto (xo_goto dX9_isSign_22 (by decide))) <|
  xw_cons (xw_E xn_push (xo_iconst dX9_isSign_25 (by decide))) <|
  xw_cons (xw_R (xt_z dX9_isSign_26)) <|
  xw_nil _
def xp_155 : List (Nat × xm_O) := xp_155_0
theorem xq_155 {G : xm_G} (hG : xm_W xk_B G) (hO : xm_Og G) : ∀ q ∈ xp_155, xm_op xk_B G xd xk_N "LiarsCockModel" "isSign" prog_28_method_11_code 2 (some (FieldType.boolean)) q.1 q.2 := xq_155_0 hG hO
/- 156: LiarsCockModel.readsPlace()Z -/
def xp_156_0 : List (Nat × xm_O) := [
  (0, .inl (xe_aload 0 1)),
  (1, .inl (xe_getf (xj_1 8 10) 4)),
  (4, .inl (xe_push (.int 4) 5)),
  (5, .inl (xe_ald (fun t => t == 0) 6)),
  (6, .inl (xe_push (.int 6) 8)),
  (8, .inl (xe_icmp (fun x y => decide (¬ x = y)) 17 11)),
  (11, .inl (xe_aload 0 12)),
  (12, .inl (xe_push (.int 5) 13)),
  (13, .inr (.inr (.inl (xc_V (xj_1 8 149) [0])))),
  (16, .inr (.inl xr_z)),
  (17, .inl (xe_aload 0 18)),
  (18, .inr (.inr (.inl (xc_V (xj_1 8 144) [])))),
  (21, .inl (xe_aload 0 22)),
  (22, .inl (xe_push (.int 1) 23)),
  (23, .inr (.inr (.inl (xc_V (xj_1 8 150) [0])))),
  (26, .inl (xe_if (fun x => decide (x = 0)) 49 29)),
  (29, .inl (xe_aload 0 30)),
  (30, .inl (xe_push (.long (847478194 : Int64)) 33)),
  (33, .inr (.inr (.inl (xc_V (xj_1 8 157) [1])))),
  (36, .inl (xe_if (fun x => decide (x = 0)) 49 39)),
  (39, .inl (xe_aload 0 40)),
  (40, .inl (xe_push (.int 359) 43)),
  (43, .inr (.inr (.inl (xc_V (xj_1 8 153) [0])))),
  (46, .inl (xe_if (fun x => decide (¬ x = 0)) 51 49)),
  (49, .inl (xe_push (.int 0) 50)),
  (50, .inr (.inl xr_z)),
  (51, .inl (xe_aload 0 52)),
  (52, .inl (xe_getf (xj_1 8 13) 55)),
  (55, .inl (xe_push (.int 6) 57)),
  (57, .inl (xe_aload 0 58)),
  (58, .inl (xe_getf (xj_1 8 10) 61)),
  (61, .inl (xe_push (.int 4) 62)),
  (62, .inl (xe_ald (fun t => t == 0) 63)),
  (63, .inl (xe_ii (fun x y => x + y) 64)),
  (64, .inl (xe_aload 0 65)),
  (65, .inl (xe_getf (xj_1 8 8) 68)),
  (68, .inl (xe_ast 300 0 (xm_kd 0) 69)),
  (69, .inl (xe_aload 0 70)),
  (70, .inl (xe_getf (xj_1 8 10) 73)),
  (73, .inl (xe_push (.int 4) 74)),
  (74, .inl (xe_dup2 75)),
  (75, .inl (xe_ald (fun t => t == 0) 76)),
  (76, .inl (xe_push (.int 1) 77)),
  (77, .inl (xe_ii (fun x y => x + y) 78)),
  (78, .inl (xe_ast 300 0 (xm_kd 0) 79)),
  (79, .inl (xe_aload 0 80)),
  (80, .inr (.inr (.inl (xc_V (xj_1 8 144) [])))),
  (83, .inl (xe_aload 0 84)),
  (84, .inr (.inr (.inl (xc_V (xj_1 8 154) [])))),
  (87, .inr (.inl xr_z))]
theorem xq_156_0 {G : xm_G} (hG : xm_W xk_B G) (hO : xm_Og G) : ∀ q ∈ xp_156_0, xm_op xk_B G xd xk_N "LiarsCockModel" "readsPlace" prog_28_method_27_code 1 (some (FieldType.boolean)) q.1 q.2 :=
  xw_cons (xw_E xn_aload (xo_aload_n dX9_readsPlace_0 rfl)) <|
  xw_cons (xw_E xn_getf (xo_getf hG xg_27_13 dX9_readsPlace_1)) <|
  xw_cons (xw_E xn_push (xo_iconst dX9_readsPlace_4 (by decide))) <|
  xw_cons (xw_E xn_ald (xo_iald xk_hB dX9_readsPlace_5)) <|
  xw_cons (xw_E xn_push (xo_bipush dX9_readsPlace_6 (by decide))) <|
  xw_cons (xw_E xn_icmp (xo_icmp_ne dX9_readsPlace_8 (by decide))) <|
  xw_cons (xw_E xn_aload (xo_aload_n dX9_readsPlace_11 rfl)) <|
  xw_cons (xw_E xn_push (xo_iconst dX9_readsPlace_12 (by decide))) <|
  xw_cons (xl_v_27_247 hG dX9_readsPlace_13) <|
  xw_cons (xw_R (xt_z dX9_readsPlace_16)) <|
  xw_cons (xw_E xn_aload (xo_aload_n dX9_readsPlace_17 rfl)) <|
  xw_cons (xl_v_27_254 hG dX9_readsPlace_18) <|
  xw_cons (xw_E xn_aload (xo_aload_n dX9_readsPlace_21 rfl)) <|
  xw_cons (xw_E xn_push (xo_iconst dX9_readsPlace_22 (by decide))) <|
  xw_cons (xl_v_27_269 hG dX9_readsPlace_23) <|
  xw_cons (xw_E xn_if (xo_if_eq dX9_readsPlace_26 (by decide))) <|
  xw_cons (xw_E xn_aload (xo_aload_n dX9_readsPlace_29 rfl)) <|
  xw_cons (xw_E xn_push (xo_ldc2 hG q1877 dX9_readsPlace_30)) <|
  xw_cons (xl_v_27_278 hG dX9_readsPlace_33) <|
  xw_cons (xw_E xn_if (xo_if_eq dX9_readsPlace_36 (by decide))) <|
  xw_cons (xw_E xn_aload (xo_aload_n dX9_readsPlace_39 rfl)) <|
  xw_cons (xw_E xn_push (xo_sipush dX9_readsPlace_40 (by decide))) <|
  xw_cons (xl_v_27_272 hG dX9_readsPlace_43) <|
  xw_cons (xw_E xn_if (xo_if_ne dX9_readsPlace_46 (by decide))) <|
  xw_cons (xw_E xn_push (xo_iconst dX9_readsPlace_49 (by decide))) <|
  xw_cons (xw_R (xt_z dX9_readsPlace_50)) <|
  xw_cons (xw_E xn_aload (xo_aload_n dX9_readsPlace_51 rfl)) <|
  xw_cons (xw_E xn_getf (xo_getf hG xg_27_23 dX9_readsPlace_52)) <|
  xw_cons (xw_E xn_push (xo_bipush dX9_readsPlace_55 (by decide))) <|
  xw_cons (xw_E xn_aload (xo_aload_n dX9_readsPlace_57 rfl)) <|
  xw_cons (xw_E xn_getf (xo_getf hG xg_27_13 dX9_readsPlace_58)) <|
  xw_cons (xw_E xn_push (xo_iconst dX9_readsPlace_61 (by decide))) <|
  xw_cons (xw_E xn_ald (xo_iald xk_hB dX9_readsPlace_62)) <|
  xw_cons (xw_E xn_ii (xo_iadd dX9_readsPlace_63)) <|
  xw_cons (xw_E xn_aload (xo_aload_n dX9_readsPlace_64 rfl)) <|
  xw_cons (xw_E xn_getf (xo_getf hG xg_27_184 dX9_readsPlace_65)) <|
  xw_cons (xw_E xn_ast (xo_iast hG xk_hB rfl dX9_readsPlace_68)) <|
  xw_cons (xw_E xn_aload (xo_aload_n dX9_readsPlace_69 rfl)) <|
  xw_cons (xw_E xn_getf (xo_getf hG xg_27_13 dX9_readsPlace_70)) <|
  xw_cons (xw_E xn_push (xo_iconst dX9_readsPlace_73 (by decide))) <|
  xw_cons (xw_E xn_dup2 (xo_dup2 dX9_readsPlace_74)) <|
  xw_cons (xw_E xn_ald (xo_iald xk_hB dX9_readsPlace_75)) <|
  xw_cons (xw_E xn_push (xo_iconst dX9_readsPlace_76 (by decide))) <|
  xw_cons (xw_E xn_ii (xo_iadd dX9_readsPlace_77)) <|
  xw_cons (xw_E xn_ast (xo_iast hG xk_hB rfl dX9_readsPlace_78)) <|
  xw_cons (xw_E xn_aload (xo_aload_n dX9_readsPlace_79 rfl)) <|
  xw_cons (xl_v_27_254 hG dX9_readsPlace_80) <|
  xw_cons (xw_E xn_aload (xo_aload_n dX9_readsPlace_83 rfl)) <|
  xw_cons (xl_v_27_275 hG dX9_readsPlace_84) <|
  xw_cons (xw_R (xt_z dX9_readsPlace_87)) <|
  xw_nil _
def xp_156 : List (Nat × xm_O) := xp_156_0
theorem xq_156 {G : xm_G} (hG : xm_W xk_B G) (hO : xm_Og G) : ∀ q ∈ xp_156, xm_op xk_B G xd xk_N "LiarsCockModel" "readsPlace" prog_28_method_27_code 1 (some (FieldType.boolean)) q.1 q.2 := xq_156_0 hG hO
/- 157: LiarsCockModel.needsWord(J)Z -/
def xp_157_0 : List (Nat × xm_O) := [
  (0, .inl (xe_aload 0 1)),
  (1, .inl (xe_lload 1 2)),
  (2, .inr (.inr (.inl (xc_V (xj_1 8 147) [1])))),
  (5, .inl (xe_if (fun x => decide (¬ x = 0)) 14 8)),
  (8, .inl (xe_aload 0 9)),
  (9, .inl (xe_push (.int 1) 10)),
  (10, .inr (.inr (.inl (xc_V (xj_1 8 149) [0])))),
  (13, .inr (.inl xr_z)),
  (14, .inl (xe_aload 0 15)),
  (15, .inr (.inr (.inl (xc_V (xj_1 8 144) [])))),
  (18, .inl (xe_push (.int 1) 19)),
  (19, .inr (.inl xr_z))]
theorem xq_157_0 {G : xm_G} (hG : xm_W xk_B G) (hO : xm_Og G) : ∀ q ∈ xp_157_0, xm_op xk_B G xd xk_N "LiarsCockModel" "needsWord" prog_28_method_23_code 3 (some (FieldType.boolean)) q.1 q.2 :=
  xw_cons (xw_E xn_aload (xo_aload_n dX9_needsWord_0 rfl)) <|
  xw_cons (xw_E xn_lload (xo_lload_n dX9_needsWord_1 rfl)) <|
  xw_cons (xl_v_27_239 hG dX9_needsWord_2) <|
  xw_cons (xw_E xn_if (xo_if_ne dX9_needsWord_5 (by decide))) <|
  xw_cons (xw_E xn_aload (xo_aload_n dX9_needsWord_8 rfl)) <|
  xw_cons (xw_E xn_push (xo_iconst dX9_needsWord_9 (by decide))) <|
  xw_cons (xl_v_27_247 hG dX9_needsWord_10) <|
  xw_cons (xw_R (xt_z dX9_needsWord_13)) <|
  xw_cons (xw_E xn_aload (xo_aload_n dX9_needsWord_14 rfl)) <|
  xw_cons (xl_v_27_254 hG dX9_needsWord_15) <|
  xw_cons (xw_E xn_push (xo_iconst dX9_needsWord_18 (by decide))) <|
  xw_cons (xw_R (xt_z dX9_needsWord_19)) <|
  xw_nil _
def xp_157 : List (Nat × xm_O) := xp_157_0
theorem xq_157 {G : xm_G} (hG : xm_W xk_B G) (hO : xm_Og G) : ∀ q ∈ xp_157, xm_op xk_B G xd xk_N "LiarsCockModel" "needsWord" prog_28_method_23_code 3 (some (FieldType.boolean)) q.1 q.2 := xq_157_0 hG hO
/- 158: LiarsCockModel.readsPerson()Z -/
def xp_158_0 : List (Nat × xm_O) := [
  (0, .inl (xe_aload 0 1)),
  (1, .inl (xe_getf (xj_1 8 10) 4)),
  (4, .inl (xe_push (.int 5) 5)),
  (5, .inl (xe_ald (fun t => t == 0) 6)),
  (6, .inl (xe_push (.int 6) 8)),
  (8, .inl (xe_icmp (fun x y => decide (¬ x = y)) 17 11)),
  (11, .inl (xe_aload 0 12)),
  (12, .inl (xe_push (.int 5) 13)),
  (13, .inr (.inr (.inl (xc_V (xj_1 8 149) [0])))),
  (16, .inr (.inl xr_z)),
  (17, .inl (xe_aload 0 18)),
  (18, .inr (.inr (.inl (xc_V (xj_1 8 144) [])))),
  (21, .inl (xe_aload 0 22)),
  (22, .inl (xe_push (.int 2) 23)),
  (23, .inr (.inr (.inl (xc_V (xj_1 8 150) [0])))),
  (26, .inl (xe_if (fun x => decide (x = 0)) 39 29)),
  (29, .inl (xe_aload 0 30)),
  (30, .inl (xe_push (.long (47 : Int64)) 33)),
  (33, .inr (.inr (.inl (xc_V (xj_1 8 157) [1])))),
  (36, .inl (xe_if (fun x => decide (¬ x = 0)) 41 39)),
  (39, .inl (xe_push (.int 0) 40)),
  (40, .inr (.inl xr_z)),
  (41, .inl (xe_aload 0 42)),
  (42, .inr (.inr (.inl (xc_V (xj_1 8 151) [])))),
  (45, .inl (xe_if (fun x => decide (x = 0)) 54 48)),
  (48, .inl (xe_aload 0 49)),
  (49, .inl (xe_push (.int 1) 50)),
  (50, .inr (.inr (.inl (xc_V (xj_1 8 149) [0])))),
  (53, .inr (.inl xr_z)),
  (54, .inl (xe_push (.int 6) 56)),
  (56, .inl (xe_aload 0 57)),
  (57, .inl (xe_getf (xj_1 8 10) 60)),
  (60, .inl (xe_push (.int 5) 61)),
  (61, .inl (xe_ald (fun t => t == 0) 62)),
  (62, .inl (xe_ii (fun x y => x + y) 63)),
  (63, .inl (xe_istore 1 64)),
  (64, .inl (xe_aload 0 65)),
  (65, .inl (xe_getf (xj_1 8 14) 68)),
  (68, .inl (xe_iload 1 69)),
  (69, .inl (xe_aload 0 70)),
  (70, .inl (xe_push (.int 1) 71)),
  (71, .inr (.inr (.inl (xc_V (xj_1 8 152) [0])))),
  (74, .inl (xe_ast 300 0 (xm_kd 0) 75)),
  (75, .inl (xe_aload 0 76)),
  (76, .inl (xe_getf (xj_1 8 15) 79)),
  (79, .inl (xe_iload 1 80)),
  (80, .inl (xe_push (.int 0) 81)),
  (81, .inl (xe_ast 300 0 (xm_kd 0) 82)),
  (82, .inl (xe_aload 0 83)),
  (83, .inl (xe_getf (xj_1 8 14) 86))]
theorem xq_158_0 {G : xm_G} (hG : xm_W xk_B G) (hO : xm_Og G) : ∀ q ∈ xp_158_0, xm_op xk_B G xd xk_N "LiarsCockModel" "readsPerson" prog_28_method_28_code 3 (some (FieldType.boolean)) q.1 q.2 :=
  xw_cons (xw_E xn_aload (xo_aload_n dX9_readsPerson_0 rfl)) <|
  xw_cons (xw_E xn_getf (xo_getf hG xg_27_13 dX9_readsPerson_1)) <|
  xw_cons (xw_E xn_push (xo_iconst dX9_readsPerson_4 (by decide))) <|
  xw_cons (xw_E xn_ald (xo_iald xk_hB dX9_readsPerson_5)) <|
  xw_cons (xw_E xn_push (xo_bipush dX9_readsPerson_6 (by decide))) <|
  xw_cons (xw_E xn_icmp (xo_icmp_ne dX9_readsPerson_8 (by decide))) <|
  xw_cons (xw_E xn_aload (xo_aload_n dX9_readsPerson_11 rfl)) <|
  xw_cons (xw_E xn_push (xo_iconst dX9_readsPerson_12 (by decide))) <|
  xw_cons (xl_v_27_247 hG dX9_readsPerson_13) <|
  xw_cons (xw_R (xt_z dX9_readsPerson_16)) <|
  xw_cons (xw_E xn_aload (xo_aload_n dX9_readsPerson_17 rfl)) <|
  xw_cons (xl_v_27_254 hG dX9_readsPerson_18) <|
  xw_cons (xw_E xn_aload (xo_aload_n dX9_readsPerson_21 rfl)) <|
  xw_cons (xw_E xn_push (xo_iconst dX9_readsPerson_22 (by decide))) <|
  xw_cons (xl_v_27_269 hG dX9_readsPerson_23) <|
  xw_cons (xw_E xn_if (xo_if_eq dX9_readsPerson_26 (by decide))) <|
  xw_cons (xw_E xn_aload (xo_aload_n dX9_readsPerson_29 rfl)) <|
  xw_cons (xw_E xn_push (xo_ldc2 hG q1879 dX9_readsPerson_30)) <|
  xw_cons (xl_v_27_278 hG dX9_readsPerson_33) <|
  xw_cons (xw_E xn_if (xo_if_ne dX9_readsPerson_36 (by decide))) <|
  xw_cons (xw_E xn_push (xo_iconst dX9_readsPerson_39 (by decide))) <|
  xw_cons (xw_R (xt_z dX9_readsPerson_40)) <|
  xw_cons (xw_E xn_aload (xo_aload_n dX9_readsPerson_41 rfl)) <|
  xw_cons (xl_v_27_232 hG dX9_readsPerson_42) <|
  xw_cons (xw_E xn_if (xo_if_eq dX9_readsPerson_45 (by decide))) <|
  xw_cons (xw_E xn_aload (xo_aload_n dX9_readsPerson_48 rfl)) <|
  xw_cons (xw_E xn_push (xo_iconst dX9_readsPerson_49 (by decide))) <|
  xw_cons (xl_v_27_247 hG dX9_readsPerson_50) <|
  xw_cons (xw_R (xt_z dX9_readsPerson_53)) <|
  xw_cons (xw_E xn_push (xo_bipush dX9_readsPerson_54 (by decide))) <|
  xw_cons (xw_E xn_aload (xo_aload_n dX9_readsPerson_56 rfl)) <|
  xw_cons (xw_E xn_getf (xo_getf hG xg_27_13 dX9_readsPerson_57)) <|
  xw_cons (xw_E xn_push (xo_iconst dX9_readsPerson_60 (by decide))) <|
  xw_cons (xw_E xn_ald (xo_iald xk_hB dX9_readsPerson_61)) <|
  xw_cons (xw_E xn_ii (xo_iadd dX9_readsPerson_62)) <|
  xw_cons (xw_E xn_istore (xo_istore_n dX9_readsPerson_63 rfl)) <|
  xw_cons (xw_E xn_aload (xo_aload_n dX9_readsPerson_64 rfl)) <|
  xw_cons (xw_E xn_getf (xo_getf hG xg_27_26 dX9_readsPerson_65)) <|
  xw_cons (xw_E xn_iload (xo_iload_n dX9_readsPerson_68 rfl)) <|
  xw_cons (xw_E xn_aload (xo_aload_n dX9_readsPerson_69 rfl)) <|
  xw_cons (xw_E xn_push (xo_iconst dX9_readsPerson_70 (by decide))) <|
  xw_cons (xl_v_27_236 hG dX9_readsPerson_71) <|
  xw_cons (xw_E xn_ast (xo_iast hG xk_hB rfl dX9_readsPerson_74)) <|
  xw_cons (xw_E xn_aload (xo_aload_n dX9_readsPerson_75 rfl)) <|
  xw_cons (xw_E xn_getf (xo_getf hG xg_27_29 dX9_readsPerson_76)) <|
  xw_cons (xw_E xn_iload (xo_iload_n dX9_readsPerson_79 rfl)) <|
  xw_cons (xw_E xn_push (xo_iconst dX9_readsPerson_80 (by decide))) <|
  xw_cons (xw_E xn_ast (xo_iast hG xk_hB rfl dX9_readsPerson_81)) <|
  xw_cons (xw_E xn_aload (xo_aload_n dX9_readsPerson_82 rfl)) <|
  xw_cons (xw_E xn_getf (xo_getf hG xg_27_26 dX9_readsPerson_83)) <|
  xw_nil _
def xp_158_1 : List (Nat × xm_O) := [
  (86, .inl (xe_iload 1 87)),
  (87, .inl (xe_ald (fun t => t == 0) 88)),
  (88, .inl (xe_if (fun x => decide (0 ≤ x)) 97 91)),
  (91, .inl (xe_aload 0 92)),
  (92, .inl (xe_push (.int 2) 93)),
  (93, .inr (.inr (.inl (xc_V (xj_1 8 149) [0])))),
  (96, .inr (.inl xr_z)),
  (97, .inl (xe_aload 0 98)),
  (98, .inr (.inr (.inl (xc_V (xj_1 8 144) [])))),
  (101, .inl (xe_aload 0 102)),
  (102, .inl (xe_push (.long (6132988 : Int64)) 105)),
  (105, .inr (.inr (.inl (xc_V (xj_1 8 157) [1])))),
  (108, .inl (xe_if (fun x => decide (¬ x = 0)) 113 111)),
  (111, .inl (xe_push (.int 0) 112)),
  (112, .inr (.inl xr_z)),
  (113, .inl (xe_aload 0 114)),
  (114, .inr (.inr (.inl (xc_V (xj_1 8 151) [])))),
  (117, .inl (xe_if (fun x => decide (¬ x = 0)) 175 120)),
  (120, .inl (xe_aload 0 121)),
  (121, .inl (xe_push (.int 0) 122)),
  (122, .inr (.inr (.inl (xc_V (xj_1 8 152) [0])))),
  (125, .inl (xe_istore 2 126)),
  (126, .inl (xe_iload 2 127)),
  (127, .inl (xe_if (fun x => decide (0 ≤ x)) 136 130)),
  (130, .inl (xe_aload 0 131)),
  (131, .inl (xe_push (.int 2) 132)),
  (132, .inr (.inr (.inl (xc_V (xj_1 8 149) [0])))),
  (135, .inr (.inl xr_z)),
  (136, .inl (xe_aload 0 137)),
  (137, .inl (xe_getf (xj_1 8 15) 140)),
  (140, .inl (xe_iload 1 141)),
  (141, .inl (xe_ald (fun t => t == 0) 142)),
  (142, .inl (xe_iload 2 143)),
  (143, .inl (xe_ii (fun x y => x >>> (y &&& 31)) 144)),
  (144, .inl (xe_push (.int 1) 145)),
  (145, .inl (xe_ii (fun x y => x &&& y) 146)),
  (146, .inl (xe_push (.int 1) 147)),
  (147, .inl (xe_icmp (fun x y => decide (¬ x = y)) 156 150)),
  (150, .inl (xe_aload 0 151)),
  (151, .inl (xe_push (.int 3) 152)),
  (152, .inr (.inr (.inl (xc_V (xj_1 8 149) [0])))),
  (155, .inr (.inl xr_z)),
  (156, .inl (xe_aload 0 157)),
  (157, .inl (xe_getf (xj_1 8 15) 160)),
  (160, .inl (xe_iload 1 161)),
  (161, .inl (xe_dup2 162)),
  (162, .inl (xe_ald (fun t => t == 0) 163)),
  (163, .inl (xe_push (.int 1) 164)),
  (164, .inl (xe_iload 2 165)),
  (165, .inl (xe_ii (fun x y => x <<< (y &&& 31)) 166))]
theorem xq_158_1 {G : xm_G} (hG : xm_W xk_B G) (hO : xm_Og G) : ∀ q ∈ xp_158_1, xm_op xk_B G xd xk_N "LiarsCockModel" "readsPerson" prog_28_method_28_code 3 (some (FieldType.boolean)) q.1 q.2 :=
  xw_cons (xw_E xn_iload (xo_iload_n dX9_readsPerson_86 rfl)) <|
  xw_cons (xw_E xn_ald (xo_iald xk_hB dX9_readsPerson_87)) <|
  xw_cons (xw_E xn_if (xo_if_ge dX9_readsPerson_88 (by decide))) <|
  xw_cons (xw_E xn_aload (xo_aload_n dX9_readsPerson_91 rfl)) <|
  xw_cons (xw_E xn_push (xo_iconst dX9_readsPerson_92 (by decide))) <|
  xw_cons (xl_v_27_247 hG dX9_readsPerson_93) <|
  xw_cons (xw_R (xt_z dX9_readsPerson_96)) <|
  xw_cons (xw_E xn_aload (xo_aload_n dX9_readsPerson_97 rfl)) <|
  xw_cons (xl_v_27_254 hG dX9_readsPerson_98) <|
  xw_cons (xw_E xn_aload (xo_aload_n dX9_readsPerson_101 rfl)) <|
  xw_cons (xw_E xn_push (xo_ldc2 hG q1880 dX9_readsPerson_102)) <|
  xw_cons (xl_v_27_278 hG dX9_readsPerson_105) <|
  xw_cons (xw_E xn_if (xo_if_ne dX9_readsPerson_108 (by decide))) <|
  xw_cons (xw_E xn_push (xo_iconst dX9_readsPerson_111 (by decide))) <|
  xw_cons (xw_R (xt_z dX9_readsPerson_112)) <|
  xw_cons (xw_E xn_aload (xo_aload_n dX9_readsPerson_113 rfl)) <|
  xw_cons (xl_v_27_232 hG dX9_readsPerson_114) <|
  xw_cons (xw_E xn_if (xo_if_ne dX9_readsPerson_117 (by decide))) <|
  xw_cons (xw_E xn_aload (xo_aload_n dX9_readsPerson_120 rfl)) <|
  xw_cons (xw_E xn_push (xo_iconst dX9_readsPerson_121 (by decide))) <|
  xw_cons (xl_v_27_236 hG dX9_readsPerson_122) <|
  xw_cons (xw_E xn_istore (xo_istore_n dX9_readsPerson_125 rfl)) <|
  xw_cons (xw_E xn_iload (xo_iload_n dX9_readsPerson_126 rfl)) <|
  xw_cons (xw_E xn_if (xo_if_ge dX9_readsPerson_127 (by decide))) <|
  xw_cons (xw_E xn_aload (xo_aload_n dX9_readsPerson_130 rfl)) <|
  xw_cons (xw_E xn_push (xo_iconst dX9_readsPerson_131 (by decide))) <|
  xw_cons (xl_v_27_247 hG dX9_readsPerson_132) <|
  xw_cons (xw_R (xt_z dX9_readsPerson_135)) <|
  xw_cons (xw_E xn_aload (xo_aload_n dX9_readsPerson_136 rfl)) <|
  xw_cons (xw_E xn_getf (xo_getf hG xg_27_29 dX9_readsPerson_137)) <|
  xw_cons (xw_E xn_iload (xo_iload_n dX9_readsPerson_140 rfl)) <|
  xw_cons (xw_E xn_ald (xo_iald xk_hB dX9_readsPerson_141)) <|
  xw_cons (xw_E xn_iload (xo_iload_n dX9_readsPerson_142 rfl)) <|
  xw_cons (xw_E xn_ii (xo_ishr dX9_readsPerson_143)) <|
  xw_cons (xw_E xn_push (xo_iconst dX9_readsPerson_144 (by decide))) <|
  xw_cons (xw_E xn_ii (xo_iand dX9_readsPerson_145)) <|
  xw_cons (xw_E xn_push (xo_iconst dX9_readsPerson_146 (by decide))) <|
  xw_cons (xw_E xn_icmp (xo_icmp_ne dX9_readsPerson_147 (by decide))) <|
  xw_cons (xw_E xn_aload (xo_aload_n dX9_readsPerson_150 rfl)) <|
  xw_cons (xw_E xn_push (xo_iconst dX9_readsPerson_151 (by decide))) <|
  xw_cons (xl_v_27_247 hG dX9_readsPerson_152) <|
  xw_cons (xw_R (xt_z dX9_readsPerson_155)) <|
  xw_cons (xw_E xn_aload (xo_aload_n dX9_readsPerson_156 rfl)) <|
  xw_cons (xw_E xn_getf (xo_getf hG xg_27_29 dX9_readsPerson_157)) <|
  xw_cons (xw_E xn_iload (xo_iload_n dX9_readsPerson_160 rfl)) <|
  xw_cons (xw_E xn_dup2 (xo_dup2 dX9_readsPerson_161)) <|
  xw_cons (xw_E xn_ald (xo_iald xk_hB dX9_readsPerson_162)) <|
  xw_cons (xw_E xn_push (xo_iconst dX9_readsPerson_163 (by decide))) <|
  xw_cons (xw_E xn_iload (xo_iload_n dX9_readsPerson_164 rfl)) <|
  xw_cons (xw_E xn_ii (xo_ishl dX9_readsPerson_165)) <|
  xw_nil _
def xp_158_2 : List (Nat × xm_O) := [
  (166, .inl (xe_ii (fun x y => x ||| y) 167)),
  (167, .inl (xe_ast 300 0 (xm_kd 0) 168)),
  (168, .inl (xe_aload 0 169)),
  (169, .inr (.inr (.inl (xc_V (xj_1 8 144) [])))),
  (172, .inl (xe_goto 113)),
  (175, .inl (xe_aload 0 176)),
  (176, .inl (xe_getf (xj_1 8 10) 179)),
  (179, .inl (xe_push (.int 5) 180)),
  (180, .inl (xe_dup2 181)),
  (181, .inl (xe_ald (fun t => t == 0) 182)),
  (182, .inl (xe_push (.int 1) 183)),
  (183, .inl (xe_ii (fun x y => x + y) 184)),
  (184, .inl (xe_ast 300 0 (xm_kd 0) 185)),
  (185, .inl (xe_aload 0 186)),
  (186, .inr (.inr (.inl (xc_V (xj_1 8 154) [])))),
  (189, .inr (.inl xr_z))]
theorem xq_158_2 {G : xm_G} (hG : xm_W xk_B G) (hO : xm_Og G) : ∀ q ∈ xp_158_2, xm_op xk_B G xd xk_N "LiarsCockModel" "readsPerson" prog_28_method_28_code 3 (some (FieldType.boolean)) q.1 q.2 :=
  xw_cons (xw_E xn_ii (xo_ior dX9_readsPerson_166)) <|
  xw_cons (xw_E xn_ast (xo_iast hG xk_hB rfl dX9_readsPerson_167)) <|
  xw_cons (xw_E xn_aload (xo_aload_n dX9_readsPerson_168 rfl)) <|
  xw_cons (xl_v_27_254 hG dX9_readsPerson_169) <|
  xw_cons (xw_E xn_goto (xo_goto dX9_readsPerson_172 (by decide))) <|
  xw_cons (xw_E xn_aload (xo_aload_n dX9_readsPerson_175 rfl)) <|
  xw_cons (xw_E xn_getf (xo_getf hG xg_27_13 dX9_readsPerson_176)) <|
  xw_cons (xw_E xn_push (xo_iconst dX9_readsPerson_179 (by decide))) <|
  xw_cons (xw_E xn_dup2 (xo_dup2 dX9_readsPerson_180)) <|
  xw_cons (xw_E xn_ald (xo_iald xk_hB dX9_readsPerson_181)) <|
  xw_cons (xw_E xn_push (xo_iconst dX9_readsPerson_182 (by decide))) <|
  xw_cons (xw_E xn_ii (xo_iadd dX9_readsPerson_183)) <|
  xw_cons (xw_E xn_ast (xo_iast hG xk_hB rfl dX9_readsPerson_184)) <|
  xw_cons (xw_E xn_aload (xo_aload_n dX9_readsPerson_185 rfl)) <|
  xw_cons (xl_v_27_275 hG dX9_readsPerson_186) <|
  xw_cons (xw_R (xt_z dX9_readsPerson_189)) <|
  xw_nil _
def xp_158 : List (Nat × xm_O) := xp_158_0 ++ xp_158_1 ++ xp_158_2
theorem xq_158 {G : xm_G} (hG : xm_W xk_B G) (hO : xm_Og G) : ∀ q ∈ xp_158, xm_op xk_B G xd xk_N "LiarsCockModel" "readsPerson" prog_28_method_28_code 3 (some (FieldType.boolean)) q.1 q.2 := xw_app (xw_app (xq_158_0 hG hO) (xq_158_1 hG hO)) (xq_158_2 hG hO)
/- 159: LiarsCockModel.readsCock()Z -/
def xp_159_0 : List (Nat × xm_O) := [
  (0, .inl (xe_aload 0 1)),
  (1, .inr (.inr (.inl (xc_V (xj_1 8 144) [])))),
  (4, .inl (xe_aload 0 5)),
  (5, .inl (xe_push (.int 1) 6)),
  (6, .inr (.inr (.inl (xc_V (xj_1 8 153) [0])))),
  (9, .inl (xe_if (fun x => decide (¬ x = 0)) 14 12)),
  (12, .inl (xe_push (.int 0) 13)),
  (13, .inr (.inl xr_z)),
  (14, .inl (xe_push (.int 2) 15)),
  (15, .inl (xe_aload 0 16)),
  (16, .inl (xe_getf (xj_1 8 8) 19)),
  (19, .inl (xe_ii (fun x y => x + y) 20)),
  (20, .inl (xe_istore 1 21)),
  (21, .inl (xe_aload 0 22)),
  (22, .inl (xe_getf (xj_1 8 36) 25)),
  (25, .inl (xe_aload 0 26)),
  (26, .inl (xe_getf (xj_1 8 8) 29)),
  (29, .inl (xe_ald (fun t => t == 2 || t == 3) 30)),
  (30, .inl (xe_if (fun x => decide (x = 0)) 39 33)),
  (33, .inl (xe_aload 0 34)),
  (34, .inl (xe_push (.int 3) 35)),
  (35, .inr (.inr (.inl (xc_V (xj_1 8 149) [0])))),
  (38, .inr (.inl xr_z)),
  (39, .inl (xe_aload 0 40)),
  (40, .inl (xe_getf (xj_1 8 36) 43)),
  (43, .inl (xe_aload 0 44)),
  (44, .inl (xe_getf (xj_1 8 8) 47)),
  (47, .inl (xe_push (.int 1) 48)),
  (48, .inl (xe_ast 300 2 xm_bit 49)),
  (49, .inl (xe_aload 0 50)),
  (50, .inr (.inr (.inl (xc_V (xj_1 8 144) [])))),
  (53, .inl (xe_aload 0 54)),
  (54, .inl (xe_push (.long (8798 : Int64)) 57)),
  (57, .inr (.inr (.inl (xc_V (xj_1 8 157) [1])))),
  (60, .inl (xe_if (fun x => decide (x = 0)) 71 63)),
  (63, .inl (xe_aload 0 64)),
  (64, .inl (xe_push (.int 1) 65)),
  (65, .inr (.inr (.inl (xc_V (xj_1 8 153) [0])))),
  (68, .inl (xe_if (fun x => decide (¬ x = 0)) 73 71)),
  (71, .inl (xe_push (.int 0) 72)),
  (72, .inr (.inl xr_z)),
  (73, .inl (xe_aload 0 74)),
  (74, .inl (xe_getf (xj_1 8 16) 77)),
  (77, .inl (xe_iload 1 78)),
  (78, .inl (xe_aload 0 79)),
  (79, .inl (xe_getf (xj_1 8 8) 82)),
  (82, .inl (xe_ast 300 0 (xm_kd 0) 83)),
  (83, .inl (xe_aload 0 84)),
  (84, .inr (.inr (.inl (xc_V (xj_1 8 144) [])))),
  (87, .inl (xe_aload 0 88))]
theorem xq_159_0 {G : xm_G} (hG : xm_W xk_B G) (hO : xm_Og G) : ∀ q ∈ xp_159_0, xm_op xk_B G xd xk_N "LiarsCockModel" "readsCock" prog_28_method_29_code 2 (some (FieldType.boolean)) q.1 q.2 :=
  xw_cons (xw_E xn_aload (xo_aload_n dX9_readsCock_0 rfl)) <|
  xw_cons (xl_v_27_254 hG dX9_readsCock_1) <|
  xw_cons (xw_E xn_aload (xo_aload_n dX9_readsCock_4 rfl)) <|
  xw_cons (xw_E xn_push (xo_iconst dX9_readsCock_5 (by decide))) <|
  xw_cons (xl_v_27_272 hG dX9_readsCock_6) <|
  xw_cons (xw_E xn_if (xo_if_ne dX9_readsCock_9 (by decide))) <|
  xw_cons (xw_E xn_push (xo_iconst dX9_readsCock_12 (by decide))) <|
  xw_cons (xw_R (xt_z dX9_readsCock_13)) <|
  xw_cons (xw_E xn_push (xo_iconst dX9_readsCock_14 (by decide))) <|
  xw_cons (xw_E xn_aload (xo_aload_n dX9_readsCock_15 rfl)) <|
  xw_cons (xw_E xn_getf (xo_getf hG xg_27_184 dX9_readsCock_16)) <|
  xw_cons (xw_E xn_ii (xo_iadd dX9_readsCock_19)) <|
  xw_cons (xw_E xn_istore (xo_istore_n dX9_readsCock_20 rfl)) <|
  xw_cons (xw_E xn_aload (xo_aload_n dX9_readsCock_21 rfl)) <|
  xw_cons (xw_E xn_getf (xo_getf hG xg_27_90 dX9_readsCock_22)) <|
  xw_cons (xw_E xn_aload (xo_aload_n dX9_readsCock_25 rfl)) <|
  xw_cons (xw_E xn_getf (xo_getf hG xg_27_184 dX9_readsCock_26)) <|
  xw_cons (xw_E xn_ald (xo_bald xk_hB dX9_readsCock_29)) <|
  xw_cons (xw_E xn_if (xo_if_eq dX9_readsCock_30 (by decide))) <|
  xw_cons (xw_E xn_aload (xo_aload_n dX9_readsCock_33 rfl)) <|
  xw_cons (xw_E xn_push (xo_iconst dX9_readsCock_34 (by decide))) <|
  xw_cons (xl_v_27_247 hG dX9_readsCock_35) <|
  xw_cons (xw_R (xt_z dX9_readsCock_38)) <|
  xw_cons (xw_E xn_aload (xo_aload_n dX9_readsCock_39 rfl)) <|
  xw_cons (xw_E xn_getf (xo_getf hG xg_27_90 dX9_readsCock_40)) <|
  xw_cons (xw_E xn_aload (xo_aload_n dX9_readsCock_43 rfl)) <|
  xw_cons (xw_E xn_getf (xo_getf hG xg_27_184 dX9_readsCock_44)) <|
  xw_cons (xw_E xn_push (xo_iconst dX9_readsCock_47 (by decide))) <|
  xw_cons (xw_E xn_ast (xo_zast hG xk_hB rfl dX9_readsCock_48)) <|
  xw_cons (xw_E xn_aload (xo_aload_n dX9_readsCock_49 rfl)) <|
  xw_cons (xl_v_27_254 hG dX9_readsCock_50) <|
  xw_cons (xw_E xn_aload (xo_aload_n dX9_readsCock_53 rfl)) <|
  xw_cons (xw_E xn_push (xo_ldc2 hG q1883 dX9_readsCock_54)) <|
  xw_cons (xl_v_27_278 hG dX9_readsCock_57) <|
  xw_cons (xw_E xn_if (xo_if_eq dX9_readsCock_60 (by decide))) <|
  xw_cons (xw_E xn_aload (xo_aload_n dX9_readsCock_63 rfl)) <|
  xw_cons (xw_E xn_push (xo_iconst dX9_readsCock_64 (by decide))) <|
  xw_cons (xl_v_27_272 hG dX9_readsCock_65) <|
  xw_cons (xw_E xn_if (xo_if_ne dX9_readsCock_68 (by decide))) <|
  xw_cons (xw_E xn_push (xo_iconst dX9_readsCock_71 (by decide))) <|
  xw_cons (xw_R (xt_z dX9_readsCock_72)) <|
  xw_cons (xw_E xn_aload (xo_aload_n dX9_readsCock_73 rfl)) <|
  xw_cons (xw_E xn_getf (xo_getf hG xg_27_32 dX9_readsCock_74)) <|
  xw_cons (xw_E xn_iload (xo_iload_n dX9_readsCock_77 rfl)) <|
  xw_cons (xw_E xn_aload (xo_aload_n dX9_readsCock_78 rfl)) <|
  xw_cons (xw_E xn_getf (xo_getf hG xg_27_184 dX9_readsCock_79)) <|
  xw_cons (xw_E xn_ast (xo_iast hG xk_hB rfl dX9_readsCock_82)) <|
  xw_cons (xw_E xn_aload (xo_aload_n dX9_readsCock_83 rfl)) <|
  xw_cons (xl_v_27_254 hG dX9_readsCock_84) <|
  xw_cons (xw_E xn_aload (xo_aload_n dX9_readsCock_87 rfl)) <|
  xw_nil _
def xp_159_1 : List (Nat × xm_O) := [
  (88, .inl (xe_push (.long (237470 : Int64)) 91)),
  (91, .inr (.inr (.inl (xc_V (xj_1 8 157) [1])))),
  (94, .inl (xe_if (fun x => decide (x = 0)) 106 97)),
  (97, .inl (xe_aload 0 98)),
  (98, .inl (xe_push (.int 60) 100)),
  (100, .inr (.inr (.inl (xc_V (xj_1 8 153) [0])))),
  (103, .inl (xe_if (fun x => decide (¬ x = 0)) 108 106)),
  (106, .inl (xe_push (.int 0) 107)),
  (107, .inr (.inl xr_z)),
  (108, .inl (xe_aload 0 109)),
  (109, .inl (xe_getf (xj_1 8 17) 112)),
  (112, .inl (xe_iload 1 113)),
  (113, .inl (xe_aload 0 114)),
  (114, .inl (xe_getf (xj_1 8 8) 117)),
  (117, .inl (xe_ast 300 0 (xm_kd 0) 118)),
  (118, .inl (xe_aload 0 119)),
  (119, .inl (xe_getf (xj_1 8 18) 122)),
  (122, .inl (xe_iload 1 123)),
  (123, .inl (xe_push (.int 1) 124)),
  (124, .inl (xe_ast 300 2 xm_bit 125)),
  (125, .inl (xe_aload 0 126)),
  (126, .inr (.inr (.inl (xc_V (xj_1 8 144) [])))),
  (129, .inl (xe_aload 0 130)),
  (130, .inr (.inr (.inl (xc_V (xj_1 8 154) [])))),
  (133, .inr (.inl xr_z))]
theorem xq_159_1 {G : xm_G} (hG : xm_W xk_B G) (hO : xm_Og G) : ∀ q ∈ xp_159_1, xm_op xk_B G xd xk_N "LiarsCockModel" "readsCock" prog_28_method_29_code 2 (some (FieldType.boolean)) q.1 q.2 :=
  xw_cons (xw_E xn_push (xo_ldc2 hG q1884 dX9_readsCock_88)) <|
  xw_cons (xl_v_27_278 hG dX9_readsCock_91) <|
  xw_cons (xw_E xn_if (xo_if_eq dX9_readsCock_94 (by decide))) <|
  xw_cons (xw_E xn_aload (xo_aload_n dX9_readsCock_97 rfl)) <|
  xw_cons (xw_E xn_push (xo_bipush dX9_readsCock_98 (by decide))) <|
  xw_cons (xl_v_27_272 hG dX9_readsCock_100) <|
  xw_cons (xw_E xn_if (xo_if_ne dX9_readsCock_103 (by decide))) <|
  xw_cons (xw_E xn_push (xo_iconst dX9_readsCock_106 (by decide))) <|
  xw_cons (xw_R (xt_z dX9_readsCock_107)) <|
  xw_cons (xw_E xn_aload (xo_aload_n dX9_readsCock_108 rfl)) <|
  xw_cons (xw_E xn_getf (xo_getf hG xg_27_35 dX9_readsCock_109)) <|
  xw_cons (xw_E xn_iload (xo_iload_n dX9_readsCock_112 rfl)) <|
  xw_cons (xw_E xn_aload (xo_aload_n dX9_readsCock_113 rfl)) <|
  xw_cons (xw_E xn_getf (xo_getf hG xg_27_184 dX9_readsCock_114)) <|
  xw_cons (xw_E xn_ast (xo_iast hG xk_hB rfl dX9_readsCock_117)) <|
  xw_cons (xw_E xn_aload (xo_aload_n dX9_readsCock_118 rfl)) <|
  xw_cons (xw_E xn_getf (xo_getf hG xg_27_38 dX9_readsCock_119)) <|
  xw_cons (xw_E xn_iload (xo_iload_n dX9_readsCock_122 rfl)) <|
  xw_cons (xw_E xn_push (xo_iconst dX9_readsCock_123 (by decide))) <|
  xw_cons (xw_E xn_ast (xo_zast hG xk_hB rfl dX9_readsCock_124)) <|
  xw_cons (xw_E xn_aload (xo_aload_n dX9_readsCock_125 rfl)) <|
  xw_cons (xl_v_27_254 hG dX9_readsCock_126) <|
  xw_cons (xw_E xn_aload (xo_aload_n dX9_readsCock_129 rfl)) <|
  xw_cons (xl_v_27_275 hG dX9_readsCock_130) <|
  xw_cons (xw_R (xt_z dX9_readsCock_133)) <|
  xw_nil _
def xp_159 : List (Nat × xm_O) := xp_159_0 ++ xp_159_1
theorem xq_159 {G : xm_G} (hG : xm_W xk_B G) (hO : xm_Og G) : ∀ q ∈ xp_159, xm_op xk_B G xd xk_N "LiarsCockModel" "readsCock" prog_28_method_29_code 2 (some (FieldType.boolean)) q.1 q.2 := xw_app (xq_159_0 hG hO) (xq_159_1 hG hO)
/- 160: LiarsCockModel.readsCommon()Z -/
def xp_160_0 : List (Nat × xm_O) := [
  (0, .inl (xe_aload 0 1)),
  (1, .inl (xe_getf (xj_1 8 38) 4)),
  (4, .inl (xe_push (.int 4) 5)),
  (5, .inl (xe_icmp (fun x y => decide (¬ x = y)) 14 8)),
  (8, .inl (xe_aload 0 9)),
  (9, .inl (xe_push (.int 5) 10)),
  (10, .inr (.inr (.inl (xc_V (xj_1 8 149) [0])))),
  (13, .inr (.inl xr_z)),
  (14, .inl (xe_aload 0 15)),
  (15, .inr (.inr (.inl (xc_V (xj_1 8 144) [])))),
  (18, .inl (xe_aload 0 19)),
  (19, .inl (xe_push (.int 0) 20)),
  (20, .inr (.inr (.inl (xc_V (xj_1 8 161) [0])))),
  (23, .inl (xe_if (fun x => decide (¬ x = 0)) 28 26)),
  (26, .inl (xe_push (.int 0) 27)),
  (27, .inr (.inl xr_z)),
  (28, .inl (xe_aload 0 29)),
  (29, .inl (xe_getf (xj_1 8 39) 32)),
  (32, .inl (xe_aload 0 33)),
  (33, .inl (xe_getf (xj_1 8 38) 36)),
  (36, .inl (xe_aload 0 37)),
  (37, .inl (xe_push (.int 6) 39)),
  (39, .inr (.inr (.inl (xc_V (xj_1 8 163) [0])))),
  (42, .inl (xe_ast 300 1 (xm_kd 1) 43)),
  (43, .inl (xe_aload 0 44)),
  (44, .inl (xe_dup 45)),
  (45, .inl (xe_getf (xj_1 8 38) 48)),
  (48, .inl (xe_push (.int 1) 49)),
  (49, .inl (xe_ii (fun x y => x + y) 50)),
  (50, .inl (xe_putf 300 0 (xj_1 8 38) 53)),
  (53, .inl (xe_aload 0 54)),
  (54, .inr (.inr (.inl (xc_V (xj_1 8 154) [])))),
  (57, .inr (.inl xr_z))]
theorem xq_160_0 {G : xm_G} (hG : xm_W xk_B G) (hO : xm_Og G) : ∀ q ∈ xp_160_0, xm_op xk_B G xd xk_N "LiarsCockModel" "readsCommon" prog_28_method_30_code 1 (some (FieldType.boolean)) q.1 q.2 :=
  xw_cons (xw_E xn_aload (xo_aload_n dX9_readsCommon_0 rfl)) <|
  xw_cons (xw_E xn_getf (xo_getf hG xg_27_281 dX9_readsCommon_1)) <|
  xw_cons (xw_E xn_push (xo_iconst dX9_readsCommon_4 (by decide))) <|
  xw_cons (xw_E xn_icmp (xo_icmp_ne dX9_readsCommon_5 (by decide))) <|
  xw_cons (xw_E xn_aload (xo_aload_n dX9_readsCommon_8 rfl)) <|
  xw_cons (xw_E xn_push (xo_iconst dX9_readsCommon_9 (by decide))) <|
  xw_cons (xl_v_27_247 hG dX9_readsCommon_10) <|
  xw_cons (xw_R (xt_z dX9_readsCommon_13)) <|
  xw_cons (xw_E xn_aload (xo_aload_n dX9_readsCommon_14 rfl)) <|
  xw_cons (xl_v_27_254 hG dX9_readsCommon_15) <|
  xw_cons (xw_E xn_aload (xo_aload_n dX9_readsCommon_18 rfl)) <|
  xw_cons (xw_E xn_push (xo_iconst dX9_readsCommon_19 (by decide))) <|
  xw_cons (xl_v_27_284 hG dX9_readsCommon_20) <|
  xw_cons (xw_E xn_if (xo_if_ne dX9_readsCommon_23 (by decide))) <|
  xw_cons (xw_E xn_push (xo_iconst dX9_readsCommon_26 (by decide))) <|
  xw_cons (xw_R (xt_z dX9_readsCommon_27)) <|
  xw_cons (xw_E xn_aload (xo_aload_n dX9_readsCommon_28 rfl)) <|
  xw_cons (xw_E xn_getf (xo_getf hG xg_27_93 dX9_readsCommon_29)) <|
  xw_cons (xw_E xn_aload (xo_aload_n dX9_readsCommon_32 rfl)) <|
  xw_cons (xw_E xn_getf (xo_getf hG xg_27_281 dX9_readsCommon_33)) <|
  xw_cons (xw_E xn_aload (xo_aload_n dX9_readsCommon_36 rfl)) <|
  xw_cons (xw_E xn_push (xo_bipush dX9_readsCommon_37 (by decide))) <|
  xw_cons (xl_v_27_288 hG dX9_readsCommon_39) <|
  xw_cons (xw_E xn_ast (xo_last hG xk_hB rfl dX9_readsCommon_42)) <|
  xw_cons (xw_E xn_aload (xo_aload_n dX9_readsCommon_43 rfl)) <|
  xw_cons (xw_E xn_dup (xo_dup dX9_readsCommon_44)) <|
  xw_cons (xw_E xn_getf (xo_getf hG xg_27_281 dX9_readsCommon_45)) <|
  xw_cons (xw_E xn_push (xo_iconst dX9_readsCommon_48 (by decide))) <|
  xw_cons (xw_E xn_ii (xo_iadd dX9_readsCommon_49)) <|
  xw_cons (xw_E xn_putf (xo_putf hG rfl xu_27_281 dX9_readsCommon_50)) <|
  xw_cons (xw_E xn_aload (xo_aload_n dX9_readsCommon_53 rfl)) <|
  xw_cons (xl_v_27_275 hG dX9_readsCommon_54) <|
  xw_cons (xw_R (xt_z dX9_readsCommon_57)) <|
  xw_nil _
def xp_160 : List (Nat × xm_O) := xp_160_0
theorem xq_160 {G : xm_G} (hG : xm_W xk_B G) (hO : xm_Og G) : ∀ q ∈ xp_160, xm_op xk_B G xd xk_N "LiarsCockModel" "readsCommon" prog_28_method_30_code 1 (some (FieldType.boolean)) q.1 q.2 := xq_160_0 hG hO
/- 161: LiarsCockModel.reads(Z)Z -/
def xp_161_0 : List (Nat × xm_O) := [
  (0, .inl (xe_push (.int 0) 1)),
  (1, .inl (xe_istore 2 2)),
  (2, .inl (xe_push (.int 1) 3)),
  (3, .inl (xe_istore 3 4)),
  (4, .inl (xe_aload 0 5)),
  (5, .inl (xe_getf (xj_1 8 25) 8)),
  (8, .inl (xe_push (.int 0) 9)),
  (9, .inl (xe_push (.int 0) 10)),
  (10, .inl (xe_ast 300 2 xm_bit 11)),
  (11, .inl (xe_aload 0 12)),
  (12, .inl (xe_push (.int 0) 13)),
  (13, .inl (xe_putf 300 0 (xj_1 8 23) 16)),
  (16, .inl (xe_iload 3 17)),
  (17, .inl (xe_if (fun x => decide (x = 0)) 230 20)),
  (20, .inl (xe_aload 0 21)),
  (21, .inr (.inr (.inl (xc_V (xj_1 8 151) [])))),
  (24, .inl (xe_if (fun x => decide (¬ x = 0)) 31 27)),
  (27, .inl (xe_push (.int 1) 28)),
  (28, .inl (xe_goto 32)),
  (31, .inl (xe_push (.int 0) 32)),
  (32, .inl (xe_istore 4 34)),
  (34, .inl (xe_iload 4 36)),
  (36, .inl (xe_if (fun x => decide (x = 0)) 47 39)),
  (39, .inl (xe_aload 0 40)),
  (40, .inl (xe_push (.int 0) 41)),
  (41, .inr (.inr (.inl (xc_V (xj_1 8 152) [0])))),
  (44, .inl (xe_goto 48)),
  (47, .inl (xe_push (.int (-1)) 48)),
  (48, .inl (xe_istore 5 50)),
  (50, .inl (xe_aload 0 51)),
  (51, .inl (xe_push (.long (10631 : Int64)) 54)),
  (54, .inr (.inr (.inl (xc_V (xj_1 8 147) [1])))),
  (57, .inl (xe_istore 6 59)),
  (59, .inl (xe_aload 0 60)),
  (60, .inl (xe_push (.int 40) 62)),
  (62, .inr (.inr (.inl (xc_V (xj_1 8 155) [0])))),
  (65, .inl (xe_istore 7 67)),
  (67, .inl (xe_iload 4 69)),
  (69, .inl (xe_if (fun x => decide (x = 0)) 83 72)),
  (72, .inl (xe_iload 5 74)),
  (74, .inl (xe_if (fun x => decide (0 ≤ x)) 83 77)),
  (77, .inl (xe_aload 0 78)),
  (78, .inl (xe_push (.int 2) 79)),
  (79, .inr (.inr (.inl (xc_V (xj_1 8 149) [0])))),
  (82, .inr (.inl xr_z)),
  (83, .inl (xe_iload 4 85)),
  (85, .inl (xe_if (fun x => decide (¬ x = 0)) 112 88)),
  (88, .inl (xe_iload 6 90)),
  (90, .inl (xe_if (fun x => decide (¬ x = 0)) 112 93)),
  (93, .inl (xe_iload 7 95))]
theorem xq_161_0 {G : xm_G} (hG : xm_W xk_B G) (hO : xm_Og G) : ∀ q ∈ xp_161_0, xm_op xk_B G xd xk_N "LiarsCockModel" "reads" prog_28_method_16_code 8 (some (FieldType.boolean)) q.1 q.2 :=
  xw_cons (xw_E xn_push (xo_iconst dX9_reads_0 (by decide))) <|
  xw_cons (xw_E xn_istore (xo_istore_n dX9_reads_1 rfl)) <|
  xw_cons (xw_E xn_push (xo_iconst dX9_reads_2 (by decide))) <|
  xw_cons (xw_E xn_istore (xo_istore_n dX9_reads_3 rfl)) <|
  xw_cons (xw_E xn_aload (xo_aload_n dX9_reads_4 rfl)) <|
  xw_cons (xw_E xn_getf (xo_getf hG xg_27_57 dX9_reads_5)) <|
  xw_cons (xw_E xn_push (xo_iconst dX9_reads_8 (by decide))) <|
  xw_cons (xw_E xn_push (xo_iconst dX9_reads_9 (by decide))) <|
  xw_cons (xw_E xn_ast (xo_zast hG xk_hB rfl dX9_reads_10)) <|
  xw_cons (xw_E xn_aload (xo_aload_n dX9_reads_11 rfl)) <|
  xw_cons (xw_E xn_push (xo_iconst dX9_reads_12 (by decide))) <|
  xw_cons (xw_E xn_putf (xo_putf hG rfl xu_27_201 dX9_reads_13)) <|
  xw_cons (xw_E xn_iload (xo_iload_n dX9_reads_16 rfl)) <|
  xw_cons (xw_E xn_if (xo_if_eq dX9_reads_17 (by decide))) <|
  xw_cons (xw_E xn_aload (xo_aload_n dX9_reads_20 rfl)) <|
  xw_cons (xl_v_27_232 hG dX9_reads_21) <|
  xw_cons (xw_E xn_if (xo_if_ne dX9_reads_24 (by decide))) <|
  xw_cons (xw_E xn_push (xo_iconst dX9_reads_27 (by decide))) <|
  xw_cons (xw_E xn_goto (xo_goto dX9_reads_28 (by decide))) <|
  xw_cons (xw_E xn_push (xo_iconst dX9_reads_31 (by decide))) <|
  xw_cons (xw_E xn_istore (xo_istore dX9_reads_32)) <|
  xw_cons (xw_E xn_iload (xo_iload dX9_reads_34)) <|
  xw_cons (xw_E xn_if (xo_if_eq dX9_reads_36 (by decide))) <|
  xw_cons (xw_E xn_aload (xo_aload_n dX9_reads_39 rfl)) <|
  xw_cons (xw_E xn_push (xo_iconst dX9_reads_40 (by decide))) <|
  xw_cons (xl_v_27_236 hG dX9_reads_41) <|
  xw_cons (xw_E xn_goto (xo_goto dX9_reads_44 (by decide))) <|
  xw_cons (xw_E xn_push (xo_iconst dX9_reads_47 (by decide))) <|
  xw_cons (xw_E xn_istore (xo_istore dX9_reads_48)) <|
  xw_cons (xw_E xn_aload (xo_aload_n dX9_reads_50 rfl)) <|
  xw_cons (xw_E xn_push (xo_ldc2 hG q1885 dX9_reads_51)) <|
  xw_cons (xl_v_27_239 hG dX9_reads_54) <|
  xw_cons (xw_E xn_istore (xo_istore dX9_reads_57)) <|
  xw_cons (xw_E xn_aload (xo_aload_n dX9_reads_59 rfl)) <|
  xw_cons (xw_E xn_push (xo_bipush dX9_reads_60 (by decide))) <|
  xw_cons (xl_v_27_243 hG dX9_reads_62) <|
  xw_cons (xw_E xn_istore (xo_istore dX9_reads_65)) <|
  xw_cons (xw_E xn_iload (xo_iload dX9_reads_67)) <|
  xw_cons (xw_E xn_if (xo_if_eq dX9_reads_69 (by decide))) <|
  xw_cons (xw_E xn_iload (xo_iload dX9_reads_72)) <|
  xw_cons (xw_E xn_if (xo_if_ge dX9_reads_74 (by decide))) <|
  xw_cons (xw_E xn_aload (xo_aload_n dX9_reads_77 rfl)) <|
  xw_cons (xw_E xn_push (xo_iconst dX9_reads_78 (by decide))) <|
  xw_cons (xl_v_27_247 hG dX9_reads_79) <|
  xw_cons (xw_R (xt_z dX9_reads_82)) <|
  xw_cons (xw_E xn_iload (xo_iload dX9_reads_83)) <|
  xw_cons (xw_E xn_if (xo_if_ne dX9_reads_85 (by decide))) <|
  xw_cons (xw_E xn_iload (xo_iload dX9_reads_88)) <|
  xw_cons (xw_E xn_if (xo_if_ne dX9_reads_90 (by decide))) <|
  xw_cons (xw_E xn_iload (xo_iload dX9_reads_93)) <|
  xw_nil _
def xp_161_1 : List (Nat × xm_O) := [
  (95, .inl (xe_if (fun x => decide (¬ x = 0)) 112 98)),
  (98, .inl (xe_aload 0 99)),
  (99, .inl (xe_getf (xj_1 8 6) 102)),
  (102, .inl (xe_push (.int 2) 103)),
  (103, .inl (xe_icmp (fun x y => decide (x = y)) 112 106)),
  (106, .inl (xe_aload 0 107)),
  (107, .inl (xe_push (.int 1) 108)),
  (108, .inr (.inr (.inl (xc_V (xj_1 8 149) [0])))),
  (111, .inr (.inl xr_z)),
  (112, .inl (xe_iload 2 113)),
  (113, .inl (xe_push (.int 5) 114)),
  (114, .inl (xe_icmp (fun x y => decide (¬ x = y)) 123 117)),
  (117, .inl (xe_aload 0 118)),
  (118, .inl (xe_push (.int 5) 119)),
  (119, .inr (.inr (.inl (xc_V (xj_1 8 149) [0])))),
  (122, .inr (.inl xr_z)),
  (123, .inl (xe_iload 6 125)),
  (125, .inl (xe_if (fun x => decide (¬ x = 0)) 133 128)),
  (128, .inl (xe_iload 7 130)),
  (130, .inl (xe_if (fun x => decide (x = 0)) 178 133)),
  (133, .inl (xe_aload 0 134)),
  (134, .inl (xe_iload 6 136)),
  (136, .inl (xe_if (fun x => decide (x = 0)) 144 139)),
  (139, .inl (xe_push (.int 30) 141)),
  (141, .inl (xe_goto 146)),
  (144, .inl (xe_push (.int 28) 146)),
  (146, .inr (.inr (.inl (xc_V (xj_1 8 162) [0])))),
  (149, .inl (xe_iinc 2 1 152)),
  (152, .inl (xe_aload 0 153)),
  (153, .inl (xe_getf (xj_1 8 24) 156)),
  (156, .inl (xe_iload 2 157)),
  (157, .inl (xe_iload 6 159)),
  (159, .inl (xe_if (fun x => decide (x = 0)) 166 162)),
  (162, .inl (xe_push (.int 1) 163)),
  (163, .inl (xe_goto 167)),
  (166, .inl (xe_push (.int 2) 167)),
  (167, .inl (xe_ast 300 0 (xm_kd 0) 168)),
  (168, .inl (xe_aload 0 169)),
  (169, .inl (xe_getf (xj_1 8 25) 172)),
  (172, .inl (xe_iload 2 173)),
  (173, .inl (xe_push (.int 0) 174)),
  (174, .inl (xe_ast 300 2 xm_bit 175)),
  (175, .inl (xe_goto 223)),
  (178, .inl (xe_aload 0 179)),
  (179, .inl (xe_iload 4 181)),
  (181, .inl (xe_if (fun x => decide (x = 0)) 191 184)),
  (184, .inl (xe_push (.int 1) 185)),
  (185, .inl (xe_iload 5 187)),
  (187, .inl (xe_ii (fun x y => x + y) 188)),
  (188, .inl (xe_goto 198))]
theorem xq_161_1 {G : xm_G} (hG : xm_W xk_B G) (hO : xm_Og G) : ∀ q ∈ xp_161_1, xm_op xk_B G xd xk_N "LiarsCockModel" "reads" prog_28_method_16_code 8 (some (FieldType.boolean)) q.1 q.2 :=
  xw_cons (xw_E xn_if (xo_if_ne dX9_reads_95 (by decide))) <|
  xw_cons (xw_E xn_aload (xo_aload_n dX9_reads_98 rfl)) <|
  xw_cons (xw_E xn_getf (xo_getf hG xg_27_187 dX9_reads_99)) <|
  xw_cons (xw_E xn_push (xo_iconst dX9_reads_102 (by decide))) <|
  xw_cons (xw_E xn_icmp (xo_icmp_eq dX9_reads_103 (by decide))) <|
  xw_cons (xw_E xn_aload (xo_aload_n dX9_reads_106 rfl)) <|
  xw_cons (xw_E xn_push (xo_iconst dX9_reads_107 (by decide))) <|
  xw_cons (xl_v_27_247 hG dX9_reads_108) <|
  xw_cons (xw_R (xt_z dX9_reads_111)) <|
  xw_cons (xw_E xn_iload (xo_iload_n dX9_reads_112 rfl)) <|
  xw_cons (xw_E xn_push (xo_iconst dX9_reads_113 (by decide))) <|
  xw_cons (xw_E xn_icmp (xo_icmp_ne dX9_reads_114 (by decide))) <|
  xw_cons (xw_E xn_aload (xo_aload_n dX9_reads_117 rfl)) <|
  xw_cons (xw_E xn_push (xo_iconst dX9_reads_118 (by decide))) <|
  xw_cons (xl_v_27_247 hG dX9_reads_119) <|
  xw_cons (xw_R (xt_z dX9_reads_122)) <|
  xw_cons (xw_E xn_iload (xo_iload dX9_reads_123)) <|
  xw_cons (xw_E xn_if (xo_if_ne dX9_reads_125 (by decide))) <|
  xw_cons (xw_E xn_iload (xo_iload dX9_reads_128)) <|
  xw_cons (xw_E xn_if (xo_if_eq dX9_reads_130 (by decide))) <|
  xw_cons (xw_E xn_aload (xo_aload_n dX9_reads_133 rfl)) <|
  xw_cons (xw_E xn_iload (xo_iload dX9_reads_134)) <|
  xw_cons (xw_E xn_if (xo_if_eq dX9_reads_136 (by decide))) <|
  xw_cons (xw_E xn_push (xo_bipush dX9_reads_139 (by decide))) <|
  xw_cons (xw_E xn_goto (xo_goto dX9_reads_141 (by decide))) <|
  xw_cons (xw_E xn_push (xo_bipush dX9_reads_144 (by decide))) <|
  xw_cons (xl_v_27_250 hG dX9_reads_146) <|
  xw_cons (xw_E xn_iinc (xo_iinc dX9_reads_149 (by decide))) <|
  xw_cons (xw_E xn_aload (xo_aload_n dX9_reads_152 rfl)) <|
  xw_cons (xw_E xn_getf (xo_getf hG xg_27_54 dX9_reads_153)) <|
  xw_cons (xw_E xn_iload (xo_iload_n dX9_reads_156 rfl)) <|
  xw_cons (xw_E xn_iload (xo_iload dX9_reads_157)) <|
  xw_cons (xw_E xn_if (xo_if_eq dX9_reads_159 (by decide))) <|
  xw_cons (xw_E xn_push (xo_iconst dX9_reads_162 (by decide))) <|
  xw_cons (xw_E xn_goto (xo_goto dX9_reads_163 (by decide))) <|
  xw_cons (xw_E xn_push (xo_iconst dX9_reads_166 (by decide))) <|
  xw_cons (xw_E xn_ast (xo_iast hG xk_hB rfl dX9_reads_167)) <|
  xw_cons (xw_E xn_aload (xo_aload_n dX9_reads_168 rfl)) <|
  xw_cons (xw_E xn_getf (xo_getf hG xg_27_57 dX9_reads_169)) <|
  xw_cons (xw_E xn_iload (xo_iload_n dX9_reads_172 rfl)) <|
  xw_cons (xw_E xn_push (xo_iconst dX9_reads_173 (by decide))) <|
  xw_cons (xw_E xn_ast (xo_zast hG xk_hB rfl dX9_reads_174)) <|
  xw_cons (xw_E xn_goto (xo_goto dX9_reads_175 (by decide))) <|
  xw_cons (xw_E xn_aload (xo_aload_n dX9_reads_178 rfl)) <|
  xw_cons (xw_E xn_iload (xo_iload dX9_reads_179)) <|
  xw_cons (xw_E xn_if (xo_if_eq dX9_reads_181 (by decide))) <|
  xw_cons (xw_E xn_push (xo_iconst dX9_reads_184 (by decide))) <|
  xw_cons (xw_E xn_iload (xo_iload dX9_reads_185)) <|
  xw_cons (xw_E xn_ii (xo_iadd dX9_reads_187)) <|
  xw_cons (xw_E xn_goto (xo_goto dX9_reads_188 (by decide))) <|
  xw_nil _
def xp_161_2 : List (Nat × xm_O) := [
  (191, .inl (xe_push (.int 100) 193)),
  (193, .inl (xe_aload 0 194)),
  (194, .inl (xe_getf (xj_1 8 8) 197)),
  (197, .inl (xe_ii (fun x y => x + y) 198)),
  (198, .inr (.inr (.inl (xc_V (xj_1 8 162) [0])))),
  (201, .inl (xe_push (.int 0) 202)),
  (202, .inl (xe_istore 3 203)),
  (203, .inl (xe_iload 2 204)),
  (204, .inl (xe_if (fun x => decide (x ≤ 0)) 223 207)),
  (207, .inl (xe_aload 0 208)),
  (208, .inl (xe_getf (xj_1 8 24) 211)),
  (211, .inl (xe_iload 2 212)),
  (212, .inl (xe_ald (fun t => t == 0) 213)),
  (213, .inl (xe_push (.int 1) 214)),
  (214, .inl (xe_icmp (fun x y => decide (¬ x = y)) 223 217)),
  (217, .inl (xe_iinc 2 (-1) 220)),
  (220, .inl (xe_goto 203)),
  (223, .inl (xe_aload 0 224)),
  (224, .inr (.inr (.inl (xc_V (xj_1 8 144) [])))),
  (227, .inl (xe_goto 16)),
  (230, .inl (xe_aload 0 231)),
  (231, .inl (xe_push (.int 43) 233)),
  (233, .inr (.inr (.inl (xc_V (xj_1 8 155) [0])))),
  (236, .inl (xe_if (fun x => decide (¬ x = 0)) 257 239)),
  (239, .inl (xe_aload 0 240)),
  (240, .inl (xe_push (.int 45) 242)),
  (242, .inr (.inr (.inl (xc_V (xj_1 8 155) [0])))),
  (245, .inl (xe_if (fun x => decide (¬ x = 0)) 257 248)),
  (248, .inl (xe_aload 0 249)),
  (249, .inl (xe_push (.int 42) 251)),
  (251, .inr (.inr (.inl (xc_V (xj_1 8 155) [0])))),
  (254, .inl (xe_if (fun x => decide (x = 0)) 296 257)),
  (257, .inl (xe_aload 0 258)),
  (258, .inl (xe_aload 0 259)),
  (259, .inl (xe_push (.int 43) 261)),
  (261, .inr (.inr (.inl (xc_V (xj_1 8 155) [0])))),
  (264, .inl (xe_if (fun x => decide (x = 0)) 272 267)),
  (267, .inl (xe_push (.int 20) 269)),
  (269, .inl (xe_goto 288)),
  (272, .inl (xe_aload 0 273)),
  (273, .inl (xe_push (.int 45) 275)),
  (275, .inr (.inr (.inl (xc_V (xj_1 8 155) [0])))),
  (278, .inl (xe_if (fun x => decide (x = 0)) 286 281)),
  (281, .inl (xe_push (.int 21) 283)),
  (283, .inl (xe_goto 288)),
  (286, .inl (xe_push (.int 22) 288)),
  (288, .inr (.inr (.inl (xc_V (xj_1 8 162) [0])))),
  (291, .inl (xe_push (.int 1) 292)),
  (292, .inl (xe_istore 3 293)),
  (293, .inl (xe_goto 495))]
theorem xq_161_2 {G : xm_G} (hG : xm_W xk_B G) (hO : xm_Og G) : ∀ q ∈ xp_161_2, xm_op xk_B G xd xk_N "LiarsCockModel" "reads" prog_28_method_16_code 8 (some (FieldType.boolean)) q.1 q.2 :=
  xw_cons (xw_E xn_push (xo_bipush dX9_reads_191 (by decide))) <|
  xw_cons (xw_E xn_aload (xo_aload_n dX9_reads_193 rfl)) <|
  xw_cons (xw_E xn_getf (xo_getf hG xg_27_184 dX9_reads_194)) <|
  xw_cons (xw_E xn_ii (xo_iadd dX9_reads_197)) <|
  xw_cons (xl_v_27_250 hG dX9_reads_198) <|
  xw_cons (xw_E xn_push (xo_iconst dX9_reads_201 (by decide))) <|
  xw_cons (xw_E xn_istore (xo_istore_n dX9_reads_202 rfl)) <|
  xw_cons (xw_E xn_iload (xo_iload_n dX9_reads_203 rfl)) <|
  xw_cons (xw_E xn_if (xo_if_le dX9_reads_204 (by decide))) <|
  xw_cons (xw_E xn_aload (xo_aload_n dX9_reads_207 rfl)) <|
  xw_cons (xw_E xn_getf (xo_getf hG xg_27_54 dX9_reads_208)) <|
  xw_cons (xw_E xn_iload (xo_iload_n dX9_reads_211 rfl)) <|
  xw_cons (xw_E xn_ald (xo_iald xk_hB dX9_reads_212)) <|
  xw_cons (xw_E xn_push (xo_iconst dX9_reads_213 (by decide))) <|
  xw_cons (xw_E xn_icmp (xo_icmp_ne dX9_reads_214 (by decide))) <|
  xw_cons (xw_E xn_iinc (xo_iinc dX9_reads_217 (by decide))) <|
  xw_cons (xw_E xn_goto (xo_goto dX9_reads_220 (by decide))) <|
  xw_cons (xw_E xn_aload (xo_aload_n dX9_reads_223 rfl)) <|
  xw_cons (xl_v_27_254 hG dX9_reads_224) <|
  xw_cons (xw_E xn_goto (xo_goto dX9_reads_227 (by decide))) <|
  xw_cons (xw_E xn_aload (xo_aload_n dX9_reads_230 rfl)) <|
  xw_cons (xw_E xn_push (xo_bipush dX9_reads_231 (by decide))) <|
  xw_cons (xl_v_27_243 hG dX9_reads_233) <|
  xw_cons (xw_E xn_if (xo_if_ne dX9_reads_236 (by decide))) <|
  xw_cons (xw_E xn_aload (xo_aload_n dX9_reads_239 rfl)) <|
  xw_cons (xw_E xn_push (xo_bipush dX9_reads_240 (by decide))) <|
  xw_cons (xl_v_27_243 hG dX9_reads_242) <|
  xw_cons (xw_E xn_if (xo_if_ne dX9_reads_245 (by decide))) <|
  xw_cons (xw_E xn_aload (xo_aload_n dX9_reads_248 rfl)) <|
  xw_cons (xw_E xn_push (xo_bipush dX9_reads_249 (by decide))) <|
  xw_cons (xl_v_27_243 hG dX9_reads_251) <|
  xw_cons (xw_E xn_if (xo_if_eq dX9_reads_254 (by decide))) <|
  xw_cons (xw_E xn_aload (xo_aload_n dX9_reads_257 rfl)) <|
  xw_cons (xw_E xn_aload (xo_aload_n dX9_reads_258 rfl)) <|
  xw_cons (xw_E xn_push (xo_bipush dX9_reads_259 (by decide))) <|
  xw_cons (xl_v_27_243 hG dX9_reads_261) <|
  xw_cons (xw_E xn_if (xo_if_eq dX9_reads_264 (by decide))) <|
  xw_cons (xw_E xn_push (xo_bipush dX9_reads_267 (by decide))) <|
  xw_cons (xw_E xn_goto (xo_goto dX9_reads_269 (by decide))) <|
  xw_cons (xw_E xn_aload (xo_aload_n dX9_reads_272 rfl)) <|
  xw_cons (xw_E xn_push (xo_bipush dX9_reads_273 (by decide))) <|
  xw_cons (xl_v_27_243 hG dX9_reads_275) <|
  xw_cons (xw_E xn_if (xo_if_eq dX9_reads_278 (by decide))) <|
  xw_cons (xw_E xn_push (xo_bipush dX9_reads_281 (by decide))) <|
  xw_cons (xw_E xn_goto (xo_goto dX9_reads_283 (by decide))) <|
  xw_cons (xw_E xn_push (xo_bipush dX9_reads_286 (by decide))) <|
  xw_cons (xl_v_27_250 hG dX9_reads_288) <|
  xw_cons (xw_E xn_push (xo_iconst dX9_reads_291 (by decide))) <|
  xw_cons (xw_E xn_istore (xo_istore_n dX9_reads_292 rfl)) <|
  xw_cons (xw_E xn_goto (xo_goto dX9_reads_293 (by decide))) <|
  xw_nil _
def xp_161_3 : List (Nat × xm_O) := [
  (296, .inl (xe_aload 0 297)),
  (297, .inl (xe_push (.int 60) 299)),
  (299, .inr (.inr (.inl (xc_V (xj_1 8 155) [0])))),
  (302, .inl (xe_if (fun x => decide (¬ x = 0)) 314 305)),
  (305, .inl (xe_aload 0 306)),
  (306, .inl (xe_push (.int 61) 308)),
  (308, .inr (.inr (.inl (xc_V (xj_1 8 155) [0])))),
  (311, .inl (xe_if (fun x => decide (x = 0)) 355 314)),
  (314, .inl (xe_aload 0 315)),
  (315, .inl (xe_getf (xj_1 8 25) 318)),
  (318, .inl (xe_iload 2 319)),
  (319, .inl (xe_ald (fun t => t == 2 || t == 3) 320)),
  (320, .inl (xe_if (fun x => decide (¬ x = 0)) 355 323)),
  (323, .inl (xe_aload 0 324)),
  (324, .inl (xe_aload 0 325)),
  (325, .inl (xe_push (.int 60) 327)),
  (327, .inr (.inr (.inl (xc_V (xj_1 8 155) [0])))),
  (330, .inl (xe_if (fun x => decide (x = 0)) 338 333)),
  (333, .inl (xe_push (.int 24) 335)),
  (335, .inl (xe_goto 340)),
  (338, .inl (xe_push (.int 25) 340)),
  (340, .inr (.inr (.inl (xc_V (xj_1 8 162) [0])))),
  (343, .inl (xe_aload 0 344)),
  (344, .inl (xe_getf (xj_1 8 25) 347)),
  (347, .inl (xe_iload 2 348)),
  (348, .inl (xe_push (.int 1) 349)),
  (349, .inl (xe_ast 300 2 xm_bit 350)),
  (350, .inl (xe_push (.int 1) 351)),
  (351, .inl (xe_istore 3 352)),
  (352, .inl (xe_goto 495)),
  (355, .inl (xe_aload 0 356)),
  (356, .inl (xe_push (.long (1111 : Int64)) 359)),
  (359, .inr (.inr (.inl (xc_V (xj_1 8 147) [1])))),
  (362, .inl (xe_if (fun x => decide (¬ x = 0)) 375 365)),
  (365, .inl (xe_aload 0 366)),
  (366, .inl (xe_push (.long (423 : Int64)) 369)),
  (369, .inr (.inr (.inl (xc_V (xj_1 8 147) [1])))),
  (372, .inl (xe_if (fun x => decide (x = 0)) 408 375)),
  (375, .inl (xe_aload 0 376)),
  (376, .inl (xe_aload 0 377)),
  (377, .inl (xe_push (.long (1111 : Int64)) 380)),
  (380, .inr (.inr (.inl (xc_V (xj_1 8 147) [1])))),
  (383, .inl (xe_if (fun x => decide (x = 0)) 391 386)),
  (386, .inl (xe_push (.int 26) 388)),
  (388, .inl (xe_goto 393)),
  (391, .inl (xe_push (.int 27) 393)),
  (393, .inr (.inr (.inl (xc_V (xj_1 8 162) [0])))),
  (396, .inl (xe_aload 0 397)),
  (397, .inl (xe_getf (xj_1 8 25) 400)),
  (400, .inl (xe_iload 2 401))]
theorem xq_161_3 {G : xm_G} (hG : xm_W xk_B G) (hO : xm_Og G) : ∀ q ∈ xp_161_3, xm_op xk_B G xd xk_N "LiarsCockModel" "reads" prog_28_method_16_code 8 (some (FieldType.boolean)) q.1 q.2 :=
  xw_cons (xw_E xn_aload (xo_aload_n dX9_reads_296 rfl)) <|
  xw_cons (xw_E xn_push (xo_bipush dX9_reads_297 (by decide))) <|
  xw_cons (xl_v_27_243 hG dX9_reads_299) <|
  xw_cons (xw_E xn_if (xo_if_ne dX9_reads_302 (by decide))) <|
  xw_cons (xw_E xn_aload (xo_aload_n dX9_reads_305 rfl)) <|
  xw_cons (xw_E xn_push (xo_bipush dX9_reads_306 (by decide))) <|
  xw_cons (xl_v_27_243 hG dX9_reads_308) <|
  xw_cons (xw_E xn_if (xo_if_eq dX9_reads_311 (by decide))) <|
  xw_cons (xw_E xn_aload (xo_aload_n dX9_reads_314 rfl)) <|
  xw_cons (xw_E xn_getf (xo_getf hG xg_27_57 dX9_reads_315)) <|
  xw_cons (xw_E xn_iload (xo_iload_n dX9_reads_318 rfl)) <|
  xw_cons (xw_E xn_ald (xo_bald xk_hB dX9_reads_319)) <|
  xw_cons (xw_E xn_if (xo_if_ne dX9_reads_320 (by decide))) <|
  xw_cons (xw_E xn_aload (xo_aload_n dX9_reads_323 rfl)) <|
  xw_cons (xw_E xn_aload (xo_aload_n dX9_reads_324 rfl)) <|
  xw_cons (xw_E xn_push (xo_bipush dX9_reads_325 (by decide))) <|
  xw_cons (xl_v_27_243 hG dX9_reads_327) <|
  xw_cons (xw_E xn_if (xo_if_eq dX9_reads_330 (by decide))) <|
  xw_cons (xw_E xn_push (xo_bipush dX9_reads_333 (by decide))) <|
  xw_cons (xw_E xn_goto (xo_goto dX9_reads_335 (by decide))) <|
  xw_cons (xw_E xn_push (xo_bipush dX9_reads_338 (by decide))) <|
  xw_cons (xl_v_27_250 hG dX9_reads_340) <|
  xw_cons (xw_E xn_aload (xo_aload_n dX9_reads_343 rfl)) <|
  xw_cons (xw_E xn_getf (xo_getf hG xg_27_57 dX9_reads_344)) <|
  xw_cons (xw_E xn_iload (xo_iload_n dX9_reads_347 rfl)) <|
  xw_cons (xw_E xn_push (xo_iconst dX9_reads_348 (by decide))) <|
  xw_cons (xw_E xn_ast (xo_zast hG xk_hB rfl dX9_reads_349)) <|
  xw_cons (xw_E xn_push (xo_iconst dX9_reads_350 (by decide))) <|
  xw_cons (xw_E xn_istore (xo_istore_n dX9_reads_351 rfl)) <|
  xw_cons (xw_E xn_goto (xo_goto dX9_reads_352 (by decide))) <|
  xw_cons (xw_E xn_aload (xo_aload_n dX9_reads_355 rfl)) <|
  xw_cons (xw_E xn_push (xo_ldc2 hG q1886 dX9_reads_356)) <|
  xw_cons (xl_v_27_239 hG dX9_reads_359) <|
  xw_cons (xw_E xn_if (xo_if_ne dX9_reads_362 (by decide))) <|
  xw_cons (xw_E xn_aload (xo_aload_n dX9_reads_365 rfl)) <|
  xw_cons (xw_E xn_push (xo_ldc2 hG q1887 dX9_reads_366)) <|
  xw_cons (xl_v_27_239 hG dX9_reads_369) <|
  xw_cons (xw_E xn_if (xo_if_eq dX9_reads_372 (by decide))) <|
  xw_cons (xw_E xn_aload (xo_aload_n dX9_reads_375 rfl)) <|
  xw_cons (xw_E xn_aload (xo_aload_n dX9_reads_376 rfl)) <|
  xw_cons (xw_E xn_push (xo_ldc2 hG q1886 dX9_reads_377)) <|
  xw_cons (xl_v_27_239 hG dX9_reads_380) <|
  xw_cons (xw_E xn_if (xo_if_eq dX9_reads_383 (by decide))) <|
  xw_cons (xw_E xn_push (xo_bipush dX9_reads_386 (by decide))) <|
  xw_cons (xw_E xn_goto (xo_goto dX9_reads_388 (by decide))) <|
  xw_cons (xw_E xn_push (xo_bipush dX9_reads_391 (by decide))) <|
  xw_cons (xl_v_27_250 hG dX9_reads_393) <|
  xw_cons (xw_E xn_aload (xo_aload_n dX9_reads_396 rfl)) <|
  xw_cons (xw_E xn_getf (xo_getf hG xg_27_57 dX9_reads_397)) <|
  xw_cons (xw_E xn_iload (xo_iload_n dX9_reads_400 rfl)) <|
  xw_nil _
def xp_161_4 : List (Nat × xm_O) := [
  (401, .inl (xe_push (.int 0) 402)),
  (402, .inl (xe_ast 300 2 xm_bit 403)),
  (403, .inl (xe_push (.int 1) 404)),
  (404, .inl (xe_istore 3 405)),
  (405, .inl (xe_goto 495)),
  (408, .inl (xe_aload 0 409)),
  (409, .inl (xe_push (.int 41) 411)),
  (411, .inr (.inr (.inl (xc_V (xj_1 8 155) [0])))),
  (414, .inl (xe_if (fun x => decide (x = 0)) 450 417)),
  (417, .inl (xe_iload 2 418)),
  (418, .inl (xe_if (fun x => decide (x ≤ 0)) 450 421)),
  (421, .inl (xe_aload 0 422)),
  (422, .inl (xe_push (.int 29) 424)),
  (424, .inr (.inr (.inl (xc_V (xj_1 8 162) [0])))),
  (427, .inl (xe_iinc 2 (-1) 430)),
  (430, .inl (xe_iload 2 431)),
  (431, .inl (xe_if (fun x => decide (x ≤ 0)) 495 434)),
  (434, .inl (xe_aload 0 435)),
  (435, .inl (xe_getf (xj_1 8 24) 438)),
  (438, .inl (xe_iload 2 439)),
  (439, .inl (xe_ald (fun t => t == 0) 440)),
  (440, .inl (xe_push (.int 1) 441)),
  (441, .inl (xe_icmp (fun x y => decide (¬ x = y)) 495 444)),
  (444, .inl (xe_iinc 2 (-1) 447)),
  (447, .inl (xe_goto 430)),
  (450, .inl (xe_iload 2 451)),
  (451, .inl (xe_if (fun x => decide (¬ x = 0)) 489 454)),
  (454, .inl (xe_iload 1 455)),
  (455, .inl (xe_if (fun x => decide (x = 0)) 468 458)),
  (458, .inl (xe_aload 0 459)),
  (459, .inl (xe_getf (xj_1 8 6) 462)),
  (462, .inl (xe_if (fun x => decide (¬ x = 0)) 489 465)),
  (465, .inl (xe_goto 477)),
  (468, .inl (xe_aload 0 469)),
  (469, .inl (xe_push (.int 59) 471)),
  (471, .inr (.inr (.inl (xc_V (xj_1 8 155) [0])))),
  (474, .inl (xe_if (fun x => decide (x = 0)) 489 477)),
  (477, .inl (xe_aload 0 478)),
  (478, .inl (xe_getf (xj_1 8 22) 481)),
  (481, .inl (xe_push (.int 0) 482)),
  (482, .inl (xe_aload 0 483)),
  (483, .inl (xe_getf (xj_1 8 23) 486)),
  (486, .inl (xe_ast 300 0 (xm_kd 0) 487)),
  (487, .inl (xe_push (.int 1) 488)),
  (488, .inr (.inl xr_z)),
  (489, .inl (xe_aload 0 490)),
  (490, .inl (xe_push (.int 1) 491)),
  (491, .inr (.inr (.inl (xc_V (xj_1 8 149) [0])))),
  (494, .inr (.inl xr_z)),
  (495, .inl (xe_aload 0 496))]
theorem xq_161_4 {G : xm_G} (hG : xm_W xk_B G) (hO : xm_Og G) : ∀ q ∈ xp_161_4, xm_op xk_B G xd xk_N "LiarsCockModel" "reads" prog_28_method_16_code 8 (some (FieldType.boolean)) q.1 q.2 :=
  xw_cons (xw_E xn_push (xo_iconst dX9_reads_401 (by decide))) <|
  xw_cons (xw_E xn_ast (xo_zast hG xk_hB rfl dX9_reads_402)) <|
  xw_cons (xw_E xn_push (xo_iconst dX9_reads_403 (by decide))) <|
  xw_cons (xw_E xn_istore (xo_istore_n dX9_reads_404 rfl)) <|
  xw_cons (xw_E xn_goto (xo_goto dX9_reads_405 (by decide))) <|
  xw_cons (xw_E xn_aload (xo_aload_n dX9_reads_408 rfl)) <|
  xw_cons (xw_E xn_push (xo_bipush dX9_reads_409 (by decide))) <|
  xw_cons (xl_v_27_243 hG dX9_reads_411) <|
  xw_cons (xw_E xn_if (xo_if_eq dX9_reads_414 (by decide))) <|
  xw_cons (xw_E xn_iload (xo_iload_n dX9_reads_417 rfl)) <|
  xw_cons (xw_E xn_if (xo_if_le dX9_reads_418 (by decide))) <|
  xw_cons (xw_E xn_aload (xo_aload_n dX9_reads_421 rfl)) <|
  xw_cons (xw_E xn_push (xo_bipush dX9_reads_422 (by decide))) <|
  xw_cons (xl_v_27_250 hG dX9_reads_424) <|
  xw_cons (xw_E xn_iinc (xo_iinc dX9_reads_427 (by decide))) <|
  xw_cons (xw_E xn_iload (xo_iload_n dX9_reads_430 rfl)) <|
  xw_cons (xw_E xn_if (xo_if_le dX9_reads_431 (by decide))) <|
  xw_cons (xw_E xn_aload (xo_aload_n dX9_reads_434 rfl)) <|
  xw_cons (xw_E xn_getf (xo_getf hG xg_27_54 dX9_reads_435)) <|
  xw_cons (xw_E xn_iload (xo_iload_n dX9_reads_438 rfl)) <|
  xw_cons (xw_E xn_ald (xo_iald xk_hB dX9_reads_439)) <|
  xw_cons (xw_E xn_push (xo_iconst dX9_reads_440 (by decide))) <|
  xw_cons (xw_E xn_icmp (xo_icmp_ne dX9_reads_441 (by decide))) <|
  xw_cons (xw_E xn_iinc (xo_iinc dX9_reads_444 (by decide))) <|
  xw_cons (xw_E xn_goto (xo_goto dX9_reads_447 (by decide))) <|
  xw_cons (xw_E xn_iload (xo_iload_n dX9_reads_450 rfl)) <|
  xw_cons (xw_E xn_if (xo_if_ne dX9_reads_451 (by decide))) <|
  xw_cons (xw_E xn_iload (xo_iload_n dX9_reads_454 rfl)) <|
  xw_cons (xw_E xn_if (xo_if_eq dX9_reads_455 (by decide))) <|
  xw_cons (xw_E xn_aload (xo_aload_n dX9_reads_458 rfl)) <|
  xw_cons (xw_E xn_getf (xo_getf hG xg_27_187 dX9_reads_459)) <|
  xw_cons (xw_E xn_if (xo_if_ne dX9_reads_462 (by decide))) <|
  xw_cons (xw_E xn_goto (xo_goto dX9_reads_465 (by decide))) <|
  xw_cons (xw_E xn_aload (xo_aload_n dX9_reads_468 rfl)) <|
  xw_cons (xw_E xn_push (xo_bipush dX9_reads_469 (by decide))) <|
  xw_cons (xl_v_27_243 hG dX9_reads_471) <|
  xw_cons (xw_E xn_if (xo_if_eq dX9_reads_474 (by decide))) <|
  xw_cons (xw_E xn_aload (xo_aload_n dX9_reads_477 rfl)) <|
  xw_cons (xw_E xn_getf (xo_getf hG xg_27_51 dX9_reads_478)) <|
  xw_cons (xw_E xn_push (xo_iconst dX9_reads_481 (by decide))) <|
  xw_cons (xw_E xn_aload (xo_aload_n dX9_reads_482 rfl)) <|
  xw_cons (xw_E xn_getf (xo_getf hG xg_27_201 dX9_reads_483)) <|
  xw_cons (xw_E xn_ast (xo_iast hG xk_hB rfl dX9_reads_486)) <|
  xw_cons (xw_E xn_push (xo_iconst dX9_reads_487 (by decide))) <|
  xw_cons (xw_R (xt_z dX9_reads_488)) <|
  xw_cons (xw_E xn_aload (xo_aload_n dX9_reads_489 rfl)) <|
  xw_cons (xw_E xn_push (xo_iconst dX9_reads_490 (by decide))) <|
  xw_cons (xl_v_27_247 hG dX9_reads_491) <|
  xw_cons (xw_R (xt_z dX9_reads_494)) <|
  xw_cons (xw_E xn_aload (xo_aload_n dX9_reads_495 rfl)) <|
  xw_nil _
def xp_161_5 : List (Nat × xm_O) := [
  (496, .inr (.inr (.inl (xc_V (xj_1 8 144) [])))),
  (499, .inl (xe_goto 16))]
theorem xq_161_5 {G : xm_G} (hG : xm_W xk_B G) (hO : xm_Og G) : ∀ q ∈ xp_161_5, xm_op xk_B G xd xk_N "LiarsCockModel" "reads" prog_28_method_16_code 8 (some (FieldType.boolean)) q.1 q.2 :=
  xw_cons (xl_v_27_254 hG dX9_reads_496) <|
  xw_cons (xw_E xn_goto (xo_goto dX9_reads_499 (by decide))) <|
  xw_nil _
def xp_161 : List (Nat × xm_O) := xp_161_0 ++ xp_161_1 ++ xp_161_2 ++ xp_161_3 ++ xp_161_4 ++ xp_161_5
theorem xq_161 {G : xm_G} (hG : xm_W xk_B G) (hO : xm_Og G) : ∀ q ∈ xp_161, xm_op xk_B G xd xk_N "LiarsCockModel" "reads" prog_28_method_16_code 8 (some (FieldType.boolean)) q.1 q.2 := xw_app (xw_app (xw_app (xw_app (xw_app (xq_161_0 hG hO) (xq_161_1 hG hO)) (xq_161_2 hG hO)) (xq_161_3 hG hO)) (xq_161_4 hG hO)) (xq_161_5 hG hO)
/- 162: LiarsCockModel.puts(I)V -/
def xp_162_0 : List (Nat × xm_O) := [
  (0, .inl (xe_aload 0 1)),
  (1, .inl (xe_getf (xj_1 8 20) 4)),
  (4, .inl (xe_aload 0 5)),
  (5, .inl (xe_getf (xj_1 8 23) 8)),
  (8, .inl (xe_iload 1 9)),
  (9, .inl (xe_ast 300 0 (xm_kd 0) 10)),
  (10, .inl (xe_aload 0 11)),
  (11, .inl (xe_dup 12)),
  (12, .inl (xe_getf (xj_1 8 23) 15)),
  (15, .inl (xe_push (.int 1) 16)),
  (16, .inl (xe_ii (fun x y => x + y) 17)),
  (17, .inl (xe_putf 300 0 (xj_1 8 23) 20)),
  (20, .inr (.inl xr_v))]
theorem xq_162_0 {G : xm_G} (hG : xm_W xk_B G) (hO : xm_Og G) : ∀ q ∈ xp_162_0, xm_op xk_B G xd xk_N "LiarsCockModel" "puts" prog_28_method_13_code 2 none q.1 q.2 :=
  xw_cons (xw_E xn_aload (xo_aload_n dX9_puts_0 rfl)) <|
  xw_cons (xw_E xn_getf (xo_getf hG xg_27_45 dX9_puts_1)) <|
  xw_cons (xw_E xn_aload (xo_aload_n dX9_puts_4 rfl)) <|
  xw_cons (xw_E xn_getf (xo_getf hG xg_27_201 dX9_puts_5)) <|
  xw_cons (xw_E xn_iload (xo_iload_n dX9_puts_8 rfl)) <|
  xw_cons (xw_E xn_ast (xo_iast hG xk_hB rfl dX9_puts_9)) <|
  xw_cons (xw_E xn_aload (xo_aload_n dX9_puts_10 rfl)) <|
  xw_cons (xw_E xn_dup (xo_dup dX9_puts_11)) <|
  xw_cons (xw_E xn_getf (xo_getf hG xg_27_201 dX9_puts_12)) <|
  xw_cons (xw_E xn_push (xo_iconst dX9_puts_15 (by decide))) <|
  xw_cons (xw_E xn_ii (xo_iadd dX9_puts_16)) <|
  xw_cons (xw_E xn_putf (xo_putf hG rfl xu_27_201 dX9_puts_17)) <|
  xw_cons (xw_R (xt_v dX9_puts_20)) <|
  xw_nil _
def xp_162 : List (Nat × xm_O) := xp_162_0
theorem xq_162 {G : xm_G} (hG : xm_W xk_B G) (hO : xm_Og G) : ∀ q ∈ xp_162, xm_op xk_B G xd xk_N "LiarsCockModel" "puts" prog_28_method_13_code 2 none q.1 q.2 := xq_162_0 hG hO
/- 163: LiarsCockModel.soIn(I)J -/
def xp_163_0 : List (Nat × xm_O) := [
  (0, .inl (xe_push (.long 0) 1)),
  (1, .inl (xe_lstore 2 2)),
  (2, .inl (xe_push (.int 0) 3)),
  (3, .inl (xe_istore 4 5)),
  (5, .inl (xe_iload 4 7)),
  (7, .inl (xe_push (.int 1) 8)),
  (8, .inl (xe_iload 1 9)),
  (9, .inl (xe_ii (fun x y => x <<< (y &&& 31)) 10)),
  (10, .inl (xe_icmp (fun x y => decide (y ≤ x)) 66 13)),
  (13, .inl (xe_push (.int 0) 14)),
  (14, .inl (xe_istore 5 16)),
  (16, .inl (xe_iload 5 18)),
  (18, .inl (xe_push (.int 6) 20)),
  (20, .inl (xe_icmp (fun x y => decide (y ≤ x)) 45 23)),
  (23, .inl (xe_aload 0 24)),
  (24, .inl (xe_getf (xj_1 8 35) 27)),
  (27, .inl (xe_push (.int 1) 28)),
  (28, .inl (xe_iload 5 30)),
  (30, .inl (xe_ii (fun x y => x + y) 31)),
  (31, .inl (xe_iload 4 33)),
  (33, .inl (xe_iload 5 35)),
  (35, .inl (xe_ii (fun x y => x >>> (y &&& 31)) 36)),
  (36, .inl (xe_push (.int 1) 37)),
  (37, .inl (xe_ii (fun x y => x &&& y) 38)),
  (38, .inl (xe_ast 300 0 (xm_kd 0) 39)),
  (39, .inl (xe_iinc 5 1 42)),
  (42, .inl (xe_goto 16)),
  (45, .inl (xe_aload 0 46)),
  (46, .inl (xe_push (.int 0) 47)),
  (47, .inr (.inr (.inl (xc_V (xj_1 8 164) [0])))),
  (50, .inl (xe_if (fun x => decide (x = 0)) 60 53)),
  (53, .inl (xe_lload 2 54)),
  (54, .inl (xe_push (.long 1) 55)),
  (55, .inl (xe_iload 4 57)),
  (57, .inl (xe_li (fun x y => x <<< (y.toInt64 &&& 63)) 58)),
  (58, .inl (xe_ll (fun x y => x ||| y) 59)),
  (59, .inl (xe_lstore 2 60)),
  (60, .inl (xe_iinc 4 1 63)),
  (63, .inl (xe_goto 5)),
  (66, .inl (xe_lload 2 67)),
  (67, .inr (.inl xr_l))]
theorem xq_163_0 {G : xm_G} (hG : xm_W xk_B G) (hO : xm_Og G) : ∀ q ∈ xp_163_0, xm_op xk_B G xd xk_N "LiarsCockModel" "soIn" prog_28_method_21_code 6 (some (FieldType.long)) q.1 q.2 :=
  xw_cons (xw_E xn_push (xo_lconst dX9_soIn_0 (by decide))) <|
  xw_cons (xw_E xn_lstore (xo_lstore_n dX9_soIn_1 rfl)) <|
  xw_cons (xw_E xn_push (xo_iconst dX9_soIn_2 (by decide))) <|
  xw_cons (xw_E xn_istore (xo_istore dX9_soIn_3)) <|
  xw_cons (xw_E xn_iload (xo_iload dX9_soIn_5)) <|
  xw_cons (xw_E xn_push (xo_iconst dX9_soIn_7 (by decide))) <|
  xw_cons (xw_E xn_iload (xo_iload_n dX9_soIn_8 rfl)) <|
  xw_cons (xw_E xn_ii (xo_ishl dX9_soIn_9)) <|
  xw_cons (xw_E xn_icmp (xo_icmp_ge dX9_soIn_10 (by decide))) <|
  xw_cons (xw_E xn_push (xo_iconst dX9_soIn_13 (by decide))) <|
  xw_cons (xw_E xn_istore (xo_istore dX9_soIn_14)) <|
  xw_cons (xw_E xn_iload (xo_iload dX9_soIn_16)) <|
  xw_cons (xw_E xn_push (xo_bipush dX9_soIn_18 (by decide))) <|
  xw_cons (xw_E xn_icmp (xo_icmp_ge dX9_soIn_20 (by decide))) <|
  xw_cons (xw_E xn_aload (xo_aload_n dX9_soIn_23 rfl)) <|
  xw_cons (xw_E xn_getf (xo_getf hG xg_27_87 dX9_soIn_24)) <|
  xw_cons (xw_E xn_push (xo_iconst dX9_soIn_27 (by decide))) <|
  xw_cons (xw_E xn_iload (xo_iload dX9_soIn_28)) <|
  xw_cons (xw_E xn_ii (xo_iadd dX9_soIn_30)) <|
  xw_cons (xw_E xn_iload (xo_iload dX9_soIn_31)) <|
  xw_cons (xw_E xn_iload (xo_iload dX9_soIn_33)) <|
  xw_cons (xw_E xn_ii (xo_ishr dX9_soIn_35)) <|
  xw_cons (xw_E xn_push (xo_iconst dX9_soIn_36 (by decide))) <|
  xw_cons (xw_E xn_ii (xo_iand dX9_soIn_37)) <|
  xw_cons (xw_E xn_ast (xo_iast hG xk_hB rfl dX9_soIn_38)) <|
  xw_cons (xw_E xn_iinc (xo_iinc dX9_soIn_39 (by decide))) <|
  xw_cons (xw_E xn_goto (xo_goto dX9_soIn_42 (by decide))) <|
  xw_cons (xw_E xn_aload (xo_aload_n dX9_soIn_45 rfl)) <|
  xw_cons (xw_E xn_push (xo_iconst dX9_soIn_46 (by decide))) <|
  xw_cons (xl_v_27_266 hG dX9_soIn_47) <|
  xw_cons (xw_E xn_if (xo_if_eq dX9_soIn_50 (by decide))) <|
  xw_cons (xw_E xn_lload (xo_lload_n dX9_soIn_53 rfl)) <|
  xw_cons (xw_E xn_push (xo_lconst dX9_soIn_54 (by decide))) <|
  xw_cons (xw_E xn_iload (xo_iload dX9_soIn_55)) <|
  xw_cons (xw_E xn_li (xo_lshl dX9_soIn_57)) <|
  xw_cons (xw_E xn_ll (xo_lor dX9_soIn_58)) <|
  xw_cons (xw_E xn_lstore (xo_lstore_n dX9_soIn_59 rfl)) <|
  xw_cons (xw_E xn_iinc (xo_iinc dX9_soIn_60 (by decide))) <|
  xw_cons (xw_E xn_goto (xo_goto dX9_soIn_63 (by decide))) <|
  xw_cons (xw_E xn_lload (xo_lload_n dX9_soIn_66 rfl)) <|
  xw_cons (xw_R (xt_l dX9_soIn_67)) <|
  xw_nil _
def xp_163 : List (Nat × xm_O) := xp_163_0
theorem xq_163 {G : xm_G} (hG : xm_W xk_B G) (hO : xm_Og G) : ∀ q ∈ xp_163, xm_op xk_B G xd xk_N "LiarsCockModel" "soIn" prog_28_method_21_code 6 (some (FieldType.long)) q.1 q.2 := xq_163_0 hG hO
