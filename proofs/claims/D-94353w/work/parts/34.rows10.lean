/-! rows of methods, by program -/
set_option maxRecDepth 100000
/- 224: LiarsCockModel.blind(II)I -/
def xp_224_0 : List (Nat × xm_O) := [
  (0, .inl (xe_aload 0 1)),
  (1, .inl (xe_push (.int 0) 2)),
  (2, .inl (xe_putf 300 0 (xj_1 8 0) 5)),
  (5, .inl (xe_iload 1 6)),
  (6, .inl (xe_push (.int 0) 7)),
  (7, .inl (xe_push (.int 180) 10)),
  (10, .inr (.inr (.inl (xc_S 200 [0, 0, 0])))),
  (13, .inl (xe_if (fun x => decide (x = 0)) 25 16)),
  (16, .inl (xe_iload 2 17)),
  (17, .inl (xe_push (.int 0) 18)),
  (18, .inl (xe_push (.int 1) 19)),
  (19, .inr (.inr (.inl (xc_S 200 [0, 0, 0])))),
  (22, .inl (xe_if (fun x => decide (¬ x = 0)) 27 25)),
  (25, .inl (xe_push (.int (-1)) 26)),
  (26, .inr (.inl xr_i)),
  (27, .inl (xe_push (.int 0) 28)),
  (28, .inl (xe_istore 3 29)),
  (29, .inl (xe_push (.int 0) 30)),
  (30, .inl (xe_istore 4 32)),
  (32, .inl (xe_push (.int 0) 33)),
  (33, .inl (xe_istore 5 35)),
  (35, .inl (xe_iload 5 37)),
  (37, .inl (xe_aload 0 38)),
  (38, .inl (xe_getf (xj_1 8 10) 41)),
  (41, .inl (xe_push (.int 2) 42)),
  (42, .inl (xe_ald (fun t => t == 0) 43)),
  (43, .inl (xe_icmp (fun x y => decide (y ≤ x)) 233 46)),
  (46, .inl (xe_push (.int 1) 47)),
  (47, .inl (xe_iload 5 49)),
  (49, .inl (xe_ii (fun x y => x <<< (y &&& 31)) 50)),
  (50, .inl (xe_istore 6 52)),
  (52, .inl (xe_push (.int 0) 53)),
  (53, .inl (xe_istore 7 55)),
  (55, .inl (xe_iload 7 57)),
  (57, .inl (xe_push (.int 6) 59)),
  (59, .inl (xe_icmp (fun x y => decide (y ≤ x)) 159 62)),
  (62, .inl (xe_push (.int 0) 63)),
  (63, .inl (xe_istore 8 65)),
  (65, .inl (xe_iload 8 67)),
  (67, .inl (xe_aload 0 68)),
  (68, .inl (xe_getf (xj_1 8 10) 71)),
  (71, .inl (xe_push (.int 2) 72)),
  (72, .inl (xe_ald (fun t => t == 0) 73)),
  (73, .inl (xe_icmp (fun x y => decide (y ≤ x)) 153 76)),
  (76, .inl (xe_push (.int 0) 77)),
  (77, .inl (xe_istore 9 79)),
  (79, .inl (xe_iload 9 81)),
  (81, .inl (xe_aload 0 82)),
  (82, .inl (xe_getf (xj_1 8 10) 85)),
  (85, .inl (xe_push (.int 2) 86))]
theorem xq_224_0 {G : xm_G} (hG : xm_W xk_B G) (hO : xm_Og G) : ∀ q ∈ xp_224_0, xm_op xk_B G xd xk_N "LiarsCockModel" "blind" prog_28_method_87_code 10 (some (FieldType.int)) q.1 q.2 :=
  xw_cons (xw_E xn_aload (xo_aload_n dX9_blind_0 rfl)) <|
  xw_cons (xw_E xn_push (xo_iconst dX9_blind_1 (by decide))) <|
  xw_cons (xw_E xn_putf (xo_putf hG rfl xu_27_162 dX9_blind_2)) <|
  xw_cons (xw_E xn_iload (xo_iload_n dX9_blind_5 rfl)) <|
  xw_cons (xw_E xn_push (xo_iconst dX9_blind_6 (by decide))) <|
  xw_cons (xw_E xn_push (xo_sipush dX9_blind_7 (by decide))) <|
  xw_cons (xl_s_27_407 hG dX9_blind_10) <|
  xw_cons (xw_E xn_if (xo_if_eq dX9_blind_13 (by decide))) <|
  xw_cons (xw_E xn_iload (xo_iload_n dX9_blind_16 rfl)) <|
  xw_cons (xw_E xn_push (xo_iconst dX9_blind_17 (by decide))) <|
  xw_cons (xw_E xn_push (xo_iconst dX9_blind_18 (by decide))) <|
  xw_cons (xl_s_27_407 hG dX9_blind_19) <|
  xw_cons (xw_E xn_if (xo_if_ne dX9_blind_22 (by decide))) <|
  xw_cons (xw_E xn_push (xo_iconst dX9_blind_25 (by decide))) <|
  xw_cons (xw_R (xt_i dX9_blind_26)) <|
  xw_cons (xw_E xn_push (xo_iconst dX9_blind_27 (by decide))) <|
  xw_cons (xw_E xn_istore (xo_istore_n dX9_blind_28 rfl)) <|
  xw_cons (xw_E xn_push (xo_iconst dX9_blind_29 (by decide))) <|
  xw_cons (xw_E xn_istore (xo_istore dX9_blind_30)) <|
  xw_cons (xw_E xn_push (xo_iconst dX9_blind_32 (by decide))) <|
  xw_cons (xw_E xn_istore (xo_istore dX9_blind_33)) <|
  xw_cons (xw_E xn_iload (xo_iload dX9_blind_35)) <|
  xw_cons (xw_E xn_aload (xo_aload_n dX9_blind_37 rfl)) <|
  xw_cons (xw_E xn_getf (xo_getf hG xg_27_13 dX9_blind_38)) <|
  xw_cons (xw_E xn_push (xo_iconst dX9_blind_41 (by decide))) <|
  xw_cons (xw_E xn_ald (xo_iald xk_hB dX9_blind_42)) <|
  xw_cons (xw_E xn_icmp (xo_icmp_ge dX9_blind_43 (by decide))) <|
  xw_cons (xw_E xn_push (xo_iconst dX9_blind_46 (by decide))) <|
  xw_cons (xw_E xn_iload (xo_iload dX9_blind_47)) <|
  xw_cons (xw_E xn_ii (xo_ishl dX9_blind_49)) <|
  xw_cons (xw_E xn_istore (xo_istore dX9_blind_50)) <|
  xw_cons (xw_E xn_push (xo_iconst dX9_blind_52 (by decide))) <|
  xw_cons (xw_E xn_istore (xo_istore dX9_blind_53)) <|
  xw_cons (xw_E xn_iload (xo_iload dX9_blind_55)) <|
  xw_cons (xw_E xn_push (xo_bipush dX9_blind_57 (by decide))) <|
  xw_cons (xw_E xn_icmp (xo_icmp_ge dX9_blind_59 (by decide))) <|
  xw_cons (xw_E xn_push (xo_iconst dX9_blind_62 (by decide))) <|
  xw_cons (xw_E xn_istore (xo_istore dX9_blind_63)) <|
  xw_cons (xw_E xn_iload (xo_iload dX9_blind_65)) <|
  xw_cons (xw_E xn_aload (xo_aload_n dX9_blind_67 rfl)) <|
  xw_cons (xw_E xn_getf (xo_getf hG xg_27_13 dX9_blind_68)) <|
  xw_cons (xw_E xn_push (xo_iconst dX9_blind_71 (by decide))) <|
  xw_cons (xw_E xn_ald (xo_iald xk_hB dX9_blind_72)) <|
  xw_cons (xw_E xn_icmp (xo_icmp_ge dX9_blind_73 (by decide))) <|
  xw_cons (xw_E xn_push (xo_iconst dX9_blind_76 (by decide))) <|
  xw_cons (xw_E xn_istore (xo_istore dX9_blind_77)) <|
  xw_cons (xw_E xn_iload (xo_iload dX9_blind_79)) <|
  xw_cons (xw_E xn_aload (xo_aload_n dX9_blind_81 rfl)) <|
  xw_cons (xw_E xn_getf (xo_getf hG xg_27_13 dX9_blind_82)) <|
  xw_cons (xw_E xn_push (xo_iconst dX9_blind_85 (by decide))) <|
  xw_nil _
def xp_224_1 : List (Nat × xm_O) := [
  (86, .inl (xe_ald (fun t => t == 0) 87)),
  (87, .inl (xe_icmp (fun x y => decide (y ≤ x)) 147 90)),
  (90, .inl (xe_iload 6 92)),
  (92, .inl (xe_iload 8 94)),
  (94, .inl (xe_ii (fun x y => x >>> (y &&& 31)) 95)),
  (95, .inl (xe_push (.int 1) 96)),
  (96, .inl (xe_ii (fun x y => x &&& y) 97)),
  (97, .inl (xe_push (.int 1) 98)),
  (98, .inl (xe_icmp (fun x y => decide (¬ x = y)) 141 101)),
  (101, .inl (xe_aload 0 102)),
  (102, .inl (xe_getf (xj_1 8 13) 105)),
  (105, .inl (xe_aload 0 106)),
  (106, .inl (xe_getf (xj_1 8 14) 109)),
  (109, .inl (xe_iload 8 111)),
  (111, .inl (xe_ald (fun t => t == 0) 112)),
  (112, .inl (xe_ald (fun t => t == 0) 113)),
  (113, .inl (xe_aload 0 114)),
  (114, .inl (xe_getf (xj_1 8 13) 117)),
  (117, .inl (xe_aload 0 118)),
  (118, .inl (xe_getf (xj_1 8 14) 121)),
  (121, .inl (xe_iload 9 123)),
  (123, .inl (xe_ald (fun t => t == 0) 124)),
  (124, .inl (xe_ald (fun t => t == 0) 125)),
  (125, .inr (.inr (.inl (xc_S 216 [0, 0])))),
  (128, .inl (xe_iload 1 129)),
  (129, .inl (xe_icmp (fun x y => decide (y < x)) 141 132)),
  (132, .inl (xe_iload 6 134)),
  (134, .inl (xe_push (.int 1) 135)),
  (135, .inl (xe_iload 9 137)),
  (137, .inl (xe_ii (fun x y => x <<< (y &&& 31)) 138)),
  (138, .inl (xe_ii (fun x y => x ||| y) 139)),
  (139, .inl (xe_istore 6 141)),
  (141, .inl (xe_iinc 9 1 144)),
  (144, .inl (xe_goto 79)),
  (147, .inl (xe_iinc 8 1 150)),
  (150, .inl (xe_goto 65)),
  (153, .inl (xe_iinc 7 1 156)),
  (156, .inl (xe_goto 55)),
  (159, .inl (xe_iload 4 161)),
  (161, .inl (xe_iload 6 163)),
  (163, .inl (xe_i2l 164)),
  (164, .inr (.inr (.inl (xc_S 195 [1])))),
  (167, .inr (.inr (.inl (xc_S 301 [0, 0])))),
  (170, .inl (xe_istore 4 172)),
  (172, .inl (xe_push (.int 0) 173)),
  (173, .inl (xe_istore 7 175)),
  (175, .inl (xe_iload 7 177)),
  (177, .inl (xe_iload 5 179)),
  (179, .inl (xe_icmp (fun x y => decide (y ≤ x)) 227 182)),
  (182, .inl (xe_iload 3 183))]
theorem xq_224_1 {G : xm_G} (hG : xm_W xk_B G) (hO : xm_Og G) : ∀ q ∈ xp_224_1, xm_op xk_B G xd xk_N "LiarsCockModel" "blind" prog_28_method_87_code 10 (some (FieldType.int)) q.1 q.2 :=
  xw_cons (xw_E xn_ald (xo_iald xk_hB dX9_blind_86)) <|
  xw_cons (xw_E xn_icmp (xo_icmp_ge dX9_blind_87 (by decide))) <|
  xw_cons (xw_E xn_iload (xo_iload dX9_blind_90)) <|
  xw_cons (xw_E xn_iload (xo_iload dX9_blind_92)) <|
  xw_cons (xw_E xn_ii (xo_ishr dX9_blind_94)) <|
  xw_cons (xw_E xn_push (xo_iconst dX9_blind_95 (by decide))) <|
  xw_cons (xw_E xn_ii (xo_iand dX9_blind_96)) <|
  xw_cons (xw_E xn_push (xo_iconst dX9_blind_97 (by decide))) <|
  xw_cons (xw_E xn_icmp (xo_icmp_ne dX9_blind_98 (by decide))) <|
  xw_cons (xw_E xn_aload (xo_aload_n dX9_blind_101 rfl)) <|
  xw_cons (xw_E xn_getf (xo_getf hG xg_27_23 dX9_blind_102)) <|
  xw_cons (xw_E xn_aload (xo_aload_n dX9_blind_105 rfl)) <|
  xw_cons (xw_E xn_getf (xo_getf hG xg_27_26 dX9_blind_106)) <|
  xw_cons (xw_E xn_iload (xo_iload dX9_blind_109)) <|
  xw_cons (xw_E xn_ald (xo_iald xk_hB dX9_blind_111)) <|
  xw_cons (xw_E xn_ald (xo_iald xk_hB dX9_blind_112)) <|
  xw_cons (xw_E xn_aload (xo_aload_n dX9_blind_113 rfl)) <|
  xw_cons (xw_E xn_getf (xo_getf hG xg_27_23 dX9_blind_114)) <|
  xw_cons (xw_E xn_aload (xo_aload_n dX9_blind_117 rfl)) <|
  xw_cons (xw_E xn_getf (xo_getf hG xg_27_26 dX9_blind_118)) <|
  xw_cons (xw_E xn_iload (xo_iload dX9_blind_121)) <|
  xw_cons (xw_E xn_ald (xo_iald xk_hB dX9_blind_123)) <|
  xw_cons (xw_E xn_ald (xo_iald xk_hB dX9_blind_124)) <|
  xw_cons (xl_s_27_439 hG dX9_blind_125) <|
  xw_cons (xw_E xn_iload (xo_iload_n dX9_blind_128 rfl)) <|
  xw_cons (xw_E xn_icmp (xo_icmp_gt dX9_blind_129 (by decide))) <|
  xw_cons (xw_E xn_iload (xo_iload dX9_blind_132)) <|
  xw_cons (xw_E xn_push (xo_iconst dX9_blind_134 (by decide))) <|
  xw_cons (xw_E xn_iload (xo_iload dX9_blind_135)) <|
  xw_cons (xw_E xn_ii (xo_ishl dX9_blind_137)) <|
  xw_cons (xw_E xn_ii (xo_ior dX9_blind_138)) <|
  xw_cons (xw_E xn_istore (xo_istore dX9_blind_139)) <|
  xw_cons (xw_E xn_iinc (xo_iinc dX9_blind_141 (by decide))) <|
  xw_cons (xw_E xn_goto (xo_goto dX9_blind_144 (by decide))) <|
  xw_cons (xw_E xn_iinc (xo_iinc dX9_blind_147 (by decide))) <|
  xw_cons (xw_E xn_goto (xo_goto dX9_blind_150 (by decide))) <|
  xw_cons (xw_E xn_iinc (xo_iinc dX9_blind_153 (by decide))) <|
  xw_cons (xw_E xn_goto (xo_goto dX9_blind_156 (by decide))) <|
  xw_cons (xw_E xn_iload (xo_iload dX9_blind_159)) <|
  xw_cons (xw_E xn_iload (xo_iload dX9_blind_161)) <|
  xw_cons (xw_E xn_i2l (xo_i2l dX9_blind_163)) <|
  xw_cons (xl_s_27_399 hG dX9_blind_164) <|
  xw_cons (xl_s_27_420 hG dX9_blind_167) <|
  xw_cons (xw_E xn_istore (xo_istore dX9_blind_170)) <|
  xw_cons (xw_E xn_push (xo_iconst dX9_blind_172 (by decide))) <|
  xw_cons (xw_E xn_istore (xo_istore dX9_blind_173)) <|
  xw_cons (xw_E xn_iload (xo_iload dX9_blind_175)) <|
  xw_cons (xw_E xn_iload (xo_iload dX9_blind_177)) <|
  xw_cons (xw_E xn_icmp (xo_icmp_ge dX9_blind_179 (by decide))) <|
  xw_cons (xw_E xn_iload (xo_iload_n dX9_blind_182 rfl)) <|
  xw_nil _
def xp_224_2 : List (Nat × xm_O) := [
  (183, .inl (xe_aload 0 184)),
  (184, .inl (xe_getf (xj_1 8 13) 187)),
  (187, .inl (xe_aload 0 188)),
  (188, .inl (xe_getf (xj_1 8 14) 191)),
  (191, .inl (xe_iload 5 193)),
  (193, .inl (xe_ald (fun t => t == 0) 194)),
  (194, .inl (xe_ald (fun t => t == 0) 195)),
  (195, .inl (xe_aload 0 196)),
  (196, .inl (xe_getf (xj_1 8 13) 199)),
  (199, .inl (xe_aload 0 200)),
  (200, .inl (xe_getf (xj_1 8 14) 203)),
  (203, .inl (xe_iload 7 205)),
  (205, .inl (xe_ald (fun t => t == 0) 206)),
  (206, .inl (xe_ald (fun t => t == 0) 207)),
  (207, .inr (.inr (.inl (xc_S 216 [0, 0])))),
  (210, .inl (xe_iload 1 211)),
  (211, .inl (xe_icmp (fun x y => decide (y < x)) 218 214)),
  (214, .inl (xe_push (.int 1) 215)),
  (215, .inl (xe_goto 219)),
  (218, .inl (xe_push (.int 0) 219)),
  (219, .inl (xe_ii (fun x y => x + y) 220)),
  (220, .inl (xe_istore 3 221)),
  (221, .inl (xe_iinc 7 1 224)),
  (224, .inl (xe_goto 175)),
  (227, .inl (xe_iinc 5 1 230)),
  (230, .inl (xe_goto 35)),
  (233, .inl (xe_iload 2 234)),
  (234, .inl (xe_if (fun x => decide (¬ x = 0)) 241 237)),
  (237, .inl (xe_iload 3 238)),
  (238, .inl (xe_goto 243)),
  (241, .inl (xe_iload 4 243)),
  (243, .inr (.inl xr_i))]
theorem xq_224_2 {G : xm_G} (hG : xm_W xk_B G) (hO : xm_Og G) : ∀ q ∈ xp_224_2, xm_op xk_B G xd xk_N "LiarsCockModel" "blind" prog_28_method_87_code 10 (some (FieldType.int)) q.1 q.2 :=
  xw_cons (xw_E xn_aload (xo_aload_n dX9_blind_183 rfl)) <|
  xw_cons (xw_E xn_getf (xo_getf hG xg_27_23 dX9_blind_184)) <|
  xw_cons (xw_E xn_aload (xo_aload_n dX9_blind_187 rfl)) <|
  xw_cons (xw_E xn_getf (xo_getf hG xg_27_26 dX9_blind_188)) <|
  xw_cons (xw_E xn_iload (xo_iload dX9_blind_191)) <|
  xw_cons (xw_E xn_ald (xo_iald xk_hB dX9_blind_193)) <|
  xw_cons (xw_E xn_ald (xo_iald xk_hB dX9_blind_194)) <|
  xw_cons (xw_E xn_aload (xo_aload_n dX9_blind_195 rfl)) <|
  xw_cons (xw_E xn_getf (xo_getf hG xg_27_23 dX9_blind_196)) <|
  xw_cons (xw_E xn_aload (xo_aload_n dX9_blind_199 rfl)) <|
  xw_cons (xw_E xn_getf (xo_getf hG xg_27_26 dX9_blind_200)) <|
  xw_cons (xw_E xn_iload (xo_iload dX9_blind_203)) <|
  xw_cons (xw_E xn_ald (xo_iald xk_hB dX9_blind_205)) <|
  xw_cons (xw_E xn_ald (xo_iald xk_hB dX9_blind_206)) <|
  xw_cons (xl_s_27_439 hG dX9_blind_207) <|
  xw_cons (xw_E xn_iload (xo_iload_n dX9_blind_210 rfl)) <|
  xw_cons (xw_E xn_icmp (xo_icmp_gt dX9_blind_211 (by decide))) <|
  xw_cons (xw_E xn_push (xo_iconst dX9_blind_214 (by decide))) <|
  xw_cons (xw_E xn_goto (xo_goto dX9_blind_215 (by decide))) <|
  xw_cons (xw_E xn_push (xo_iconst dX9_blind_218 (by decide))) <|
  xw_cons (xw_E xn_ii (xo_iadd dX9_blind_219)) <|
  xw_cons (xw_E xn_istore (xo_istore_n dX9_blind_220 rfl)) <|
  xw_cons (xw_E xn_iinc (xo_iinc dX9_blind_221 (by decide))) <|
  xw_cons (xw_E xn_goto (xo_goto dX9_blind_224 (by decide))) <|
  xw_cons (xw_E xn_iinc (xo_iinc dX9_blind_227 (by decide))) <|
  xw_cons (xw_E xn_goto (xo_goto dX9_blind_230 (by decide))) <|
  xw_cons (xw_E xn_iload (xo_iload_n dX9_blind_233 rfl)) <|
  xw_cons (xw_E xn_if (xo_if_ne dX9_blind_234 (by decide))) <|
  xw_cons (xw_E xn_iload (xo_iload_n dX9_blind_237 rfl)) <|
  xw_cons (xw_E xn_goto (xo_goto dX9_blind_238 (by decide))) <|
  xw_cons (xw_E xn_iload (xo_iload dX9_blind_241)) <|
  xw_cons (xw_R (xt_i dX9_blind_243)) <|
  xw_nil _
def xp_224 : List (Nat × xm_O) := xp_224_0 ++ xp_224_1 ++ xp_224_2
theorem xq_224 {G : xm_G} (hG : xm_W xk_B G) (hO : xm_Og G) : ∀ q ∈ xp_224, xm_op xk_B G xd xk_N "LiarsCockModel" "blind" prog_28_method_87_code 10 (some (FieldType.int)) q.1 q.2 := xw_app (xw_app (xq_224_0 hG hO) (xq_224_1 hG hO)) (xq_224_2 hG hO)
/- 225: LiarsCockModel.told(I)I -/
def xp_225_0 : List (Nat × xm_O) := [
  (0, .inl (xe_aload 0 1)),
  (1, .inl (xe_push (.int 0) 2)),
  (2, .inl (xe_putf 300 0 (xj_1 8 0) 5)),
  (5, .inl (xe_iload 1 6)),
  (6, .inl (xe_if (fun x => decide (x < 0)) 29 9)),
  (9, .inl (xe_iload 1 10)),
  (10, .inl (xe_push (.int 1) 11)),
  (11, .inl (xe_aload 0 12)),
  (12, .inl (xe_getf (xj_1 8 10) 15)),
  (15, .inl (xe_push (.int 2) 16)),
  (16, .inl (xe_ald (fun t => t == 0) 17)),
  (17, .inl (xe_ii (fun x y => x <<< (y &&& 31)) 18)),
  (18, .inl (xe_icmp (fun x y => decide (y ≤ x)) 29 21)),
  (21, .inl (xe_aload 0 22)),
  (22, .inl (xe_iload 1 23)),
  (23, .inr (.inr (.inl (xc_V (xj_1 8 226) [0])))),
  (26, .inl (xe_goto 30)),
  (29, .inl (xe_push (.int (-1)) 30)),
  (30, .inr (.inl xr_i))]
theorem xq_225_0 {G : xm_G} (hG : xm_W xk_B G) (hO : xm_Og G) : ∀ q ∈ xp_225_0, xm_op xk_B G xd xk_N "LiarsCockModel" "told" prog_28_method_89_code 2 (some (FieldType.int)) q.1 q.2 :=
  xw_cons (xw_E xn_aload (xo_aload_n dX9_told_0 rfl)) <|
  xw_cons (xw_E xn_push (xo_iconst dX9_told_1 (by decide))) <|
  xw_cons (xw_E xn_putf (xo_putf hG rfl xu_27_162 dX9_told_2)) <|
  xw_cons (xw_E xn_iload (xo_iload_n dX9_told_5 rfl)) <|
  xw_cons (xw_E xn_if (xo_if_lt dX9_told_6 (by decide))) <|
  xw_cons (xw_E xn_iload (xo_iload_n dX9_told_9 rfl)) <|
  xw_cons (xw_E xn_push (xo_iconst dX9_told_10 (by decide))) <|
  xw_cons (xw_E xn_aload (xo_aload_n dX9_told_11 rfl)) <|
  xw_cons (xw_E xn_getf (xo_getf hG xg_27_13 dX9_told_12)) <|
  xw_cons (xw_E xn_push (xo_iconst dX9_told_15 (by decide))) <|
  xw_cons (xw_E xn_ald (xo_iald xk_hB dX9_told_16)) <|
  xw_cons (xw_E xn_ii (xo_ishl dX9_told_17)) <|
  xw_cons (xw_E xn_icmp (xo_icmp_ge dX9_told_18 (by decide))) <|
  xw_cons (xw_E xn_aload (xo_aload_n dX9_told_21 rfl)) <|
  xw_cons (xw_E xn_iload (xo_iload_n dX9_told_22 rfl)) <|
  xw_cons (xl_v_27_450 hG dX9_told_23) <|
  xw_cons (xw_E xn_goto (xo_goto dX9_told_26 (by decide))) <|
  xw_cons (xw_E xn_push (xo_iconst dX9_told_29 (by decide))) <|
  xw_cons (xw_R (xt_i dX9_told_30)) <|
  xw_nil _
def xp_225 : List (Nat × xm_O) := xp_225_0
theorem xq_225 {G : xm_G} (hG : xm_W xk_B G) (hO : xm_Og G) : ∀ q ∈ xp_225, xm_op xk_B G xd xk_N "LiarsCockModel" "told" prog_28_method_89_code 2 (some (FieldType.int)) q.1 q.2 := xq_225_0 hG hO
/- 226: LiarsCockModel.toldBy(I)I -/
def xp_226_0 : List (Nat × xm_O) := [
  (0, .inl (xe_push (.int 0) 1)),
  (1, .inl (xe_istore 2 2)),
  (2, .inl (xe_push (.int 0) 3)),
  (3, .inl (xe_istore 3 4)),
  (4, .inl (xe_iload 3 5)),
  (5, .inl (xe_aload 0 6)),
  (6, .inl (xe_getf (xj_1 8 10) 9)),
  (9, .inl (xe_push (.int 2) 10)),
  (10, .inl (xe_ald (fun t => t == 0) 11)),
  (11, .inl (xe_icmp (fun x y => decide (y ≤ x)) 42 14)),
  (14, .inl (xe_iload 2 15)),
  (15, .inl (xe_iload 1 16)),
  (16, .inl (xe_iload 3 17)),
  (17, .inl (xe_ii (fun x y => x >>> (y &&& 31)) 18)),
  (18, .inl (xe_push (.int 1) 19)),
  (19, .inl (xe_ii (fun x y => x &&& y) 20)),
  (20, .inl (xe_push (.int 1) 21)),
  (21, .inl (xe_icmp (fun x y => decide (¬ x = y)) 33 24)),
  (24, .inl (xe_aload 0 25)),
  (25, .inl (xe_getf (xj_1 8 15) 28)),
  (28, .inl (xe_iload 3 29)),
  (29, .inl (xe_ald (fun t => t == 0) 30)),
  (30, .inl (xe_goto 34)),
  (33, .inl (xe_push (.int 0) 34)),
  (34, .inl (xe_ii (fun x y => x ||| y) 35)),
  (35, .inl (xe_istore 2 36)),
  (36, .inl (xe_iinc 3 1 39)),
  (39, .inl (xe_goto 4)),
  (42, .inl (xe_aload 0 43)),
  (43, .inl (xe_iload 2 44)),
  (44, .inl (xe_aload 0 45)),
  (45, .inl (xe_getf (xj_1 8 44) 48)),
  (48, .inr (.inr (.inl (xc_V (xj_1 8 179) [0, 0])))),
  (51, .inl (xe_lstore 3 52)),
  (52, .inl (xe_push (.int 0) 53)),
  (53, .inl (xe_istore 5 55)),
  (55, .inl (xe_push (.int 0) 56)),
  (56, .inl (xe_istore 6 58)),
  (58, .inl (xe_iload 6 60)),
  (60, .inl (xe_aload 0 61)),
  (61, .inl (xe_getf (xj_1 8 10) 64)),
  (64, .inl (xe_push (.int 0) 65)),
  (65, .inl (xe_ald (fun t => t == 0) 66)),
  (66, .inl (xe_icmp (fun x y => decide (y ≤ x)) 108 69)),
  (69, .inl (xe_lload 3 70)),
  (70, .inl (xe_push (.long 0) 71)),
  (71, .inl (xe_lcmp 72)),
  (72, .inl (xe_if (fun x => decide (x = 0)) 108 75)),
  (75, .inl (xe_iload 5 77)),
  (77, .inl (xe_lload 3 78))]
theorem xq_226_0 {G : xm_G} (hG : xm_W xk_B G) (hO : xm_Og G) : ∀ q ∈ xp_226_0, xm_op xk_B G xd xk_N "LiarsCockModel" "toldBy" prog_28_method_88_code 7 (some (FieldType.int)) q.1 q.2 :=
  xw_cons (xw_E xn_push (xo_iconst dX9_toldBy_0 (by decide))) <|
  xw_cons (xw_E xn_istore (xo_istore_n dX9_toldBy_1 rfl)) <|
  xw_cons (xw_E xn_push (xo_iconst dX9_toldBy_2 (by decide))) <|
  xw_cons (xw_E xn_istore (xo_istore_n dX9_toldBy_3 rfl)) <|
  xw_cons (xw_E xn_iload (xo_iload_n dX9_toldBy_4 rfl)) <|
  xw_cons (xw_E xn_aload (xo_aload_n dX9_toldBy_5 rfl)) <|
  xw_cons (xw_E xn_getf (xo_getf hG xg_27_13 dX9_toldBy_6)) <|
  xw_cons (xw_E xn_push (xo_iconst dX9_toldBy_9 (by decide))) <|
  xw_cons (xw_E xn_ald (xo_iald xk_hB dX9_toldBy_10)) <|
  xw_cons (xw_E xn_icmp (xo_icmp_ge dX9_toldBy_11 (by decide))) <|
  xw_cons (xw_E xn_iload (xo_iload_n dX9_toldBy_14 rfl)) <|
  xw_cons (xw_E xn_iload (xo_iload_n dX9_toldBy_15 rfl)) <|
  xw_cons (xw_E xn_iload (xo_iload_n dX9_toldBy_16 rfl)) <|
  xw_cons (xw_E xn_ii (xo_ishr dX9_toldBy_17)) <|
  xw_cons (xw_E xn_push (xo_iconst dX9_toldBy_18 (by decide))) <|
  xw_cons (xw_E xn_ii (xo_iand dX9_toldBy_19)) <|
  xw_cons (xw_E xn_push (xo_iconst dX9_toldBy_20 (by decide))) <|
  xw_cons (xw_E xn_icmp (xo_icmp_ne dX9_toldBy_21 (by decide))) <|
  xw_cons (xw_E xn_aload (xo_aload_n dX9_toldBy_24 rfl)) <|
  xw_cons (xw_E xn_getf (xo_getf hG xg_27_29 dX9_toldBy_25)) <|
  xw_cons (xw_E xn_iload (xo_iload_n dX9_toldBy_28 rfl)) <|
  xw_cons (xw_E xn_ald (xo_iald xk_hB dX9_toldBy_29)) <|
  xw_cons (xw_E xn_goto (xo_goto dX9_toldBy_30 (by decide))) <|
  xw_cons (xw_E xn_push (xo_iconst dX9_toldBy_33 (by decide))) <|
  xw_cons (xw_E xn_ii (xo_ior dX9_toldBy_34)) <|
  xw_cons (xw_E xn_istore (xo_istore_n dX9_toldBy_35 rfl)) <|
  xw_cons (xw_E xn_iinc (xo_iinc dX9_toldBy_36 (by decide))) <|
  xw_cons (xw_E xn_goto (xo_goto dX9_toldBy_39 (by decide))) <|
  xw_cons (xw_E xn_aload (xo_aload_n dX9_toldBy_42 rfl)) <|
  xw_cons (xw_E xn_iload (xo_iload_n dX9_toldBy_43 rfl)) <|
  xw_cons (xw_E xn_aload (xo_aload_n dX9_toldBy_44 rfl)) <|
  xw_cons (xw_E xn_getf (xo_getf hG xg_27_334 dX9_toldBy_45)) <|
  xw_cons (xl_v_27_354 hG dX9_toldBy_48) <|
  xw_cons (xw_E xn_lstore (xo_lstore_n dX9_toldBy_51 rfl)) <|
  xw_cons (xw_E xn_push (xo_iconst dX9_toldBy_52 (by decide))) <|
  xw_cons (xw_E xn_istore (xo_istore dX9_toldBy_53)) <|
  xw_cons (xw_E xn_push (xo_iconst dX9_toldBy_55 (by decide))) <|
  xw_cons (xw_E xn_istore (xo_istore dX9_toldBy_56)) <|
  xw_cons (xw_E xn_iload (xo_iload dX9_toldBy_58)) <|
  xw_cons (xw_E xn_aload (xo_aload_n dX9_toldBy_60 rfl)) <|
  xw_cons (xw_E xn_getf (xo_getf hG xg_27_13 dX9_toldBy_61)) <|
  xw_cons (xw_E xn_push (xo_iconst dX9_toldBy_64 (by decide))) <|
  xw_cons (xw_E xn_ald (xo_iald xk_hB dX9_toldBy_65)) <|
  xw_cons (xw_E xn_icmp (xo_icmp_ge dX9_toldBy_66 (by decide))) <|
  xw_cons (xw_E xn_lload (xo_lload_n dX9_toldBy_69 rfl)) <|
  xw_cons (xw_E xn_push (xo_lconst dX9_toldBy_70 (by decide))) <|
  xw_cons (xw_E xn_lcmp (xo_lcmp dX9_toldBy_71)) <|
  xw_cons (xw_E xn_if (xo_if_eq dX9_toldBy_72 (by decide))) <|
  xw_cons (xw_E xn_iload (xo_iload dX9_toldBy_75)) <|
  xw_cons (xw_E xn_lload (xo_lload_n dX9_toldBy_77 rfl)) <|
  xw_nil _
def xp_226_1 : List (Nat × xm_O) := [
  (78, .inl (xe_aload 0 79)),
  (79, .inl (xe_iload 6 81)),
  (81, .inr (.inr (.inl (xc_V (xj_1 8 194) [0])))),
  (84, .inr (.inr (.inl (xc_S 197 [1, 1])))),
  (87, .inl (xe_push (.int 2) 88)),
  (88, .inl (xe_icmp (fun x y => decide (y ≤ x)) 98 91)),
  (91, .inl (xe_push (.int 1) 92)),
  (92, .inl (xe_iload 6 94)),
  (94, .inl (xe_ii (fun x y => x <<< (y &&& 31)) 95)),
  (95, .inl (xe_goto 99)),
  (98, .inl (xe_push (.int 0) 99)),
  (99, .inl (xe_ii (fun x y => x ||| y) 100)),
  (100, .inl (xe_istore 5 102)),
  (102, .inl (xe_iinc 6 1 105)),
  (105, .inl (xe_goto 58)),
  (108, .inl (xe_iload 5 110)),
  (110, .inr (.inl xr_i))]
theorem xq_226_1 {G : xm_G} (hG : xm_W xk_B G) (hO : xm_Og G) : ∀ q ∈ xp_226_1, xm_op xk_B G xd xk_N "LiarsCockModel" "toldBy" prog_28_method_88_code 7 (some (FieldType.int)) q.1 q.2 :=
  xw_cons (xw_E xn_aload (xo_aload_n dX9_toldBy_78 rfl)) <|
  xw_cons (xw_E xn_iload (xo_iload dX9_toldBy_79)) <|
  xw_cons (xl_v_27_396 hG dX9_toldBy_81) <|
  xw_cons (xl_s_27_403 hG dX9_toldBy_84) <|
  xw_cons (xw_E xn_push (xo_iconst dX9_toldBy_87 (by decide))) <|
  xw_cons (xw_E xn_icmp (xo_icmp_ge dX9_toldBy_88 (by decide))) <|
  xw_cons (xw_E xn_push (xo_iconst dX9_toldBy_91 (by decide))) <|
  xw_cons (xw_E xn_iload (xo_iload dX9_toldBy_92)) <|
  xw_cons (xw_E xn_ii (xo_ishl dX9_toldBy_94)) <|
  xw_cons (xw_E xn_goto (xo_goto dX9_toldBy_95 (by decide))) <|
  xw_cons (xw_E xn_push (xo_iconst dX9_toldBy_98 (by decide))) <|
  xw_cons (xw_E xn_ii (xo_ior dX9_toldBy_99)) <|
  xw_cons (xw_E xn_istore (xo_istore dX9_toldBy_100)) <|
  xw_cons (xw_E xn_iinc (xo_iinc dX9_toldBy_102 (by decide))) <|
  xw_cons (xw_E xn_goto (xo_goto dX9_toldBy_105 (by decide))) <|
  xw_cons (xw_E xn_iload (xo_iload dX9_toldBy_108)) <|
  xw_cons (xw_R (xt_i dX9_toldBy_110)) <|
  xw_nil _
def xp_226 : List (Nat × xm_O) := xp_226_0 ++ xp_226_1
theorem xq_226 {G : xm_G} (hG : xm_W xk_B G) (hO : xm_Og G) : ∀ q ∈ xp_226, xm_op xk_B G xd xk_N "LiarsCockModel" "toldBy" prog_28_method_88_code 7 (some (FieldType.int)) q.1 q.2 := xw_app (xq_226_0 hG hO) (xq_226_1 hG hO)
/- 227: LiarsCockModel.fewest(II)I -/
def xp_227_0 : List (Nat × xm_O) := [
  (0, .inl (xe_aload 0 1)),
  (1, .inl (xe_push (.int 0) 2)),
  (2, .inl (xe_putf 300 0 (xj_1 8 0) 5)),
  (5, .inl (xe_aload 0 6)),
  (6, .inl (xe_iload 1 7)),
  (7, .inr (.inr (.inl (xc_V (xj_1 8 193) [0])))),
  (10, .inl (xe_if (fun x => decide (x = 0)) 22 13)),
  (13, .inl (xe_iload 2 14)),
  (14, .inl (xe_push (.int 0) 15)),
  (15, .inl (xe_push (.int 1) 16)),
  (16, .inr (.inr (.inl (xc_S 200 [0, 0, 0])))),
  (19, .inl (xe_if (fun x => decide (¬ x = 0)) 24 22)),
  (22, .inl (xe_push (.int (-1)) 23)),
  (23, .inr (.inl xr_i)),
  (24, .inl (xe_push (.int (-1)) 25)),
  (25, .inl (xe_istore 3 26)),
  (26, .inl (xe_push (.int 0) 27)),
  (27, .inl (xe_istore 4 29)),
  (29, .inl (xe_iload 4 31)),
  (31, .inl (xe_push (.int 1) 32)),
  (32, .inl (xe_aload 0 33)),
  (33, .inl (xe_getf (xj_1 8 10) 36)),
  (36, .inl (xe_push (.int 2) 37)),
  (37, .inl (xe_ald (fun t => t == 0) 38)),
  (38, .inl (xe_ii (fun x y => x <<< (y &&& 31)) 39)),
  (39, .inl (xe_icmp (fun x y => decide (y ≤ x)) 83 42)),
  (42, .inl (xe_aload 0 43)),
  (43, .inl (xe_iload 4 45)),
  (45, .inr (.inr (.inl (xc_V (xj_1 8 226) [0])))),
  (48, .inl (xe_iload 1 49)),
  (49, .inl (xe_ii (fun x y => x >>> (y &&& 31)) 50)),
  (50, .inl (xe_push (.int 1) 51)),
  (51, .inl (xe_ii (fun x y => x &&& y) 52)),
  (52, .inl (xe_push (.int 1) 53)),
  (53, .inl (xe_icmp (fun x y => decide (¬ x = y)) 77 56)),
  (56, .inl (xe_iload 3 57)),
  (57, .inl (xe_if (fun x => decide (x < 0)) 74 60)),
  (60, .inl (xe_iload 4 62)),
  (62, .inl (xe_i2l 63)),
  (63, .inr (.inr (.inl (xc_S 195 [1])))),
  (66, .inl (xe_iload 3 67)),
  (67, .inl (xe_i2l 68)),
  (68, .inr (.inr (.inl (xc_S 195 [1])))),
  (71, .inl (xe_icmp (fun x y => decide (y ≤ x)) 77 74)),
  (74, .inl (xe_iload 4 76)),
  (76, .inl (xe_istore 3 77)),
  (77, .inl (xe_iinc 4 1 80)),
  (80, .inl (xe_goto 29)),
  (83, .inl (xe_iload 3 84)),
  (84, .inl (xe_if (fun x => decide (0 ≤ x)) 91 87))]
theorem xq_227_0 {G : xm_G} (hG : xm_W xk_B G) (hO : xm_Og G) : ∀ q ∈ xp_227_0, xm_op xk_B G xd xk_N "LiarsCockModel" "fewest" prog_28_method_90_code 5 (some (FieldType.int)) q.1 q.2 :=
  xw_cons (xw_E xn_aload (xo_aload_n dX9_fewest_0 rfl)) <|
  xw_cons (xw_E xn_push (xo_iconst dX9_fewest_1 (by decide))) <|
  xw_cons (xw_E xn_putf (xo_putf hG rfl xu_27_162 dX9_fewest_2)) <|
  xw_cons (xw_E xn_aload (xo_aload_n dX9_fewest_5 rfl)) <|
  xw_cons (xw_E xn_iload (xo_iload_n dX9_fewest_6 rfl)) <|
  xw_cons (xl_v_27_393 hG dX9_fewest_7) <|
  xw_cons (xw_E xn_if (xo_if_eq dX9_fewest_10 (by decide))) <|
  xw_cons (xw_E xn_iload (xo_iload_n dX9_fewest_13 rfl)) <|
  xw_cons (xw_E xn_push (xo_iconst dX9_fewest_14 (by decide))) <|
  xw_cons (xw_E xn_push (xo_iconst dX9_fewest_15 (by decide))) <|
  xw_cons (xl_s_27_407 hG dX9_fewest_16) <|
  xw_cons (xw_E xn_if (xo_if_ne dX9_fewest_19 (by decide))) <|
  xw_cons (xw_E xn_push (xo_iconst dX9_fewest_22 (by decide))) <|
  xw_cons (xw_R (xt_i dX9_fewest_23)) <|
  xw_cons (xw_E xn_push (xo_iconst dX9_fewest_24 (by decide))) <|
  xw_cons (xw_E xn_istore (xo_istore_n dX9_fewest_25 rfl)) <|
  xw_cons (xw_E xn_push (xo_iconst dX9_fewest_26 (by decide))) <|
  xw_cons (xw_E xn_istore (xo_istore dX9_fewest_27)) <|
  xw_cons (xw_E xn_iload (xo_iload dX9_fewest_29)) <|
  xw_cons (xw_E xn_push (xo_iconst dX9_fewest_31 (by decide))) <|
  xw_cons (xw_E xn_aload (xo_aload_n dX9_fewest_32 rfl)) <|
  xw_cons (xw_E xn_getf (xo_getf hG xg_27_13 dX9_fewest_33)) <|
  xw_cons (xw_E xn_push (xo_iconst dX9_fewest_36 (by decide))) <|
  xw_cons (xw_E xn_ald (xo_iald xk_hB dX9_fewest_37)) <|
  xw_cons (xw_E xn_ii (xo_ishl dX9_fewest_38)) <|
  xw_cons (xw_E xn_icmp (xo_icmp_ge dX9_fewest_39 (by decide))) <|
  xw_cons (xw_E xn_aload (xo_aload_n dX9_fewest_42 rfl)) <|
  xw_cons (xw_E xn_iload (xo_iload dX9_fewest_43)) <|
  xw_cons (xl_v_27_450 hG dX9_fewest_45) <|
  xw_cons (xw_E xn_iload (xo_iload_n dX9_fewest_48 rfl)) <|
  xw_cons (xw_E xn_ii (xo_ishr dX9_fewest_49)) <|
  xw_cons (xw_E xn_push (xo_iconst dX9_fewest_50 (by decide))) <|
  xw_cons (xw_E xn_ii (xo_iand dX9_fewest_51)) <|
  xw_cons (xw_E xn_push (xo_iconst dX9_fewest_52 (by decide))) <|
  xw_cons (xw_E xn_icmp (xo_icmp_ne dX9_fewest_53 (by decide))) <|
  xw_cons (xw_E xn_iload (xo_iload_n dX9_fewest_56 rfl)) <|
  xw_cons (xw_E xn_if (xo_if_lt dX9_fewest_57 (by decide))) <|
  xw_cons (xw_E xn_iload (xo_iload dX9_fewest_60)) <|
  xw_cons (xw_E xn_i2l (xo_i2l dX9_fewest_62)) <|
  xw_cons (xl_s_27_399 hG dX9_fewest_63) <|
  xw_cons (xw_E xn_iload (xo_iload_n dX9_fewest_66 rfl)) <|
  xw_cons (xw_E xn_i2l (xo_i2l dX9_fewest_67)) <|
  xw_cons (xl_s_27_399 hG dX9_fewest_68) <|
  xw_cons (xw_E xn_icmp (xo_icmp_ge dX9_fewest_71 (by decide))) <|
  xw_cons (xw_E xn_iload (xo_iload dX9_fewest_74)) <|
  xw_cons (xw_E xn_istore (xo_istore_n dX9_fewest_76 rfl)) <|
  xw_cons (xw_E xn_iinc (xo_iinc dX9_fewest_77 (by decide))) <|
  xw_cons (xw_E xn_goto (xo_goto dX9_fewest_80 (by decide))) <|
  xw_cons (xw_E xn_iload (xo_iload_n dX9_fewest_83 rfl)) <|
  xw_cons (xw_E xn_if (xo_if_ge dX9_fewest_84 (by decide))) <|
  xw_nil _
def xp_227_1 : List (Nat × xm_O) := [
  (87, .inl (xe_push (.int (-1)) 88)),
  (88, .inl (xe_goto 104)),
  (91, .inl (xe_iload 2 92)),
  (92, .inl (xe_if (fun x => decide (¬ x = 0)) 103 95)),
  (95, .inl (xe_iload 3 96)),
  (96, .inl (xe_i2l 97)),
  (97, .inr (.inr (.inl (xc_S 195 [1])))),
  (100, .inl (xe_goto 104)),
  (103, .inl (xe_iload 3 104)),
  (104, .inr (.inl xr_i))]
theorem xq_227_1 {G : xm_G} (hG : xm_W xk_B G) (hO : xm_Og G) : ∀ q ∈ xp_227_1, xm_op xk_B G xd xk_N "LiarsCockModel" "fewest" prog_28_method_90_code 5 (some (FieldType.int)) q.1 q.2 :=
  xw_cons (xw_E xn_push (xo_iconst dX9_fewest_87 (by decide))) <|
  xw_cons (xw_E xn_goto (xo_goto dX9_fewest_88 (by decide))) <|
  xw_cons (xw_E xn_iload (xo_iload_n dX9_fewest_91 rfl)) <|
  xw_cons (xw_E xn_if (xo_if_ne dX9_fewest_92 (by decide))) <|
  xw_cons (xw_E xn_iload (xo_iload_n dX9_fewest_95 rfl)) <|
  xw_cons (xw_E xn_i2l (xo_i2l dX9_fewest_96)) <|
  xw_cons (xl_s_27_399 hG dX9_fewest_97) <|
  xw_cons (xw_E xn_goto (xo_goto dX9_fewest_100 (by decide))) <|
  xw_cons (xw_E xn_iload (xo_iload_n dX9_fewest_103 rfl)) <|
  xw_cons (xw_R (xt_i dX9_fewest_104)) <|
  xw_nil _
def xp_227 : List (Nat × xm_O) := xp_227_0 ++ xp_227_1
theorem xq_227 {G : xm_G} (hG : xm_W xk_B G) (hO : xm_Og G) : ∀ q ∈ xp_227, xm_op xk_B G xd xk_N "LiarsCockModel" "fewest" prog_28_method_90_code 5 (some (FieldType.int)) q.1 q.2 := xw_app (xq_227_0 hG hO) (xq_227_1 hG hO)
/- 228: LiarsCockModel.person(II)I -/
def xp_228_0 : List (Nat × xm_O) := [
  (0, .inl (xe_aload 0 1)),
  (1, .inl (xe_push (.int 0) 2)),
  (2, .inl (xe_putf 300 0 (xj_1 8 0) 5)),
  (5, .inl (xe_aload 0 6)),
  (6, .inl (xe_iload 1 7)),
  (7, .inr (.inr (.inl (xc_V (xj_1 8 170) [0])))),
  (10, .inl (xe_if (fun x => decide (x = 0)) 22 13)),
  (13, .inl (xe_iload 2 14)),
  (14, .inl (xe_push (.int 0) 15)),
  (15, .inl (xe_push (.int 2) 16)),
  (16, .inr (.inr (.inl (xc_S 200 [0, 0, 0])))),
  (19, .inl (xe_if (fun x => decide (¬ x = 0)) 26 22)),
  (22, .inl (xe_push (.int (-1)) 23)),
  (23, .inl (xe_goto 64)),
  (26, .inl (xe_iload 2 27)),
  (27, .inl (xe_if (fun x => decide (¬ x = 0)) 39 30)),
  (30, .inl (xe_aload 0 31)),
  (31, .inl (xe_getf (xj_1 8 14) 34)),
  (34, .inl (xe_iload 1 35)),
  (35, .inl (xe_ald (fun t => t == 0) 36)),
  (36, .inl (xe_goto 64)),
  (39, .inl (xe_iload 2 40)),
  (40, .inl (xe_push (.int 1) 41)),
  (41, .inl (xe_icmp (fun x y => decide (¬ x = y)) 58 44)),
  (44, .inl (xe_aload 0 45)),
  (45, .inl (xe_getf (xj_1 8 13) 48)),
  (48, .inl (xe_aload 0 49)),
  (49, .inl (xe_getf (xj_1 8 14) 52)),
  (52, .inl (xe_iload 1 53)),
  (53, .inl (xe_ald (fun t => t == 0) 54)),
  (54, .inl (xe_ald (fun t => t == 0) 55)),
  (55, .inl (xe_goto 64)),
  (58, .inl (xe_aload 0 59)),
  (59, .inl (xe_getf (xj_1 8 15) 62)),
  (62, .inl (xe_iload 1 63)),
  (63, .inl (xe_ald (fun t => t == 0) 64)),
  (64, .inr (.inl xr_i))]
theorem xq_228_0 {G : xm_G} (hG : xm_W xk_B G) (hO : xm_Og G) : ∀ q ∈ xp_228_0, xm_op xk_B G xd xk_N "LiarsCockModel" "person" prog_28_method_91_code 3 (some (FieldType.int)) q.1 q.2 :=
  xw_cons (xw_E xn_aload (xo_aload_n dX9_person_0 rfl)) <|
  xw_cons (xw_E xn_push (xo_iconst dX9_person_1 (by decide))) <|
  xw_cons (xw_E xn_putf (xo_putf hG rfl xu_27_162 dX9_person_2)) <|
  xw_cons (xw_E xn_aload (xo_aload_n dX9_person_5 rfl)) <|
  xw_cons (xw_E xn_iload (xo_iload_n dX9_person_6 rfl)) <|
  xw_cons (xl_v_27_337 hG dX9_person_7) <|
  xw_cons (xw_E xn_if (xo_if_eq dX9_person_10 (by decide))) <|
  xw_cons (xw_E xn_iload (xo_iload_n dX9_person_13 rfl)) <|
  xw_cons (xw_E xn_push (xo_iconst dX9_person_14 (by decide))) <|
  xw_cons (xw_E xn_push (xo_iconst dX9_person_15 (by decide))) <|
  xw_cons (xl_s_27_407 hG dX9_person_16) <|
  xw_cons (xw_E xn_if (xo_if_ne dX9_person_19 (by decide))) <|
  xw_cons (xw_E xn_push (xo_iconst dX9_person_22 (by decide))) <|
  xw_cons (xw_E xn_goto (xo_goto dX9_person_23 (by decide))) <|
  xw_cons (xw_E xn_iload (xo_iload_n dX9_person_26 rfl)) <|
  xw_cons (xw_E xn_if (xo_if_ne dX9_person_27 (by decide))) <|
  xw_cons (xw_E xn_aload (xo_aload_n dX9_person_30 rfl)) <|
  xw_cons (xw_E xn_getf (xo_getf hG xg_27_26 dX9_person_31)) <|
  xw_cons (xw_E xn_iload (xo_iload_n dX9_person_34 rfl)) <|
  xw_cons (xw_E xn_ald (xo_iald xk_hB dX9_person_35)) <|
  xw_cons (xw_E xn_goto (xo_goto dX9_person_36 (by decide))) <|
  xw_cons (xw_E xn_iload (xo_iload_n dX9_person_39 rfl)) <|
  xw_cons (xw_E xn_push (xo_iconst dX9_person_40 (by decide))) <|
  xw_cons (xw_E xn_icmp (xo_icmp_ne dX9_person_41 (by decide))) <|
  xw_cons (xw_E xn_aload (xo_aload_n dX9_person_44 rfl)) <|
  xw_cons (xw_E xn_getf (xo_getf hG xg_27_23 dX9_person_45)) <|
  xw_cons (xw_E xn_aload (xo_aload_n dX9_person_48 rfl)) <|
  xw_cons (xw_E xn_getf (xo_getf hG xg_27_26 dX9_person_49)) <|
  xw_cons (xw_E xn_iload (xo_iload_n dX9_person_52 rfl)) <|
  xw_cons (xw_E xn_ald (xo_iald xk_hB dX9_person_53)) <|
  xw_cons (xw_E xn_ald (xo_iald xk_hB dX9_person_54)) <|
  xw_cons (xw_E xn_goto (xo_goto dX9_person_55 (by decide))) <|
  xw_cons (xw_E xn_aload (xo_aload_n dX9_person_58 rfl)) <|
  xw_cons (xw_E xn_getf (xo_getf hG xg_27_29 dX9_person_59)) <|
  xw_cons (xw_E xn_iload (xo_iload_n dX9_person_62 rfl)) <|
  xw_cons (xw_E xn_ald (xo_iald xk_hB dX9_person_63)) <|
  xw_cons (xw_R (xt_i dX9_person_64)) <|
  xw_nil _
def xp_228 : List (Nat × xm_O) := xp_228_0
theorem xq_228 {G : xm_G} (hG : xm_W xk_B G) (hO : xm_Og G) : ∀ q ∈ xp_228, xm_op xk_B G xd xk_N "LiarsCockModel" "person" prog_28_method_91_code 3 (some (FieldType.int)) q.1 q.2 := xq_228_0 hG hO
/- 229: LiarsCockModel.lookout(III)I -/
def xp_229_0 : List (Nat × xm_O) := [
  (0, .inl (xe_aload 0 1)),
  (1, .inl (xe_push (.int 0) 2)),
  (2, .inl (xe_putf 300 0 (xj_1 8 0) 5)),
  (5, .inl (xe_aload 0 6)),
  (6, .inl (xe_iload 1 7)),
  (7, .inr (.inr (.inl (xc_V (xj_1 8 181) [0])))),
  (10, .inl (xe_if (fun x => decide (x = 0)) 30 13)),
  (13, .inl (xe_aload 0 14)),
  (14, .inl (xe_iload 2 15)),
  (15, .inr (.inr (.inl (xc_V (xj_1 8 193) [0])))),
  (18, .inl (xe_if (fun x => decide (x = 0)) 30 21)),
  (21, .inl (xe_iload 3 22)),
  (22, .inl (xe_push (.int 0) 23)),
  (23, .inl (xe_push (.int 3) 24)),
  (24, .inr (.inr (.inl (xc_S 200 [0, 0, 0])))),
  (27, .inl (xe_if (fun x => decide (¬ x = 0)) 32 30)),
  (30, .inl (xe_push (.int (-1)) 31)),
  (31, .inr (.inl xr_i)),
  (32, .inl (xe_aload 0 33)),
  (33, .inr (.inr (.inl (xc_V (xj_1 8 188) [])))),
  (36, .inl (xe_lstore 4 38)),
  (38, .inl (xe_lload 4 40)),
  (40, .inl (xe_push (.long 0) 41)),
  (41, .inl (xe_lcmp 42)),
  (42, .inl (xe_if (fun x => decide (¬ x = 0)) 47 45)),
  (45, .inl (xe_push (.int (-1)) 46)),
  (46, .inr (.inl xr_i)),
  (47, .inl (xe_aload 0 48)),
  (48, .inl (xe_iload 1 49)),
  (49, .inl (xe_lload 4 51)),
  (51, .inr (.inr (.inl (xc_V (xj_1 8 230) [1, 0])))),
  (54, .inl (xe_push (.int 0) 55)),
  (55, .inl (xe_istore 6 57)),
  (57, .inl (xe_iload 6 59)),
  (59, .inl (xe_push (.int 4) 60)),
  (60, .inl (xe_icmp (fun x y => decide (y ≤ x)) 82 63)),
  (63, .inl (xe_aload 0 64)),
  (64, .inl (xe_push (.int 0) 65)),
  (65, .inl (xe_iload 6 67)),
  (67, .inl (xe_iload 2 68)),
  (68, .inl (xe_lload 4 70)),
  (70, .inr (.inr (.inl (xc_V (xj_1 8 232) [1, 0, 0, 0])))),
  (73, .inl (xe_if (fun x => decide (¬ x = 0)) 82 76)),
  (76, .inl (xe_iinc 6 1 79)),
  (79, .inl (xe_goto 57)),
  (82, .inl (xe_iload 6 84)),
  (84, .inl (xe_push (.int 3) 85)),
  (85, .inl (xe_icmp (fun x y => decide (x ≤ y)) 92 88)),
  (88, .inl (xe_push (.int (-1)) 89)),
  (89, .inl (xe_goto 124))]
theorem xq_229_0 {G : xm_G} (hG : xm_W xk_B G) (hO : xm_Og G) : ∀ q ∈ xp_229_0, xm_op xk_B G xd xk_N "LiarsCockModel" "lookout" prog_28_method_96_code 7 (some (FieldType.int)) q.1 q.2 :=
  xw_cons (xw_E xn_aload (xo_aload_n dX9_lookout_0 rfl)) <|
  xw_cons (xw_E xn_push (xo_iconst dX9_lookout_1 (by decide))) <|
  xw_cons (xw_E xn_putf (xo_putf hG rfl xu_27_162 dX9_lookout_2)) <|
  xw_cons (xw_E xn_aload (xo_aload_n dX9_lookout_5 rfl)) <|
  xw_cons (xw_E xn_iload (xo_iload_n dX9_lookout_6 rfl)) <|
  xw_cons (xl_v_27_371 hG dX9_lookout_7) <|
  xw_cons (xw_E xn_if (xo_if_eq dX9_lookout_10 (by decide))) <|
  xw_cons (xw_E xn_aload (xo_aload_n dX9_lookout_13 rfl)) <|
  xw_cons (xw_E xn_iload (xo_iload_n dX9_lookout_14 rfl)) <|
  xw_cons (xl_v_27_393 hG dX9_lookout_15) <|
  xw_cons (xw_E xn_if (xo_if_eq dX9_lookout_18 (by decide))) <|
  xw_cons (xw_E xn_iload (xo_iload_n dX9_lookout_21 rfl)) <|
  xw_cons (xw_E xn_push (xo_iconst dX9_lookout_22 (by decide))) <|
  xw_cons (xw_E xn_push (xo_iconst dX9_lookout_23 (by decide))) <|
  xw_cons (xl_s_27_407 hG dX9_lookout_24) <|
  xw_cons (xw_E xn_if (xo_if_ne dX9_lookout_27 (by decide))) <|
  xw_cons (xw_E xn_push (xo_iconst dX9_lookout_30 (by decide))) <|
  xw_cons (xw_R (xt_i dX9_lookout_31)) <|
  xw_cons (xw_E xn_aload (xo_aload_n dX9_lookout_32 rfl)) <|
  xw_cons (xl_v_27_390 hG dX9_lookout_33) <|
  xw_cons (xw_E xn_lstore (xo_lstore dX9_lookout_36)) <|
  xw_cons (xw_E xn_lload (xo_lload dX9_lookout_38)) <|
  xw_cons (xw_E xn_push (xo_lconst dX9_lookout_40 (by decide))) <|
  xw_cons (xw_E xn_lcmp (xo_lcmp dX9_lookout_41)) <|
  xw_cons (xw_E xn_if (xo_if_ne dX9_lookout_42 (by decide))) <|
  xw_cons (xw_E xn_push (xo_iconst dX9_lookout_45 (by decide))) <|
  xw_cons (xw_R (xt_i dX9_lookout_46)) <|
  xw_cons (xw_E xn_aload (xo_aload_n dX9_lookout_47 rfl)) <|
  xw_cons (xw_E xn_iload (xo_iload_n dX9_lookout_48 rfl)) <|
  xw_cons (xw_E xn_lload (xo_lload dX9_lookout_49)) <|
  xw_cons (xl_v_27_467 hG dX9_lookout_51) <|
  xw_cons (xw_E xn_push (xo_iconst dX9_lookout_54 (by decide))) <|
  xw_cons (xw_E xn_istore (xo_istore dX9_lookout_55)) <|
  xw_cons (xw_E xn_iload (xo_iload dX9_lookout_57)) <|
  xw_cons (xw_E xn_push (xo_iconst dX9_lookout_59 (by decide))) <|
  xw_cons (xw_E xn_icmp (xo_icmp_ge dX9_lookout_60 (by decide))) <|
  xw_cons (xw_E xn_aload (xo_aload_n dX9_lookout_63 rfl)) <|
  xw_cons (xw_E xn_push (xo_iconst dX9_lookout_64 (by decide))) <|
  xw_cons (xw_E xn_iload (xo_iload dX9_lookout_65)) <|
  xw_cons (xw_E xn_iload (xo_iload_n dX9_lookout_67 rfl)) <|
  xw_cons (xw_E xn_lload (xo_lload dX9_lookout_68)) <|
  xw_cons (xl_v_27_463 hG dX9_lookout_70) <|
  xw_cons (xw_E xn_if (xo_if_ne dX9_lookout_73 (by decide))) <|
  xw_cons (xw_E xn_iinc (xo_iinc dX9_lookout_76 (by decide))) <|
  xw_cons (xw_E xn_goto (xo_goto dX9_lookout_79 (by decide))) <|
  xw_cons (xw_E xn_iload (xo_iload dX9_lookout_82)) <|
  xw_cons (xw_E xn_push (xo_iconst dX9_lookout_84 (by decide))) <|
  xw_cons (xw_E xn_icmp (xo_icmp_le dX9_lookout_85 (by decide))) <|
  xw_cons (xw_E xn_push (xo_iconst dX9_lookout_88 (by decide))) <|
  xw_cons (xw_E xn_goto (xo_goto dX9_lookout_89 (by decide))) <|
  xw_nil _
def xp_229_1 : List (Nat × xm_O) := [
  (92, .inl (xe_iload 3 93)),
  (93, .inl (xe_if (fun x => decide (¬ x = 0)) 101 96)),
  (96, .inl (xe_iload 6 98)),
  (98, .inl (xe_goto 124)),
  (101, .inl (xe_iload 3 102)),
  (102, .inl (xe_iload 6 104)),
  (104, .inl (xe_icmp (fun x y => decide (y < x)) 123 107)),
  (107, .inl (xe_aload 0 108)),
  (108, .inl (xe_getf (xj_1 8 62) 111)),
  (111, .inl (xe_aload 0 112)),
  (112, .inl (xe_getf (xj_1 8 64) 115)),
  (115, .inl (xe_iload 3 116)),
  (116, .inl (xe_push (.int 1) 117)),
  (117, .inl (xe_ii (fun x y => x - y) 118)),
  (118, .inl (xe_ald (fun t => t == 0) 119)),
  (119, .inl (xe_ald (fun t => t == 0) 120)),
  (120, .inl (xe_goto 124)),
  (123, .inl (xe_push (.int (-1)) 124)),
  (124, .inr (.inl xr_i))]
theorem xq_229_1 {G : xm_G} (hG : xm_W xk_B G) (hO : xm_Og G) : ∀ q ∈ xp_229_1, xm_op xk_B G xd xk_N "LiarsCockModel" "lookout" prog_28_method_96_code 7 (some (FieldType.int)) q.1 q.2 :=
  xw_cons (xw_E xn_iload (xo_iload_n dX9_lookout_92 rfl)) <|
  xw_cons (xw_E xn_if (xo_if_ne dX9_lookout_93 (by decide))) <|
  xw_cons (xw_E xn_iload (xo_iload dX9_lookout_96)) <|
  xw_cons (xw_E xn_goto (xo_goto dX9_lookout_98 (by decide))) <|
  xw_cons (xw_E xn_iload (xo_iload_n dX9_lookout_101 rfl)) <|
  xw_cons (xw_E xn_iload (xo_iload dX9_lookout_102)) <|
  xw_cons (xw_E xn_icmp (xo_icmp_gt dX9_lookout_104 (by decide))) <|
  xw_cons (xw_E xn_aload (xo_aload_n dX9_lookout_107 rfl)) <|
  xw_cons (xw_E xn_getf (xo_getf hG xg_27_141 dX9_lookout_108)) <|
  xw_cons (xw_E xn_aload (xo_aload_n dX9_lookout_111 rfl)) <|
  xw_cons (xw_E xn_getf (xo_getf hG xg_27_147 dX9_lookout_112)) <|
  xw_cons (xw_E xn_iload (xo_iload_n dX9_lookout_115 rfl)) <|
  xw_cons (xw_E xn_push (xo_iconst dX9_lookout_116 (by decide))) <|
  xw_cons (xw_E xn_ii (xo_isub dX9_lookout_117)) <|
  xw_cons (xw_E xn_ald (xo_iald xk_hB dX9_lookout_118)) <|
  xw_cons (xw_E xn_ald (xo_iald xk_hB dX9_lookout_119)) <|
  xw_cons (xw_E xn_goto (xo_goto dX9_lookout_120 (by decide))) <|
  xw_cons (xw_E xn_push (xo_iconst dX9_lookout_123 (by decide))) <|
  xw_cons (xw_R (xt_i dX9_lookout_124)) <|
  xw_nil _
def xp_229 : List (Nat × xm_O) := xp_229_0 ++ xp_229_1
theorem xq_229 {G : xm_G} (hG : xm_W xk_B G) (hO : xm_Og G) : ∀ q ∈ xp_229, xm_op xk_B G xd xk_N "LiarsCockModel" "lookout" prog_28_method_96_code 7 (some (FieldType.int)) q.1 q.2 := xw_app (xq_229_0 hG hO) (xq_229_1 hG hO)
/- 230: LiarsCockModel.turnsOut(IJ)V -/
def xp_230_0 : List (Nat × xm_O) := [
  (0, .inl (xe_aload 0 1)),
  (1, .inl (xe_push (.int 0) 2)),
  (2, .inl (xe_putf 300 0 (xj_1 8 61) 5)),
  (5, .inl (xe_push (.int 0) 6)),
  (6, .inl (xe_istore 4 8)),
  (8, .inl (xe_iload 4 10)),
  (10, .inl (xe_aload 0 11)),
  (11, .inl (xe_getf (xj_1 8 40) 14)),
  (14, .inl (xe_icmp (fun x y => decide (y ≤ x)) 151 17)),
  (17, .inl (xe_aload 0 18)),
  (18, .inl (xe_getf (xj_1 8 46) 21)),
  (21, .inl (xe_iload 4 23)),
  (23, .inl (xe_ald (fun t => t == 0) 24)),
  (24, .inl (xe_aload 0 25)),
  (25, .inl (xe_getf (xj_1 8 17) 28)),
  (28, .inl (xe_iload 1 29)),
  (29, .inl (xe_ald (fun t => t == 0) 30)),
  (30, .inl (xe_ii (fun x y => x + y) 31)),
  (31, .inl (xe_istore 5 33)),
  (33, .inl (xe_iload 5 35)),
  (35, .inl (xe_push (.int 1439) 38)),
  (38, .inl (xe_icmp (fun x y => decide (y < x)) 145 41)),
  (41, .inl (xe_aload 0 42)),
  (42, .inl (xe_getf (xj_1 8 61) 45)),
  (45, .inl (xe_if (fun x => decide (x ≤ 0)) 64 48)),
  (48, .inl (xe_aload 0 49)),
  (49, .inl (xe_getf (xj_1 8 62) 52)),
  (52, .inl (xe_aload 0 53)),
  (53, .inl (xe_getf (xj_1 8 61) 56)),
  (56, .inl (xe_push (.int 1) 57)),
  (57, .inl (xe_ii (fun x y => x - y) 58)),
  (58, .inl (xe_ald (fun t => t == 0) 59)),
  (59, .inl (xe_iload 5 61)),
  (61, .inl (xe_icmp (fun x y => decide (x = y)) 145 64)),
  (64, .inl (xe_aload 0 65)),
  (65, .inl (xe_iload 1 66)),
  (66, .inl (xe_iload 5 68)),
  (68, .inl (xe_lload 2 69)),
  (69, .inr (.inr (.inl (xc_V (xj_1 8 231) [1, 0, 0])))),
  (72, .inl (xe_if (fun x => decide (¬ x = 0)) 78 75)),
  (75, .inl (xe_goto 145)),
  (78, .inl (xe_aload 0 79)),
  (79, .inl (xe_getf (xj_1 8 62) 82)),
  (82, .inl (xe_aload 0 83)),
  (83, .inl (xe_getf (xj_1 8 61) 86)),
  (86, .inl (xe_iload 5 88)),
  (88, .inl (xe_ast 300 0 (xm_kd 0) 89)),
  (89, .inl (xe_push (.int 0) 90)),
  (90, .inl (xe_istore 6 92)),
  (92, .inl (xe_iload 6 94))]
theorem xq_230_0 {G : xm_G} (hG : xm_W xk_B G) (hO : xm_Og G) : ∀ q ∈ xp_230_0, xm_op xk_B G xd xk_N "LiarsCockModel" "turnsOut" prog_28_method_93_code 7 none q.1 q.2 :=
  xw_cons (xw_E xn_aload (xo_aload_n dX9_turnsOut_0 rfl)) <|
  xw_cons (xw_E xn_push (xo_iconst dX9_turnsOut_1 (by decide))) <|
  xw_cons (xw_E xn_putf (xo_putf hG rfl xu_27_453 dX9_turnsOut_2)) <|
  xw_cons (xw_E xn_push (xo_iconst dX9_turnsOut_5 (by decide))) <|
  xw_cons (xw_E xn_istore (xo_istore dX9_turnsOut_6)) <|
  xw_cons (xw_E xn_iload (xo_iload dX9_turnsOut_8)) <|
  xw_cons (xw_E xn_aload (xo_aload_n dX9_turnsOut_10 rfl)) <|
  xw_cons (xw_E xn_getf (xo_getf hG xg_27_322 dX9_turnsOut_11)) <|
  xw_cons (xw_E xn_icmp (xo_icmp_ge dX9_turnsOut_14 (by decide))) <|
  xw_cons (xw_E xn_aload (xo_aload_n dX9_turnsOut_17 rfl)) <|
  xw_cons (xw_E xn_getf (xo_getf hG xg_27_99 dX9_turnsOut_18)) <|
  xw_cons (xw_E xn_iload (xo_iload dX9_turnsOut_21)) <|
  xw_cons (xw_E xn_ald (xo_iald xk_hB dX9_turnsOut_23)) <|
  xw_cons (xw_E xn_aload (xo_aload_n dX9_turnsOut_24 rfl)) <|
  xw_cons (xw_E xn_getf (xo_getf hG xg_27_35 dX9_turnsOut_25)) <|
  xw_cons (xw_E xn_iload (xo_iload_n dX9_turnsOut_28 rfl)) <|
  xw_cons (xw_E xn_ald (xo_iald xk_hB dX9_turnsOut_29)) <|
  xw_cons (xw_E xn_ii (xo_iadd dX9_turnsOut_30)) <|
  xw_cons (xw_E xn_istore (xo_istore dX9_turnsOut_31)) <|
  xw_cons (xw_E xn_iload (xo_iload dX9_turnsOut_33)) <|
  xw_cons (xw_E xn_push (xo_sipush dX9_turnsOut_35 (by decide))) <|
  xw_cons (xw_E xn_icmp (xo_icmp_gt dX9_turnsOut_38 (by decide))) <|
  xw_cons (xw_E xn_aload (xo_aload_n dX9_turnsOut_41 rfl)) <|
  xw_cons (xw_E xn_getf (xo_getf hG xg_27_453 dX9_turnsOut_42)) <|
  xw_cons (xw_E xn_if (xo_if_le dX9_turnsOut_45 (by decide))) <|
  xw_cons (xw_E xn_aload (xo_aload_n dX9_turnsOut_48 rfl)) <|
  xw_cons (xw_E xn_getf (xo_getf hG xg_27_141 dX9_turnsOut_49)) <|
  xw_cons (xw_E xn_aload (xo_aload_n dX9_turnsOut_52 rfl)) <|
  xw_cons (xw_E xn_getf (xo_getf hG xg_27_453 dX9_turnsOut_53)) <|
  xw_cons (xw_E xn_push (xo_iconst dX9_turnsOut_56 (by decide))) <|
  xw_cons (xw_E xn_ii (xo_isub dX9_turnsOut_57)) <|
  xw_cons (xw_E xn_ald (xo_iald xk_hB dX9_turnsOut_58)) <|
  xw_cons (xw_E xn_iload (xo_iload dX9_turnsOut_59)) <|
  xw_cons (xw_E xn_icmp (xo_icmp_eq dX9_turnsOut_61 (by decide))) <|
  xw_cons (xw_E xn_aload (xo_aload_n dX9_turnsOut_64 rfl)) <|
  xw_cons (xw_E xn_iload (xo_iload_n dX9_turnsOut_65 rfl)) <|
  xw_cons (xw_E xn_iload (xo_iload dX9_turnsOut_66)) <|
  xw_cons (xw_E xn_lload (xo_lload_n dX9_turnsOut_68 rfl)) <|
  xw_cons (xl_v_27_456 hG dX9_turnsOut_69) <|
  xw_cons (xw_E xn_if (xo_if_ne dX9_turnsOut_72 (by decide))) <|
  xw_cons (xw_E xn_goto (xo_goto dX9_turnsOut_75 (by decide))) <|
  xw_cons (xw_E xn_aload (xo_aload_n dX9_turnsOut_78 rfl)) <|
  xw_cons (xw_E xn_getf (xo_getf hG xg_27_141 dX9_turnsOut_79)) <|
  xw_cons (xw_E xn_aload (xo_aload_n dX9_turnsOut_82 rfl)) <|
  xw_cons (xw_E xn_getf (xo_getf hG xg_27_453 dX9_turnsOut_83)) <|
  xw_cons (xw_E xn_iload (xo_iload dX9_turnsOut_86)) <|
  xw_cons (xw_E xn_ast (xo_iast hG xk_hB rfl dX9_turnsOut_88)) <|
  xw_cons (xw_E xn_push (xo_iconst dX9_turnsOut_89 (by decide))) <|
  xw_cons (xw_E xn_istore (xo_istore dX9_turnsOut_90)) <|
  xw_cons (xw_E xn_iload (xo_iload dX9_turnsOut_92)) <|
  xw_nil _
def xp_230_1 : List (Nat × xm_O) := [
  (94, .inl (xe_push (.int 1) 95)),
  (95, .inl (xe_aload 0 96)),
  (96, .inl (xe_getf (xj_1 8 10) 99)),
  (99, .inl (xe_push (.int 0) 100)),
  (100, .inl (xe_ald (fun t => t == 0) 101)),
  (101, .inl (xe_ii (fun x y => x <<< (y &&& 31)) 102)),
  (102, .inl (xe_icmp (fun x y => decide (y ≤ x)) 135 105)),
  (105, .inl (xe_aload 0 106)),
  (106, .inl (xe_getf (xj_1 8 63) 109)),
  (109, .inl (xe_push (.int 64) 111)),
  (111, .inl (xe_aload 0 112)),
  (112, .inl (xe_getf (xj_1 8 61) 115)),
  (115, .inl (xe_ii (fun x y => x * y) 116)),
  (116, .inl (xe_iload 6 118)),
  (118, .inl (xe_ii (fun x y => x + y) 119)),
  (119, .inl (xe_aload 0 120)),
  (120, .inl (xe_iload 1 121)),
  (121, .inl (xe_iload 5 123)),
  (123, .inl (xe_iload 6 125)),
  (125, .inr (.inr (.inl (xc_V (xj_1 8 190) [0, 0, 0])))),
  (128, .inl (xe_ast 300 0 (xm_kd 0) 129)),
  (129, .inl (xe_iinc 6 1 132)),
  (132, .inl (xe_goto 92)),
  (135, .inl (xe_aload 0 136)),
  (136, .inl (xe_dup 137)),
  (137, .inl (xe_getf (xj_1 8 61) 140)),
  (140, .inl (xe_push (.int 1) 141)),
  (141, .inl (xe_ii (fun x y => x + y) 142)),
  (142, .inl (xe_putf 300 0 (xj_1 8 61) 145)),
  (145, .inl (xe_iinc 4 1 148)),
  (148, .inl (xe_goto 8)),
  (151, .inr (.inl xr_v))]
theorem xq_230_1 {G : xm_G} (hG : xm_W xk_B G) (hO : xm_Og G) : ∀ q ∈ xp_230_1, xm_op xk_B G xd xk_N "LiarsCockModel" "turnsOut" prog_28_method_93_code 7 none q.1 q.2 :=
  xw_cons (xw_E xn_push (xo_iconst dX9_turnsOut_94 (by decide))) <|
  xw_cons (xw_E xn_aload (xo_aload_n dX9_turnsOut_95 rfl)) <|
  xw_cons (xw_E xn_getf (xo_getf hG xg_27_13 dX9_turnsOut_96)) <|
  xw_cons (xw_E xn_push (xo_iconst dX9_turnsOut_99 (by decide))) <|
  xw_cons (xw_E xn_ald (xo_iald xk_hB dX9_turnsOut_100)) <|
  xw_cons (xw_E xn_ii (xo_ishl dX9_turnsOut_101)) <|
  xw_cons (xw_E xn_icmp (xo_icmp_ge dX9_turnsOut_102 (by decide))) <|
  xw_cons (xw_E xn_aload (xo_aload_n dX9_turnsOut_105 rfl)) <|
  xw_cons (xw_E xn_getf (xo_getf hG xg_27_144 dX9_turnsOut_106)) <|
  xw_cons (xw_E xn_push (xo_bipush dX9_turnsOut_109 (by decide))) <|
  xw_cons (xw_E xn_aload (xo_aload_n dX9_turnsOut_111 rfl)) <|
  xw_cons (xw_E xn_getf (xo_getf hG xg_27_453 dX9_turnsOut_112)) <|
  xw_cons (xw_E xn_ii (xo_imul dX9_turnsOut_115)) <|
  xw_cons (xw_E xn_iload (xo_iload dX9_turnsOut_116)) <|
  xw_cons (xw_E xn_ii (xo_iadd dX9_turnsOut_118)) <|
  xw_cons (xw_E xn_aload (xo_aload_n dX9_turnsOut_119 rfl)) <|
  xw_cons (xw_E xn_iload (xo_iload_n dX9_turnsOut_120 rfl)) <|
  xw_cons (xw_E xn_iload (xo_iload dX9_turnsOut_121)) <|
  xw_cons (xw_E xn_iload (xo_iload dX9_turnsOut_123)) <|
  xw_cons (xl_v_27_380 hG dX9_turnsOut_125) <|
  xw_cons (xw_E xn_ast (xo_iast hG xk_hB rfl dX9_turnsOut_128)) <|
  xw_cons (xw_E xn_iinc (xo_iinc dX9_turnsOut_129 (by decide))) <|
  xw_cons (xw_E xn_goto (xo_goto dX9_turnsOut_132 (by decide))) <|
  xw_cons (xw_E xn_aload (xo_aload_n dX9_turnsOut_135 rfl)) <|
  xw_cons (xw_E xn_dup (xo_dup dX9_turnsOut_136)) <|
  xw_cons (xw_E xn_getf (xo_getf hG xg_27_453 dX9_turnsOut_137)) <|
  xw_cons (xw_E xn_push (xo_iconst dX9_turnsOut_140 (by decide))) <|
  xw_cons (xw_E xn_ii (xo_iadd dX9_turnsOut_141)) <|
  xw_cons (xw_E xn_putf (xo_putf hG rfl xu_27_453 dX9_turnsOut_142)) <|
  xw_cons (xw_E xn_iinc (xo_iinc dX9_turnsOut_145 (by decide))) <|
  xw_cons (xw_E xn_goto (xo_goto dX9_turnsOut_148 (by decide))) <|
  xw_cons (xw_R (xt_v dX9_turnsOut_151)) <|
  xw_nil _
def xp_230 : List (Nat × xm_O) := xp_230_0 ++ xp_230_1
theorem xq_230 {G : xm_G} (hG : xm_W xk_B G) (hO : xm_Og G) : ∀ q ∈ xp_230, xm_op xk_B G xd xk_N "LiarsCockModel" "turnsOut" prog_28_method_93_code 7 none q.1 q.2 := xw_app (xq_230_0 hG hO) (xq_230_1 hG hO)
/- 231: LiarsCockModel.turnsIn(IIJ)Z -/
def xp_231_0 : List (Nat × xm_O) := [
  (0, .inl (xe_push (.int 0) 1)),
  (1, .inl (xe_istore 5 3)),
  (3, .inl (xe_iload 5 5)),
  (5, .inl (xe_push (.int 1) 6)),
  (6, .inl (xe_aload 0 7)),
  (7, .inl (xe_getf (xj_1 8 10) 10)),
  (10, .inl (xe_push (.int 0) 11)),
  (11, .inl (xe_ald (fun t => t == 0) 12)),
  (12, .inl (xe_ii (fun x y => x <<< (y &&& 31)) 13)),
  (13, .inl (xe_icmp (fun x y => decide (y ≤ x)) 54 16)),
  (16, .inl (xe_lload 3 17)),
  (17, .inl (xe_iload 5 19)),
  (19, .inr (.inr (.inl (xc_S 177 [0, 1])))),
  (22, .inl (xe_if (fun x => decide (x = 0)) 48 25)),
  (25, .inl (xe_aload 0 26)),
  (26, .inl (xe_iload 1 27)),
  (27, .inl (xe_iload 2 28)),
  (28, .inl (xe_iload 5 30)),
  (30, .inr (.inr (.inl (xc_V (xj_1 8 184) [0, 0, 0])))),
  (33, .inl (xe_aload 0 34)),
  (34, .inl (xe_iload 1 35)),
  (35, .inl (xe_iload 2 36)),
  (36, .inl (xe_push (.int 1) 37)),
  (37, .inl (xe_ii (fun x y => x - y) 38)),
  (38, .inl (xe_iload 5 40)),
  (40, .inr (.inr (.inl (xc_V (xj_1 8 184) [0, 0, 0])))),
  (43, .inl (xe_icmp (fun x y => decide (x = y)) 48 46)),
  (46, .inl (xe_push (.int 1) 47)),
  (47, .inr (.inl xr_z)),
  (48, .inl (xe_iinc 5 1 51)),
  (51, .inl (xe_goto 3)),
  (54, .inl (xe_push (.int 0) 55)),
  (55, .inr (.inl xr_z))]
theorem xq_231_0 {G : xm_G} (hG : xm_W xk_B G) (hO : xm_Og G) : ∀ q ∈ xp_231_0, xm_op xk_B G xd xk_N "LiarsCockModel" "turnsIn" prog_28_method_92_code 6 (some (FieldType.boolean)) q.1 q.2 :=
  xw_cons (xw_E xn_push (xo_iconst dX9_turnsIn_0 (by decide))) <|
  xw_cons (xw_E xn_istore (xo_istore dX9_turnsIn_1)) <|
  xw_cons (xw_E xn_iload (xo_iload dX9_turnsIn_3)) <|
  xw_cons (xw_E xn_push (xo_iconst dX9_turnsIn_5 (by decide))) <|
  xw_cons (xw_E xn_aload (xo_aload_n dX9_turnsIn_6 rfl)) <|
  xw_cons (xw_E xn_getf (xo_getf hG xg_27_13 dX9_turnsIn_7)) <|
  xw_cons (xw_E xn_push (xo_iconst dX9_turnsIn_10 (by decide))) <|
  xw_cons (xw_E xn_ald (xo_iald xk_hB dX9_turnsIn_11)) <|
  xw_cons (xw_E xn_ii (xo_ishl dX9_turnsIn_12)) <|
  xw_cons (xw_E xn_icmp (xo_icmp_ge dX9_turnsIn_13 (by decide))) <|
  xw_cons (xw_E xn_lload (xo_lload_n dX9_turnsIn_16 rfl)) <|
  xw_cons (xw_E xn_iload (xo_iload dX9_turnsIn_17)) <|
  xw_cons (xl_s_27_350 hG dX9_turnsIn_19) <|
  xw_cons (xw_E xn_if (xo_if_eq dX9_turnsIn_22 (by decide))) <|
  xw_cons (xw_E xn_aload (xo_aload_n dX9_turnsIn_25 rfl)) <|
  xw_cons (xw_E xn_iload (xo_iload_n dX9_turnsIn_26 rfl)) <|
  xw_cons (xw_E xn_iload (xo_iload_n dX9_turnsIn_27 rfl)) <|
  xw_cons (xw_E xn_iload (xo_iload dX9_turnsIn_28)) <|
  xw_cons (xl_v_27_368 hG dX9_turnsIn_30) <|
  xw_cons (xw_E xn_aload (xo_aload_n dX9_turnsIn_33 rfl)) <|
  xw_cons (xw_E xn_iload (xo_iload_n dX9_turnsIn_34 rfl)) <|
  xw_cons (xw_E xn_iload (xo_iload_n dX9_turnsIn_35 rfl)) <|
  xw_cons (xw_E xn_push (xo_iconst dX9_turnsIn_36 (by decide))) <|
  xw_cons (xw_E xn_ii (xo_isub dX9_turnsIn_37)) <|
  xw_cons (xw_E xn_iload (xo_iload dX9_turnsIn_38)) <|
  xw_cons (xl_v_27_368 hG dX9_turnsIn_40) <|
  xw_cons (xw_E xn_icmp (xo_icmp_eq dX9_turnsIn_43 (by decide))) <|
  xw_cons (xw_E xn_push (xo_iconst dX9_turnsIn_46 (by decide))) <|
  xw_cons (xw_R (xt_z dX9_turnsIn_47)) <|
  xw_cons (xw_E xn_iinc (xo_iinc dX9_turnsIn_48 (by decide))) <|
  xw_cons (xw_E xn_goto (xo_goto dX9_turnsIn_51 (by decide))) <|
  xw_cons (xw_E xn_push (xo_iconst dX9_turnsIn_54 (by decide))) <|
  xw_cons (xw_R (xt_z dX9_turnsIn_55)) <|
  xw_nil _
def xp_231 : List (Nat × xm_O) := xp_231_0
theorem xq_231 {G : xm_G} (hG : xm_W xk_B G) (hO : xm_Og G) : ∀ q ∈ xp_231, xm_op xk_B G xd xk_N "LiarsCockModel" "turnsIn" prog_28_method_92_code 6 (some (FieldType.boolean)) q.1 q.2 := xq_231_0 hG hO
/- 232: LiarsCockModel.finds(IIIJ)Z -/
def xp_232_0 : List (Nat × xm_O) := [
  (0, .inl (xe_iload 1 1)),
  (1, .inl (xe_iload 2 2)),
  (2, .inl (xe_icmp (fun x y => decide (¬ x = y)) 14 5)),
  (5, .inl (xe_aload 0 6)),
  (6, .inl (xe_iload 2 7)),
  (7, .inl (xe_iload 3 8)),
  (8, .inl (xe_lload 4 10)),
  (10, .inr (.inr (.inl (xc_V (xj_1 8 233) [1, 0, 0])))),
  (13, .inr (.inl xr_z)),
  (14, .inl (xe_iload 1 15)),
  (15, .inl (xe_if (fun x => decide (¬ x = 0)) 22 18)),
  (18, .inl (xe_push (.int 0) 19)),
  (19, .inl (xe_goto 32)),
  (22, .inl (xe_aload 0 23)),
  (23, .inl (xe_getf (xj_1 8 64) 26)),
  (26, .inl (xe_iload 1 27)),
  (27, .inl (xe_push (.int 1) 28)),
  (28, .inl (xe_ii (fun x y => x - y) 29)),
  (29, .inl (xe_ald (fun t => t == 0) 30)),
  (30, .inl (xe_push (.int 1) 31)),
  (31, .inl (xe_ii (fun x y => x + y) 32)),
  (32, .inl (xe_istore 6 34)),
  (34, .inl (xe_iload 6 36)),
  (36, .inl (xe_aload 0 37)),
  (37, .inl (xe_getf (xj_1 8 61) 40)),
  (40, .inl (xe_icmp (fun x y => decide (y ≤ x)) 73 43)),
  (43, .inl (xe_aload 0 44)),
  (44, .inl (xe_getf (xj_1 8 64) 47)),
  (47, .inl (xe_iload 1 48)),
  (48, .inl (xe_iload 6 50)),
  (50, .inl (xe_ast 300 0 (xm_kd 0) 51)),
  (51, .inl (xe_aload 0 52)),
  (52, .inl (xe_iload 1 53)),
  (53, .inl (xe_push (.int 1) 54)),
  (54, .inl (xe_ii (fun x y => x + y) 55)),
  (55, .inl (xe_iload 2 56)),
  (56, .inl (xe_iload 3 57)),
  (57, .inl (xe_lload 4 59)),
  (59, .inr (.inr (.inl (xc_V (xj_1 8 232) [1, 0, 0, 0])))),
  (62, .inl (xe_if (fun x => decide (x = 0)) 67 65)),
  (65, .inl (xe_push (.int 1) 66)),
  (66, .inr (.inl xr_z)),
  (67, .inl (xe_iinc 6 1 70)),
  (70, .inl (xe_goto 34)),
  (73, .inl (xe_push (.int 0) 74)),
  (74, .inr (.inl xr_z))]
theorem xq_232_0 {G : xm_G} (hG : xm_W xk_B G) (hO : xm_Og G) : ∀ q ∈ xp_232_0, xm_op xk_B G xd xk_N "LiarsCockModel" "finds" prog_28_method_95_code 7 (some (FieldType.boolean)) q.1 q.2 :=
  xw_cons (xw_E xn_iload (xo_iload_n dX9_finds_0 rfl)) <|
  xw_cons (xw_E xn_iload (xo_iload_n dX9_finds_1 rfl)) <|
  xw_cons (xw_E xn_icmp (xo_icmp_ne dX9_finds_2 (by decide))) <|
  xw_cons (xw_E xn_aload (xo_aload_n dX9_finds_5 rfl)) <|
  xw_cons (xw_E xn_iload (xo_iload_n dX9_finds_6 rfl)) <|
  xw_cons (xw_E xn_iload (xo_iload_n dX9_finds_7 rfl)) <|
  xw_cons (xw_E xn_lload (xo_lload dX9_finds_8)) <|
  xw_cons (xl_v_27_460 hG dX9_finds_10) <|
  xw_cons (xw_R (xt_z dX9_finds_13)) <|
  xw_cons (xw_E xn_iload (xo_iload_n dX9_finds_14 rfl)) <|
  xw_cons (xw_E xn_if (xo_if_ne dX9_finds_15 (by decide))) <|
  xw_cons (xw_E xn_push (xo_iconst dX9_finds_18 (by decide))) <|
  xw_cons (xw_E xn_goto (xo_goto dX9_finds_19 (by decide))) <|
  xw_cons (xw_E xn_aload (xo_aload_n dX9_finds_22 rfl)) <|
  xw_cons (xw_E xn_getf (xo_getf hG xg_27_147 dX9_finds_23)) <|
  xw_cons (xw_E xn_iload (xo_iload_n dX9_finds_26 rfl)) <|
  xw_cons (xw_E xn_push (xo_iconst dX9_finds_27 (by decide))) <|
  xw_cons (xw_E xn_ii (xo_isub dX9_finds_28)) <|
  xw_cons (xw_E xn_ald (xo_iald xk_hB dX9_finds_29)) <|
  xw_cons (xw_E xn_push (xo_iconst dX9_finds_30 (by decide))) <|
  xw_cons (xw_E xn_ii (xo_iadd dX9_finds_31)) <|
  xw_cons (xw_E xn_istore (xo_istore dX9_finds_32)) <|
  xw_cons (xw_E xn_iload (xo_iload dX9_finds_34)) <|
  xw_cons (xw_E xn_aload (xo_aload_n dX9_finds_36 rfl)) <|
  xw_cons (xw_E xn_getf (xo_getf hG xg_27_453 dX9_finds_37)) <|
  xw_cons (xw_E xn_icmp (xo_icmp_ge dX9_finds_40 (by decide))) <|
  xw_cons (xw_E xn_aload (xo_aload_n dX9_finds_43 rfl)) <|
  xw_cons (xw_E xn_getf (xo_getf hG xg_27_147 dX9_finds_44)) <|
  xw_cons (xw_E xn_iload (xo_iload_n dX9_finds_47 rfl)) <|
  xw_cons (xw_E xn_iload (xo_iload dX9_finds_48)) <|
  xw_cons (xw_E xn_ast (xo_iast hG xk_hB rfl dX9_finds_50)) <|
  xw_cons (xw_E xn_aload (xo_aload_n dX9_finds_51 rfl)) <|
  xw_cons (xw_E xn_iload (xo_iload_n dX9_finds_52 rfl)) <|
  xw_cons (xw_E xn_push (xo_iconst dX9_finds_53 (by decide))) <|
  xw_cons (xw_E xn_ii (xo_iadd dX9_finds_54)) <|
  xw_cons (xw_E xn_iload (xo_iload_n dX9_finds_55 rfl)) <|
  xw_cons (xw_E xn_iload (xo_iload_n dX9_finds_56 rfl)) <|
  xw_cons (xw_E xn_lload (xo_lload dX9_finds_57)) <|
  xw_cons (xl_v_27_463 hG dX9_finds_59) <|
  xw_cons (xw_E xn_if (xo_if_eq dX9_finds_62 (by decide))) <|
  xw_cons (xw_E xn_push (xo_iconst dX9_finds_65 (by decide))) <|
  xw_cons (xw_R (xt_z dX9_finds_66)) <|
  xw_cons (xw_E xn_iinc (xo_iinc dX9_finds_67 (by decide))) <|
  xw_cons (xw_E xn_goto (xo_goto dX9_finds_70 (by decide))) <|
  xw_cons (xw_E xn_push (xo_iconst dX9_finds_73 (by decide))) <|
  xw_cons (xw_R (xt_z dX9_finds_74)) <|
  xw_nil _
def xp_232 : List (Nat × xm_O) := xp_232_0
theorem xq_232 {G : xm_G} (hG : xm_W xk_B G) (hO : xm_Og G) : ∀ q ∈ xp_232, xm_op xk_B G xd xk_N "LiarsCockModel" "finds" prog_28_method_95_code 7 (some (FieldType.boolean)) q.1 q.2 := xq_232_0 hG hO
/- 233: LiarsCockModel.tells(IIJ)Z -/
def xp_233_0 : List (Nat × xm_O) := [
  (0, .inl (xe_push (.int 0) 1)),
  (1, .inl (xe_istore 5 3)),
  (3, .inl (xe_iload 5 5)),
  (5, .inl (xe_push (.int 1) 6)),
  (6, .inl (xe_aload 0 7)),
  (7, .inl (xe_getf (xj_1 8 10) 10)),
  (10, .inl (xe_push (.int 0) 11)),
  (11, .inl (xe_ald (fun t => t == 0) 12)),
  (12, .inl (xe_ii (fun x y => x <<< (y &&& 31)) 13)),
  (13, .inl (xe_icmp (fun x y => decide (y ≤ x)) 147 16)),
  (16, .inl (xe_push (.int 0) 17)),
  (17, .inl (xe_istore 6 19)),
  (19, .inl (xe_iload 6 21)),
  (21, .inl (xe_iload 5 23)),
  (23, .inl (xe_icmp (fun x y => decide (y ≤ x)) 141 26)),
  (26, .inl (xe_lload 3 27)),
  (27, .inl (xe_iload 5 29)),
  (29, .inr (.inr (.inl (xc_S 177 [0, 1])))),
  (32, .inl (xe_if (fun x => decide (x = 0)) 135 35)),
  (35, .inl (xe_lload 3 36)),
  (36, .inl (xe_iload 6 38)),
  (38, .inr (.inr (.inl (xc_S 177 [0, 1])))),
  (41, .inl (xe_if (fun x => decide (x = 0)) 135 44)),
  (44, .inl (xe_iload 5 46)),
  (46, .inl (xe_iload 6 48)),
  (48, .inl (xe_ii (fun x y => x ^^^ y) 49)),
  (49, .inl (xe_iload 2 50)),
  (50, .inl (xe_ii (fun x y => x >>> (y &&& 31)) 51)),
  (51, .inl (xe_push (.int 1) 52)),
  (52, .inl (xe_ii (fun x y => x &&& y) 53)),
  (53, .inl (xe_if (fun x => decide (¬ x = 0)) 59 56)),
  (56, .inl (xe_goto 135)),
  (59, .inl (xe_push (.int 1) 60)),
  (60, .inl (xe_istore 7 62)),
  (62, .inl (xe_push (.int 0) 63)),
  (63, .inl (xe_istore 8 65)),
  (65, .inl (xe_iload 8 67)),
  (67, .inl (xe_iload 1 68)),
  (68, .inl (xe_icmp (fun x y => decide (y ≤ x)) 128 71)),
  (71, .inl (xe_iload 7 73)),
  (73, .inl (xe_if (fun x => decide (x = 0)) 119 76)),
  (76, .inl (xe_aload 0 77)),
  (77, .inl (xe_getf (xj_1 8 63) 80)),
  (80, .inl (xe_push (.int 64) 82)),
  (82, .inl (xe_aload 0 83)),
  (83, .inl (xe_getf (xj_1 8 64) 86)),
  (86, .inl (xe_iload 8 88)),
  (88, .inl (xe_ald (fun t => t == 0) 89)),
  (89, .inl (xe_ii (fun x y => x * y) 90)),
  (90, .inl (xe_iload 5 92))]
theorem xq_233_0 {G : xm_G} (hG : xm_W xk_B G) (hO : xm_Og G) : ∀ q ∈ xp_233_0, xm_op xk_B G xd xk_N "LiarsCockModel" "tells" prog_28_method_94_code 9 (some (FieldType.boolean)) q.1 q.2 :=
  xw_cons (xw_E xn_push (xo_iconst dX9_tells_0 (by decide))) <|
  xw_cons (xw_E xn_istore (xo_istore dX9_tells_1)) <|
  xw_cons (xw_E xn_iload (xo_iload dX9_tells_3)) <|
  xw_cons (xw_E xn_push (xo_iconst dX9_tells_5 (by decide))) <|
  xw_cons (xw_E xn_aload (xo_aload_n dX9_tells_6 rfl)) <|
  xw_cons (xw_E xn_getf (xo_getf hG xg_27_13 dX9_tells_7)) <|
  xw_cons (xw_E xn_push (xo_iconst dX9_tells_10 (by decide))) <|
  xw_cons (xw_E xn_ald (xo_iald xk_hB dX9_tells_11)) <|
  xw_cons (xw_E xn_ii (xo_ishl dX9_tells_12)) <|
  xw_cons (xw_E xn_icmp (xo_icmp_ge dX9_tells_13 (by decide))) <|
  xw_cons (xw_E xn_push (xo_iconst dX9_tells_16 (by decide))) <|
  xw_cons (xw_E xn_istore (xo_istore dX9_tells_17)) <|
  xw_cons (xw_E xn_iload (xo_iload dX9_tells_19)) <|
  xw_cons (xw_E xn_iload (xo_iload dX9_tells_21)) <|
  xw_cons (xw_E xn_icmp (xo_icmp_ge dX9_tells_23 (by decide))) <|
  xw_cons (xw_E xn_lload (xo_lload_n dX9_tells_26 rfl)) <|
  xw_cons (xw_E xn_iload (xo_iload dX9_tells_27)) <|
  xw_cons (xl_s_27_350 hG dX9_tells_29) <|
  xw_cons (xw_E xn_if (xo_if_eq dX9_tells_32 (by decide))) <|
  xw_cons (xw_E xn_lload (xo_lload_n dX9_tells_35 rfl)) <|
  xw_cons (xw_E xn_iload (xo_iload dX9_tells_36)) <|
  xw_cons (xl_s_27_350 hG dX9_tells_38) <|
  xw_cons (xw_E xn_if (xo_if_eq dX9_tells_41 (by decide))) <|
  xw_cons (xw_E xn_iload (xo_iload dX9_tells_44)) <|
  xw_cons (xw_E xn_iload (xo_iload dX9_tells_46)) <|
  xw_cons (xw_E xn_ii (xo_ixor dX9_tells_48)) <|
  xw_cons (xw_E xn_iload (xo_iload_n dX9_tells_49 rfl)) <|
  xw_cons (xw_E xn_ii (xo_ishr dX9_tells_50)) <|
  xw_cons (xw_E xn_push (xo_iconst dX9_tells_51 (by decide))) <|
  xw_cons (xw_E xn_ii (xo_iand dX9_tells_52)) <|
  xw_cons (xw_E xn_if (xo_if_ne dX9_tells_53 (by decide))) <|
  xw_cons (xw_E xn_goto (xo_goto dX9_tells_56 (by decide))) <|
  xw_cons (xw_E xn_push (xo_iconst dX9_tells_59 (by decide))) <|
  xw_cons (xw_E xn_istore (xo_istore dX9_tells_60)) <|
  xw_cons (xw_E xn_push (xo_iconst dX9_tells_62 (by decide))) <|
  xw_cons (xw_E xn_istore (xo_istore dX9_tells_63)) <|
  xw_cons (xw_E xn_iload (xo_iload dX9_tells_65)) <|
  xw_cons (xw_E xn_iload (xo_iload_n dX9_tells_67 rfl)) <|
  xw_cons (xw_E xn_icmp (xo_icmp_ge dX9_tells_68 (by decide))) <|
  xw_cons (xw_E xn_iload (xo_iload dX9_tells_71)) <|
  xw_cons (xw_E xn_if (xo_if_eq dX9_tells_73 (by decide))) <|
  xw_cons (xw_E xn_aload (xo_aload_n dX9_tells_76 rfl)) <|
  xw_cons (xw_E xn_getf (xo_getf hG xg_27_144 dX9_tells_77)) <|
  xw_cons (xw_E xn_push (xo_bipush dX9_tells_80 (by decide))) <|
  xw_cons (xw_E xn_aload (xo_aload_n dX9_tells_82 rfl)) <|
  xw_cons (xw_E xn_getf (xo_getf hG xg_27_147 dX9_tells_83)) <|
  xw_cons (xw_E xn_iload (xo_iload dX9_tells_86)) <|
  xw_cons (xw_E xn_ald (xo_iald xk_hB dX9_tells_88)) <|
  xw_cons (xw_E xn_ii (xo_imul dX9_tells_89)) <|
  xw_cons (xw_E xn_iload (xo_iload dX9_tells_90)) <|
  xw_nil _
def xp_233_1 : List (Nat × xm_O) := [
  (92, .inl (xe_ii (fun x y => x + y) 93)),
  (93, .inl (xe_ald (fun t => t == 0) 94)),
  (94, .inl (xe_aload 0 95)),
  (95, .inl (xe_getf (xj_1 8 63) 98)),
  (98, .inl (xe_push (.int 64) 100)),
  (100, .inl (xe_aload 0 101)),
  (101, .inl (xe_getf (xj_1 8 64) 104)),
  (104, .inl (xe_iload 8 106)),
  (106, .inl (xe_ald (fun t => t == 0) 107)),
  (107, .inl (xe_ii (fun x y => x * y) 108)),
  (108, .inl (xe_iload 6 110)),
  (110, .inl (xe_ii (fun x y => x + y) 111)),
  (111, .inl (xe_ald (fun t => t == 0) 112)),
  (112, .inl (xe_icmp (fun x y => decide (¬ x = y)) 119 115)),
  (115, .inl (xe_push (.int 1) 116)),
  (116, .inl (xe_goto 120)),
  (119, .inl (xe_push (.int 0) 120)),
  (120, .inl (xe_istore 7 122)),
  (122, .inl (xe_iinc 8 1 125)),
  (125, .inl (xe_goto 65)),
  (128, .inl (xe_iload 7 130)),
  (130, .inl (xe_if (fun x => decide (x = 0)) 135 133)),
  (133, .inl (xe_push (.int 0) 134)),
  (134, .inr (.inl xr_z)),
  (135, .inl (xe_iinc 6 1 138)),
  (138, .inl (xe_goto 19)),
  (141, .inl (xe_iinc 5 1 144)),
  (144, .inl (xe_goto 3)),
  (147, .inl (xe_push (.int 1) 148)),
  (148, .inr (.inl xr_z))]
theorem xq_233_1 {G : xm_G} (hG : xm_W xk_B G) (hO : xm_Og G) : ∀ q ∈ xp_233_1, xm_op xk_B G xd xk_N "LiarsCockModel" "tells" prog_28_method_94_code 9 (some (FieldType.boolean)) q.1 q.2 :=
  xw_cons (xw_E xn_ii (xo_iadd dX9_tells_92)) <|
  xw_cons (xw_E xn_ald (xo_iald xk_hB dX9_tells_93)) <|
  xw_cons (xw_E xn_aload (xo_aload_n dX9_tells_94 rfl)) <|
  xw_cons (xw_E xn_getf (xo_getf hG xg_27_144 dX9_tells_95)) <|
  xw_cons (xw_E xn_push (xo_bipush dX9_tells_98 (by decide))) <|
  xw_cons (xw_E xn_aload (xo_aload_n dX9_tells_100 rfl)) <|
  xw_cons (xw_E xn_getf (xo_getf hG xg_27_147 dX9_tells_101)) <|
  xw_cons (xw_E xn_iload (xo_iload dX9_tells_104)) <|
  xw_cons (xw_E xn_ald (xo_iald xk_hB dX9_tells_106)) <|
  xw_cons (xw_E xn_ii (xo_imul dX9_tells_107)) <|
  xw_cons (xw_E xn_iload (xo_iload dX9_tells_108)) <|
  xw_cons (xw_E xn_ii (xo_iadd dX9_tells_110)) <|
  xw_cons (xw_E xn_ald (xo_iald xk_hB dX9_tells_111)) <|
  xw_cons (xw_E xn_icmp (xo_icmp_ne dX9_tells_112 (by decide))) <|
  xw_cons (xw_E xn_push (xo_iconst dX9_tells_115 (by decide))) <|
  xw_cons (xw_E xn_goto (xo_goto dX9_tells_116 (by decide))) <|
  xw_cons (xw_E xn_push (xo_iconst dX9_tells_119 (by decide))) <|
  xw_cons (xw_E xn_istore (xo_istore dX9_tells_120)) <|
  xw_cons (xw_E xn_iinc (xo_iinc dX9_tells_122 (by decide))) <|
  xw_cons (xw_E xn_goto (xo_goto dX9_tells_125 (by decide))) <|
  xw_cons (xw_E xn_iload (xo_iload dX9_tells_128)) <|
  xw_cons (xw_E xn_if (xo_if_eq dX9_tells_130 (by decide))) <|
  xw_cons (xw_E xn_push (xo_iconst dX9_tells_133 (by decide))) <|
  xw_cons (xw_R (xt_z dX9_tells_134)) <|
  xw_cons (xw_E xn_iinc (xo_iinc dX9_tells_135 (by decide))) <|
  xw_cons (xw_E xn_goto (xo_goto dX9_tells_138 (by decide))) <|
  xw_cons (xw_E xn_iinc (xo_iinc dX9_tells_141 (by decide))) <|
  xw_cons (xw_E xn_goto (xo_goto dX9_tells_144 (by decide))) <|
  xw_cons (xw_E xn_push (xo_iconst dX9_tells_147 (by decide))) <|
  xw_cons (xw_R (xt_z dX9_tells_148)) <|
  xw_nil _
def xp_233 : List (Nat × xm_O) := xp_233_0 ++ xp_233_1
theorem xq_233 {G : xm_G} (hG : xm_W xk_B G) (hO : xm_Og G) : ∀ q ∈ xp_233, xm_op xk_B G xd xk_N "LiarsCockModel" "tells" prog_28_method_94_code 9 (some (FieldType.boolean)) q.1 q.2 := xw_app (xq_233_0 hG hO) (xq_233_1 hG hO)
/- 234: LiarsCockModel.move(II)I -/
def xp_234_0 : List (Nat × xm_O) := [
  (0, .inl (xe_aload 0 1)),
  (1, .inl (xe_push (.int 0) 2)),
  (2, .inl (xe_putf 300 0 (xj_1 8 0) 5)),
  (5, .inl (xe_aload 0 6)),
  (6, .inl (xe_iload 1 7)),
  (7, .inr (.inr (.inl (xc_V (xj_1 8 181) [0])))),
  (10, .inl (xe_if (fun x => decide (x = 0)) 26 13)),
  (13, .inl (xe_iload 2 14)),
  (14, .inl (xe_push (.int (-1)) 15)),
  (15, .inl (xe_icmp (fun x y => decide (x = y)) 28 18)),
  (18, .inl (xe_aload 0 19)),
  (19, .inl (xe_iload 2 20)),
  (20, .inr (.inr (.inl (xc_V (xj_1 8 170) [0])))),
  (23, .inl (xe_if (fun x => decide (¬ x = 0)) 28 26)),
  (26, .inl (xe_push (.int (-1)) 27)),
  (27, .inr (.inl xr_i)),
  (28, .inl (xe_push (.int 0) 29)),
  (29, .inl (xe_istore 3 30)),
  (30, .inl (xe_iload 3 31)),
  (31, .inl (xe_push (.int 12) 33)),
  (33, .inl (xe_aload 0 34)),
  (34, .inl (xe_getf (xj_1 8 10) 37)),
  (37, .inl (xe_push (.int 2) 38)),
  (38, .inl (xe_ald (fun t => t == 0) 39)),
  (39, .inl (xe_ii (fun x y => x * y) 40)),
  (40, .inl (xe_icmp (fun x y => decide (y ≤ x)) 156 43)),
  (43, .inl (xe_iload 3 44)),
  (44, .inl (xe_push (.int 12) 46)),
  (46, .inl (xe_iid (fun x y => x - x / y * y) 47)),
  (47, .inl (xe_push (.int 2) 48)),
  (48, .inl (xe_iid (fun x y => x / y) 49)),
  (49, .inl (xe_istore 4 51)),
  (51, .inl (xe_iload 3 52)),
  (52, .inl (xe_push (.int 12) 54)),
  (54, .inl (xe_iid (fun x y => x / y) 55)),
  (55, .inl (xe_iload 2 56)),
  (56, .inl (xe_icmp (fun x y => decide (x = y)) 150 59)),
  (59, .inl (xe_iload 4 61)),
  (61, .inl (xe_aload 0 62)),
  (62, .inl (xe_getf (xj_1 8 10) 65)),
  (65, .inl (xe_push (.int 0) 66)),
  (66, .inl (xe_ald (fun t => t == 0) 67)),
  (67, .inl (xe_icmp (fun x y => decide (x < y)) 73 70)),
  (70, .inl (xe_goto 150)),
  (73, .inl (xe_aload 0 74)),
  (74, .inl (xe_getf (xj_1 8 45) 77)),
  (77, .inl (xe_push (.int 30) 79)),
  (79, .inl (xe_iload 3 80)),
  (80, .inl (xe_push (.int 12) 82)),
  (82, .inl (xe_iid (fun x y => x / y) 83))]
theorem xq_234_0 {G : xm_G} (hG : xm_W xk_B G) (hO : xm_Og G) : ∀ q ∈ xp_234_0, xm_op xk_B G xd xk_N "LiarsCockModel" "move" prog_28_method_97_code 5 (some (FieldType.int)) q.1 q.2 :=
  xw_cons (xw_E xn_aload (xo_aload_n dX9_move_0 rfl)) <|
  xw_cons (xw_E xn_push (xo_iconst dX9_move_1 (by decide))) <|
  xw_cons (xw_E xn_putf (xo_putf hG rfl xu_27_162 dX9_move_2)) <|
  xw_cons (xw_E xn_aload (xo_aload_n dX9_move_5 rfl)) <|
  xw_cons (xw_E xn_iload (xo_iload_n dX9_move_6 rfl)) <|
  xw_cons (xl_v_27_371 hG dX9_move_7) <|
  xw_cons (xw_E xn_if (xo_if_eq dX9_move_10 (by decide))) <|
  xw_cons (xw_E xn_iload (xo_iload_n dX9_move_13 rfl)) <|
  xw_cons (xw_E xn_push (xo_iconst dX9_move_14 (by decide))) <|
  xw_cons (xw_E xn_icmp (xo_icmp_eq dX9_move_15 (by decide))) <|
  xw_cons (xw_E xn_aload (xo_aload_n dX9_move_18 rfl)) <|
  xw_cons (xw_E xn_iload (xo_iload_n dX9_move_19 rfl)) <|
  xw_cons (xl_v_27_337 hG dX9_move_20) <|
  xw_cons (xw_E xn_if (xo_if_ne dX9_move_23 (by decide))) <|
  xw_cons (xw_E xn_push (xo_iconst dX9_move_26 (by decide))) <|
  xw_cons (xw_R (xt_i dX9_move_27)) <|
  xw_cons (xw_E xn_push (xo_iconst dX9_move_28 (by decide))) <|
  xw_cons (xw_E xn_istore (xo_istore_n dX9_move_29 rfl)) <|
  xw_cons (xw_E xn_iload (xo_iload_n dX9_move_30 rfl)) <|
  xw_cons (xw_E xn_push (xo_bipush dX9_move_31 (by decide))) <|
  xw_cons (xw_E xn_aload (xo_aload_n dX9_move_33 rfl)) <|
  xw_cons (xw_E xn_getf (xo_getf hG xg_27_13 dX9_move_34)) <|
  xw_cons (xw_E xn_push (xo_iconst dX9_move_37 (by decide))) <|
  xw_cons (xw_E xn_ald (xo_iald xk_hB dX9_move_38)) <|
  xw_cons (xw_E xn_ii (xo_imul dX9_move_39)) <|
  xw_cons (xw_E xn_icmp (xo_icmp_ge dX9_move_40 (by decide))) <|
  xw_cons (xw_E xn_iload (xo_iload_n dX9_move_43 rfl)) <|
  xw_cons (xw_E xn_push (xo_bipush dX9_move_44 (by decide))) <|
  xw_cons (xw_E xn_iid (xo_irem dX9_move_46)) <|
  xw_cons (xw_E xn_push (xo_iconst dX9_move_47 (by decide))) <|
  xw_cons (xw_E xn_iid (xo_idiv dX9_move_48)) <|
  xw_cons (xw_E xn_istore (xo_istore dX9_move_49)) <|
  xw_cons (xw_E xn_iload (xo_iload_n dX9_move_51 rfl)) <|
  xw_cons (xw_E xn_push (xo_bipush dX9_move_52 (by decide))) <|
  xw_cons (xw_E xn_iid (xo_idiv dX9_move_54)) <|
  xw_cons (xw_E xn_iload (xo_iload_n dX9_move_55 rfl)) <|
  xw_cons (xw_E xn_icmp (xo_icmp_eq dX9_move_56 (by decide))) <|
  xw_cons (xw_E xn_iload (xo_iload dX9_move_59)) <|
  xw_cons (xw_E xn_aload (xo_aload_n dX9_move_61 rfl)) <|
  xw_cons (xw_E xn_getf (xo_getf hG xg_27_13 dX9_move_62)) <|
  xw_cons (xw_E xn_push (xo_iconst dX9_move_65 (by decide))) <|
  xw_cons (xw_E xn_ald (xo_iald xk_hB dX9_move_66)) <|
  xw_cons (xw_E xn_icmp (xo_icmp_lt dX9_move_67 (by decide))) <|
  xw_cons (xw_E xn_goto (xo_goto dX9_move_70 (by decide))) <|
  xw_cons (xw_E xn_aload (xo_aload_n dX9_move_73 rfl)) <|
  xw_cons (xw_E xn_getf (xo_getf hG xg_27_96 dX9_move_74)) <|
  xw_cons (xw_E xn_push (xo_bipush dX9_move_77 (by decide))) <|
  xw_cons (xw_E xn_iload (xo_iload_n dX9_move_79 rfl)) <|
  xw_cons (xw_E xn_push (xo_bipush dX9_move_80 (by decide))) <|
  xw_cons (xw_E xn_iid (xo_idiv dX9_move_82)) <|
  xw_nil _
def xp_234_1 : List (Nat × xm_O) := [
  (83, .inl (xe_ast 300 0 (xm_kd 0) 84)),
  (84, .inl (xe_aload 0 85)),
  (85, .inl (xe_getf (xj_1 8 48) 88)),
  (88, .inl (xe_push (.int 30) 90)),
  (90, .inl (xe_push (.int 0) 91)),
  (91, .inl (xe_ast 300 2 xm_bit 92)),
  (92, .inl (xe_aload 0 93)),
  (93, .inl (xe_getf (xj_1 8 47) 96)),
  (96, .inl (xe_push (.int 30) 98)),
  (98, .inl (xe_iload 3 99)),
  (99, .inl (xe_push (.int 2) 100)),
  (100, .inl (xe_iid (fun x y => x - x / y * y) 101)),
  (101, .inl (xe_if (fun x => decide (¬ x = 0)) 113 104)),
  (104, .inl (xe_aload 0 105)),
  (105, .inl (xe_iload 4 107)),
  (107, .inr (.inr (.inl (xc_V (xj_1 8 194) [0])))),
  (110, .inl (xe_goto 128)),
  (113, .inl (xe_aload 0 114)),
  (114, .inr (.inr (.inl (xc_V (xj_1 8 168) [])))),
  (117, .inl (xe_aload 0 118)),
  (118, .inl (xe_iload 4 120)),
  (120, .inr (.inr (.inl (xc_V (xj_1 8 194) [0])))),
  (123, .inl (xe_push (.long (-1 : Int64)) 126)),
  (126, .inl (xe_ll (fun x y => x ^^^ y) 127)),
  (127, .inl (xe_ll (fun x y => x &&& y) 128)),
  (128, .inl (xe_ast 300 1 (xm_kd 1) 129)),
  (129, .inl (xe_aload 0 130)),
  (130, .inl (xe_push (.int 30) 132)),
  (132, .inl (xe_aload 0 133)),
  (133, .inl (xe_getf (xj_1 8 16) 136)),
  (136, .inl (xe_iload 1 137)),
  (137, .inl (xe_ald (fun t => t == 0) 138)),
  (138, .inl (xe_aload 0 139)),
  (139, .inl (xe_getf (xj_1 8 44) 142)),
  (142, .inr (.inr (.inl (xc_V (xj_1 8 178) [0, 0, 0])))),
  (145, .inl (xe_if (fun x => decide (x = 0)) 150 148)),
  (148, .inl (xe_iload 3 149)),
  (149, .inr (.inl xr_i)),
  (150, .inl (xe_iinc 3 1 153)),
  (153, .inl (xe_goto 30)),
  (156, .inl (xe_push (.int (-1)) 157)),
  (157, .inr (.inl xr_i))]
theorem xq_234_1 {G : xm_G} (hG : xm_W xk_B G) (hO : xm_Og G) : ∀ q ∈ xp_234_1, xm_op xk_B G xd xk_N "LiarsCockModel" "move" prog_28_method_97_code 5 (some (FieldType.int)) q.1 q.2 :=
  xw_cons (xw_E xn_ast (xo_iast hG xk_hB rfl dX9_move_83)) <|
  xw_cons (xw_E xn_aload (xo_aload_n dX9_move_84 rfl)) <|
  xw_cons (xw_E xn_getf (xo_getf hG xg_27_105 dX9_move_85)) <|
  xw_cons (xw_E xn_push (xo_bipush dX9_move_88 (by decide))) <|
  xw_cons (xw_E xn_push (xo_iconst dX9_move_90 (by decide))) <|
  xw_cons (xw_E xn_ast (xo_zast hG xk_hB rfl dX9_move_91)) <|
  xw_cons (xw_E xn_aload (xo_aload_n dX9_move_92 rfl)) <|
  xw_cons (xw_E xn_getf (xo_getf hG xg_27_102 dX9_move_93)) <|
  xw_cons (xw_E xn_push (xo_bipush dX9_move_96 (by decide))) <|
  xw_cons (xw_E xn_iload (xo_iload_n dX9_move_98 rfl)) <|
  xw_cons (xw_E xn_push (xo_iconst dX9_move_99 (by decide))) <|
  xw_cons (xw_E xn_iid (xo_irem dX9_move_100)) <|
  xw_cons (xw_E xn_if (xo_if_ne dX9_move_101 (by decide))) <|
  xw_cons (xw_E xn_aload (xo_aload_n dX9_move_104 rfl)) <|
  xw_cons (xw_E xn_iload (xo_iload dX9_move_105)) <|
  xw_cons (xl_v_27_396 hG dX9_move_107) <|
  xw_cons (xw_E xn_goto (xo_goto dX9_move_110 (by decide))) <|
  xw_cons (xw_E xn_aload (xo_aload_n dX9_move_113 rfl)) <|
  xw_cons (xl_v_27_318 hG dX9_move_114) <|
  xw_cons (xw_E xn_aload (xo_aload_n dX9_move_117 rfl)) <|
  xw_cons (xw_E xn_iload (xo_iload dX9_move_118)) <|
  xw_cons (xl_v_27_396 hG dX9_move_120) <|
  xw_cons (xw_E xn_push (xo_ldc2 hG q1956 dX9_move_123)) <|
  xw_cons (xw_E xn_ll (xo_lxor dX9_move_126)) <|
  xw_cons (xw_E xn_ll (xo_land dX9_move_127)) <|
  xw_cons (xw_E xn_ast (xo_last hG xk_hB rfl dX9_move_128)) <|
  xw_cons (xw_E xn_aload (xo_aload_n dX9_move_129 rfl)) <|
  xw_cons (xw_E xn_push (xo_bipush dX9_move_130 (by decide))) <|
  xw_cons (xw_E xn_aload (xo_aload_n dX9_move_132 rfl)) <|
  xw_cons (xw_E xn_getf (xo_getf hG xg_27_32 dX9_move_133)) <|
  xw_cons (xw_E xn_iload (xo_iload_n dX9_move_136 rfl)) <|
  xw_cons (xw_E xn_ald (xo_iald xk_hB dX9_move_137)) <|
  xw_cons (xw_E xn_aload (xo_aload_n dX9_move_138 rfl)) <|
  xw_cons (xw_E xn_getf (xo_getf hG xg_27_334 dX9_move_139)) <|
  xw_cons (xl_v_27_358 hG dX9_move_142) <|
  xw_cons (xw_E xn_if (xo_if_eq dX9_move_145 (by decide))) <|
  xw_cons (xw_E xn_iload (xo_iload_n dX9_move_148 rfl)) <|
  xw_cons (xw_R (xt_i dX9_move_149)) <|
  xw_cons (xw_E xn_iinc (xo_iinc dX9_move_150 (by decide))) <|
  xw_cons (xw_E xn_goto (xo_goto dX9_move_153 (by decide))) <|
  xw_cons (xw_E xn_push (xo_iconst dX9_move_156 (by decide))) <|
  xw_cons (xw_R (xt_i dX9_move_157)) <|
  xw_nil _
def xp_234 : List (Nat × xm_O) := xp_234_0 ++ xp_234_1
theorem xq_234 {G : xm_G} (hG : xm_W xk_B G) (hO : xm_Og G) : ∀ q ∈ xp_234, xm_op xk_B G xd xk_N "LiarsCockModel" "move" prog_28_method_97_code 5 (some (FieldType.int)) q.1 q.2 := xw_app (xq_234_0 hG hO) (xq_234_1 hG hO)
/- 235: LiarsCockModel.longest(IIII)I -/
def xp_235_0 : List (Nat × xm_O) := [
  (0, .inl (xe_aload 0 1)),
  (1, .inl (xe_push (.int 0) 2)),
  (2, .inl (xe_putf 300 0 (xj_1 8 0) 5)),
  (5, .inl (xe_aload 0 6)),
  (6, .inl (xe_iload 1 7)),
  (7, .inl (xe_iload 2 8)),
  (8, .inl (xe_iload 3 9)),
  (9, .inr (.inr (.inl (xc_V (xj_1 8 207) [0, 0, 0])))),
  (12, .inl (xe_if (fun x => decide (x = 0)) 25 15)),
  (15, .inl (xe_iload 4 17)),
  (17, .inl (xe_push (.int 0) 18)),
  (18, .inl (xe_push (.int 1) 19)),
  (19, .inr (.inr (.inl (xc_S 200 [0, 0, 0])))),
  (22, .inl (xe_if (fun x => decide (¬ x = 0)) 27 25)),
  (25, .inl (xe_push (.int (-1)) 26)),
  (26, .inr (.inl xr_i)),
  (27, .inl (xe_aload 0 28)),
  (28, .inl (xe_push (.int 0) 29)),
  (29, .inr (.inr (.inl (xc_V (xj_1 8 182) [0])))),
  (32, .inl (xe_push (.int 0) 33)),
  (33, .inl (xe_istore 5 35)),
  (35, .inl (xe_push (.int (-1)) 36)),
  (36, .inl (xe_istore 6 38)),
  (38, .inl (xe_push (.int 0) 39)),
  (39, .inl (xe_istore 7 41)),
  (41, .inl (xe_push (.int (-1)) 42)),
  (42, .inl (xe_istore 8 44)),
  (44, .inl (xe_iload 2 45)),
  (45, .inl (xe_istore 9 47)),
  (47, .inl (xe_iload 9 49)),
  (49, .inl (xe_iload 3 50)),
  (50, .inl (xe_icmp (fun x y => decide (y < x)) 120 53)),
  (53, .inl (xe_aload 0 54)),
  (54, .inl (xe_iload 1 55)),
  (55, .inl (xe_iload 9 57)),
  (57, .inl (xe_aload 0 58)),
  (58, .inl (xe_getf (xj_1 8 44) 61)),
  (61, .inr (.inr (.inl (xc_V (xj_1 8 184) [0, 0, 0])))),
  (64, .inl (xe_istore 10 66)),
  (66, .inl (xe_iload 10 68)),
  (68, .inl (xe_if (fun x => decide (0 ≤ x)) 75 71)),
  (71, .inl (xe_push (.int 0) 72)),
  (72, .inl (xe_goto 90)),
  (75, .inl (xe_iload 10 77)),
  (77, .inl (xe_iload 8 79)),
  (79, .inl (xe_icmp (fun x y => decide (¬ x = y)) 89 82)),
  (82, .inl (xe_iload 7 84)),
  (84, .inl (xe_push (.int 1) 85)),
  (85, .inl (xe_ii (fun x y => x + y) 86)),
  (86, .inl (xe_goto 90))]
theorem xq_235_0 {G : xm_G} (hG : xm_W xk_B G) (hO : xm_Og G) : ∀ q ∈ xp_235_0, xm_op xk_B G xd xk_N "LiarsCockModel" "longest" prog_28_method_98_code 11 (some (FieldType.int)) q.1 q.2 :=
  xw_cons (xw_E xn_aload (xo_aload_n dX9_longest_0 rfl)) <|
  xw_cons (xw_E xn_push (xo_iconst dX9_longest_1 (by decide))) <|
  xw_cons (xw_E xn_putf (xo_putf hG rfl xu_27_162 dX9_longest_2)) <|
  xw_cons (xw_E xn_aload (xo_aload_n dX9_longest_5 rfl)) <|
  xw_cons (xw_E xn_iload (xo_iload_n dX9_longest_6 rfl)) <|
  xw_cons (xw_E xn_iload (xo_iload_n dX9_longest_7 rfl)) <|
  xw_cons (xw_E xn_iload (xo_iload_n dX9_longest_8 rfl)) <|
  xw_cons (xl_v_27_426 hG dX9_longest_9) <|
  xw_cons (xw_E xn_if (xo_if_eq dX9_longest_12 (by decide))) <|
  xw_cons (xw_E xn_iload (xo_iload dX9_longest_15)) <|
  xw_cons (xw_E xn_push (xo_iconst dX9_longest_17 (by decide))) <|
  xw_cons (xw_E xn_push (xo_iconst dX9_longest_18 (by decide))) <|
  xw_cons (xl_s_27_407 hG dX9_longest_19) <|
  xw_cons (xw_E xn_if (xo_if_ne dX9_longest_22 (by decide))) <|
  xw_cons (xw_E xn_push (xo_iconst dX9_longest_25 (by decide))) <|
  xw_cons (xw_R (xt_i dX9_longest_26)) <|
  xw_cons (xw_E xn_aload (xo_aload_n dX9_longest_27 rfl)) <|
  xw_cons (xw_E xn_push (xo_iconst dX9_longest_28 (by decide))) <|
  xw_cons (xl_v_27_374 hG dX9_longest_29) <|
  xw_cons (xw_E xn_push (xo_iconst dX9_longest_32 (by decide))) <|
  xw_cons (xw_E xn_istore (xo_istore dX9_longest_33)) <|
  xw_cons (xw_E xn_push (xo_iconst dX9_longest_35 (by decide))) <|
  xw_cons (xw_E xn_istore (xo_istore dX9_longest_36)) <|
  xw_cons (xw_E xn_push (xo_iconst dX9_longest_38 (by decide))) <|
  xw_cons (xw_E xn_istore (xo_istore dX9_longest_39)) <|
  xw_cons (xw_E xn_push (xo_iconst dX9_longest_41 (by decide))) <|
  xw_cons (xw_E xn_istore (xo_istore dX9_longest_42)) <|
  xw_cons (xw_E xn_iload (xo_iload_n dX9_longest_44 rfl)) <|
  xw_cons (xw_E xn_istore (xo_istore dX9_longest_45)) <|
  xw_cons (xw_E xn_iload (xo_iload dX9_longest_47)) <|
  xw_cons (xw_E xn_iload (xo_iload_n dX9_longest_49 rfl)) <|
  xw_cons (xw_E xn_icmp (xo_icmp_gt dX9_longest_50 (by decide))) <|
  xw_cons (xw_E xn_aload (xo_aload_n dX9_longest_53 rfl)) <|
  xw_cons (xw_E xn_iload (xo_iload_n dX9_longest_54 rfl)) <|
  xw_cons (xw_E xn_iload (xo_iload dX9_longest_55)) <|
  xw_cons (xw_E xn_aload (xo_aload_n dX9_longest_57 rfl)) <|
  xw_cons (xw_E xn_getf (xo_getf hG xg_27_334 dX9_longest_58)) <|
  xw_cons (xl_v_27_368 hG dX9_longest_61) <|
  xw_cons (xw_E xn_istore (xo_istore dX9_longest_64)) <|
  xw_cons (xw_E xn_iload (xo_iload dX9_longest_66)) <|
  xw_cons (xw_E xn_if (xo_if_ge dX9_longest_68 (by decide))) <|
  xw_cons (xw_E xn_push (xo_iconst dX9_longest_71 (by decide))) <|
  xw_cons (xw_E xn_goto (xo_goto dX9_longest_72 (by decide))) <|
  xw_cons (xw_E xn_iload (xo_iload dX9_longest_75)) <|
  xw_cons (xw_E xn_iload (xo_iload dX9_longest_77)) <|
  xw_cons (xw_E xn_icmp (xo_icmp_ne dX9_longest_79 (by decide))) <|
  xw_cons (xw_E xn_iload (xo_iload dX9_longest_82)) <|
  xw_cons (xw_E xn_push (xo_iconst dX9_longest_84 (by decide))) <|
  xw_cons (xw_E xn_ii (xo_iadd dX9_longest_85)) <|
  xw_cons (xw_E xn_goto (xo_goto dX9_longest_86 (by decide))) <|
  xw_nil _
def xp_235_1 : List (Nat × xm_O) := [
  (89, .inl (xe_push (.int 1) 90)),
  (90, .inl (xe_istore 7 92)),
  (92, .inl (xe_iload 10 94)),
  (94, .inl (xe_istore 8 96)),
  (96, .inl (xe_iload 7 98)),
  (98, .inl (xe_iload 5 100)),
  (100, .inl (xe_icmp (fun x y => decide (y < x)) 106 103)),
  (103, .inl (xe_goto 114)),
  (106, .inl (xe_iload 7 108)),
  (108, .inl (xe_istore 5 110)),
  (110, .inl (xe_iload 10 112)),
  (112, .inl (xe_istore 6 114)),
  (114, .inl (xe_iinc 9 1 117)),
  (117, .inl (xe_goto 47)),
  (120, .inl (xe_iload 5 122)),
  (122, .inl (xe_if (fun x => decide (¬ x = 0)) 129 125)),
  (125, .inl (xe_push (.int (-1)) 126)),
  (126, .inl (xe_goto 141)),
  (129, .inl (xe_iload 4 131)),
  (131, .inl (xe_if (fun x => decide (¬ x = 0)) 139 134)),
  (134, .inl (xe_iload 5 136)),
  (136, .inl (xe_goto 141)),
  (139, .inl (xe_iload 6 141)),
  (141, .inr (.inl xr_i))]
theorem xq_235_1 {G : xm_G} (hG : xm_W xk_B G) (hO : xm_Og G) : ∀ q ∈ xp_235_1, xm_op xk_B G xd xk_N "LiarsCockModel" "longest" prog_28_method_98_code 11 (some (FieldType.int)) q.1 q.2 :=
  xw_cons (xw_E xn_push (xo_iconst dX9_longest_89 (by decide))) <|
  xw_cons (xw_E xn_istore (xo_istore dX9_longest_90)) <|
  xw_cons (xw_E xn_iload (xo_iload dX9_longest_92)) <|
  xw_cons (xw_E xn_istore (xo_istore dX9_longest_94)) <|
  xw_cons (xw_E xn_iload (xo_iload dX9_longest_96)) <|
  xw_cons (xw_E xn_iload (xo_iload dX9_longest_98)) <|
  xw_cons (xw_E xn_icmp (xo_icmp_gt dX9_longest_100 (by decide))) <|
  xw_cons (xw_E xn_goto (xo_goto dX9_longest_103 (by decide))) <|
  xw_cons (xw_E xn_iload (xo_iload dX9_longest_106)) <|
  xw_cons (xw_E xn_istore (xo_istore dX9_longest_108)) <|
  xw_cons (xw_E xn_iload (xo_iload dX9_longest_110)) <|
  xw_cons (xw_E xn_istore (xo_istore dX9_longest_112)) <|
  xw_cons (xw_E xn_iinc (xo_iinc dX9_longest_114 (by decide))) <|
  xw_cons (xw_E xn_goto (xo_goto dX9_longest_117 (by decide))) <|
  xw_cons (xw_E xn_iload (xo_iload dX9_longest_120)) <|
  xw_cons (xw_E xn_if (xo_if_ne dX9_longest_122 (by decide))) <|
  xw_cons (xw_E xn_push (xo_iconst dX9_longest_125 (by decide))) <|
  xw_cons (xw_E xn_goto (xo_goto dX9_longest_126 (by decide))) <|
  xw_cons (xw_E xn_iload (xo_iload dX9_longest_129)) <|
  xw_cons (xw_E xn_if (xo_if_ne dX9_longest_131 (by decide))) <|
  xw_cons (xw_E xn_iload (xo_iload dX9_longest_134)) <|
  xw_cons (xw_E xn_goto (xo_goto dX9_longest_136 (by decide))) <|
  xw_cons (xw_E xn_iload (xo_iload dX9_longest_139)) <|
  xw_cons (xw_R (xt_i dX9_longest_141)) <|
  xw_nil _
def xp_235 : List (Nat × xm_O) := xp_235_0 ++ xp_235_1
theorem xq_235 {G : xm_G} (hG : xm_W xk_B G) (hO : xm_Og G) : ∀ q ∈ xp_235, xm_op xk_B G xd xk_N "LiarsCockModel" "longest" prog_28_method_98_code 11 (some (FieldType.int)) q.1 q.2 := xw_app (xq_235_0 hG hO) (xq_235_1 hG hO)
/- 236: LiarsCockModel.differ(II)I -/
def xp_236_0 : List (Nat × xm_O) := [
  (0, .inl (xe_aload 0 1)),
  (1, .inl (xe_push (.int 0) 2)),
  (2, .inl (xe_putf 300 0 (xj_1 8 0) 5)),
  (5, .inl (xe_aload 0 6)),
  (6, .inl (xe_getf (xj_1 8 18) 9)),
  (9, .inl (xe_push (.int 1) 10)),
  (10, .inl (xe_ald (fun t => t == 2 || t == 3) 11)),
  (11, .inl (xe_if (fun x => decide (x = 0)) 24 14)),
  (14, .inl (xe_aload 0 15)),
  (15, .inl (xe_push (.int 0) 16)),
  (16, .inl (xe_iload 1 17)),
  (17, .inl (xe_iload 2 18)),
  (18, .inr (.inr (.inl (xc_V (xj_1 8 207) [0, 0, 0])))),
  (21, .inl (xe_if (fun x => decide (¬ x = 0)) 26 24)),
  (24, .inl (xe_push (.int (-1)) 25)),
  (25, .inr (.inl xr_i)),
  (26, .inl (xe_aload 0 27)),
  (27, .inl (xe_push (.int 0) 28)),
  (28, .inr (.inr (.inl (xc_V (xj_1 8 182) [0])))),
  (31, .inl (xe_push (.int 0) 32)),
  (32, .inl (xe_istore 3 33)),
  (33, .inl (xe_iload 1 34)),
  (34, .inl (xe_istore 4 36)),
  (36, .inl (xe_iload 4 38)),
  (38, .inl (xe_iload 2 39)),
  (39, .inl (xe_icmp (fun x y => decide (y < x)) 81 42)),
  (42, .inl (xe_iload 3 43)),
  (43, .inl (xe_aload 0 44)),
  (44, .inl (xe_push (.int 0) 45)),
  (45, .inl (xe_iload 4 47)),
  (47, .inl (xe_aload 0 48)),
  (48, .inl (xe_getf (xj_1 8 44) 51)),
  (51, .inr (.inr (.inl (xc_V (xj_1 8 184) [0, 0, 0])))),
  (54, .inl (xe_aload 0 55)),
  (55, .inl (xe_push (.int 1) 56)),
  (56, .inl (xe_iload 4 58)),
  (58, .inl (xe_aload 0 59)),
  (59, .inl (xe_getf (xj_1 8 44) 62)),
  (62, .inr (.inr (.inl (xc_V (xj_1 8 184) [0, 0, 0])))),
  (65, .inl (xe_icmp (fun x y => decide (x = y)) 72 68)),
  (68, .inl (xe_push (.int 1) 69)),
  (69, .inl (xe_goto 73)),
  (72, .inl (xe_push (.int 0) 73)),
  (73, .inl (xe_ii (fun x y => x + y) 74)),
  (74, .inl (xe_istore 3 75)),
  (75, .inl (xe_iinc 4 1 78)),
  (78, .inl (xe_goto 36)),
  (81, .inl (xe_iload 3 82)),
  (82, .inr (.inl xr_i))]
theorem xq_236_0 {G : xm_G} (hG : xm_W xk_B G) (hO : xm_Og G) : ∀ q ∈ xp_236_0, xm_op xk_B G xd xk_N "LiarsCockModel" "differ" prog_28_method_99_code 5 (some (FieldType.int)) q.1 q.2 :=
  xw_cons (xw_E xn_aload (xo_aload_n dX9_differ_0 rfl)) <|
  xw_cons (xw_E xn_push (xo_iconst dX9_differ_1 (by decide))) <|
  xw_cons (xw_E xn_putf (xo_putf hG rfl xu_27_162 dX9_differ_2)) <|
  xw_cons (xw_E xn_aload (xo_aload_n dX9_differ_5 rfl)) <|
  xw_cons (xw_E xn_getf (xo_getf hG xg_27_38 dX9_differ_6)) <|
  xw_cons (xw_E xn_push (xo_iconst dX9_differ_9 (by decide))) <|
  xw_cons (xw_E xn_ald (xo_bald xk_hB dX9_differ_10)) <|
  xw_cons (xw_E xn_if (xo_if_eq dX9_differ_11 (by decide))) <|
  xw_cons (xw_E xn_aload (xo_aload_n dX9_differ_14 rfl)) <|
  xw_cons (xw_E xn_push (xo_iconst dX9_differ_15 (by decide))) <|
  xw_cons (xw_E xn_iload (xo_iload_n dX9_differ_16 rfl)) <|
  xw_cons (xw_E xn_iload (xo_iload_n dX9_differ_17 rfl)) <|
  xw_cons (xl_v_27_426 hG dX9_differ_18) <|
  xw_cons (xw_E xn_if (xo_if_ne dX9_differ_21 (by decide))) <|
  xw_cons (xw_E xn_push (xo_iconst dX9_differ_24 (by decide))) <|
  xw_cons (xw_R (xt_i dX9_differ_25)) <|
  xw_cons (xw_E xn_aload (xo_aload_n dX9_differ_26 rfl)) <|
  xw_cons (xw_E xn_push (xo_iconst dX9_differ_27 (by decide))) <|
  xw_cons (xl_v_27_374 hG dX9_differ_28) <|
  xw_cons (xw_E xn_push (xo_iconst dX9_differ_31 (by decide))) <|
  xw_cons (xw_E xn_istore (xo_istore_n dX9_differ_32 rfl)) <|
  xw_cons (xw_E xn_iload (xo_iload_n dX9_differ_33 rfl)) <|
  xw_cons (xw_E xn_istore (xo_istore dX9_differ_34)) <|
  xw_cons (xw_E xn_iload (xo_iload dX9_differ_36)) <|
  xw_cons (xw_E xn_iload (xo_iload_n dX9_differ_38 rfl)) <|
  xw_cons (xw_E xn_icmp (xo_icmp_gt dX9_differ_39 (by decide))) <|
  xw_cons (xw_E xn_iload (xo_iload_n dX9_differ_42 rfl)) <|
  xw_cons (xw_E xn_aload (xo_aload_n dX9_differ_43 rfl)) <|
  xw_cons (xw_E xn_push (xo_iconst dX9_differ_44 (by decide))) <|
  xw_cons (xw_E xn_iload (xo_iload dX9_differ_45)) <|
  xw_cons (xw_E xn_aload (xo_aload_n dX9_differ_47 rfl)) <|
  xw_cons (xw_E xn_getf (xo_getf hG xg_27_334 dX9_differ_48)) <|
  xw_cons (xl_v_27_368 hG dX9_differ_51) <|
  xw_cons (xw_E xn_aload (xo_aload_n dX9_differ_54 rfl)) <|
  xw_cons (xw_E xn_push (xo_iconst dX9_differ_55 (by decide))) <|
  xw_cons (xw_E xn_iload (xo_iload dX9_differ_56)) <|
  xw_cons (xw_E xn_aload (xo_aload_n dX9_differ_58 rfl)) <|
  xw_cons (xw_E xn_getf (xo_getf hG xg_27_334 dX9_differ_59)) <|
  xw_cons (xl_v_27_368 hG dX9_differ_62) <|
  xw_cons (xw_E xn_icmp (xo_icmp_eq dX9_differ_65 (by decide))) <|
  xw_cons (xw_E xn_push (xo_iconst dX9_differ_68 (by decide))) <|
  xw_cons (xw_E xn_goto (xo_goto dX9_differ_69 (by decide))) <|
  xw_cons (xw_E xn_push (xo_iconst dX9_differ_72 (by decide))) <|
  xw_cons (xw_E xn_ii (xo_iadd dX9_differ_73)) <|
  xw_cons (xw_E xn_istore (xo_istore_n dX9_differ_74 rfl)) <|
  xw_cons (xw_E xn_iinc (xo_iinc dX9_differ_75 (by decide))) <|
  xw_cons (xw_E xn_goto (xo_goto dX9_differ_78 (by decide))) <|
  xw_cons (xw_E xn_iload (xo_iload_n dX9_differ_81 rfl)) <|
  xw_cons (xw_R (xt_i dX9_differ_82)) <|
  xw_nil _
def xp_236 : List (Nat × xm_O) := xp_236_0
theorem xq_236 {G : xm_G} (hG : xm_W xk_B G) (hO : xm_Og G) : ∀ q ∈ xp_236, xm_op xk_B G xd xk_N "LiarsCockModel" "differ" prog_28_method_99_code 5 (some (FieldType.int)) q.1 q.2 := xq_236_0 hG hO
