/-! rows of methods, by program -/
set_option maxRecDepth 100000
/- 86: LiarsCock$Reader.cut()V -/
def xp_86_0 : List (Nat × xm_O) := [
  (0, .inl (xe_aload 0 1)),
  (1, .inl (xe_getf (xj_1 1 3) 4)),
  (4, .inl (xe_istore 1 5)),
  (5, .inl (xe_aload 0 6)),
  (6, .inl (xe_push (.int 0) 7)),
  (7, .inl (xe_putf 300 0 (xj_1 1 3) 10)),
  (10, .inl (xe_push (.int 0) 11)),
  (11, .inl (xe_istore 2 12)),
  (12, .inl (xe_push (.int 0) 13)),
  (13, .inl (xe_istore 3 14)),
  (14, .inl (xe_iload 3 15)),
  (15, .inl (xe_iload 1 16)),
  (16, .inl (xe_icmp (fun x y => decide (y ≤ x)) 268 19)),
  (19, .inl (xe_aload 0 20)),
  (20, .inl (xe_getf (xj_1 1 2) 23)),
  (23, .inl (xe_iload 3 24)),
  (24, .inl (xe_ald (fun t => t == 0) 25)),
  (25, .inl (xe_istore 4 27)),
  (27, .inl (xe_iload 4 29)),
  (29, .inl (xe_push (.int 10) 31)),
  (31, .inl (xe_icmp (fun x y => decide (x = y)) 41 34)),
  (34, .inl (xe_iload 4 36)),
  (36, .inl (xe_push (.int 32) 38)),
  (38, .inl (xe_icmp (fun x y => decide (¬ x = y)) 47 41)),
  (41, .inl (xe_iinc 3 1 44)),
  (44, .inl (xe_goto 14)),
  (47, .inl (xe_iload 3 48)),
  (48, .inl (xe_istore 5 50)),
  (50, .inl (xe_push (.long 0) 51)),
  (51, .inl (xe_lstore 6 53)),
  (53, .inl (xe_iload 4 55)),
  (55, .inr (.inr (.inl (xc_S 87 [0])))),
  (58, .inl (xe_if (fun x => decide (x = 0)) 136 61)),
  (61, .inl (xe_iload 3 62)),
  (62, .inl (xe_iload 1 63)),
  (63, .inl (xe_icmp (fun x y => decide (y ≤ x)) 113 66)),
  (66, .inl (xe_aload 0 67)),
  (67, .inl (xe_getf (xj_1 1 2) 70)),
  (70, .inl (xe_iload 3 71)),
  (71, .inl (xe_ald (fun t => t == 0) 72)),
  (72, .inr (.inr (.inl (xc_S 87 [0])))),
  (75, .inl (xe_if (fun x => decide (x = 0)) 113 78)),
  (78, .inl (xe_iload 3 79)),
  (79, .inl (xe_iload 5 81)),
  (81, .inl (xe_ii (fun x y => x - y) 82)),
  (82, .inl (xe_push (.int 8) 84)),
  (84, .inl (xe_icmp (fun x y => decide (y ≤ x)) 107 87)),
  (87, .inl (xe_push (.long (27 : Int64)) 90)),
  (90, .inl (xe_lload 6 92)),
  (92, .inl (xe_ll (fun x y => x * y) 93))]
theorem xq_86_0 {G : xm_G} (hG : xm_W xk_B G) (hO : xm_Og G) : ∀ q ∈ xp_86_0, xm_op xk_B G xd xk_N "LiarsCock$Reader" "cut" prog_21_method_6_code 8 none q.1 q.2 :=
  xw_cons (xw_E xn_aload (xo_aload_n dX2_cut_0 rfl)) <|
  xw_cons (xw_E xn_getf (xo_getf hG xg_20_64 dX2_cut_1)) <|
  xw_cons (xw_E xn_istore (xo_istore_n dX2_cut_4 rfl)) <|
  xw_cons (xw_E xn_aload (xo_aload_n dX2_cut_5 rfl)) <|
  xw_cons (xw_E xn_push (xo_iconst dX2_cut_6 (by decide))) <|
  xw_cons (xw_E xn_putf (xo_putf hG rfl xu_20_64 dX2_cut_7)) <|
  xw_cons (xw_E xn_push (xo_iconst dX2_cut_10 (by decide))) <|
  xw_cons (xw_E xn_istore (xo_istore_n dX2_cut_11 rfl)) <|
  xw_cons (xw_E xn_push (xo_iconst dX2_cut_12 (by decide))) <|
  xw_cons (xw_E xn_istore (xo_istore_n dX2_cut_13 rfl)) <|
  xw_cons (xw_E xn_iload (xo_iload_n dX2_cut_14 rfl)) <|
  xw_cons (xw_E xn_iload (xo_iload_n dX2_cut_15 rfl)) <|
  xw_cons (xw_E xn_icmp (xo_icmp_ge dX2_cut_16 (by decide))) <|
  xw_cons (xw_E xn_aload (xo_aload_n dX2_cut_19 rfl)) <|
  xw_cons (xw_E xn_getf (xo_getf hG xg_20_45 dX2_cut_20)) <|
  xw_cons (xw_E xn_iload (xo_iload_n dX2_cut_23 rfl)) <|
  xw_cons (xw_E xn_ald (xo_iald xk_hB dX2_cut_24)) <|
  xw_cons (xw_E xn_istore (xo_istore dX2_cut_25)) <|
  xw_cons (xw_E xn_iload (xo_iload dX2_cut_27)) <|
  xw_cons (xw_E xn_push (xo_bipush dX2_cut_29 (by decide))) <|
  xw_cons (xw_E xn_icmp (xo_icmp_eq dX2_cut_31 (by decide))) <|
  xw_cons (xw_E xn_iload (xo_iload dX2_cut_34)) <|
  xw_cons (xw_E xn_push (xo_bipush dX2_cut_36 (by decide))) <|
  xw_cons (xw_E xn_icmp (xo_icmp_ne dX2_cut_38 (by decide))) <|
  xw_cons (xw_E xn_iinc (xo_iinc dX2_cut_41 (by decide))) <|
  xw_cons (xw_E xn_goto (xo_goto dX2_cut_44 (by decide))) <|
  xw_cons (xw_E xn_iload (xo_iload_n dX2_cut_47 rfl)) <|
  xw_cons (xw_E xn_istore (xo_istore dX2_cut_48)) <|
  xw_cons (xw_E xn_push (xo_lconst dX2_cut_50 (by decide))) <|
  xw_cons (xw_E xn_lstore (xo_lstore dX2_cut_51)) <|
  xw_cons (xw_E xn_iload (xo_iload dX2_cut_53)) <|
  xw_cons (xl_s_20_80 hG dX2_cut_55) <|
  xw_cons (xw_E xn_if (xo_if_eq dX2_cut_58 (by decide))) <|
  xw_cons (xw_E xn_iload (xo_iload_n dX2_cut_61 rfl)) <|
  xw_cons (xw_E xn_iload (xo_iload_n dX2_cut_62 rfl)) <|
  xw_cons (xw_E xn_icmp (xo_icmp_ge dX2_cut_63 (by decide))) <|
  xw_cons (xw_E xn_aload (xo_aload_n dX2_cut_66 rfl)) <|
  xw_cons (xw_E xn_getf (xo_getf hG xg_20_45 dX2_cut_67)) <|
  xw_cons (xw_E xn_iload (xo_iload_n dX2_cut_70 rfl)) <|
  xw_cons (xw_E xn_ald (xo_iald xk_hB dX2_cut_71)) <|
  xw_cons (xl_s_20_80 hG dX2_cut_72) <|
  xw_cons (xw_E xn_if (xo_if_eq dX2_cut_75 (by decide))) <|
  xw_cons (xw_E xn_iload (xo_iload_n dX2_cut_78 rfl)) <|
  xw_cons (xw_E xn_iload (xo_iload dX2_cut_79)) <|
  xw_cons (xw_E xn_ii (xo_isub dX2_cut_81)) <|
  xw_cons (xw_E xn_push (xo_bipush dX2_cut_82 (by decide))) <|
  xw_cons (xw_E xn_icmp (xo_icmp_ge dX2_cut_84 (by decide))) <|
  xw_cons (xw_E xn_push (xo_ldc2 hG q487 dX2_cut_87)) <|
  xw_cons (xw_E xn_lload (xo_lload dX2_cut_90)) <|
  xw_cons (xw_E xn_ll (xo_lmul dX2_cut_92)) <|
  xw_nil _
def xp_86_1 : List (Nat × xm_O) := [
  (93, .inl (xe_aload 0 94)),
  (94, .inl (xe_getf (xj_1 1 2) 97)),
  (97, .inl (xe_iload 3 98)),
  (98, .inl (xe_ald (fun t => t == 0) 99)),
  (99, .inl (xe_i2l 100)),
  (100, .inl (xe_ll (fun x y => x + y) 101)),
  (101, .inl (xe_push (.long (96 : Int64)) 104)),
  (104, .inl (xe_ll (fun x y => x - y) 105)),
  (105, .inl (xe_lstore 6 107)),
  (107, .inl (xe_iinc 3 1 110)),
  (110, .inl (xe_goto 61)),
  (113, .inl (xe_aload 0 114)),
  (114, .inl (xe_getf (xj_1 1 4) 117)),
  (117, .inl (xe_iload 2 118)),
  (118, .inl (xe_iload 3 119)),
  (119, .inl (xe_iload 5 121)),
  (121, .inl (xe_ii (fun x y => x - y) 122)),
  (122, .inl (xe_push (.int 8) 124)),
  (124, .inl (xe_icmp (fun x y => decide (x ≤ y)) 131 127)),
  (127, .inl (xe_push (.int 4) 128)),
  (128, .inl (xe_goto 132)),
  (131, .inl (xe_push (.int 1) 132)),
  (132, .inl (xe_ast 300 0 (xm_kd 0) 133)),
  (133, .inl (xe_goto 246)),
  (136, .inl (xe_iload 4 138)),
  (138, .inr (.inr (.inl (xc_S 88 [0])))),
  (141, .inl (xe_if (fun x => decide (x = 0)) 217 144)),
  (144, .inl (xe_iload 3 145)),
  (145, .inl (xe_iload 1 146)),
  (146, .inl (xe_icmp (fun x y => decide (y ≤ x)) 195 149)),
  (149, .inl (xe_aload 0 150)),
  (150, .inl (xe_getf (xj_1 1 2) 153)),
  (153, .inl (xe_iload 3 154)),
  (154, .inl (xe_ald (fun t => t == 0) 155)),
  (155, .inr (.inr (.inl (xc_S 88 [0])))),
  (158, .inl (xe_if (fun x => decide (x = 0)) 195 161)),
  (161, .inl (xe_iload 3 162)),
  (162, .inl (xe_iload 5 164)),
  (164, .inl (xe_ii (fun x y => x - y) 165)),
  (165, .inl (xe_push (.int 4) 166)),
  (166, .inl (xe_icmp (fun x y => decide (y ≤ x)) 189 169)),
  (169, .inl (xe_push (.long (10 : Int64)) 172)),
  (172, .inl (xe_lload 6 174)),
  (174, .inl (xe_ll (fun x y => x * y) 175)),
  (175, .inl (xe_aload 0 176)),
  (176, .inl (xe_getf (xj_1 1 2) 179)),
  (179, .inl (xe_iload 3 180)),
  (180, .inl (xe_ald (fun t => t == 0) 181)),
  (181, .inl (xe_i2l 182)),
  (182, .inl (xe_ll (fun x y => x + y) 183))]
theorem xq_86_1 {G : xm_G} (hG : xm_W xk_B G) (hO : xm_Og G) : ∀ q ∈ xp_86_1, xm_op xk_B G xd xk_N "LiarsCock$Reader" "cut" prog_21_method_6_code 8 none q.1 q.2 :=
  xw_cons (xw_E xn_aload (xo_aload_n dX2_cut_93 rfl)) <|
  xw_cons (xw_E xn_getf (xo_getf hG xg_20_45 dX2_cut_94)) <|
  xw_cons (xw_E xn_iload (xo_iload_n dX2_cut_97 rfl)) <|
  xw_cons (xw_E xn_ald (xo_iald xk_hB dX2_cut_98)) <|
  xw_cons (xw_E xn_i2l (xo_i2l dX2_cut_99)) <|
  xw_cons (xw_E xn_ll (xo_ladd dX2_cut_100)) <|
  xw_cons (xw_E xn_push (xo_ldc2 hG q488 dX2_cut_101)) <|
  xw_cons (xw_E xn_ll (xo_lsub dX2_cut_104)) <|
  xw_cons (xw_E xn_lstore (xo_lstore dX2_cut_105)) <|
  xw_cons (xw_E xn_iinc (xo_iinc dX2_cut_107 (by decide))) <|
  xw_cons (xw_E xn_goto (xo_goto dX2_cut_110 (by decide))) <|
  xw_cons (xw_E xn_aload (xo_aload_n dX2_cut_113 rfl)) <|
  xw_cons (xw_E xn_getf (xo_getf hG xg_20_49 dX2_cut_114)) <|
  xw_cons (xw_E xn_iload (xo_iload_n dX2_cut_117 rfl)) <|
  xw_cons (xw_E xn_iload (xo_iload_n dX2_cut_118 rfl)) <|
  xw_cons (xw_E xn_iload (xo_iload dX2_cut_119)) <|
  xw_cons (xw_E xn_ii (xo_isub dX2_cut_121)) <|
  xw_cons (xw_E xn_push (xo_bipush dX2_cut_122 (by decide))) <|
  xw_cons (xw_E xn_icmp (xo_icmp_le dX2_cut_124 (by decide))) <|
  xw_cons (xw_E xn_push (xo_iconst dX2_cut_127 (by decide))) <|
  xw_cons (xw_E xn_goto (xo_goto dX2_cut_128 (by decide))) <|
  xw_cons (xw_E xn_push (xo_iconst dX2_cut_131 (by decide))) <|
  xw_cons (xw_E xn_ast (xo_iast hG xk_hB rfl dX2_cut_132)) <|
  xw_cons (xw_E xn_goto (xo_goto dX2_cut_133 (by decide))) <|
  xw_cons (xw_E xn_iload (xo_iload dX2_cut_136)) <|
  xw_cons (xl_s_20_84 hG dX2_cut_138) <|
  xw_cons (xw_E xn_if (xo_if_eq dX2_cut_141 (by decide))) <|
  xw_cons (xw_E xn_iload (xo_iload_n dX2_cut_144 rfl)) <|
  xw_cons (xw_E xn_iload (xo_iload_n dX2_cut_145 rfl)) <|
  xw_cons (xw_E xn_icmp (xo_icmp_ge dX2_cut_146 (by decide))) <|
  xw_cons (xw_E xn_aload (xo_aload_n dX2_cut_149 rfl)) <|
  xw_cons (xw_E xn_getf (xo_getf hG xg_20_45 dX2_cut_150)) <|
  xw_cons (xw_E xn_iload (xo_iload_n dX2_cut_153 rfl)) <|
  xw_cons (xw_E xn_ald (xo_iald xk_hB dX2_cut_154)) <|
  xw_cons (xl_s_20_84 hG dX2_cut_155) <|
  xw_cons (xw_E xn_if (xo_if_eq dX2_cut_158 (by decide))) <|
  xw_cons (xw_E xn_iload (xo_iload_n dX2_cut_161 rfl)) <|
  xw_cons (xw_E xn_iload (xo_iload dX2_cut_162)) <|
  xw_cons (xw_E xn_ii (xo_isub dX2_cut_164)) <|
  xw_cons (xw_E xn_push (xo_iconst dX2_cut_165 (by decide))) <|
  xw_cons (xw_E xn_icmp (xo_icmp_ge dX2_cut_166 (by decide))) <|
  xw_cons (xw_E xn_push (xo_ldc2 hG q492 dX2_cut_169)) <|
  xw_cons (xw_E xn_lload (xo_lload dX2_cut_172)) <|
  xw_cons (xw_E xn_ll (xo_lmul dX2_cut_174)) <|
  xw_cons (xw_E xn_aload (xo_aload_n dX2_cut_175 rfl)) <|
  xw_cons (xw_E xn_getf (xo_getf hG xg_20_45 dX2_cut_176)) <|
  xw_cons (xw_E xn_iload (xo_iload_n dX2_cut_179 rfl)) <|
  xw_cons (xw_E xn_ald (xo_iald xk_hB dX2_cut_180)) <|
  xw_cons (xw_E xn_i2l (xo_i2l dX2_cut_181)) <|
  xw_cons (xw_E xn_ll (xo_ladd dX2_cut_182)) <|
  xw_nil _
def xp_86_2 : List (Nat × xm_O) := [
  (183, .inl (xe_push (.long (48 : Int64)) 186)),
  (186, .inl (xe_ll (fun x y => x - y) 187)),
  (187, .inl (xe_lstore 6 189)),
  (189, .inl (xe_iinc 3 1 192)),
  (192, .inl (xe_goto 144)),
  (195, .inl (xe_aload 0 196)),
  (196, .inl (xe_getf (xj_1 1 4) 199)),
  (199, .inl (xe_iload 2 200)),
  (200, .inl (xe_iload 3 201)),
  (201, .inl (xe_iload 5 203)),
  (203, .inl (xe_ii (fun x y => x - y) 204)),
  (204, .inl (xe_push (.int 4) 205)),
  (205, .inl (xe_icmp (fun x y => decide (x ≤ y)) 212 208)),
  (208, .inl (xe_push (.int 4) 209)),
  (209, .inl (xe_goto 213)),
  (212, .inl (xe_push (.int 2) 213)),
  (213, .inl (xe_ast 300 0 (xm_kd 0) 214)),
  (214, .inl (xe_goto 246)),
  (217, .inl (xe_iload 4 219)),
  (219, .inl (xe_i2l 220)),
  (220, .inl (xe_lstore 6 222)),
  (222, .inl (xe_iinc 3 1 225)),
  (225, .inl (xe_aload 0 226)),
  (226, .inl (xe_getf (xj_1 1 4) 229)),
  (229, .inl (xe_iload 2 230)),
  (230, .inl (xe_push (.ref 18) 232)),
  (232, .inl (xe_iload 4 234)),
  (234, .inr (.inr (.inl (xc_V (xj_1 27 289) [0])))),
  (237, .inl (xe_if (fun x => decide (x < 0)) 244 240)),
  (240, .inl (xe_push (.int 3) 241)),
  (241, .inl (xe_goto 245)),
  (244, .inl (xe_push (.int 4) 245)),
  (245, .inl (xe_ast 300 0 (xm_kd 0) 246)),
  (246, .inl (xe_aload 0 247)),
  (247, .inl (xe_getf (xj_1 1 5) 250)),
  (250, .inl (xe_iload 2 251)),
  (251, .inl (xe_lload 6 253)),
  (253, .inl (xe_ast 300 1 (xm_kd 1) 254)),
  (254, .inl (xe_aload 0 255)),
  (255, .inl (xe_getf (xj_1 1 6) 258)),
  (258, .inl (xe_iload 2 259)),
  (259, .inl (xe_iload 5 261)),
  (261, .inl (xe_ast 300 0 (xm_kd 0) 262)),
  (262, .inl (xe_iinc 2 1 265)),
  (265, .inl (xe_goto 14)),
  (268, .inl (xe_aload 0 269)),
  (269, .inl (xe_getf (xj_1 1 4) 272)),
  (272, .inl (xe_iload 2 273)),
  (273, .inl (xe_push (.int 0) 274)),
  (274, .inl (xe_ast 300 0 (xm_kd 0) 275))]
theorem xq_86_2 {G : xm_G} (hG : xm_W xk_B G) (hO : xm_Og G) : ∀ q ∈ xp_86_2, xm_op xk_B G xd xk_N "LiarsCock$Reader" "cut" prog_21_method_6_code 8 none q.1 q.2 :=
  xw_cons (xw_E xn_push (xo_ldc2 hG q493 dX2_cut_183)) <|
  xw_cons (xw_E xn_ll (xo_lsub dX2_cut_186)) <|
  xw_cons (xw_E xn_lstore (xo_lstore dX2_cut_187)) <|
  xw_cons (xw_E xn_iinc (xo_iinc dX2_cut_189 (by decide))) <|
  xw_cons (xw_E xn_goto (xo_goto dX2_cut_192 (by decide))) <|
  xw_cons (xw_E xn_aload (xo_aload_n dX2_cut_195 rfl)) <|
  xw_cons (xw_E xn_getf (xo_getf hG xg_20_49 dX2_cut_196)) <|
  xw_cons (xw_E xn_iload (xo_iload_n dX2_cut_199 rfl)) <|
  xw_cons (xw_E xn_iload (xo_iload_n dX2_cut_200 rfl)) <|
  xw_cons (xw_E xn_iload (xo_iload dX2_cut_201)) <|
  xw_cons (xw_E xn_ii (xo_isub dX2_cut_203)) <|
  xw_cons (xw_E xn_push (xo_iconst dX2_cut_204 (by decide))) <|
  xw_cons (xw_E xn_icmp (xo_icmp_le dX2_cut_205 (by decide))) <|
  xw_cons (xw_E xn_push (xo_iconst dX2_cut_208 (by decide))) <|
  xw_cons (xw_E xn_goto (xo_goto dX2_cut_209 (by decide))) <|
  xw_cons (xw_E xn_push (xo_iconst dX2_cut_212 (by decide))) <|
  xw_cons (xw_E xn_ast (xo_iast hG xk_hB rfl dX2_cut_213)) <|
  xw_cons (xw_E xn_goto (xo_goto dX2_cut_214 (by decide))) <|
  xw_cons (xw_E xn_iload (xo_iload dX2_cut_217)) <|
  xw_cons (xw_E xn_i2l (xo_i2l dX2_cut_219)) <|
  xw_cons (xw_E xn_lstore (xo_lstore dX2_cut_220)) <|
  xw_cons (xw_E xn_iinc (xo_iinc dX2_cut_222 (by decide))) <|
  xw_cons (xw_E xn_aload (xo_aload_n dX2_cut_225 rfl)) <|
  xw_cons (xw_E xn_getf (xo_getf hG xg_20_49 dX2_cut_226)) <|
  xw_cons (xw_E xn_iload (xo_iload_n dX2_cut_229 rfl)) <|
  xw_cons (xw_E xn_push (xo_ldcS (xog_s18 hO) dX2_cut_230)) <|
  xw_cons (xw_E xn_iload (xo_iload dX2_cut_232)) <|
  xw_cons (xl_v_20_93 hG dX2_cut_234) <|
  xw_cons (xw_E xn_if (xo_if_lt dX2_cut_237 (by decide))) <|
  xw_cons (xw_E xn_push (xo_iconst dX2_cut_240 (by decide))) <|
  xw_cons (xw_E xn_goto (xo_goto dX2_cut_241 (by decide))) <|
  xw_cons (xw_E xn_push (xo_iconst dX2_cut_244 (by decide))) <|
  xw_cons (xw_E xn_ast (xo_iast hG xk_hB rfl dX2_cut_245)) <|
  xw_cons (xw_E xn_aload (xo_aload_n dX2_cut_246 rfl)) <|
  xw_cons (xw_E xn_getf (xo_getf hG xg_20_52 dX2_cut_247)) <|
  xw_cons (xw_E xn_iload (xo_iload_n dX2_cut_250 rfl)) <|
  xw_cons (xw_E xn_lload (xo_lload dX2_cut_251)) <|
  xw_cons (xw_E xn_ast (xo_last hG xk_hB rfl dX2_cut_253)) <|
  xw_cons (xw_E xn_aload (xo_aload_n dX2_cut_254 rfl)) <|
  xw_cons (xw_E xn_getf (xo_getf hG xg_20_56 dX2_cut_255)) <|
  xw_cons (xw_E xn_iload (xo_iload_n dX2_cut_258 rfl)) <|
  xw_cons (xw_E xn_iload (xo_iload dX2_cut_259)) <|
  xw_cons (xw_E xn_ast (xo_iast hG xk_hB rfl dX2_cut_261)) <|
  xw_cons (xw_E xn_iinc (xo_iinc dX2_cut_262 (by decide))) <|
  xw_cons (xw_E xn_goto (xo_goto dX2_cut_265 (by decide))) <|
  xw_cons (xw_E xn_aload (xo_aload_n dX2_cut_268 rfl)) <|
  xw_cons (xw_E xn_getf (xo_getf hG xg_20_49 dX2_cut_269)) <|
  xw_cons (xw_E xn_iload (xo_iload_n dX2_cut_272 rfl)) <|
  xw_cons (xw_E xn_push (xo_iconst dX2_cut_273 (by decide))) <|
  xw_cons (xw_E xn_ast (xo_iast hG xk_hB rfl dX2_cut_274)) <|
  xw_nil _
def xp_86_3 : List (Nat × xm_O) := [
  (275, .inl (xe_aload 0 276)),
  (276, .inl (xe_getf (xj_1 1 6) 279)),
  (279, .inl (xe_iload 2 280)),
  (280, .inl (xe_iload 1 281)),
  (281, .inl (xe_ast 300 0 (xm_kd 0) 282)),
  (282, .inl (xe_aload 0 283)),
  (283, .inl (xe_push (.int 0) 284)),
  (284, .inl (xe_putf 300 0 (xj_1 1 7) 287)),
  (287, .inr (.inl xr_v))]
theorem xq_86_3 {G : xm_G} (hG : xm_W xk_B G) (hO : xm_Og G) : ∀ q ∈ xp_86_3, xm_op xk_B G xd xk_N "LiarsCock$Reader" "cut" prog_21_method_6_code 8 none q.1 q.2 :=
  xw_cons (xw_E xn_aload (xo_aload_n dX2_cut_275 rfl)) <|
  xw_cons (xw_E xn_getf (xo_getf hG xg_20_56 dX2_cut_276)) <|
  xw_cons (xw_E xn_iload (xo_iload_n dX2_cut_279 rfl)) <|
  xw_cons (xw_E xn_iload (xo_iload_n dX2_cut_280 rfl)) <|
  xw_cons (xw_E xn_ast (xo_iast hG xk_hB rfl dX2_cut_281)) <|
  xw_cons (xw_E xn_aload (xo_aload_n dX2_cut_282 rfl)) <|
  xw_cons (xw_E xn_push (xo_iconst dX2_cut_283 (by decide))) <|
  xw_cons (xw_E xn_putf (xo_putf hG rfl xu_20_97 dX2_cut_284)) <|
  xw_cons (xw_R (xt_v dX2_cut_287)) <|
  xw_nil _
def xp_86 : List (Nat × xm_O) := xp_86_0 ++ xp_86_1 ++ xp_86_2 ++ xp_86_3
theorem xq_86 {G : xm_G} (hG : xm_W xk_B G) (hO : xm_Og G) : ∀ q ∈ xp_86, xm_op xk_B G xd xk_N "LiarsCock$Reader" "cut" prog_21_method_6_code 8 none q.1 q.2 := xw_app (xw_app (xw_app (xq_86_0 hG hO) (xq_86_1 hG hO)) (xq_86_2 hG hO)) (xq_86_3 hG hO)
/- 87: LiarsCock$Reader.isLetter(I)Z -/
def xp_87_0 : List (Nat × xm_O) := [
  (0, .inl (xe_iload 0 1)),
  (1, .inl (xe_push (.int 97) 3)),
  (3, .inl (xe_push (.int 122) 5)),
  (5, .inr (.inr (.inl (xc_S 4 [0, 0, 0])))),
  (8, .inr (.inl xr_z))]
theorem xq_87_0 {G : xm_G} (hG : xm_W xk_B G) (hO : xm_Og G) : ∀ q ∈ xp_87_0, xm_op xk_B G xd xk_N "LiarsCock$Reader" "isLetter" prog_21_method_4_code 1 (some (FieldType.boolean)) q.1 q.2 :=
  xw_cons (xw_E xn_iload (xo_iload_n dX2_isLetter_0 rfl)) <|
  xw_cons (xw_E xn_push (xo_bipush dX2_isLetter_1 (by decide))) <|
  xw_cons (xw_E xn_push (xo_bipush dX2_isLetter_3 (by decide))) <|
  xw_cons (xl_s_20_60 hG dX2_isLetter_5) <|
  xw_cons (xw_R (xt_z dX2_isLetter_8)) <|
  xw_nil _
def xp_87 : List (Nat × xm_O) := xp_87_0
theorem xq_87 {G : xm_G} (hG : xm_W xk_B G) (hO : xm_Og G) : ∀ q ∈ xp_87, xm_op xk_B G xd xk_N "LiarsCock$Reader" "isLetter" prog_21_method_4_code 1 (some (FieldType.boolean)) q.1 q.2 := xq_87_0 hG hO
/- 88: LiarsCock$Reader.isDigit(I)Z -/
def xp_88_0 : List (Nat × xm_O) := [
  (0, .inl (xe_iload 0 1)),
  (1, .inl (xe_push (.int 48) 3)),
  (3, .inl (xe_push (.int 57) 5)),
  (5, .inr (.inr (.inl (xc_S 4 [0, 0, 0])))),
  (8, .inr (.inl xr_z))]
theorem xq_88_0 {G : xm_G} (hG : xm_W xk_B G) (hO : xm_Og G) : ∀ q ∈ xp_88_0, xm_op xk_B G xd xk_N "LiarsCock$Reader" "isDigit" prog_21_method_5_code 1 (some (FieldType.boolean)) q.1 q.2 :=
  xw_cons (xw_E xn_iload (xo_iload_n dX2_isDigit_0 rfl)) <|
  xw_cons (xw_E xn_push (xo_bipush dX2_isDigit_1 (by decide))) <|
  xw_cons (xw_E xn_push (xo_bipush dX2_isDigit_3 (by decide))) <|
  xw_cons (xl_s_20_60 hG dX2_isDigit_5) <|
  xw_cons (xw_R (xt_z dX2_isDigit_8)) <|
  xw_nil _
def xp_88 : List (Nat × xm_O) := xp_88_0
theorem xq_88 {G : xm_G} (hG : xm_W xk_B G) (hO : xm_Og G) : ∀ q ∈ xp_88, xm_op xk_B G xd xk_N "LiarsCock$Reader" "isDigit" prog_21_method_5_code 1 (some (FieldType.boolean)) q.1 q.2 := xq_88_0 hG hO
/- 89: LiarsCock$Reader.isWord(Ljava/lang/String;)Z -/
def xp_89_0 : List (Nat × xm_O) := [
  (0, .inl (xe_aload 0 1)),
  (1, .inl (xe_getf (xj_1 1 4) 4)),
  (4, .inl (xe_aload 0 5)),
  (5, .inl (xe_getf (xj_1 1 7) 8)),
  (8, .inl (xe_ald (fun t => t == 0) 9)),
  (9, .inl (xe_push (.int 1) 10)),
  (10, .inl (xe_icmp (fun x y => decide (¬ x = y)) 34 13)),
  (13, .inl (xe_aload 0 14)),
  (14, .inl (xe_getf (xj_1 1 5) 17)),
  (17, .inl (xe_aload 0 18)),
  (18, .inl (xe_getf (xj_1 1 7) 21)),
  (21, .inl (xe_ald (fun t => t == 1) 22)),
  (22, .inl (xe_aload 1 23)),
  (23, .inr (.inr (.inl (xc_S 90 [2])))),
  (26, .inl (xe_lcmp 27)),
  (27, .inl (xe_if (fun x => decide (¬ x = 0)) 34 30)),
  (30, .inl (xe_push (.int 1) 31)),
  (31, .inl (xe_goto 35)),
  (34, .inl (xe_push (.int 0) 35)),
  (35, .inr (.inl xr_z))]
theorem xq_89_0 {G : xm_G} (hG : xm_W xk_B G) (hO : xm_Og G) : ∀ q ∈ xp_89_0, xm_op xk_B G xd xk_N "LiarsCock$Reader" "isWord" prog_21_method_8_code 2 (some (FieldType.boolean)) q.1 q.2 :=
  xw_cons (xw_E xn_aload (xo_aload_n dX2_isWord_0 rfl)) <|
  xw_cons (xw_E xn_getf (xo_getf hG xg_20_49 dX2_isWord_1)) <|
  xw_cons (xw_E xn_aload (xo_aload_n dX2_isWord_4 rfl)) <|
  xw_cons (xw_E xn_getf (xo_getf hG xg_20_97 dX2_isWord_5)) <|
  xw_cons (xw_E xn_ald (xo_iald xk_hB dX2_isWord_8)) <|
  xw_cons (xw_E xn_push (xo_iconst dX2_isWord_9 (by decide))) <|
  xw_cons (xw_E xn_icmp (xo_icmp_ne dX2_isWord_10 (by decide))) <|
  xw_cons (xw_E xn_aload (xo_aload_n dX2_isWord_13 rfl)) <|
  xw_cons (xw_E xn_getf (xo_getf hG xg_20_52 dX2_isWord_14)) <|
  xw_cons (xw_E xn_aload (xo_aload_n dX2_isWord_17 rfl)) <|
  xw_cons (xw_E xn_getf (xo_getf hG xg_20_97 dX2_isWord_18)) <|
  xw_cons (xw_E xn_ald (xo_lald xk_hB dX2_isWord_21)) <|
  xw_cons (xw_E xn_aload (xo_aload_n dX2_isWord_22 rfl)) <|
  xw_cons (xl_s_20_104 hG dX2_isWord_23) <|
  xw_cons (xw_E xn_lcmp (xo_lcmp dX2_isWord_26)) <|
  xw_cons (xw_E xn_if (xo_if_ne dX2_isWord_27 (by decide))) <|
  xw_cons (xw_E xn_push (xo_iconst dX2_isWord_30 (by decide))) <|
  xw_cons (xw_E xn_goto (xo_goto dX2_isWord_31 (by decide))) <|
  xw_cons (xw_E xn_push (xo_iconst dX2_isWord_34 (by decide))) <|
  xw_cons (xw_R (xt_z dX2_isWord_35)) <|
  xw_nil _
def xp_89 : List (Nat × xm_O) := xp_89_0
theorem xq_89 {G : xm_G} (hG : xm_W xk_B G) (hO : xm_Og G) : ∀ q ∈ xp_89, xm_op xk_B G xd xk_N "LiarsCock$Reader" "isWord" prog_21_method_8_code 2 (some (FieldType.boolean)) q.1 q.2 := xq_89_0 hG hO
/- 90: LiarsCock$Reader.word(Ljava/lang/String;)J -/
def xp_90_0 : List (Nat × xm_O) := [
  (0, .inl (xe_push (.long 0) 1)),
  (1, .inl (xe_lstore 1 2)),
  (2, .inl (xe_push (.int 0) 3)),
  (3, .inl (xe_istore 3 4)),
  (4, .inl (xe_iload 3 5)),
  (5, .inl (xe_aload 0 6)),
  (6, .inr (.inr (.inl (xc_V (xj_1 27 292) [])))),
  (9, .inl (xe_icmp (fun x y => decide (y ≤ x)) 35 12)),
  (12, .inl (xe_push (.long (27 : Int64)) 15)),
  (15, .inl (xe_lload 1 16)),
  (16, .inl (xe_ll (fun x y => x * y) 17)),
  (17, .inl (xe_aload 0 18)),
  (18, .inl (xe_iload 3 19)),
  (19, .inr (.inr (.inl (xc_V (xj_1 27 295) [0])))),
  (22, .inl (xe_i2l 23)),
  (23, .inl (xe_ll (fun x y => x + y) 24)),
  (24, .inl (xe_push (.long (96 : Int64)) 27)),
  (27, .inl (xe_ll (fun x y => x - y) 28)),
  (28, .inl (xe_lstore 1 29)),
  (29, .inl (xe_iinc 3 1 32)),
  (32, .inl (xe_goto 4)),
  (35, .inl (xe_lload 1 36)),
  (36, .inr (.inl xr_l))]
theorem xq_90_0 {G : xm_G} (hG : xm_W xk_B G) (hO : xm_Og G) : ∀ q ∈ xp_90_0, xm_op xk_B G xd xk_N "LiarsCock$Reader" "word" prog_21_method_3_code 4 (some (FieldType.long)) q.1 q.2 :=
  xw_cons (xw_E xn_push (xo_lconst dX2_word_0 (by decide))) <|
  xw_cons (xw_E xn_lstore (xo_lstore_n dX2_word_1 rfl)) <|
  xw_cons (xw_E xn_push (xo_iconst dX2_word_2 (by decide))) <|
  xw_cons (xw_E xn_istore (xo_istore_n dX2_word_3 rfl)) <|
  xw_cons (xw_E xn_iload (xo_iload_n dX2_word_4 rfl)) <|
  xw_cons (xw_E xn_aload (xo_aload_n dX2_word_5 rfl)) <|
  xw_cons (xl_v_20_68 hG dX2_word_6) <|
  xw_cons (xw_E xn_icmp (xo_icmp_ge dX2_word_9 (by decide))) <|
  xw_cons (xw_E xn_push (xo_ldc2 hG q487 dX2_word_12)) <|
  xw_cons (xw_E xn_lload (xo_lload_n dX2_word_15 rfl)) <|
  xw_cons (xw_E xn_ll (xo_lmul dX2_word_16)) <|
  xw_cons (xw_E xn_aload (xo_aload_n dX2_word_17 rfl)) <|
  xw_cons (xw_E xn_iload (xo_iload_n dX2_word_18 rfl)) <|
  xw_cons (xl_v_20_74 hG dX2_word_19) <|
  xw_cons (xw_E xn_i2l (xo_i2l dX2_word_22)) <|
  xw_cons (xw_E xn_ll (xo_ladd dX2_word_23)) <|
  xw_cons (xw_E xn_push (xo_ldc2 hG q488 dX2_word_24)) <|
  xw_cons (xw_E xn_ll (xo_lsub dX2_word_27)) <|
  xw_cons (xw_E xn_lstore (xo_lstore_n dX2_word_28 rfl)) <|
  xw_cons (xw_E xn_iinc (xo_iinc dX2_word_29 (by decide))) <|
  xw_cons (xw_E xn_goto (xo_goto dX2_word_32 (by decide))) <|
  xw_cons (xw_E xn_lload (xo_lload_n dX2_word_35 rfl)) <|
  xw_cons (xw_R (xt_l dX2_word_36)) <|
  xw_nil _
def xp_90 : List (Nat × xm_O) := xp_90_0
theorem xq_90 {G : xm_G} (hG : xm_W xk_B G) (hO : xm_Og G) : ∀ q ∈ xp_90, xm_op xk_B G xd xk_N "LiarsCock$Reader" "word" prog_21_method_3_code 4 (some (FieldType.long)) q.1 q.2 := xq_90_0 hG hO
/- 91: LiarsCock$Reader.fact()V -/
def xp_91_0 : List (Nat × xm_O) := [
  (0, .inl (xe_aload 0 1)),
  (1, .inl (xe_aload 0 2)),
  (2, .inl (xe_getf (xj_1 1 1) 5)),
  (5, .inl (xe_getf (xj_1 2 0) 8)),
  (8, .inr (.inr (.inl (xc_V (xj_1 25 280) [])))),
  (11, .inl (xe_push (.int 6) 13)),
  (13, .inl (xe_icmp (fun x y => decide (¬ x = y)) 20 16)),
  (16, .inl (xe_push (.int 1) 17)),
  (17, .inl (xe_goto 21)),
  (20, .inl (xe_push (.int 0) 21)),
  (21, .inr (.inr (.inl (xc_V (xj_1 1 92) [0])))),
  (24, .inl (xe_lstore 1 25)),
  (25, .inl (xe_push (.int 5) 26)),
  (26, .inl (xe_istore 3 27)),
  (27, .inl (xe_aload 0 28)),
  (28, .inl (xe_push (.ref 5) 30)),
  (30, .inr (.inr (.inl (xc_V (xj_1 1 89) [2])))),
  (33, .inl (xe_if (fun x => decide (x = 0)) 54 36)),
  (36, .inl (xe_aload 0 37)),
  (37, .inl (xe_dup 38)),
  (38, .inl (xe_getf (xj_1 1 7) 41)),
  (41, .inl (xe_push (.int 1) 42)),
  (42, .inl (xe_ii (fun x y => x + y) 43)),
  (43, .inl (xe_putf 300 0 (xj_1 1 7) 46)),
  (46, .inl (xe_aload 0 47)),
  (47, .inl (xe_push (.int 0) 48)),
  (48, .inl (xe_push (.int 10) 50)),
  (50, .inr (.inr (.inl (xc_V (xj_1 1 96) [0, 0])))),
  (53, .inl (xe_istore 3 54)),
  (54, .inl (xe_aload 0 55)),
  (55, .inl (xe_getf (xj_1 1 1) 58)),
  (58, .inl (xe_getf (xj_1 2 4) 61)),
  (61, .inl (xe_aload 0 62)),
  (62, .inl (xe_getf (xj_1 1 1) 65)),
  (65, .inl (xe_getf (xj_1 2 0) 68)),
  (68, .inr (.inr (.inl (xc_V (xj_1 25 280) [])))),
  (71, .inl (xe_iload 3 72)),
  (72, .inl (xe_ast 300 0 (xm_kd 0) 73)),
  (73, .inl (xe_aload 0 74)),
  (74, .inl (xe_getf (xj_1 1 1) 77)),
  (77, .inl (xe_getf (xj_1 2 0) 80)),
  (80, .inl (xe_lload 1 81)),
  (81, .inr (.inr (.inl (xc_S 309 [1])))),
  (84, .inr (.inr (.inl (xc_V (xj_1 25 283) [2])))),
  (87, .inl (xe_pop 88)),
  (88, .inr (.inl xr_v))]
theorem xq_91_0 {G : xm_G} (hG : xm_W xk_B G) (hO : xm_Og G) : ∀ q ∈ xp_91_0, xm_op xk_B G xd xk_N "LiarsCock$Reader" "fact" prog_21_method_19_code 4 none q.1 q.2 :=
  xw_cons (xw_E xn_aload (xo_aload_n dX2_fact_0 rfl)) <|
  xw_cons (xw_E xn_aload (xo_aload_n dX2_fact_1 rfl)) <|
  xw_cons (xw_E xn_getf (xo_getf hG xg_20_132 dX2_fact_2)) <|
  xw_cons (xw_E xn_getf (xo_getf hG xg_20_196 dX2_fact_5)) <|
  xw_cons (xl_v_20_162 hG dX2_fact_8) <|
  xw_cons (xw_E xn_push (xo_bipush dX2_fact_11 (by decide))) <|
  xw_cons (xw_E xn_icmp (xo_icmp_ne dX2_fact_13 (by decide))) <|
  xw_cons (xw_E xn_push (xo_iconst dX2_fact_16 (by decide))) <|
  xw_cons (xw_E xn_goto (xo_goto dX2_fact_17 (by decide))) <|
  xw_cons (xw_E xn_push (xo_iconst dX2_fact_20 (by decide))) <|
  xw_cons (xl_v_20_200 hG dX2_fact_21) <|
  xw_cons (xw_E xn_lstore (xo_lstore_n dX2_fact_24 rfl)) <|
  xw_cons (xw_E xn_push (xo_iconst dX2_fact_25 (by decide))) <|
  xw_cons (xw_E xn_istore (xo_istore_n dX2_fact_26 rfl)) <|
  xw_cons (xw_E xn_aload (xo_aload_n dX2_fact_27 rfl)) <|
  xw_cons (xw_E xn_push (xo_ldcS (xog_s5 hO) dX2_fact_28)) <|
  xw_cons (xl_v_20_108 hG dX2_fact_30) <|
  xw_cons (xw_E xn_if (xo_if_eq dX2_fact_33 (by decide))) <|
  xw_cons (xw_E xn_aload (xo_aload_n dX2_fact_36 rfl)) <|
  xw_cons (xw_E xn_dup (xo_dup dX2_fact_37)) <|
  xw_cons (xw_E xn_getf (xo_getf hG xg_20_97 dX2_fact_38)) <|
  xw_cons (xw_E xn_push (xo_iconst dX2_fact_41 (by decide))) <|
  xw_cons (xw_E xn_ii (xo_iadd dX2_fact_42)) <|
  xw_cons (xw_E xn_putf (xo_putf hG rfl xu_20_97 dX2_fact_43)) <|
  xw_cons (xw_E xn_aload (xo_aload_n dX2_fact_46 rfl)) <|
  xw_cons (xw_E xn_push (xo_iconst dX2_fact_47 (by decide))) <|
  xw_cons (xw_E xn_push (xo_bipush dX2_fact_48 (by decide))) <|
  xw_cons (xl_v_20_204 hG dX2_fact_50) <|
  xw_cons (xw_E xn_istore (xo_istore_n dX2_fact_53 rfl)) <|
  xw_cons (xw_E xn_aload (xo_aload_n dX2_fact_54 rfl)) <|
  xw_cons (xw_E xn_getf (xo_getf hG xg_20_132 dX2_fact_55)) <|
  xw_cons (xw_E xn_getf (xo_getf hG xg_20_208 dX2_fact_58)) <|
  xw_cons (xw_E xn_aload (xo_aload_n dX2_fact_61 rfl)) <|
  xw_cons (xw_E xn_getf (xo_getf hG xg_20_132 dX2_fact_62)) <|
  xw_cons (xw_E xn_getf (xo_getf hG xg_20_196 dX2_fact_65)) <|
  xw_cons (xl_v_20_162 hG dX2_fact_68) <|
  xw_cons (xw_E xn_iload (xo_iload_n dX2_fact_71 rfl)) <|
  xw_cons (xw_E xn_ast (xo_iast hG xk_hB rfl dX2_fact_72)) <|
  xw_cons (xw_E xn_aload (xo_aload_n dX2_fact_73 rfl)) <|
  xw_cons (xw_E xn_getf (xo_getf hG xg_20_132 dX2_fact_74)) <|
  xw_cons (xw_E xn_getf (xo_getf hG xg_20_196 dX2_fact_77)) <|
  xw_cons (xw_E xn_lload (xo_lload_n dX2_fact_80 rfl)) <|
  xw_cons (xl_s_20_211 hG dX2_fact_81) <|
  xw_cons (xl_v_20_217 hG dX2_fact_84) <|
  xw_cons (xw_E xn_pop (xo_pop dX2_fact_87)) <|
  xw_cons (xw_R (xt_v dX2_fact_88)) <|
  xw_nil _
def xp_91 : List (Nat × xm_O) := xp_91_0
theorem xq_91 {G : xm_G} (hG : xm_W xk_B G) (hO : xm_Og G) : ∀ q ∈ xp_91, xm_op xk_B G xd xk_N "LiarsCock$Reader" "fact" prog_21_method_19_code 4 none q.1 q.2 := xq_91_0 hG hO
/- 92: LiarsCock$Reader.newName(Z)J -/
def xp_92_0 : List (Nat × xm_O) := [
  (0, .inl (xe_iload 1 1)),
  (1, .inl (xe_if (fun x => decide (x = 0)) 10 4)),
  (4, .inl (xe_aload 0 5)),
  (5, .inl (xe_push (.int 5) 6)),
  (6, .inr (.inr (.inl (xc_V (xj_1 1 93) [0])))),
  (9, .inr (.inr (.inr ()))),
  (10, .inl (xe_aload 0 11)),
  (11, .inl (xe_dup 12)),
  (12, .inl (xe_getf (xj_1 1 7) 15)),
  (15, .inl (xe_push (.int 1) 16)),
  (16, .inl (xe_ii (fun x y => x + y) 17)),
  (17, .inl (xe_putf 300 0 (xj_1 1 7) 20)),
  (20, .inl (xe_aload 0 21)),
  (21, .inr (.inr (.inl (xc_V (xj_1 1 94) [])))),
  (24, .inl (xe_if (fun x => decide (¬ x = 0)) 33 27)),
  (27, .inl (xe_aload 0 28)),
  (28, .inl (xe_push (.int 1) 29)),
  (29, .inr (.inr (.inl (xc_V (xj_1 1 93) [0])))),
  (32, .inr (.inr (.inr ()))),
  (33, .inl (xe_aload 0 34)),
  (34, .inl (xe_getf (xj_1 1 1) 37)),
  (37, .inl (xe_aload 0 38)),
  (38, .inl (xe_getf (xj_1 1 5) 41)),
  (41, .inl (xe_aload 0 42)),
  (42, .inl (xe_getf (xj_1 1 7) 45)),
  (45, .inl (xe_ald (fun t => t == 1) 46)),
  (46, .inr (.inr (.inl (xc_V (xj_1 2 116) [1])))),
  (49, .inl (xe_if (fun x => decide (x = 0)) 58 52)),
  (52, .inl (xe_aload 0 53)),
  (53, .inl (xe_push (.int 3) 54)),
  (54, .inr (.inr (.inl (xc_V (xj_1 1 93) [0])))),
  (57, .inr (.inr (.inr ()))),
  (58, .inl (xe_aload 0 59)),
  (59, .inl (xe_dup 60)),
  (60, .inl (xe_getf (xj_1 1 7) 63)),
  (63, .inl (xe_push (.int 1) 64)),
  (64, .inl (xe_ii (fun x y => x + y) 65)),
  (65, .inl (xe_putf 300 0 (xj_1 1 7) 68)),
  (68, .inl (xe_aload 0 69)),
  (69, .inl (xe_getf (xj_1 1 5) 72)),
  (72, .inl (xe_aload 0 73)),
  (73, .inl (xe_getf (xj_1 1 7) 76)),
  (76, .inl (xe_push (.int 1) 77)),
  (77, .inl (xe_ii (fun x y => x - y) 78)),
  (78, .inl (xe_ald (fun t => t == 1) 79)),
  (79, .inr (.inl xr_l))]
theorem xq_92_0 {G : xm_G} (hG : xm_W xk_B G) (hO : xm_Og G) : ∀ q ∈ xp_92_0, xm_op xk_B G xd xk_N "LiarsCock$Reader" "newName" prog_21_method_17_code 2 (some (FieldType.long)) q.1 q.2 :=
  xw_cons (xw_E xn_iload (xo_iload_n dX2_newName_0 rfl)) <|
  xw_cons (xw_E xn_if (xo_if_eq dX2_newName_1 (by decide))) <|
  xw_cons (xw_E xn_aload (xo_aload_n dX2_newName_4 rfl)) <|
  xw_cons (xw_E xn_push (xo_iconst dX2_newName_5 (by decide))) <|
  xw_cons (xl_v_20_118 hG dX2_newName_6) <|
  xw_cons (xw_T dX2_newName_9) <|
  xw_cons (xw_E xn_aload (xo_aload_n dX2_newName_10 rfl)) <|
  xw_cons (xw_E xn_dup (xo_dup dX2_newName_11)) <|
  xw_cons (xw_E xn_getf (xo_getf hG xg_20_97 dX2_newName_12)) <|
  xw_cons (xw_E xn_push (xo_iconst dX2_newName_15 (by decide))) <|
  xw_cons (xw_E xn_ii (xo_iadd dX2_newName_16)) <|
  xw_cons (xw_E xn_putf (xo_putf hG rfl xu_20_97 dX2_newName_17)) <|
  xw_cons (xw_E xn_aload (xo_aload_n dX2_newName_20 rfl)) <|
  xw_cons (xl_v_20_184 hG dX2_newName_21) <|
  xw_cons (xw_E xn_if (xo_if_ne dX2_newName_24 (by decide))) <|
  xw_cons (xw_E xn_aload (xo_aload_n dX2_newName_27 rfl)) <|
  xw_cons (xw_E xn_push (xo_iconst dX2_newName_28 (by decide))) <|
  xw_cons (xl_v_20_118 hG dX2_newName_29) <|
  xw_cons (xw_T dX2_newName_32) <|
  xw_cons (xw_E xn_aload (xo_aload_n dX2_newName_33 rfl)) <|
  xw_cons (xw_E xn_getf (xo_getf hG xg_20_132 dX2_newName_34)) <|
  xw_cons (xw_E xn_aload (xo_aload_n dX2_newName_37 rfl)) <|
  xw_cons (xw_E xn_getf (xo_getf hG xg_20_52 dX2_newName_38)) <|
  xw_cons (xw_E xn_aload (xo_aload_n dX2_newName_41 rfl)) <|
  xw_cons (xw_E xn_getf (xo_getf hG xg_20_97 dX2_newName_42)) <|
  xw_cons (xw_E xn_ald (xo_lald xk_hB dX2_newName_45)) <|
  xw_cons (xl_v_20_188 hG dX2_newName_46) <|
  xw_cons (xw_E xn_if (xo_if_eq dX2_newName_49 (by decide))) <|
  xw_cons (xw_E xn_aload (xo_aload_n dX2_newName_52 rfl)) <|
  xw_cons (xw_E xn_push (xo_iconst dX2_newName_53 (by decide))) <|
  xw_cons (xl_v_20_118 hG dX2_newName_54) <|
  xw_cons (xw_T dX2_newName_57) <|
  xw_cons (xw_E xn_aload (xo_aload_n dX2_newName_58 rfl)) <|
  xw_cons (xw_E xn_dup (xo_dup dX2_newName_59)) <|
  xw_cons (xw_E xn_getf (xo_getf hG xg_20_97 dX2_newName_60)) <|
  xw_cons (xw_E xn_push (xo_iconst dX2_newName_63 (by decide))) <|
  xw_cons (xw_E xn_ii (xo_iadd dX2_newName_64)) <|
  xw_cons (xw_E xn_putf (xo_putf hG rfl xu_20_97 dX2_newName_65)) <|
  xw_cons (xw_E xn_aload (xo_aload_n dX2_newName_68 rfl)) <|
  xw_cons (xw_E xn_getf (xo_getf hG xg_20_52 dX2_newName_69)) <|
  xw_cons (xw_E xn_aload (xo_aload_n dX2_newName_72 rfl)) <|
  xw_cons (xw_E xn_getf (xo_getf hG xg_20_97 dX2_newName_73)) <|
  xw_cons (xw_E xn_push (xo_iconst dX2_newName_76 (by decide))) <|
  xw_cons (xw_E xn_ii (xo_isub dX2_newName_77)) <|
  xw_cons (xw_E xn_ald (xo_lald xk_hB dX2_newName_78)) <|
  xw_cons (xw_R (xt_l dX2_newName_79)) <|
  xw_nil _
def xp_92 : List (Nat × xm_O) := xp_92_0
theorem xq_92 {G : xm_G} (hG : xm_W xk_B G) (hO : xm_Og G) : ∀ q ∈ xp_92, xm_op xk_B G xd xk_N "LiarsCock$Reader" "newName" prog_21_method_17_code 2 (some (FieldType.long)) q.1 q.2 := xq_92_0 hG hO
/- 93: LiarsCock$Reader.wrong(I)LLiarsCock$Wrong; -/
def xp_93_0 : List (Nat × xm_O) := [
  (0, .inl (xe_new 9 7 xk_f9 3)),
  (3, .inl (xe_dup 4)),
  (4, .inl (xe_iload 1 5)),
  (5, .inl (xe_push (.int 16) 7)),
  (7, .inl (xe_aload 0 8)),
  (8, .inl (xe_getf (xj_1 1 6) 11)),
  (11, .inl (xe_aload 0 12)),
  (12, .inl (xe_getf (xj_1 1 7) 15)),
  (15, .inl (xe_ald (fun t => t == 0) 16)),
  (16, .inl (xe_ii (fun x y => x * y) 17)),
  (17, .inl (xe_ii (fun x y => x + y) 18)),
  (18, .inr (.inr (.inl (xc_I 242 [0])))),
  (21, .inr (.inl xr_a))]
theorem xq_93_0 {G : xm_G} (hG : xm_W xk_B G) (hO : xm_Og G) : ∀ q ∈ xp_93_0, xm_op xk_B G xd xk_N "LiarsCock$Reader" "wrong" prog_21_method_7_code 2 (some ((FieldType.object "LiarsCock$Wrong"))) q.1 q.2 :=
  xw_cons (xw_E xn_new (xo_new hG xnw_20_99 dX2_wrong_0)) <|
  xw_cons (xw_E xn_dup (xo_dup dX2_wrong_3)) <|
  xw_cons (xw_E xn_iload (xo_iload_n dX2_wrong_4 rfl)) <|
  xw_cons (xw_E xn_push (xo_bipush dX2_wrong_5 (by decide))) <|
  xw_cons (xw_E xn_aload (xo_aload_n dX2_wrong_7 rfl)) <|
  xw_cons (xw_E xn_getf (xo_getf hG xg_20_56 dX2_wrong_8)) <|
  xw_cons (xw_E xn_aload (xo_aload_n dX2_wrong_11 rfl)) <|
  xw_cons (xw_E xn_getf (xo_getf hG xg_20_97 dX2_wrong_12)) <|
  xw_cons (xw_E xn_ald (xo_iald xk_hB dX2_wrong_15)) <|
  xw_cons (xw_E xn_ii (xo_imul dX2_wrong_16)) <|
  xw_cons (xw_E xn_ii (xo_iadd dX2_wrong_17)) <|
  xw_cons (xl_s_20_101 hG dX2_wrong_18) <|
  xw_cons (xw_R (xt_a (Or.inl ⟨_, rfl⟩) dX2_wrong_21)) <|
  xw_nil _
def xp_93 : List (Nat × xm_O) := xp_93_0
theorem xq_93 {G : xm_G} (hG : xm_W xk_B G) (hO : xm_Og G) : ∀ q ∈ xp_93, xm_op xk_B G xd xk_N "LiarsCock$Reader" "wrong" prog_21_method_7_code 2 (some ((FieldType.object "LiarsCock$Wrong"))) q.1 q.2 := xq_93_0 hG hO
/- 94: LiarsCock$Reader.isName()Z -/
def xp_94_0 : List (Nat × xm_O) := [
  (0, .inl (xe_aload 0 1)),
  (1, .inl (xe_getf (xj_1 1 4) 4)),
  (4, .inl (xe_aload 0 5)),
  (5, .inl (xe_getf (xj_1 1 7) 8)),
  (8, .inl (xe_ald (fun t => t == 0) 9)),
  (9, .inl (xe_push (.int 1) 10)),
  (10, .inl (xe_icmp (fun x y => decide (¬ x = y)) 29 13)),
  (13, .inl (xe_aload 0 14)),
  (14, .inl (xe_aload 0 15)),
  (15, .inl (xe_getf (xj_1 1 0) 18)),
  (18, .inr (.inr (.inl (xc_V (xj_1 1 95) [2])))),
  (21, .inl (xe_push (.int (-1)) 22)),
  (22, .inl (xe_icmp (fun x y => decide (¬ x = y)) 29 25)),
  (25, .inl (xe_push (.int 1) 26)),
  (26, .inl (xe_goto 30)),
  (29, .inl (xe_push (.int 0) 30)),
  (30, .inr (.inl xr_z))]
theorem xq_94_0 {G : xm_G} (hG : xm_W xk_B G) (hO : xm_Og G) : ∀ q ∈ xp_94_0, xm_op xk_B G xd xk_N "LiarsCock$Reader" "isName" prog_21_method_15_code 1 (some (FieldType.boolean)) q.1 q.2 :=
  xw_cons (xw_E xn_aload (xo_aload_n dX2_isName_0 rfl)) <|
  xw_cons (xw_E xn_getf (xo_getf hG xg_20_49 dX2_isName_1)) <|
  xw_cons (xw_E xn_aload (xo_aload_n dX2_isName_4 rfl)) <|
  xw_cons (xw_E xn_getf (xo_getf hG xg_20_97 dX2_isName_5)) <|
  xw_cons (xw_E xn_ald (xo_iald xk_hB dX2_isName_8)) <|
  xw_cons (xw_E xn_push (xo_iconst dX2_isName_9 (by decide))) <|
  xw_cons (xw_E xn_icmp (xo_icmp_ne dX2_isName_10 (by decide))) <|
  xw_cons (xw_E xn_aload (xo_aload_n dX2_isName_13 rfl)) <|
  xw_cons (xw_E xn_aload (xo_aload_n dX2_isName_14 rfl)) <|
  xw_cons (xw_E xn_getf (xo_getf hG xg_20_39 dX2_isName_15)) <|
  xw_cons (xl_v_20_122 hG dX2_isName_18) <|
  xw_cons (xw_E xn_push (xo_iconst dX2_isName_21 (by decide))) <|
  xw_cons (xw_E xn_icmp (xo_icmp_ne dX2_isName_22 (by decide))) <|
  xw_cons (xw_E xn_push (xo_iconst dX2_isName_25 (by decide))) <|
  xw_cons (xw_E xn_goto (xo_goto dX2_isName_26 (by decide))) <|
  xw_cons (xw_E xn_push (xo_iconst dX2_isName_29 (by decide))) <|
  xw_cons (xw_R (xt_z dX2_isName_30)) <|
  xw_nil _
def xp_94 : List (Nat × xm_O) := xp_94_0
theorem xq_94 {G : xm_G} (hG : xm_W xk_B G) (hO : xm_Og G) : ∀ q ∈ xp_94, xm_op xk_B G xd xk_N "LiarsCock$Reader" "isName" prog_21_method_15_code 1 (some (FieldType.boolean)) q.1 q.2 := xq_94_0 hG hO
/- 95: LiarsCock$Reader.which([Ljava/lang/String;)I -/
def xp_95_0 : List (Nat × xm_O) := [
  (0, .inl (xe_push (.int 0) 1)),
  (1, .inl (xe_istore 2 2)),
  (2, .inl (xe_iload 2 3)),
  (3, .inl (xe_aload 1 4)),
  (4, .inl (xe_alen 5)),
  (5, .inl (xe_icmp (fun x y => decide (y ≤ x)) 26 8)),
  (8, .inl (xe_aload 0 9)),
  (9, .inl (xe_aload 1 10)),
  (10, .inl (xe_iload 2 11)),
  (11, .inl (xe_ald (fun t => Nat.ble 4 t) 12)),
  (12, .inr (.inr (.inl (xc_V (xj_1 1 89) [2])))),
  (15, .inl (xe_if (fun x => decide (x = 0)) 20 18)),
  (18, .inl (xe_iload 2 19)),
  (19, .inr (.inl xr_i)),
  (20, .inl (xe_iinc 2 1 23)),
  (23, .inl (xe_goto 2)),
  (26, .inl (xe_push (.int (-1)) 27)),
  (27, .inr (.inl xr_i))]
theorem xq_95_0 {G : xm_G} (hG : xm_W xk_B G) (hO : xm_Og G) : ∀ q ∈ xp_95_0, xm_op xk_B G xd xk_N "LiarsCock$Reader" "which" prog_21_method_10_code 3 (some (FieldType.int)) q.1 q.2 :=
  xw_cons (xw_E xn_push (xo_iconst dX2_which_0 (by decide))) <|
  xw_cons (xw_E xn_istore (xo_istore_n dX2_which_1 rfl)) <|
  xw_cons (xw_E xn_iload (xo_iload_n dX2_which_2 rfl)) <|
  xw_cons (xw_E xn_aload (xo_aload_n dX2_which_3 rfl)) <|
  xw_cons (xw_E xn_alen (xo_alen dX2_which_4)) <|
  xw_cons (xw_E xn_icmp (xo_icmp_ge dX2_which_5 (by decide))) <|
  xw_cons (xw_E xn_aload (xo_aload_n dX2_which_8 rfl)) <|
  xw_cons (xw_E xn_aload (xo_aload_n dX2_which_9 rfl)) <|
  xw_cons (xw_E xn_iload (xo_iload_n dX2_which_10 rfl)) <|
  xw_cons (xw_E xn_ald (xo_aald xk_hB dX2_which_11)) <|
  xw_cons (xl_v_20_108 hG dX2_which_12) <|
  xw_cons (xw_E xn_if (xo_if_eq dX2_which_15 (by decide))) <|
  xw_cons (xw_E xn_iload (xo_iload_n dX2_which_18 rfl)) <|
  xw_cons (xw_R (xt_i dX2_which_19)) <|
  xw_cons (xw_E xn_iinc (xo_iinc dX2_which_20 (by decide))) <|
  xw_cons (xw_E xn_goto (xo_goto dX2_which_23 (by decide))) <|
  xw_cons (xw_E xn_push (xo_iconst dX2_which_26 (by decide))) <|
  xw_cons (xw_R (xt_i dX2_which_27)) <|
  xw_nil _
def xp_95 : List (Nat × xm_O) := xp_95_0
theorem xq_95 {G : xm_G} (hG : xm_W xk_B G) (hO : xm_Og G) : ∀ q ∈ xp_95, xm_op xk_B G xd xk_N "LiarsCock$Reader" "which" prog_21_method_10_code 3 (some (FieldType.int)) q.1 q.2 := xq_95_0 hG hO
/- 96: LiarsCock$Reader.number(II)I -/
def xp_96_0 : List (Nat × xm_O) := [
  (0, .inl (xe_aload 0 1)),
  (1, .inl (xe_getf (xj_1 1 4) 4)),
  (4, .inl (xe_aload 0 5)),
  (5, .inl (xe_getf (xj_1 1 7) 8)),
  (8, .inl (xe_ald (fun t => t == 0) 9)),
  (9, .inl (xe_push (.int 2) 10)),
  (10, .inl (xe_icmp (fun x y => decide (x = y)) 19 13)),
  (13, .inl (xe_aload 0 14)),
  (14, .inl (xe_push (.int 1) 15)),
  (15, .inr (.inr (.inl (xc_V (xj_1 1 93) [0])))),
  (18, .inr (.inr (.inr ()))),
  (19, .inl (xe_aload 0 20)),
  (20, .inl (xe_getf (xj_1 1 5) 23)),
  (23, .inl (xe_aload 0 24)),
  (24, .inl (xe_getf (xj_1 1 7) 27)),
  (27, .inl (xe_ald (fun t => t == 1) 28)),
  (28, .inl (xe_iload 1 29)),
  (29, .inl (xe_i2l 30)),
  (30, .inl (xe_lcmp 31)),
  (31, .inl (xe_if (fun x => decide (x < 0)) 49 34)),
  (34, .inl (xe_aload 0 35)),
  (35, .inl (xe_getf (xj_1 1 5) 38)),
  (38, .inl (xe_aload 0 39)),
  (39, .inl (xe_getf (xj_1 1 7) 42)),
  (42, .inl (xe_ald (fun t => t == 1) 43)),
  (43, .inl (xe_iload 2 44)),
  (44, .inl (xe_i2l 45)),
  (45, .inl (xe_lcmp 46)),
  (46, .inl (xe_if (fun x => decide (x ≤ 0)) 55 49)),
  (49, .inl (xe_aload 0 50)),
  (50, .inl (xe_push (.int 4) 51)),
  (51, .inr (.inr (.inl (xc_V (xj_1 1 93) [0])))),
  (54, .inr (.inr (.inr ()))),
  (55, .inl (xe_aload 0 56)),
  (56, .inl (xe_dup 57)),
  (57, .inl (xe_getf (xj_1 1 7) 60)),
  (60, .inl (xe_push (.int 1) 61)),
  (61, .inl (xe_ii (fun x y => x + y) 62)),
  (62, .inl (xe_putf 300 0 (xj_1 1 7) 65)),
  (65, .inl (xe_aload 0 66)),
  (66, .inl (xe_getf (xj_1 1 5) 69)),
  (69, .inl (xe_aload 0 70)),
  (70, .inl (xe_getf (xj_1 1 7) 73)),
  (73, .inl (xe_push (.int 1) 74)),
  (74, .inl (xe_ii (fun x y => x - y) 75)),
  (75, .inl (xe_ald (fun t => t == 1) 76)),
  (76, .inl (xe_l2i 77)),
  (77, .inr (.inl xr_i))]
theorem xq_96_0 {G : xm_G} (hG : xm_W xk_B G) (hO : xm_Og G) : ∀ q ∈ xp_96_0, xm_op xk_B G xd xk_N "LiarsCock$Reader" "number" prog_21_method_14_code 3 (some (FieldType.int)) q.1 q.2 :=
  xw_cons (xw_E xn_aload (xo_aload_n dX2_number_0 rfl)) <|
  xw_cons (xw_E xn_getf (xo_getf hG xg_20_49 dX2_number_1)) <|
  xw_cons (xw_E xn_aload (xo_aload_n dX2_number_4 rfl)) <|
  xw_cons (xw_E xn_getf (xo_getf hG xg_20_97 dX2_number_5)) <|
  xw_cons (xw_E xn_ald (xo_iald xk_hB dX2_number_8)) <|
  xw_cons (xw_E xn_push (xo_iconst dX2_number_9 (by decide))) <|
  xw_cons (xw_E xn_icmp (xo_icmp_eq dX2_number_10 (by decide))) <|
  xw_cons (xw_E xn_aload (xo_aload_n dX2_number_13 rfl)) <|
  xw_cons (xw_E xn_push (xo_iconst dX2_number_14 (by decide))) <|
  xw_cons (xl_v_20_118 hG dX2_number_15) <|
  xw_cons (xw_T dX2_number_18) <|
  xw_cons (xw_E xn_aload (xo_aload_n dX2_number_19 rfl)) <|
  xw_cons (xw_E xn_getf (xo_getf hG xg_20_52 dX2_number_20)) <|
  xw_cons (xw_E xn_aload (xo_aload_n dX2_number_23 rfl)) <|
  xw_cons (xw_E xn_getf (xo_getf hG xg_20_97 dX2_number_24)) <|
  xw_cons (xw_E xn_ald (xo_lald xk_hB dX2_number_27)) <|
  xw_cons (xw_E xn_iload (xo_iload_n dX2_number_28 rfl)) <|
  xw_cons (xw_E xn_i2l (xo_i2l dX2_number_29)) <|
  xw_cons (xw_E xn_lcmp (xo_lcmp dX2_number_30)) <|
  xw_cons (xw_E xn_if (xo_if_lt dX2_number_31 (by decide))) <|
  xw_cons (xw_E xn_aload (xo_aload_n dX2_number_34 rfl)) <|
  xw_cons (xw_E xn_getf (xo_getf hG xg_20_52 dX2_number_35)) <|
  xw_cons (xw_E xn_aload (xo_aload_n dX2_number_38 rfl)) <|
  xw_cons (xw_E xn_getf (xo_getf hG xg_20_97 dX2_number_39)) <|
  xw_cons (xw_E xn_ald (xo_lald xk_hB dX2_number_42)) <|
  xw_cons (xw_E xn_iload (xo_iload_n dX2_number_43 rfl)) <|
  xw_cons (xw_E xn_i2l (xo_i2l dX2_number_44)) <|
  xw_cons (xw_E xn_lcmp (xo_lcmp dX2_number_45)) <|
  xw_cons (xw_E xn_if (xo_if_le dX2_number_46 (by decide))) <|
  xw_cons (xw_E xn_aload (xo_aload_n dX2_number_49 rfl)) <|
  xw_cons (xw_E xn_push (xo_iconst dX2_number_50 (by decide))) <|
  xw_cons (xl_v_20_118 hG dX2_number_51) <|
  xw_cons (xw_T dX2_number_54) <|
  xw_cons (xw_E xn_aload (xo_aload_n dX2_number_55 rfl)) <|
  xw_cons (xw_E xn_dup (xo_dup dX2_number_56)) <|
  xw_cons (xw_E xn_getf (xo_getf hG xg_20_97 dX2_number_57)) <|
  xw_cons (xw_E xn_push (xo_iconst dX2_number_60 (by decide))) <|
  xw_cons (xw_E xn_ii (xo_iadd dX2_number_61)) <|
  xw_cons (xw_E xn_putf (xo_putf hG rfl xu_20_97 dX2_number_62)) <|
  xw_cons (xw_E xn_aload (xo_aload_n dX2_number_65 rfl)) <|
  xw_cons (xw_E xn_getf (xo_getf hG xg_20_52 dX2_number_66)) <|
  xw_cons (xw_E xn_aload (xo_aload_n dX2_number_69 rfl)) <|
  xw_cons (xw_E xn_getf (xo_getf hG xg_20_97 dX2_number_70)) <|
  xw_cons (xw_E xn_push (xo_iconst dX2_number_73 (by decide))) <|
  xw_cons (xw_E xn_ii (xo_isub dX2_number_74)) <|
  xw_cons (xw_E xn_ald (xo_lald xk_hB dX2_number_75)) <|
  xw_cons (xw_E xn_l2i (xo_l2i dX2_number_76)) <|
  xw_cons (xw_R (xt_i dX2_number_77)) <|
  xw_nil _
def xp_96 : List (Nat × xm_O) := xp_96_0
theorem xq_96 {G : xm_G} (hG : xm_W xk_B G) (hO : xm_Og G) : ∀ q ∈ xp_96, xm_op xk_B G xd xk_N "LiarsCock$Reader" "number" prog_21_method_14_code 3 (some (FieldType.int)) q.1 q.2 := xq_96_0 hG hO
/- 97: LiarsCock$Reader.place()V -/
def xp_97_0 : List (Nat × xm_O) := [
  (0, .inl (xe_aload 0 1)),
  (1, .inl (xe_aload 0 2)),
  (2, .inl (xe_getf (xj_1 1 1) 5)),
  (5, .inl (xe_getf (xj_1 2 1) 8)),
  (8, .inr (.inr (.inl (xc_V (xj_1 25 280) [])))),
  (11, .inl (xe_push (.int 6) 13)),
  (13, .inl (xe_icmp (fun x y => decide (¬ x = y)) 20 16)),
  (16, .inl (xe_push (.int 1) 17)),
  (17, .inl (xe_goto 21)),
  (20, .inl (xe_push (.int 0) 21)),
  (21, .inr (.inr (.inl (xc_V (xj_1 1 92) [0])))),
  (24, .inl (xe_lstore 1 25)),
  (25, .inl (xe_aload 0 26)),
  (26, .inl (xe_push (.ref 7) 28)),
  (28, .inr (.inr (.inl (xc_V (xj_1 1 98) [2])))),
  (31, .inl (xe_aload 0 32)),
  (32, .inl (xe_getf (xj_1 1 1) 35)),
  (35, .inl (xe_getf (xj_1 2 5) 38)),
  (38, .inl (xe_aload 0 39)),
  (39, .inl (xe_getf (xj_1 1 1) 42)),
  (42, .inl (xe_getf (xj_1 2 1) 45)),
  (45, .inr (.inr (.inl (xc_V (xj_1 25 280) [])))),
  (48, .inl (xe_aload 0 49)),
  (49, .inl (xe_push (.int 0) 50)),
  (50, .inl (xe_push (.int 359) 53)),
  (53, .inr (.inr (.inl (xc_V (xj_1 1 96) [0, 0])))),
  (56, .inl (xe_ast 300 0 (xm_kd 0) 57)),
  (57, .inl (xe_aload 0 58)),
  (58, .inl (xe_getf (xj_1 1 1) 61)),
  (61, .inl (xe_getf (xj_1 2 1) 64)),
  (64, .inl (xe_lload 1 65)),
  (65, .inr (.inr (.inl (xc_S 309 [1])))),
  (68, .inr (.inr (.inl (xc_V (xj_1 25 283) [2])))),
  (71, .inl (xe_pop 72)),
  (72, .inr (.inl xr_v))]
theorem xq_97_0 {G : xm_G} (hG : xm_W xk_B G) (hO : xm_Og G) : ∀ q ∈ xp_97_0, xm_op xk_B G xd xk_N "LiarsCock$Reader" "place" prog_21_method_20_code 3 none q.1 q.2 :=
  xw_cons (xw_E xn_aload (xo_aload_n dX2_place_0 rfl)) <|
  xw_cons (xw_E xn_aload (xo_aload_n dX2_place_1 rfl)) <|
  xw_cons (xw_E xn_getf (xo_getf hG xg_20_132 dX2_place_2)) <|
  xw_cons (xw_E xn_getf (xo_getf hG xg_20_221 dX2_place_5)) <|
  xw_cons (xl_v_20_162 hG dX2_place_8) <|
  xw_cons (xw_E xn_push (xo_bipush dX2_place_11 (by decide))) <|
  xw_cons (xw_E xn_icmp (xo_icmp_ne dX2_place_13 (by decide))) <|
  xw_cons (xw_E xn_push (xo_iconst dX2_place_16 (by decide))) <|
  xw_cons (xw_E xn_goto (xo_goto dX2_place_17 (by decide))) <|
  xw_cons (xw_E xn_push (xo_iconst dX2_place_20 (by decide))) <|
  xw_cons (xl_v_20_200 hG dX2_place_21) <|
  xw_cons (xw_E xn_lstore (xo_lstore_n dX2_place_24 rfl)) <|
  xw_cons (xw_E xn_aload (xo_aload_n dX2_place_25 rfl)) <|
  xw_cons (xw_E xn_push (xo_ldcS (xog_s7 hO) dX2_place_26)) <|
  xw_cons (xl_v_20_224 hG dX2_place_28) <|
  xw_cons (xw_E xn_aload (xo_aload_n dX2_place_31 rfl)) <|
  xw_cons (xw_E xn_getf (xo_getf hG xg_20_132 dX2_place_32)) <|
  xw_cons (xw_E xn_getf (xo_getf hG xg_20_228 dX2_place_35)) <|
  xw_cons (xw_E xn_aload (xo_aload_n dX2_place_38 rfl)) <|
  xw_cons (xw_E xn_getf (xo_getf hG xg_20_132 dX2_place_39)) <|
  xw_cons (xw_E xn_getf (xo_getf hG xg_20_221 dX2_place_42)) <|
  xw_cons (xl_v_20_162 hG dX2_place_45) <|
  xw_cons (xw_E xn_aload (xo_aload_n dX2_place_48 rfl)) <|
  xw_cons (xw_E xn_push (xo_iconst dX2_place_49 (by decide))) <|
  xw_cons (xw_E xn_push (xo_sipush dX2_place_50 (by decide))) <|
  xw_cons (xl_v_20_204 hG dX2_place_53) <|
  xw_cons (xw_E xn_ast (xo_iast hG xk_hB rfl dX2_place_56)) <|
  xw_cons (xw_E xn_aload (xo_aload_n dX2_place_57 rfl)) <|
  xw_cons (xw_E xn_getf (xo_getf hG xg_20_132 dX2_place_58)) <|
  xw_cons (xw_E xn_getf (xo_getf hG xg_20_221 dX2_place_61)) <|
  xw_cons (xw_E xn_lload (xo_lload_n dX2_place_64 rfl)) <|
  xw_cons (xl_s_20_211 hG dX2_place_65) <|
  xw_cons (xl_v_20_217 hG dX2_place_68) <|
  xw_cons (xw_E xn_pop (xo_pop dX2_place_71)) <|
  xw_cons (xw_R (xt_v dX2_place_72)) <|
  xw_nil _
def xp_97 : List (Nat × xm_O) := xp_97_0
theorem xq_97 {G : xm_G} (hG : xm_W xk_B G) (hO : xm_Og G) : ∀ q ∈ xp_97, xm_op xk_B G xd xk_N "LiarsCock$Reader" "place" prog_21_method_20_code 3 none q.1 q.2 := xq_97_0 hG hO
/- 98: LiarsCock$Reader.takeWord(Ljava/lang/String;)V -/
def xp_98_0 : List (Nat × xm_O) := [
  (0, .inl (xe_aload 0 1)),
  (1, .inl (xe_aload 1 2)),
  (2, .inr (.inr (.inl (xc_V (xj_1 1 99) [2])))),
  (5, .inl (xe_if (fun x => decide (¬ x = 0)) 14 8)),
  (8, .inl (xe_aload 0 9)),
  (9, .inl (xe_push (.int 1) 10)),
  (10, .inr (.inr (.inl (xc_V (xj_1 1 93) [0])))),
  (13, .inr (.inr (.inr ()))),
  (14, .inr (.inl xr_v))]
theorem xq_98_0 {G : xm_G} (hG : xm_W xk_B G) (hO : xm_Og G) : ∀ q ∈ xp_98_0, xm_op xk_B G xd xk_N "LiarsCock$Reader" "takeWord" prog_21_method_25_code 2 none q.1 q.2 :=
  xw_cons (xw_E xn_aload (xo_aload_n dX2_takeWord_0 rfl)) <|
  xw_cons (xw_E xn_aload (xo_aload_n dX2_takeWord_1 rfl)) <|
  xw_cons (xl_v_20_256 hG dX2_takeWord_2) <|
  xw_cons (xw_E xn_if (xo_if_ne dX2_takeWord_5 (by decide))) <|
  xw_cons (xw_E xn_aload (xo_aload_n dX2_takeWord_8 rfl)) <|
  xw_cons (xw_E xn_push (xo_iconst dX2_takeWord_9 (by decide))) <|
  xw_cons (xl_v_20_118 hG dX2_takeWord_10) <|
  xw_cons (xw_T dX2_takeWord_13) <|
  xw_cons (xw_R (xt_v dX2_takeWord_14)) <|
  xw_nil _
def xp_98 : List (Nat × xm_O) := xp_98_0
theorem xq_98 {G : xm_G} (hG : xm_W xk_B G) (hO : xm_Og G) : ∀ q ∈ xp_98, xm_op xk_B G xd xk_N "LiarsCock$Reader" "takeWord" prog_21_method_25_code 2 none q.1 q.2 := xq_98_0 hG hO
/- 99: LiarsCock$Reader.hasWord(Ljava/lang/String;)Z -/
def xp_99_0 : List (Nat × xm_O) := [
  (0, .inl (xe_aload 0 1)),
  (1, .inl (xe_aload 1 2)),
  (2, .inr (.inr (.inl (xc_V (xj_1 1 89) [2])))),
  (5, .inl (xe_istore 2 6)),
  (6, .inl (xe_iload 2 7)),
  (7, .inl (xe_if (fun x => decide (x = 0)) 20 10)),
  (10, .inl (xe_aload 0 11)),
  (11, .inl (xe_dup 12)),
  (12, .inl (xe_getf (xj_1 1 7) 15)),
  (15, .inl (xe_push (.int 1) 16)),
  (16, .inl (xe_ii (fun x y => x + y) 17)),
  (17, .inl (xe_putf 300 0 (xj_1 1 7) 20)),
  (20, .inl (xe_iload 2 21)),
  (21, .inr (.inl xr_z))]
theorem xq_99_0 {G : xm_G} (hG : xm_W xk_B G) (hO : xm_Og G) : ∀ q ∈ xp_99_0, xm_op xk_B G xd xk_N "LiarsCock$Reader" "hasWord" prog_21_method_9_code 3 (some (FieldType.boolean)) q.1 q.2 :=
  xw_cons (xw_E xn_aload (xo_aload_n dX2_hasWord_0 rfl)) <|
  xw_cons (xw_E xn_aload (xo_aload_n dX2_hasWord_1 rfl)) <|
  xw_cons (xl_v_20_108 hG dX2_hasWord_2) <|
  xw_cons (xw_E xn_istore (xo_istore_n dX2_hasWord_5 rfl)) <|
  xw_cons (xw_E xn_iload (xo_iload_n dX2_hasWord_6 rfl)) <|
  xw_cons (xw_E xn_if (xo_if_eq dX2_hasWord_7 (by decide))) <|
  xw_cons (xw_E xn_aload (xo_aload_n dX2_hasWord_10 rfl)) <|
  xw_cons (xw_E xn_dup (xo_dup dX2_hasWord_11)) <|
  xw_cons (xw_E xn_getf (xo_getf hG xg_20_97 dX2_hasWord_12)) <|
  xw_cons (xw_E xn_push (xo_iconst dX2_hasWord_15 (by decide))) <|
  xw_cons (xw_E xn_ii (xo_iadd dX2_hasWord_16)) <|
  xw_cons (xw_E xn_putf (xo_putf hG rfl xu_20_97 dX2_hasWord_17)) <|
  xw_cons (xw_E xn_iload (xo_iload_n dX2_hasWord_20 rfl)) <|
  xw_cons (xw_R (xt_z dX2_hasWord_21)) <|
  xw_nil _
def xp_99 : List (Nat × xm_O) := xp_99_0
theorem xq_99 {G : xm_G} (hG : xm_W xk_B G) (hO : xm_Og G) : ∀ q ∈ xp_99, xm_op xk_B G xd xk_N "LiarsCock$Reader" "hasWord" prog_21_method_9_code 3 (some (FieldType.boolean)) q.1 q.2 := xq_99_0 hG hO
/- 100: LiarsCock$Reader.person()V -/
def xp_100_0 : List (Nat × xm_O) := [
  (0, .inl (xe_aload 0 1)),
  (1, .inl (xe_aload 0 2)),
  (2, .inl (xe_getf (xj_1 1 1) 5)),
  (5, .inl (xe_getf (xj_1 2 3) 8)),
  (8, .inr (.inr (.inl (xc_V (xj_1 25 280) [])))),
  (11, .inl (xe_push (.int 6) 13)),
  (13, .inl (xe_icmp (fun x y => decide (¬ x = y)) 20 16)),
  (16, .inl (xe_push (.int 1) 17)),
  (17, .inl (xe_goto 21)),
  (20, .inl (xe_push (.int 0) 21)),
  (21, .inr (.inr (.inl (xc_V (xj_1 1 92) [0])))),
  (24, .inl (xe_lstore 1 25)),
  (25, .inl (xe_aload 0 26)),
  (26, .inl (xe_push (.ref 9) 28)),
  (28, .inr (.inr (.inl (xc_V (xj_1 1 98) [2])))),
  (31, .inl (xe_new 10 2 xk_f10 34)),
  (34, .inl (xe_dup 35)),
  (35, .inl (xe_aload 0 36)),
  (36, .inl (xe_aload 0 37)),
  (37, .inl (xe_getf (xj_1 1 1) 40)),
  (40, .inl (xe_getf (xj_1 2 1) 43)),
  (43, .inr (.inr (.inl (xc_V (xj_1 1 101) [2])))),
  (46, .inr (.inr (.inl (xc_I 243 [0])))),
  (49, .inl (xe_astore 3 50)),
  (50, .inl (xe_aload 0 51)),
  (51, .inl (xe_dup 52)),
  (52, .inl (xe_getf (xj_1 1 7) 55)),
  (55, .inl (xe_push (.int 1) 56)),
  (56, .inl (xe_ii (fun x y => x + y) 57)),
  (57, .inl (xe_putf 300 0 (xj_1 1 7) 60)),
  (60, .inl (xe_aload 0 61)),
  (61, .inl (xe_push (.ref 10) 63)),
  (63, .inr (.inr (.inl (xc_V (xj_1 1 98) [2])))),
  (66, .inl (xe_aload 0 67)),
  (67, .inr (.inr (.inl (xc_V (xj_1 1 94) [])))),
  (70, .inl (xe_if (fun x => decide (x = 0)) 131 73)),
  (73, .inl (xe_aload 0 74)),
  (74, .inl (xe_aload 0 75)),
  (75, .inl (xe_getf (xj_1 1 1) 78)),
  (78, .inl (xe_getf (xj_1 2 0) 81)),
  (81, .inr (.inr (.inl (xc_V (xj_1 1 101) [2])))),
  (84, .inl (xe_istore 4 86)),
  (86, .inl (xe_aload 3 87)),
  (87, .inl (xe_getf (xj_1 10 1) 90)),
  (90, .inl (xe_i2l 91)),
  (91, .inl (xe_iload 4 93)),
  (93, .inr (.inr (.inl (xc_S 6 [0, 1])))),
  (96, .inl (xe_if (fun x => decide (x = 0)) 105 99)),
  (99, .inl (xe_aload 0 100)),
  (100, .inl (xe_push (.int 3) 101))]
theorem xq_100_0 {G : xm_G} (hG : xm_W xk_B G) (hO : xm_Og G) : ∀ q ∈ xp_100_0, xm_op xk_B G xd xk_N "LiarsCock$Reader" "person" prog_21_method_21_code 5 none q.1 q.2 :=
  xw_cons (xw_E xn_aload (xo_aload_n dX2_person_0 rfl)) <|
  xw_cons (xw_E xn_aload (xo_aload_n dX2_person_1 rfl)) <|
  xw_cons (xw_E xn_getf (xo_getf hG xg_20_132 dX2_person_2)) <|
  xw_cons (xw_E xn_getf (xo_getf hG xg_20_231 dX2_person_5)) <|
  xw_cons (xl_v_20_162 hG dX2_person_8) <|
  xw_cons (xw_E xn_push (xo_bipush dX2_person_11 (by decide))) <|
  xw_cons (xw_E xn_icmp (xo_icmp_ne dX2_person_13 (by decide))) <|
  xw_cons (xw_E xn_push (xo_iconst dX2_person_16 (by decide))) <|
  xw_cons (xw_E xn_goto (xo_goto dX2_person_17 (by decide))) <|
  xw_cons (xw_E xn_push (xo_iconst dX2_person_20 (by decide))) <|
  xw_cons (xl_v_20_200 hG dX2_person_21) <|
  xw_cons (xw_E xn_lstore (xo_lstore_n dX2_person_24 rfl)) <|
  xw_cons (xw_E xn_aload (xo_aload_n dX2_person_25 rfl)) <|
  xw_cons (xw_E xn_push (xo_ldcS (xog_s9 hO) dX2_person_26)) <|
  xw_cons (xl_v_20_224 hG dX2_person_28) <|
  xw_cons (xw_E xn_new (xo_new hG xnw_20_234 dX2_person_31)) <|
  xw_cons (xw_E xn_dup (xo_dup dX2_person_34)) <|
  xw_cons (xw_E xn_aload (xo_aload_n dX2_person_35 rfl)) <|
  xw_cons (xw_E xn_aload (xo_aload_n dX2_person_36 rfl)) <|
  xw_cons (xw_E xn_getf (xo_getf hG xg_20_132 dX2_person_37)) <|
  xw_cons (xw_E xn_getf (xo_getf hG xg_20_221 dX2_person_40)) <|
  xw_cons (xl_v_20_236 hG dX2_person_43) <|
  xw_cons (xl_s_20_240 hG dX2_person_46) <|
  xw_cons (xw_E xn_astore (xo_astore_n dX2_person_49 rfl)) <|
  xw_cons (xw_E xn_aload (xo_aload_n dX2_person_50 rfl)) <|
  xw_cons (xw_E xn_dup (xo_dup dX2_person_51)) <|
  xw_cons (xw_E xn_getf (xo_getf hG xg_20_97 dX2_person_52)) <|
  xw_cons (xw_E xn_push (xo_iconst dX2_person_55 (by decide))) <|
  xw_cons (xw_E xn_ii (xo_iadd dX2_person_56)) <|
  xw_cons (xw_E xn_putf (xo_putf hG rfl xu_20_97 dX2_person_57)) <|
  xw_cons (xw_E xn_aload (xo_aload_n dX2_person_60 rfl)) <|
  xw_cons (xw_E xn_push (xo_ldcS (xog_s10 hO) dX2_person_61)) <|
  xw_cons (xl_v_20_224 hG dX2_person_63) <|
  xw_cons (xw_E xn_aload (xo_aload_n dX2_person_66 rfl)) <|
  xw_cons (xl_v_20_184 hG dX2_person_67) <|
  xw_cons (xw_E xn_if (xo_if_eq dX2_person_70 (by decide))) <|
  xw_cons (xw_E xn_aload (xo_aload_n dX2_person_73 rfl)) <|
  xw_cons (xw_E xn_aload (xo_aload_n dX2_person_74 rfl)) <|
  xw_cons (xw_E xn_getf (xo_getf hG xg_20_132 dX2_person_75)) <|
  xw_cons (xw_E xn_getf (xo_getf hG xg_20_196 dX2_person_78)) <|
  xw_cons (xl_v_20_236 hG dX2_person_81) <|
  xw_cons (xw_E xn_istore (xo_istore dX2_person_84)) <|
  xw_cons (xw_E xn_aload (xo_aload_n dX2_person_86 rfl)) <|
  xw_cons (xw_E xn_getf (xo_getf hG xg_20_241 dX2_person_87)) <|
  xw_cons (xw_E xn_i2l (xo_i2l dX2_person_90)) <|
  xw_cons (xw_E xn_iload (xo_iload dX2_person_91)) <|
  xw_cons (xl_s_20_243 hG dX2_person_93) <|
  xw_cons (xw_E xn_if (xo_if_eq dX2_person_96 (by decide))) <|
  xw_cons (xw_E xn_aload (xo_aload_n dX2_person_99 rfl)) <|
  xw_cons (xw_E xn_push (xo_iconst dX2_person_100 (by decide))) <|
  xw_nil _
def xp_100_1 : List (Nat × xm_O) := [
  (101, .inr (.inr (.inl (xc_V (xj_1 1 93) [0])))),
  (104, .inr (.inr (.inr ()))),
  (105, .inl (xe_aload 3 106)),
  (106, .inl (xe_dup 107)),
  (107, .inl (xe_getf (xj_1 10 1) 110)),
  (110, .inl (xe_push (.int 1) 111)),
  (111, .inl (xe_iload 4 113)),
  (113, .inl (xe_ii (fun x y => x <<< (y &&& 31)) 114)),
  (114, .inl (xe_ii (fun x y => x ||| y) 115)),
  (115, .inl (xe_putf 300 0 (xj_1 10 1) 118)),
  (118, .inl (xe_aload 0 119)),
  (119, .inl (xe_dup 120)),
  (120, .inl (xe_getf (xj_1 1 7) 123)),
  (123, .inl (xe_push (.int 1) 124)),
  (124, .inl (xe_ii (fun x y => x + y) 125)),
  (125, .inl (xe_putf 300 0 (xj_1 1 7) 128)),
  (128, .inl (xe_goto 66)),
  (131, .inl (xe_aload 0 132)),
  (132, .inl (xe_getf (xj_1 1 1) 135)),
  (135, .inl (xe_getf (xj_1 2 2) 138)),
  (138, .inl (xe_lload 1 139)),
  (139, .inr (.inr (.inl (xc_S 309 [1])))),
  (142, .inr (.inr (.inl (xc_V (xj_1 25 283) [2])))),
  (145, .inl (xe_pop 146)),
  (146, .inl (xe_aload 0 147)),
  (147, .inl (xe_getf (xj_1 1 1) 150)),
  (150, .inl (xe_getf (xj_1 2 3) 153)),
  (153, .inl (xe_aload 3 154)),
  (154, .inr (.inr (.inl (xc_V (xj_1 25 283) [2])))),
  (157, .inl (xe_pop 158)),
  (158, .inr (.inl xr_v))]
theorem xq_100_1 {G : xm_G} (hG : xm_W xk_B G) (hO : xm_Og G) : ∀ q ∈ xp_100_1, xm_op xk_B G xd xk_N "LiarsCock$Reader" "person" prog_21_method_21_code 5 none q.1 q.2 :=
  xw_cons (xl_v_20_118 hG dX2_person_101) <|
  xw_cons (xw_T dX2_person_104) <|
  xw_cons (xw_E xn_aload (xo_aload_n dX2_person_105 rfl)) <|
  xw_cons (xw_E xn_dup (xo_dup dX2_person_106)) <|
  xw_cons (xw_E xn_getf (xo_getf hG xg_20_241 dX2_person_107)) <|
  xw_cons (xw_E xn_push (xo_iconst dX2_person_110 (by decide))) <|
  xw_cons (xw_E xn_iload (xo_iload dX2_person_111)) <|
  xw_cons (xw_E xn_ii (xo_ishl dX2_person_113)) <|
  xw_cons (xw_E xn_ii (xo_ior dX2_person_114)) <|
  xw_cons (xw_E xn_putf (xo_putf hG rfl xu_20_241 dX2_person_115)) <|
  xw_cons (xw_E xn_aload (xo_aload_n dX2_person_118 rfl)) <|
  xw_cons (xw_E xn_dup (xo_dup dX2_person_119)) <|
  xw_cons (xw_E xn_getf (xo_getf hG xg_20_97 dX2_person_120)) <|
  xw_cons (xw_E xn_push (xo_iconst dX2_person_123 (by decide))) <|
  xw_cons (xw_E xn_ii (xo_iadd dX2_person_124)) <|
  xw_cons (xw_E xn_putf (xo_putf hG rfl xu_20_97 dX2_person_125)) <|
  xw_cons (xw_E xn_goto (xo_goto dX2_person_128 (by decide))) <|
  xw_cons (xw_E xn_aload (xo_aload_n dX2_person_131 rfl)) <|
  xw_cons (xw_E xn_getf (xo_getf hG xg_20_132 dX2_person_132)) <|
  xw_cons (xw_E xn_getf (xo_getf hG xg_20_247 dX2_person_135)) <|
  xw_cons (xw_E xn_lload (xo_lload_n dX2_person_138 rfl)) <|
  xw_cons (xl_s_20_211 hG dX2_person_139) <|
  xw_cons (xl_v_20_217 hG dX2_person_142) <|
  xw_cons (xw_E xn_pop (xo_pop dX2_person_145)) <|
  xw_cons (xw_E xn_aload (xo_aload_n dX2_person_146 rfl)) <|
  xw_cons (xw_E xn_getf (xo_getf hG xg_20_132 dX2_person_147)) <|
  xw_cons (xw_E xn_getf (xo_getf hG xg_20_231 dX2_person_150)) <|
  xw_cons (xw_E xn_aload (xo_aload_n dX2_person_153 rfl)) <|
  xw_cons (xl_v_20_217 hG dX2_person_154) <|
  xw_cons (xw_E xn_pop (xo_pop dX2_person_157)) <|
  xw_cons (xw_R (xt_v dX2_person_158)) <|
  xw_nil _
def xp_100 : List (Nat × xm_O) := xp_100_0 ++ xp_100_1
theorem xq_100 {G : xm_G} (hG : xm_W xk_B G) (hO : xm_Og G) : ∀ q ∈ xp_100, xm_op xk_B G xd xk_N "LiarsCock$Reader" "person" prog_21_method_21_code 5 none q.1 q.2 := xw_app (xq_100_0 hG hO) (xq_100_1 hG hO)
/- 101: LiarsCock$Reader.named(Ljava/util/ArrayList;)I -/
def xp_101_0 : List (Nat × xm_O) := [
  (0, .inl (xe_aload 0 1)),
  (1, .inr (.inr (.inl (xc_V (xj_1 1 94) [])))),
  (4, .inl (xe_if (fun x => decide (¬ x = 0)) 13 7)),
  (7, .inl (xe_aload 0 8)),
  (8, .inl (xe_push (.int 1) 9)),
  (9, .inr (.inr (.inl (xc_V (xj_1 1 93) [0])))),
  (12, .inr (.inr (.inr ()))),
  (13, .inl (xe_aload 1 14)),
  (14, .inl (xe_aload 0 15)),
  (15, .inl (xe_getf (xj_1 1 5) 18)),
  (18, .inl (xe_aload 0 19)),
  (19, .inl (xe_getf (xj_1 1 7) 22)),
  (22, .inl (xe_ald (fun t => t == 1) 23)),
  (23, .inr (.inr (.inl (xc_S 117 [1, 2])))),
  (26, .inl (xe_istore 2 27)),
  (27, .inl (xe_iload 2 28)),
  (28, .inl (xe_push (.int (-1)) 29)),
  (29, .inl (xe_icmp (fun x y => decide (¬ x = y)) 38 32)),
  (32, .inl (xe_aload 0 33)),
  (33, .inl (xe_push (.int 2) 34)),
  (34, .inr (.inr (.inl (xc_V (xj_1 1 93) [0])))),
  (37, .inr (.inr (.inr ()))),
  (38, .inl (xe_iload 2 39)),
  (39, .inr (.inl xr_i))]
theorem xq_101_0 {G : xm_G} (hG : xm_W xk_B G) (hO : xm_Og G) : ∀ q ∈ xp_101_0, xm_op xk_B G xd xk_N "LiarsCock$Reader" "named" prog_21_method_18_code 3 (some (FieldType.int)) q.1 q.2 :=
  xw_cons (xw_E xn_aload (xo_aload_n dX2_named_0 rfl)) <|
  xw_cons (xl_v_20_184 hG dX2_named_1) <|
  xw_cons (xw_E xn_if (xo_if_ne dX2_named_4 (by decide))) <|
  xw_cons (xw_E xn_aload (xo_aload_n dX2_named_7 rfl)) <|
  xw_cons (xw_E xn_push (xo_iconst dX2_named_8 (by decide))) <|
  xw_cons (xl_v_20_118 hG dX2_named_9) <|
  xw_cons (xw_T dX2_named_12) <|
  xw_cons (xw_E xn_aload (xo_aload_n dX2_named_13 rfl)) <|
  xw_cons (xw_E xn_aload (xo_aload_n dX2_named_14 rfl)) <|
  xw_cons (xw_E xn_getf (xo_getf hG xg_20_52 dX2_named_15)) <|
  xw_cons (xw_E xn_aload (xo_aload_n dX2_named_18 rfl)) <|
  xw_cons (xw_E xn_getf (xo_getf hG xg_20_97 dX2_named_19)) <|
  xw_cons (xw_E xn_ald (xo_lald xk_hB dX2_named_22)) <|
  xw_cons (xl_s_20_192 hG dX2_named_23) <|
  xw_cons (xw_E xn_istore (xo_istore_n dX2_named_26 rfl)) <|
  xw_cons (xw_E xn_iload (xo_iload_n dX2_named_27 rfl)) <|
  xw_cons (xw_E xn_push (xo_iconst dX2_named_28 (by decide))) <|
  xw_cons (xw_E xn_icmp (xo_icmp_ne dX2_named_29 (by decide))) <|
  xw_cons (xw_E xn_aload (xo_aload_n dX2_named_32 rfl)) <|
  xw_cons (xw_E xn_push (xo_iconst dX2_named_33 (by decide))) <|
  xw_cons (xl_v_20_118 hG dX2_named_34) <|
  xw_cons (xw_T dX2_named_37) <|
  xw_cons (xw_E xn_iload (xo_iload_n dX2_named_38 rfl)) <|
  xw_cons (xw_R (xt_i dX2_named_39)) <|
  xw_nil _
def xp_101 : List (Nat × xm_O) := xp_101_0
theorem xq_101 {G : xm_G} (hG : xm_W xk_B G) (hO : xm_Og G) : ∀ q ∈ xp_101, xm_op xk_B G xd xk_N "LiarsCock$Reader" "named" prog_21_method_18_code 3 (some (FieldType.int)) q.1 q.2 := xq_101_0 hG hO
/- 102: LiarsCock$Reader.common(Ljava/util/ArrayList;)V -/
def xp_102_0 : List (Nat × xm_O) := [
  (0, .inl (xe_aload 1 1)),
  (1, .inr (.inr (.inl (xc_V (xj_1 25 280) [])))),
  (4, .inl (xe_push (.int 4) 5)),
  (5, .inl (xe_icmp (fun x y => decide (¬ x = y)) 14 8)),
  (8, .inl (xe_aload 0 9)),
  (9, .inl (xe_push (.int 5) 10)),
  (10, .inr (.inr (.inl (xc_V (xj_1 1 93) [0])))),
  (13, .inr (.inr (.inr ()))),
  (14, .inl (xe_aload 0 15)),
  (15, .inl (xe_dup 16)),
  (16, .inl (xe_getf (xj_1 1 7) 19)),
  (19, .inl (xe_push (.int 1) 20)),
  (20, .inl (xe_ii (fun x y => x + y) 21)),
  (21, .inl (xe_putf 300 0 (xj_1 1 7) 24)),
  (24, .inl (xe_aload 1 25)),
  (25, .inl (xe_aload 0 26)),
  (26, .inr (.inr (.inl (xc_V (xj_1 1 103) [])))),
  (29, .inr (.inr (.inl (xc_V (xj_1 25 283) [2])))),
  (32, .inl (xe_pop 33)),
  (33, .inr (.inl xr_v))]
theorem xq_102_0 {G : xm_G} (hG : xm_W xk_B G) (hO : xm_Og G) : ∀ q ∈ xp_102_0, xm_op xk_B G xd xk_N "LiarsCock$Reader" "common" prog_21_method_22_code 2 none q.1 q.2 :=
  xw_cons (xw_E xn_aload (xo_aload_n dX2_common_0 rfl)) <|
  xw_cons (xl_v_20_162 hG dX2_common_1) <|
  xw_cons (xw_E xn_push (xo_iconst dX2_common_4 (by decide))) <|
  xw_cons (xw_E xn_icmp (xo_icmp_ne dX2_common_5 (by decide))) <|
  xw_cons (xw_E xn_aload (xo_aload_n dX2_common_8 rfl)) <|
  xw_cons (xw_E xn_push (xo_iconst dX2_common_9 (by decide))) <|
  xw_cons (xl_v_20_118 hG dX2_common_10) <|
  xw_cons (xw_T dX2_common_13) <|
  xw_cons (xw_E xn_aload (xo_aload_n dX2_common_14 rfl)) <|
  xw_cons (xw_E xn_dup (xo_dup dX2_common_15)) <|
  xw_cons (xw_E xn_getf (xo_getf hG xg_20_97 dX2_common_16)) <|
  xw_cons (xw_E xn_push (xo_iconst dX2_common_19 (by decide))) <|
  xw_cons (xw_E xn_ii (xo_iadd dX2_common_20)) <|
  xw_cons (xw_E xn_putf (xo_putf hG rfl xu_20_97 dX2_common_21)) <|
  xw_cons (xw_E xn_aload (xo_aload_n dX2_common_24 rfl)) <|
  xw_cons (xw_E xn_aload (xo_aload_n dX2_common_25 rfl)) <|
  xw_cons (xl_v_20_250 hG dX2_common_26) <|
  xw_cons (xl_v_20_217 hG dX2_common_29) <|
  xw_cons (xw_E xn_pop (xo_pop dX2_common_32)) <|
  xw_cons (xw_R (xt_v dX2_common_33)) <|
  xw_nil _
def xp_102 : List (Nat × xm_O) := xp_102_0
theorem xq_102 {G : xm_G} (hG : xm_W xk_B G) (hO : xm_Og G) : ∀ q ∈ xp_102, xm_op xk_B G xd xk_N "LiarsCock$Reader" "common" prog_21_method_22_code 2 none q.1 q.2 := xq_102_0 hG hO
/- 103: LiarsCock$Reader.whole()LLiarsCock$Expression; -/
def xp_103_0 : List (Nat × xm_O) := [
  (0, .inl (xe_aload 0 1)),
  (1, .inl (xe_push (.int 0) 2)),
  (2, .inl (xe_putf 300 0 (xj_1 1 8) 5)),
  (5, .inl (xe_aload 0 6)),
  (6, .inr (.inr (.inl (xc_V (xj_1 1 104) [])))),
  (9, .inr (.inl xr_a))]
theorem xq_103_0 {G : xm_G} (hG : xm_W xk_B G) (hO : xm_Og G) : ∀ q ∈ xp_103_0, xm_op xk_B G xd xk_N "LiarsCock$Reader" "whole" prog_21_method_26_code 1 (some ((FieldType.object "LiarsCock$Expression"))) q.1 q.2 :=
  xw_cons (xw_E xn_aload (xo_aload_n dX2_whole_0 rfl)) <|
  xw_cons (xw_E xn_push (xo_iconst dX2_whole_1 (by decide))) <|
  xw_cons (xw_E xn_putf (xo_putf hG rfl xu_20_259 dX2_whole_2)) <|
  xw_cons (xw_E xn_aload (xo_aload_n dX2_whole_5 rfl)) <|
  xw_cons (xl_v_20_262 hG dX2_whole_6) <|
  xw_cons (xw_R (xt_a (Or.inl ⟨_, rfl⟩) dX2_whole_9)) <|
  xw_nil _
def xp_103 : List (Nat × xm_O) := xp_103_0
theorem xq_103 {G : xm_G} (hG : xm_W xk_B G) (hO : xm_Og G) : ∀ q ∈ xp_103, xm_op xk_B G xd xk_N "LiarsCock$Reader" "whole" prog_21_method_26_code 1 (some ((FieldType.object "LiarsCock$Expression"))) q.1 q.2 := xq_103_0 hG hO
/- 104: LiarsCock$Reader.all()LLiarsCock$Expression; -/
def xp_104_0 : List (Nat × xm_O) := [
  (0, .inl (xe_aload 0 1)),
  (1, .inr (.inr (.inl (xc_V (xj_1 1 105) [])))),
  (4, .inl (xe_astore 1 5)),
  (5, .inl (xe_push .null 6)),
  (6, .inl (xe_astore 2 7)),
  (7, .inl (xe_aload 0 8)),
  (8, .inl (xe_push (.ref 16) 10)),
  (10, .inr (.inr (.inl (xc_V (xj_1 1 89) [2])))),
  (13, .inl (xe_if (fun x => decide (¬ x = 0)) 25 16)),
  (16, .inl (xe_aload 0 17)),
  (17, .inl (xe_push (.ref 17) 19)),
  (19, .inr (.inr (.inl (xc_V (xj_1 1 89) [2])))),
  (22, .inl (xe_if (fun x => decide (x = 0)) 90 25)),
  (25, .inl (xe_aload 0 26)),
  (26, .inl (xe_push (.ref 16) 28)),
  (28, .inr (.inr (.inl (xc_V (xj_1 1 89) [2])))),
  (31, .inl (xe_istore 3 32)),
  (32, .inl (xe_aload 0 33)),
  (33, .inl (xe_dup 34)),
  (34, .inl (xe_getf (xj_1 1 7) 37)),
  (37, .inl (xe_push (.int 1) 38)),
  (38, .inl (xe_ii (fun x y => x + y) 39)),
  (39, .inl (xe_putf 300 0 (xj_1 1 7) 42)),
  (42, .inl (xe_aload 0 43)),
  (43, .inr (.inr (.inl (xc_V (xj_1 1 105) [])))),
  (46, .inl (xe_astore 4 48)),
  (48, .inl (xe_aload 1 49)),
  (49, .inl (xe_aload 2 50)),
  (50, .inr (.inr (.inl (xc_S 112 [2, 2])))),
  (53, .inl (xe_astore 2 54)),
  (54, .inl (xe_aload 2 55)),
  (55, .inl (xe_getf (xj_1 14 1) 58)),
  (58, .inl (xe_iload 3 59)),
  (59, .inl (xe_if (fun x => decide (x = 0)) 74 62)),
  (62, .inl (xe_new 20 1 xk_f20 65)),
  (65, .inl (xe_dup 66)),
  (66, .inl (xe_aload 4 68)),
  (68, .inr (.inr (.inl (xc_I 265 [2])))),
  (71, .inl (xe_goto 83)),
  (74, .inl (xe_new 21 1 xk_f21 77)),
  (77, .inl (xe_dup 78)),
  (78, .inl (xe_aload 4 80)),
  (80, .inr (.inr (.inl (xc_I 267 [2])))),
  (83, .inr (.inr (.inl (xc_V (xj_1 25 283) [2])))),
  (86, .inl (xe_pop 87)),
  (87, .inl (xe_goto 7)),
  (90, .inl (xe_aload 2 91)),
  (91, .inl (xe_null 94 98)),
  (94, .inl (xe_aload 1 95)),
  (95, .inl (xe_goto 99))]
theorem xq_104_0 {G : xm_G} (hG : xm_W xk_B G) (hO : xm_Og G) : ∀ q ∈ xp_104_0, xm_op xk_B G xd xk_N "LiarsCock$Reader" "all" prog_21_method_28_code 5 (some ((FieldType.object "LiarsCock$Expression"))) q.1 q.2 :=
  xw_cons (xw_E xn_aload (xo_aload_n dX2_all_0 rfl)) <|
  xw_cons (xl_v_20_270 hG dX2_all_1) <|
  xw_cons (xw_E xn_astore (xo_astore_n dX2_all_4 rfl)) <|
  xw_cons (xw_E xn_push (xo_anull dX2_all_5)) <|
  xw_cons (xw_E xn_astore (xo_astore_n dX2_all_6 rfl)) <|
  xw_cons (xw_E xn_aload (xo_aload_n dX2_all_7 rfl)) <|
  xw_cons (xw_E xn_push (xo_ldcS (xog_s16 hO) dX2_all_8)) <|
  xw_cons (xl_v_20_108 hG dX2_all_10) <|
  xw_cons (xw_E xn_if (xo_if_ne dX2_all_13 (by decide))) <|
  xw_cons (xw_E xn_aload (xo_aload_n dX2_all_16 rfl)) <|
  xw_cons (xw_E xn_push (xo_ldcS (xog_s17 hO) dX2_all_17)) <|
  xw_cons (xl_v_20_108 hG dX2_all_19) <|
  xw_cons (xw_E xn_if (xo_if_eq dX2_all_22 (by decide))) <|
  xw_cons (xw_E xn_aload (xo_aload_n dX2_all_25 rfl)) <|
  xw_cons (xw_E xn_push (xo_ldcS (xog_s16 hO) dX2_all_26)) <|
  xw_cons (xl_v_20_108 hG dX2_all_28) <|
  xw_cons (xw_E xn_istore (xo_istore_n dX2_all_31 rfl)) <|
  xw_cons (xw_E xn_aload (xo_aload_n dX2_all_32 rfl)) <|
  xw_cons (xw_E xn_dup (xo_dup dX2_all_33)) <|
  xw_cons (xw_E xn_getf (xo_getf hG xg_20_97 dX2_all_34)) <|
  xw_cons (xw_E xn_push (xo_iconst dX2_all_37 (by decide))) <|
  xw_cons (xw_E xn_ii (xo_iadd dX2_all_38)) <|
  xw_cons (xw_E xn_putf (xo_putf hG rfl xu_20_97 dX2_all_39)) <|
  xw_cons (xw_E xn_aload (xo_aload_n dX2_all_42 rfl)) <|
  xw_cons (xl_v_20_270 hG dX2_all_43) <|
  xw_cons (xw_E xn_astore (xo_astore dX2_all_46)) <|
  xw_cons (xw_E xn_aload (xo_aload_n dX2_all_48 rfl)) <|
  xw_cons (xw_E xn_aload (xo_aload_n dX2_all_49 rfl)) <|
  xw_cons (xl_s_20_273 hG dX2_all_50) <|
  xw_cons (xw_E xn_astore (xo_astore_n dX2_all_53 rfl)) <|
  xw_cons (xw_E xn_aload (xo_aload_n dX2_all_54 rfl)) <|
  xw_cons (xw_E xn_getf (xo_getf hG xg_20_277 dX2_all_55)) <|
  xw_cons (xw_E xn_iload (xo_iload_n dX2_all_58 rfl)) <|
  xw_cons (xw_E xn_if (xo_if_eq dX2_all_59 (by decide))) <|
  xw_cons (xw_E xn_new (xo_new hG xnw_20_280 dX2_all_62)) <|
  xw_cons (xw_E xn_dup (xo_dup dX2_all_65)) <|
  xw_cons (xw_E xn_aload (xo_aload dX2_all_66)) <|
  xw_cons (xl_s_20_282 hG dX2_all_68) <|
  xw_cons (xw_E xn_goto (xo_goto dX2_all_71 (by decide))) <|
  xw_cons (xw_E xn_new (xo_new hG xnw_20_283 dX2_all_74)) <|
  xw_cons (xw_E xn_dup (xo_dup dX2_all_77)) <|
  xw_cons (xw_E xn_aload (xo_aload dX2_all_78)) <|
  xw_cons (xl_s_20_285 hG dX2_all_80) <|
  xw_cons (xl_v_20_217 hG dX2_all_83) <|
  xw_cons (xw_E xn_pop (xo_pop dX2_all_86)) <|
  xw_cons (xw_E xn_goto (xo_goto dX2_all_87 (by decide))) <|
  xw_cons (xw_E xn_aload (xo_aload_n dX2_all_90 rfl)) <|
  xw_cons (xw_E xn_null (xo_ifnonnull dX2_all_91 (by decide))) <|
  xw_cons (xw_E xn_aload (xo_aload_n dX2_all_94 rfl)) <|
  xw_cons (xw_E xn_goto (xo_goto dX2_all_95 (by decide))) <|
  xw_nil _
def xp_104_1 : List (Nat × xm_O) := [
  (98, .inl (xe_aload 2 99)),
  (99, .inr (.inl xr_a))]
theorem xq_104_1 {G : xm_G} (hG : xm_W xk_B G) (hO : xm_Og G) : ∀ q ∈ xp_104_1, xm_op xk_B G xd xk_N "LiarsCock$Reader" "all" prog_21_method_28_code 5 (some ((FieldType.object "LiarsCock$Expression"))) q.1 q.2 :=
  xw_cons (xw_E xn_aload (xo_aload_n dX2_all_98 rfl)) <|
  xw_cons (xw_R (xt_a (Or.inl ⟨_, rfl⟩) dX2_all_99)) <|
  xw_nil _
def xp_104 : List (Nat × xm_O) := xp_104_0 ++ xp_104_1
theorem xq_104 {G : xm_G} (hG : xm_W xk_B G) (hO : xm_Og G) : ∀ q ∈ xp_104, xm_op xk_B G xd xk_N "LiarsCock$Reader" "all" prog_21_method_28_code 5 (some ((FieldType.object "LiarsCock$Expression"))) q.1 q.2 := xw_app (xq_104_0 hG hO) (xq_104_1 hG hO)
/- 105: LiarsCock$Reader.test()LLiarsCock$Expression; -/
def xp_105_0 : List (Nat × xm_O) := [
  (0, .inl (xe_aload 0 1)),
  (1, .inr (.inr (.inl (xc_V (xj_1 1 106) [])))),
  (4, .inl (xe_astore 1 5)),
  (5, .inl (xe_aload 0 6)),
  (6, .inl (xe_push (.int 60) 8)),
  (8, .inr (.inr (.inl (xc_V (xj_1 1 109) [0])))),
  (11, .inl (xe_if (fun x => decide (¬ x = 0)) 25 14)),
  (14, .inl (xe_aload 0 15)),
  (15, .inl (xe_push (.int 61) 17)),
  (17, .inr (.inr (.inl (xc_V (xj_1 1 109) [0])))),
  (20, .inl (xe_if (fun x => decide (¬ x = 0)) 25 23)),
  (23, .inl (xe_aload 1 24)),
  (24, .inr (.inl xr_a)),
  (25, .inl (xe_aload 0 26)),
  (26, .inl (xe_push (.int 60) 28)),
  (28, .inr (.inr (.inl (xc_V (xj_1 1 109) [0])))),
  (31, .inl (xe_istore 2 32)),
  (32, .inl (xe_aload 0 33)),
  (33, .inl (xe_dup 34)),
  (34, .inl (xe_getf (xj_1 1 7) 37)),
  (37, .inl (xe_push (.int 1) 38)),
  (38, .inl (xe_ii (fun x y => x + y) 39)),
  (39, .inl (xe_putf 300 0 (xj_1 1 7) 42)),
  (42, .inl (xe_aload 0 43)),
  (43, .inr (.inr (.inl (xc_V (xj_1 1 106) [])))),
  (46, .inl (xe_astore 3 47)),
  (47, .inl (xe_new 14 2 xk_f14 50)),
  (50, .inl (xe_dup 51)),
  (51, .inl (xe_aload 1 52)),
  (52, .inr (.inr (.inl (xc_I 251 [2])))),
  (55, .inl (xe_astore 4 57)),
  (57, .inl (xe_aload 4 59)),
  (59, .inl (xe_getf (xj_1 14 1) 62)),
  (62, .inl (xe_iload 2 63)),
  (63, .inl (xe_if (fun x => decide (x = 0)) 77 66)),
  (66, .inl (xe_new 18 1 xk_f18 69)),
  (69, .inl (xe_dup 70)),
  (70, .inl (xe_aload 3 71)),
  (71, .inr (.inr (.inl (xc_I 261 [2])))),
  (74, .inl (xe_goto 85)),
  (77, .inl (xe_new 19 1 xk_f19 80)),
  (80, .inl (xe_dup 81)),
  (81, .inl (xe_aload 3 82)),
  (82, .inr (.inr (.inl (xc_I 263 [2])))),
  (85, .inr (.inr (.inl (xc_V (xj_1 25 283) [2])))),
  (88, .inl (xe_pop 89)),
  (89, .inl (xe_aload 4 91)),
  (91, .inr (.inl xr_a))]
theorem xq_105_0 {G : xm_G} (hG : xm_W xk_B G) (hO : xm_Og G) : ∀ q ∈ xp_105_0, xm_op xk_B G xd xk_N "LiarsCock$Reader" "test" prog_21_method_29_code 5 (some ((FieldType.object "LiarsCock$Expression"))) q.1 q.2 :=
  xw_cons (xw_E xn_aload (xo_aload_n dX2_test_0 rfl)) <|
  xw_cons (xl_v_20_286 hG dX2_test_1) <|
  xw_cons (xw_E xn_astore (xo_astore_n dX2_test_4 rfl)) <|
  xw_cons (xw_E xn_aload (xo_aload_n dX2_test_5 rfl)) <|
  xw_cons (xw_E xn_push (xo_bipush dX2_test_6 (by decide))) <|
  xw_cons (xl_v_20_112 hG dX2_test_8) <|
  xw_cons (xw_E xn_if (xo_if_ne dX2_test_11 (by decide))) <|
  xw_cons (xw_E xn_aload (xo_aload_n dX2_test_14 rfl)) <|
  xw_cons (xw_E xn_push (xo_bipush dX2_test_15 (by decide))) <|
  xw_cons (xl_v_20_112 hG dX2_test_17) <|
  xw_cons (xw_E xn_if (xo_if_ne dX2_test_20 (by decide))) <|
  xw_cons (xw_E xn_aload (xo_aload_n dX2_test_23 rfl)) <|
  xw_cons (xw_R (xt_a (Or.inl ⟨_, rfl⟩) dX2_test_24)) <|
  xw_cons (xw_E xn_aload (xo_aload_n dX2_test_25 rfl)) <|
  xw_cons (xw_E xn_push (xo_bipush dX2_test_26 (by decide))) <|
  xw_cons (xl_v_20_112 hG dX2_test_28) <|
  xw_cons (xw_E xn_istore (xo_istore_n dX2_test_31 rfl)) <|
  xw_cons (xw_E xn_aload (xo_aload_n dX2_test_32 rfl)) <|
  xw_cons (xw_E xn_dup (xo_dup dX2_test_33)) <|
  xw_cons (xw_E xn_getf (xo_getf hG xg_20_97 dX2_test_34)) <|
  xw_cons (xw_E xn_push (xo_iconst dX2_test_37 (by decide))) <|
  xw_cons (xw_E xn_ii (xo_iadd dX2_test_38)) <|
  xw_cons (xw_E xn_putf (xo_putf hG rfl xu_20_97 dX2_test_39)) <|
  xw_cons (xw_E xn_aload (xo_aload_n dX2_test_42 rfl)) <|
  xw_cons (xl_v_20_286 hG dX2_test_43) <|
  xw_cons (xw_E xn_astore (xo_astore_n dX2_test_46 rfl)) <|
  xw_cons (xw_E xn_new (xo_new hG xnw_20_265 dX2_test_47)) <|
  xw_cons (xw_E xn_dup (xo_dup dX2_test_50)) <|
  xw_cons (xw_E xn_aload (xo_aload_n dX2_test_51 rfl)) <|
  xw_cons (xl_s_20_267 hG dX2_test_52) <|
  xw_cons (xw_E xn_astore (xo_astore dX2_test_55)) <|
  xw_cons (xw_E xn_aload (xo_aload dX2_test_57)) <|
  xw_cons (xw_E xn_getf (xo_getf hG xg_20_277 dX2_test_59)) <|
  xw_cons (xw_E xn_iload (xo_iload_n dX2_test_62 rfl)) <|
  xw_cons (xw_E xn_if (xo_if_eq dX2_test_63 (by decide))) <|
  xw_cons (xw_E xn_new (xo_new hG xnw_20_289 dX2_test_66)) <|
  xw_cons (xw_E xn_dup (xo_dup dX2_test_69)) <|
  xw_cons (xw_E xn_aload (xo_aload_n dX2_test_70 rfl)) <|
  xw_cons (xl_s_20_291 hG dX2_test_71) <|
  xw_cons (xw_E xn_goto (xo_goto dX2_test_74 (by decide))) <|
  xw_cons (xw_E xn_new (xo_new hG xnw_20_292 dX2_test_77)) <|
  xw_cons (xw_E xn_dup (xo_dup dX2_test_80)) <|
  xw_cons (xw_E xn_aload (xo_aload_n dX2_test_81 rfl)) <|
  xw_cons (xl_s_20_294 hG dX2_test_82) <|
  xw_cons (xl_v_20_217 hG dX2_test_85) <|
  xw_cons (xw_E xn_pop (xo_pop dX2_test_88)) <|
  xw_cons (xw_E xn_aload (xo_aload dX2_test_89)) <|
  xw_cons (xw_R (xt_a (Or.inl ⟨_, rfl⟩) dX2_test_91)) <|
  xw_nil _
def xp_105 : List (Nat × xm_O) := xp_105_0
theorem xq_105 {G : xm_G} (hG : xm_W xk_B G) (hO : xm_Og G) : ∀ q ∈ xp_105, xm_op xk_B G xd xk_N "LiarsCock$Reader" "test" prog_21_method_29_code 5 (some ((FieldType.object "LiarsCock$Expression"))) q.1 q.2 := xq_105_0 hG hO
/- 106: LiarsCock$Reader.sum()LLiarsCock$Expression; -/
def xp_106_0 : List (Nat × xm_O) := [
  (0, .inl (xe_aload 0 1)),
  (1, .inr (.inr (.inl (xc_V (xj_1 1 107) [])))),
  (4, .inl (xe_astore 1 5)),
  (5, .inl (xe_push .null 6)),
  (6, .inl (xe_astore 2 7)),
  (7, .inl (xe_aload 0 8)),
  (8, .inl (xe_push (.int 43) 10)),
  (10, .inr (.inr (.inl (xc_V (xj_1 1 109) [0])))),
  (13, .inl (xe_if (fun x => decide (¬ x = 0)) 25 16)),
  (16, .inl (xe_aload 0 17)),
  (17, .inl (xe_push (.int 45) 19)),
  (19, .inr (.inr (.inl (xc_V (xj_1 1 109) [0])))),
  (22, .inl (xe_if (fun x => decide (x = 0)) 90 25)),
  (25, .inl (xe_aload 0 26)),
  (26, .inl (xe_push (.int 43) 28)),
  (28, .inr (.inr (.inl (xc_V (xj_1 1 109) [0])))),
  (31, .inl (xe_istore 3 32)),
  (32, .inl (xe_aload 0 33)),
  (33, .inl (xe_dup 34)),
  (34, .inl (xe_getf (xj_1 1 7) 37)),
  (37, .inl (xe_push (.int 1) 38)),
  (38, .inl (xe_ii (fun x y => x + y) 39)),
  (39, .inl (xe_putf 300 0 (xj_1 1 7) 42)),
  (42, .inl (xe_aload 0 43)),
  (43, .inr (.inr (.inl (xc_V (xj_1 1 107) [])))),
  (46, .inl (xe_astore 4 48)),
  (48, .inl (xe_aload 1 49)),
  (49, .inl (xe_aload 2 50)),
  (50, .inr (.inr (.inl (xc_S 112 [2, 2])))),
  (53, .inl (xe_astore 2 54)),
  (54, .inl (xe_aload 2 55)),
  (55, .inl (xe_getf (xj_1 14 1) 58)),
  (58, .inl (xe_iload 3 59)),
  (59, .inl (xe_if (fun x => decide (x = 0)) 74 62)),
  (62, .inl (xe_new 16 1 xk_f16 65)),
  (65, .inl (xe_dup 66)),
  (66, .inl (xe_aload 4 68)),
  (68, .inr (.inr (.inl (xc_I 257 [2])))),
  (71, .inl (xe_goto 83)),
  (74, .inl (xe_new 17 1 xk_f17 77)),
  (77, .inl (xe_dup 78)),
  (78, .inl (xe_aload 4 80)),
  (80, .inr (.inr (.inl (xc_I 259 [2])))),
  (83, .inr (.inr (.inl (xc_V (xj_1 25 283) [2])))),
  (86, .inl (xe_pop 87)),
  (87, .inl (xe_goto 7)),
  (90, .inl (xe_aload 2 91)),
  (91, .inl (xe_null 94 98)),
  (94, .inl (xe_aload 1 95)),
  (95, .inl (xe_goto 99))]
theorem xq_106_0 {G : xm_G} (hG : xm_W xk_B G) (hO : xm_Og G) : ∀ q ∈ xp_106_0, xm_op xk_B G xd xk_N "LiarsCock$Reader" "sum" prog_21_method_30_code 5 (some ((FieldType.object "LiarsCock$Expression"))) q.1 q.2 :=
  xw_cons (xw_E xn_aload (xo_aload_n dX2_sum_0 rfl)) <|
  xw_cons (xl_v_20_295 hG dX2_sum_1) <|
  xw_cons (xw_E xn_astore (xo_astore_n dX2_sum_4 rfl)) <|
  xw_cons (xw_E xn_push (xo_anull dX2_sum_5)) <|
  xw_cons (xw_E xn_astore (xo_astore_n dX2_sum_6 rfl)) <|
  xw_cons (xw_E xn_aload (xo_aload_n dX2_sum_7 rfl)) <|
  xw_cons (xw_E xn_push (xo_bipush dX2_sum_8 (by decide))) <|
  xw_cons (xl_v_20_112 hG dX2_sum_10) <|
  xw_cons (xw_E xn_if (xo_if_ne dX2_sum_13 (by decide))) <|
  xw_cons (xw_E xn_aload (xo_aload_n dX2_sum_16 rfl)) <|
  xw_cons (xw_E xn_push (xo_bipush dX2_sum_17 (by decide))) <|
  xw_cons (xl_v_20_112 hG dX2_sum_19) <|
  xw_cons (xw_E xn_if (xo_if_eq dX2_sum_22 (by decide))) <|
  xw_cons (xw_E xn_aload (xo_aload_n dX2_sum_25 rfl)) <|
  xw_cons (xw_E xn_push (xo_bipush dX2_sum_26 (by decide))) <|
  xw_cons (xl_v_20_112 hG dX2_sum_28) <|
  xw_cons (xw_E xn_istore (xo_istore_n dX2_sum_31 rfl)) <|
  xw_cons (xw_E xn_aload (xo_aload_n dX2_sum_32 rfl)) <|
  xw_cons (xw_E xn_dup (xo_dup dX2_sum_33)) <|
  xw_cons (xw_E xn_getf (xo_getf hG xg_20_97 dX2_sum_34)) <|
  xw_cons (xw_E xn_push (xo_iconst dX2_sum_37 (by decide))) <|
  xw_cons (xw_E xn_ii (xo_iadd dX2_sum_38)) <|
  xw_cons (xw_E xn_putf (xo_putf hG rfl xu_20_97 dX2_sum_39)) <|
  xw_cons (xw_E xn_aload (xo_aload_n dX2_sum_42 rfl)) <|
  xw_cons (xl_v_20_295 hG dX2_sum_43) <|
  xw_cons (xw_E xn_astore (xo_astore dX2_sum_46)) <|
  xw_cons (xw_E xn_aload (xo_aload_n dX2_sum_48 rfl)) <|
  xw_cons (xw_E xn_aload (xo_aload_n dX2_sum_49 rfl)) <|
  xw_cons (xl_s_20_273 hG dX2_sum_50) <|
  xw_cons (xw_E xn_astore (xo_astore_n dX2_sum_53 rfl)) <|
  xw_cons (xw_E xn_aload (xo_aload_n dX2_sum_54 rfl)) <|
  xw_cons (xw_E xn_getf (xo_getf hG xg_20_277 dX2_sum_55)) <|
  xw_cons (xw_E xn_iload (xo_iload_n dX2_sum_58 rfl)) <|
  xw_cons (xw_E xn_if (xo_if_eq dX2_sum_59 (by decide))) <|
  xw_cons (xw_E xn_new (xo_new hG xnw_20_298 dX2_sum_62)) <|
  xw_cons (xw_E xn_dup (xo_dup dX2_sum_65)) <|
  xw_cons (xw_E xn_aload (xo_aload dX2_sum_66)) <|
  xw_cons (xl_s_20_300 hG dX2_sum_68) <|
  xw_cons (xw_E xn_goto (xo_goto dX2_sum_71 (by decide))) <|
  xw_cons (xw_E xn_new (xo_new hG xnw_20_301 dX2_sum_74)) <|
  xw_cons (xw_E xn_dup (xo_dup dX2_sum_77)) <|
  xw_cons (xw_E xn_aload (xo_aload dX2_sum_78)) <|
  xw_cons (xl_s_20_303 hG dX2_sum_80) <|
  xw_cons (xl_v_20_217 hG dX2_sum_83) <|
  xw_cons (xw_E xn_pop (xo_pop dX2_sum_86)) <|
  xw_cons (xw_E xn_goto (xo_goto dX2_sum_87 (by decide))) <|
  xw_cons (xw_E xn_aload (xo_aload_n dX2_sum_90 rfl)) <|
  xw_cons (xw_E xn_null (xo_ifnonnull dX2_sum_91 (by decide))) <|
  xw_cons (xw_E xn_aload (xo_aload_n dX2_sum_94 rfl)) <|
  xw_cons (xw_E xn_goto (xo_goto dX2_sum_95 (by decide))) <|
  xw_nil _
def xp_106_1 : List (Nat × xm_O) := [
  (98, .inl (xe_aload 2 99)),
  (99, .inr (.inl xr_a))]
theorem xq_106_1 {G : xm_G} (hG : xm_W xk_B G) (hO : xm_Og G) : ∀ q ∈ xp_106_1, xm_op xk_B G xd xk_N "LiarsCock$Reader" "sum" prog_21_method_30_code 5 (some ((FieldType.object "LiarsCock$Expression"))) q.1 q.2 :=
  xw_cons (xw_E xn_aload (xo_aload_n dX2_sum_98 rfl)) <|
  xw_cons (xw_R (xt_a (Or.inl ⟨_, rfl⟩) dX2_sum_99)) <|
  xw_nil _
def xp_106 : List (Nat × xm_O) := xp_106_0 ++ xp_106_1
theorem xq_106 {G : xm_G} (hG : xm_W xk_B G) (hO : xm_Og G) : ∀ q ∈ xp_106, xm_op xk_B G xd xk_N "LiarsCock$Reader" "sum" prog_21_method_30_code 5 (some ((FieldType.object "LiarsCock$Expression"))) q.1 q.2 := xw_app (xq_106_0 hG hO) (xq_106_1 hG hO)
/- 107: LiarsCock$Reader.term()LLiarsCock$Expression; -/
def xp_107_0 : List (Nat × xm_O) := [
  (0, .inl (xe_aload 0 1)),
  (1, .inr (.inr (.inl (xc_V (xj_1 1 108) [])))),
  (4, .inl (xe_astore 1 5)),
  (5, .inl (xe_push .null 6)),
  (6, .inl (xe_astore 2 7)),
  (7, .inl (xe_aload 0 8)),
  (8, .inl (xe_push (.int 42) 10)),
  (10, .inr (.inr (.inl (xc_V (xj_1 1 111) [0])))),
  (13, .inl (xe_if (fun x => decide (x = 0)) 46 16)),
  (16, .inl (xe_aload 0 17)),
  (17, .inr (.inr (.inl (xc_V (xj_1 1 108) [])))),
  (20, .inl (xe_astore 3 21)),
  (21, .inl (xe_aload 1 22)),
  (22, .inl (xe_aload 2 23)),
  (23, .inr (.inr (.inl (xc_S 112 [2, 2])))),
  (26, .inl (xe_astore 2 27)),
  (27, .inl (xe_aload 2 28)),
  (28, .inl (xe_getf (xj_1 14 1) 31)),
  (31, .inl (xe_new 15 1 xk_f15 34)),
  (34, .inl (xe_dup 35)),
  (35, .inl (xe_aload 3 36)),
  (36, .inr (.inr (.inl (xc_I 255 [2])))),
  (39, .inr (.inr (.inl (xc_V (xj_1 25 283) [2])))),
  (42, .inl (xe_pop 43)),
  (43, .inl (xe_goto 7)),
  (46, .inl (xe_aload 2 47)),
  (47, .inl (xe_null 50 54)),
  (50, .inl (xe_aload 1 51)),
  (51, .inl (xe_goto 55)),
  (54, .inl (xe_aload 2 55)),
  (55, .inr (.inl xr_a))]
theorem xq_107_0 {G : xm_G} (hG : xm_W xk_B G) (hO : xm_Og G) : ∀ q ∈ xp_107_0, xm_op xk_B G xd xk_N "LiarsCock$Reader" "term" prog_21_method_31_code 4 (some ((FieldType.object "LiarsCock$Expression"))) q.1 q.2 :=
  xw_cons (xw_E xn_aload (xo_aload_n dX2_term_0 rfl)) <|
  xw_cons (xl_v_20_304 hG dX2_term_1) <|
  xw_cons (xw_E xn_astore (xo_astore_n dX2_term_4 rfl)) <|
  xw_cons (xw_E xn_push (xo_anull dX2_term_5)) <|
  xw_cons (xw_E xn_astore (xo_astore_n dX2_term_6 rfl)) <|
  xw_cons (xw_E xn_aload (xo_aload_n dX2_term_7 rfl)) <|
  xw_cons (xw_E xn_push (xo_bipush dX2_term_8 (by decide))) <|
  xw_cons (xl_v_20_115 hG dX2_term_10) <|
  xw_cons (xw_E xn_if (xo_if_eq dX2_term_13 (by decide))) <|
  xw_cons (xw_E xn_aload (xo_aload_n dX2_term_16 rfl)) <|
  xw_cons (xl_v_20_304 hG dX2_term_17) <|
  xw_cons (xw_E xn_astore (xo_astore_n dX2_term_20 rfl)) <|
  xw_cons (xw_E xn_aload (xo_aload_n dX2_term_21 rfl)) <|
  xw_cons (xw_E xn_aload (xo_aload_n dX2_term_22 rfl)) <|
  xw_cons (xl_s_20_273 hG dX2_term_23) <|
  xw_cons (xw_E xn_astore (xo_astore_n dX2_term_26 rfl)) <|
  xw_cons (xw_E xn_aload (xo_aload_n dX2_term_27 rfl)) <|
  xw_cons (xw_E xn_getf (xo_getf hG xg_20_277 dX2_term_28)) <|
  xw_cons (xw_E xn_new (xo_new hG xnw_20_307 dX2_term_31)) <|
  xw_cons (xw_E xn_dup (xo_dup dX2_term_34)) <|
  xw_cons (xw_E xn_aload (xo_aload_n dX2_term_35 rfl)) <|
  xw_cons (xl_s_20_309 hG dX2_term_36) <|
  xw_cons (xl_v_20_217 hG dX2_term_39) <|
  xw_cons (xw_E xn_pop (xo_pop dX2_term_42)) <|
  xw_cons (xw_E xn_goto (xo_goto dX2_term_43 (by decide))) <|
  xw_cons (xw_E xn_aload (xo_aload_n dX2_term_46 rfl)) <|
  xw_cons (xw_E xn_null (xo_ifnonnull dX2_term_47 (by decide))) <|
  xw_cons (xw_E xn_aload (xo_aload_n dX2_term_50 rfl)) <|
  xw_cons (xw_E xn_goto (xo_goto dX2_term_51 (by decide))) <|
  xw_cons (xw_E xn_aload (xo_aload_n dX2_term_54 rfl)) <|
  xw_cons (xw_R (xt_a (Or.inl ⟨_, rfl⟩) dX2_term_55)) <|
  xw_nil _
def xp_107 : List (Nat × xm_O) := xp_107_0
theorem xq_107 {G : xm_G} (hG : xm_W xk_B G) (hO : xm_Og G) : ∀ q ∈ xp_107, xm_op xk_B G xd xk_N "LiarsCock$Reader" "term" prog_21_method_31_code 4 (some ((FieldType.object "LiarsCock$Expression"))) q.1 q.2 := xq_107_0 hG hO
/- 108: LiarsCock$Reader.part()LLiarsCock$Expression; -/
def xp_108_0 : List (Nat × xm_O) := [
  (0, .inl (xe_aload 0 1)),
  (1, .inl (xe_push (.ref 15) 3)),
  (3, .inr (.inr (.inl (xc_V (xj_1 1 89) [2])))),
  (6, .inl (xe_istore 1 7)),
  (7, .inl (xe_iload 1 8)),
  (8, .inl (xe_if (fun x => decide (¬ x = 0)) 46 11)),
  (11, .inl (xe_aload 0 12)),
  (12, .inr (.inr (.inl (xc_V (xj_1 1 94) [])))),
  (15, .inl (xe_if (fun x => decide (¬ x = 0)) 46 18)),
  (18, .inl (xe_aload 0 19)),
  (19, .inl (xe_getf (xj_1 1 4) 22)),
  (22, .inl (xe_aload 0 23)),
  (23, .inl (xe_getf (xj_1 1 7) 26)),
  (26, .inl (xe_ald (fun t => t == 0) 27)),
  (27, .inl (xe_push (.int 2) 28)),
  (28, .inl (xe_icmp (fun x y => decide (x = y)) 46 31)),
  (31, .inl (xe_aload 0 32)),
  (32, .inl (xe_push (.int 40) 34)),
  (34, .inr (.inr (.inl (xc_V (xj_1 1 109) [0])))),
  (37, .inl (xe_if (fun x => decide (¬ x = 0)) 46 40)),
  (40, .inl (xe_aload 0 41)),
  (41, .inl (xe_push (.int 1) 42)),
  (42, .inr (.inr (.inl (xc_V (xj_1 1 93) [0])))),
  (45, .inr (.inr (.inr ()))),
  (46, .inl (xe_aload 0 47)),
  (47, .inr (.inr (.inl (xc_V (xj_1 1 94) [])))),
  (50, .inl (xe_if (fun x => decide (x = 0)) 75 53)),
  (53, .inl (xe_aload 0 54)),
  (54, .inl (xe_getf (xj_1 1 1) 57)),
  (57, .inl (xe_getf (xj_1 2 0) 60)),
  (60, .inl (xe_aload 0 61)),
  (61, .inl (xe_getf (xj_1 1 5) 64)),
  (64, .inl (xe_aload 0 65)),
  (65, .inl (xe_getf (xj_1 1 7) 68)),
  (68, .inl (xe_ald (fun t => t == 1) 69)),
  (69, .inr (.inr (.inl (xc_S 117 [1, 2])))),
  (72, .inl (xe_goto 76)),
  (75, .inl (xe_push (.int (-1)) 76)),
  (76, .inl (xe_istore 2 77)),
  (77, .inl (xe_aload 0 78)),
  (78, .inr (.inr (.inl (xc_V (xj_1 1 94) [])))),
  (81, .inl (xe_if (fun x => decide (x = 0)) 95 84)),
  (84, .inl (xe_iload 2 85)),
  (85, .inl (xe_push (.int (-1)) 86)),
  (86, .inl (xe_icmp (fun x y => decide (¬ x = y)) 95 89)),
  (89, .inl (xe_aload 0 90)),
  (90, .inl (xe_push (.int 2) 91)),
  (91, .inr (.inr (.inl (xc_V (xj_1 1 93) [0])))),
  (94, .inr (.inr (.inr ()))),
  (95, .inl (xe_aload 0 96))]
theorem xq_108_0 {G : xm_G} (hG : xm_W xk_B G) (hO : xm_Og G) : ∀ q ∈ xp_108_0, xm_op xk_B G xd xk_N "LiarsCock$Reader" "part" prog_21_method_32_code 4 (some ((FieldType.object "LiarsCock$Expression"))) q.1 q.2 :=
  xw_cons (xw_E xn_aload (xo_aload_n dX2_part_0 rfl)) <|
  xw_cons (xw_E xn_push (xo_ldcS (xog_s15 hO) dX2_part_1)) <|
  xw_cons (xl_v_20_108 hG dX2_part_3) <|
  xw_cons (xw_E xn_istore (xo_istore_n dX2_part_6 rfl)) <|
  xw_cons (xw_E xn_iload (xo_iload_n dX2_part_7 rfl)) <|
  xw_cons (xw_E xn_if (xo_if_ne dX2_part_8 (by decide))) <|
  xw_cons (xw_E xn_aload (xo_aload_n dX2_part_11 rfl)) <|
  xw_cons (xl_v_20_184 hG dX2_part_12) <|
  xw_cons (xw_E xn_if (xo_if_ne dX2_part_15 (by decide))) <|
  xw_cons (xw_E xn_aload (xo_aload_n dX2_part_18 rfl)) <|
  xw_cons (xw_E xn_getf (xo_getf hG xg_20_49 dX2_part_19)) <|
  xw_cons (xw_E xn_aload (xo_aload_n dX2_part_22 rfl)) <|
  xw_cons (xw_E xn_getf (xo_getf hG xg_20_97 dX2_part_23)) <|
  xw_cons (xw_E xn_ald (xo_iald xk_hB dX2_part_26)) <|
  xw_cons (xw_E xn_push (xo_iconst dX2_part_27 (by decide))) <|
  xw_cons (xw_E xn_icmp (xo_icmp_eq dX2_part_28 (by decide))) <|
  xw_cons (xw_E xn_aload (xo_aload_n dX2_part_31 rfl)) <|
  xw_cons (xw_E xn_push (xo_bipush dX2_part_32 (by decide))) <|
  xw_cons (xl_v_20_112 hG dX2_part_34) <|
  xw_cons (xw_E xn_if (xo_if_ne dX2_part_37 (by decide))) <|
  xw_cons (xw_E xn_aload (xo_aload_n dX2_part_40 rfl)) <|
  xw_cons (xw_E xn_push (xo_iconst dX2_part_41 (by decide))) <|
  xw_cons (xl_v_20_118 hG dX2_part_42) <|
  xw_cons (xw_T dX2_part_45) <|
  xw_cons (xw_E xn_aload (xo_aload_n dX2_part_46 rfl)) <|
  xw_cons (xl_v_20_184 hG dX2_part_47) <|
  xw_cons (xw_E xn_if (xo_if_eq dX2_part_50 (by decide))) <|
  xw_cons (xw_E xn_aload (xo_aload_n dX2_part_53 rfl)) <|
  xw_cons (xw_E xn_getf (xo_getf hG xg_20_132 dX2_part_54)) <|
  xw_cons (xw_E xn_getf (xo_getf hG xg_20_196 dX2_part_57)) <|
  xw_cons (xw_E xn_aload (xo_aload_n dX2_part_60 rfl)) <|
  xw_cons (xw_E xn_getf (xo_getf hG xg_20_52 dX2_part_61)) <|
  xw_cons (xw_E xn_aload (xo_aload_n dX2_part_64 rfl)) <|
  xw_cons (xw_E xn_getf (xo_getf hG xg_20_97 dX2_part_65)) <|
  xw_cons (xw_E xn_ald (xo_lald xk_hB dX2_part_68)) <|
  xw_cons (xl_s_20_192 hG dX2_part_69) <|
  xw_cons (xw_E xn_goto (xo_goto dX2_part_72 (by decide))) <|
  xw_cons (xw_E xn_push (xo_iconst dX2_part_75 (by decide))) <|
  xw_cons (xw_E xn_istore (xo_istore_n dX2_part_76 rfl)) <|
  xw_cons (xw_E xn_aload (xo_aload_n dX2_part_77 rfl)) <|
  xw_cons (xl_v_20_184 hG dX2_part_78) <|
  xw_cons (xw_E xn_if (xo_if_eq dX2_part_81 (by decide))) <|
  xw_cons (xw_E xn_iload (xo_iload_n dX2_part_84 rfl)) <|
  xw_cons (xw_E xn_push (xo_iconst dX2_part_85 (by decide))) <|
  xw_cons (xw_E xn_icmp (xo_icmp_ne dX2_part_86 (by decide))) <|
  xw_cons (xw_E xn_aload (xo_aload_n dX2_part_89 rfl)) <|
  xw_cons (xw_E xn_push (xo_iconst dX2_part_90 (by decide))) <|
  xw_cons (xl_v_20_118 hG dX2_part_91) <|
  xw_cons (xw_T dX2_part_94) <|
  xw_cons (xw_E xn_aload (xo_aload_n dX2_part_95 rfl)) <|
  xw_nil _
def xp_108_1 : List (Nat × xm_O) := [
  (96, .inl (xe_getf (xj_1 1 8) 99)),
  (99, .inl (xe_push (.int 5) 100)),
  (100, .inl (xe_icmp (fun x y => decide (¬ x = y)) 109 103)),
  (103, .inl (xe_aload 0 104)),
  (104, .inl (xe_push (.int 5) 105)),
  (105, .inr (.inr (.inl (xc_V (xj_1 1 93) [0])))),
  (108, .inr (.inr (.inr ()))),
  (109, .inl (xe_aload 0 110)),
  (110, .inl (xe_dup 111)),
  (111, .inl (xe_getf (xj_1 1 7) 114)),
  (114, .inl (xe_push (.int 1) 115)),
  (115, .inl (xe_ii (fun x y => x + y) 116)),
  (116, .inl (xe_putf 300 0 (xj_1 1 7) 119)),
  (119, .inl (xe_iload 2 120)),
  (120, .inl (xe_push (.int (-1)) 121)),
  (121, .inl (xe_icmp (fun x y => decide (x = y)) 133 124)),
  (124, .inl (xe_new 11 1 xk_f11 127)),
  (127, .inl (xe_dup 128)),
  (128, .inl (xe_iload 2 129)),
  (129, .inr (.inr (.inl (xc_I 245 [0])))),
  (132, .inr (.inl xr_a)),
  (133, .inl (xe_iload 1 134)),
  (134, .inl (xe_if (fun x => decide (¬ x = 0)) 172 137)),
  (137, .inl (xe_aload 0 138)),
  (138, .inl (xe_getf (xj_1 1 4) 141)),
  (141, .inl (xe_aload 0 142)),
  (142, .inl (xe_getf (xj_1 1 7) 145)),
  (145, .inl (xe_push (.int 1) 146)),
  (146, .inl (xe_ii (fun x y => x - y) 147)),
  (147, .inl (xe_ald (fun t => t == 0) 148)),
  (148, .inl (xe_push (.int 2) 149)),
  (149, .inl (xe_icmp (fun x y => decide (¬ x = y)) 172 152)),
  (152, .inl (xe_new 12 1 xk_f12 155)),
  (155, .inl (xe_dup 156)),
  (156, .inl (xe_aload 0 157)),
  (157, .inl (xe_getf (xj_1 1 5) 160)),
  (160, .inl (xe_aload 0 161)),
  (161, .inl (xe_getf (xj_1 1 7) 164)),
  (164, .inl (xe_push (.int 1) 165)),
  (165, .inl (xe_ii (fun x y => x - y) 166)),
  (166, .inl (xe_ald (fun t => t == 1) 167)),
  (167, .inl (xe_l2i 168)),
  (168, .inr (.inr (.inl (xc_I 247 [0])))),
  (171, .inr (.inl xr_a)),
  (172, .inl (xe_aload 0 173)),
  (173, .inl (xe_dup 174)),
  (174, .inl (xe_getf (xj_1 1 8) 177)),
  (177, .inl (xe_push (.int 1) 178)),
  (178, .inl (xe_ii (fun x y => x + y) 179)),
  (179, .inl (xe_putf 300 0 (xj_1 1 8) 182))]
theorem xq_108_1 {G : xm_G} (hG : xm_W xk_B G) (hO : xm_Og G) : ∀ q ∈ xp_108_1, xm_op xk_B G xd xk_N "LiarsCock$Reader" "part" prog_21_method_32_code 4 (some ((FieldType.object "LiarsCock$Expression"))) q.1 q.2 :=
  xw_cons (xw_E xn_getf (xo_getf hG xg_20_259 dX2_part_96)) <|
  xw_cons (xw_E xn_push (xo_iconst dX2_part_99 (by decide))) <|
  xw_cons (xw_E xn_icmp (xo_icmp_ne dX2_part_100 (by decide))) <|
  xw_cons (xw_E xn_aload (xo_aload_n dX2_part_103 rfl)) <|
  xw_cons (xw_E xn_push (xo_iconst dX2_part_104 (by decide))) <|
  xw_cons (xl_v_20_118 hG dX2_part_105) <|
  xw_cons (xw_T dX2_part_108) <|
  xw_cons (xw_E xn_aload (xo_aload_n dX2_part_109 rfl)) <|
  xw_cons (xw_E xn_dup (xo_dup dX2_part_110)) <|
  xw_cons (xw_E xn_getf (xo_getf hG xg_20_97 dX2_part_111)) <|
  xw_cons (xw_E xn_push (xo_iconst dX2_part_114 (by decide))) <|
  xw_cons (xw_E xn_ii (xo_iadd dX2_part_115)) <|
  xw_cons (xw_E xn_putf (xo_putf hG rfl xu_20_97 dX2_part_116)) <|
  xw_cons (xw_E xn_iload (xo_iload_n dX2_part_119 rfl)) <|
  xw_cons (xw_E xn_push (xo_iconst dX2_part_120 (by decide))) <|
  xw_cons (xw_E xn_icmp (xo_icmp_eq dX2_part_121 (by decide))) <|
  xw_cons (xw_E xn_new (xo_new hG xnw_20_310 dX2_part_124)) <|
  xw_cons (xw_E xn_dup (xo_dup dX2_part_127)) <|
  xw_cons (xw_E xn_iload (xo_iload_n dX2_part_128 rfl)) <|
  xw_cons (xl_s_20_312 hG dX2_part_129) <|
  xw_cons (xw_R (xt_a (Or.inl ⟨_, rfl⟩) dX2_part_132)) <|
  xw_cons (xw_E xn_iload (xo_iload_n dX2_part_133 rfl)) <|
  xw_cons (xw_E xn_if (xo_if_ne dX2_part_134 (by decide))) <|
  xw_cons (xw_E xn_aload (xo_aload_n dX2_part_137 rfl)) <|
  xw_cons (xw_E xn_getf (xo_getf hG xg_20_49 dX2_part_138)) <|
  xw_cons (xw_E xn_aload (xo_aload_n dX2_part_141 rfl)) <|
  xw_cons (xw_E xn_getf (xo_getf hG xg_20_97 dX2_part_142)) <|
  xw_cons (xw_E xn_push (xo_iconst dX2_part_145 (by decide))) <|
  xw_cons (xw_E xn_ii (xo_isub dX2_part_146)) <|
  xw_cons (xw_E xn_ald (xo_iald xk_hB dX2_part_147)) <|
  xw_cons (xw_E xn_push (xo_iconst dX2_part_148 (by decide))) <|
  xw_cons (xw_E xn_icmp (xo_icmp_ne dX2_part_149 (by decide))) <|
  xw_cons (xw_E xn_new (xo_new hG xnw_20_168 dX2_part_152)) <|
  xw_cons (xw_E xn_dup (xo_dup dX2_part_155)) <|
  xw_cons (xw_E xn_aload (xo_aload_n dX2_part_156 rfl)) <|
  xw_cons (xw_E xn_getf (xo_getf hG xg_20_52 dX2_part_157)) <|
  xw_cons (xw_E xn_aload (xo_aload_n dX2_part_160 rfl)) <|
  xw_cons (xw_E xn_getf (xo_getf hG xg_20_97 dX2_part_161)) <|
  xw_cons (xw_E xn_push (xo_iconst dX2_part_164 (by decide))) <|
  xw_cons (xw_E xn_ii (xo_isub dX2_part_165)) <|
  xw_cons (xw_E xn_ald (xo_lald xk_hB dX2_part_166)) <|
  xw_cons (xw_E xn_l2i (xo_l2i dX2_part_167)) <|
  xw_cons (xl_s_20_170 hG dX2_part_168) <|
  xw_cons (xw_R (xt_a (Or.inl ⟨_, rfl⟩) dX2_part_171)) <|
  xw_cons (xw_E xn_aload (xo_aload_n dX2_part_172 rfl)) <|
  xw_cons (xw_E xn_dup (xo_dup dX2_part_173)) <|
  xw_cons (xw_E xn_getf (xo_getf hG xg_20_259 dX2_part_174)) <|
  xw_cons (xw_E xn_push (xo_iconst dX2_part_177 (by decide))) <|
  xw_cons (xw_E xn_ii (xo_iadd dX2_part_178)) <|
  xw_cons (xw_E xn_putf (xo_putf hG rfl xu_20_259 dX2_part_179)) <|
  xw_nil _
def xp_108_2 : List (Nat × xm_O) := [
  (182, .inl (xe_iload 1 183)),
  (183, .inl (xe_if (fun x => decide (x = 0)) 200 186)),
  (186, .inl (xe_new 13 1 xk_f13 189)),
  (189, .inl (xe_dup 190)),
  (190, .inl (xe_aload 0 191)),
  (191, .inr (.inr (.inl (xc_V (xj_1 1 108) [])))),
  (194, .inr (.inr (.inl (xc_I 249 [2])))),
  (197, .inl (xe_goto 204)),
  (200, .inl (xe_aload 0 201)),
  (201, .inr (.inr (.inl (xc_V (xj_1 1 104) [])))),
  (204, .inl (xe_astore 3 205)),
  (205, .inl (xe_iload 1 206)),
  (206, .inl (xe_if (fun x => decide (¬ x = 0)) 215 209)),
  (209, .inl (xe_aload 0 210)),
  (210, .inl (xe_push (.int 41) 212)),
  (212, .inr (.inr (.inl (xc_V (xj_1 1 110) [0])))),
  (215, .inl (xe_aload 0 216)),
  (216, .inl (xe_dup 217)),
  (217, .inl (xe_getf (xj_1 1 8) 220)),
  (220, .inl (xe_push (.int 1) 221)),
  (221, .inl (xe_ii (fun x y => x - y) 222)),
  (222, .inl (xe_putf 300 0 (xj_1 1 8) 225)),
  (225, .inl (xe_aload 3 226)),
  (226, .inr (.inl xr_a))]
theorem xq_108_2 {G : xm_G} (hG : xm_W xk_B G) (hO : xm_Og G) : ∀ q ∈ xp_108_2, xm_op xk_B G xd xk_N "LiarsCock$Reader" "part" prog_21_method_32_code 4 (some ((FieldType.object "LiarsCock$Expression"))) q.1 q.2 :=
  xw_cons (xw_E xn_iload (xo_iload_n dX2_part_182 rfl)) <|
  xw_cons (xw_E xn_if (xo_if_eq dX2_part_183 (by decide))) <|
  xw_cons (xw_E xn_new (xo_new hG xnw_20_313 dX2_part_186)) <|
  xw_cons (xw_E xn_dup (xo_dup dX2_part_189)) <|
  xw_cons (xw_E xn_aload (xo_aload_n dX2_part_190 rfl)) <|
  xw_cons (xl_v_20_304 hG dX2_part_191) <|
  xw_cons (xl_s_20_315 hG dX2_part_194) <|
  xw_cons (xw_E xn_goto (xo_goto dX2_part_197 (by decide))) <|
  xw_cons (xw_E xn_aload (xo_aload_n dX2_part_200 rfl)) <|
  xw_cons (xl_v_20_262 hG dX2_part_201) <|
  xw_cons (xw_E xn_astore (xo_astore_n dX2_part_204 rfl)) <|
  xw_cons (xw_E xn_iload (xo_iload_n dX2_part_205 rfl)) <|
  xw_cons (xw_E xn_if (xo_if_ne dX2_part_206 (by decide))) <|
  xw_cons (xw_E xn_aload (xo_aload_n dX2_part_209 rfl)) <|
  xw_cons (xw_E xn_push (xo_bipush dX2_part_210 (by decide))) <|
  xw_cons (xl_v_20_150 hG dX2_part_212) <|
  xw_cons (xw_E xn_aload (xo_aload_n dX2_part_215 rfl)) <|
  xw_cons (xw_E xn_dup (xo_dup dX2_part_216)) <|
  xw_cons (xw_E xn_getf (xo_getf hG xg_20_259 dX2_part_217)) <|
  xw_cons (xw_E xn_push (xo_iconst dX2_part_220 (by decide))) <|
  xw_cons (xw_E xn_ii (xo_isub dX2_part_221)) <|
  xw_cons (xw_E xn_putf (xo_putf hG rfl xu_20_259 dX2_part_222)) <|
  xw_cons (xw_E xn_aload (xo_aload_n dX2_part_225 rfl)) <|
  xw_cons (xw_R (xt_a (Or.inl ⟨_, rfl⟩) dX2_part_226)) <|
  xw_nil _
def xp_108 : List (Nat × xm_O) := xp_108_0 ++ xp_108_1 ++ xp_108_2
theorem xq_108 {G : xm_G} (hG : xm_W xk_B G) (hO : xm_Og G) : ∀ q ∈ xp_108, xm_op xk_B G xd xk_N "LiarsCock$Reader" "part" prog_21_method_32_code 4 (some ((FieldType.object "LiarsCock$Expression"))) q.1 q.2 := xw_app (xw_app (xq_108_0 hG hO) (xq_108_1 hG hO)) (xq_108_2 hG hO)
