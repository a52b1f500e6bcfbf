/-! rows of methods, by program -/
set_option maxRecDepth 100000
/- 164: LiarsCockModel.worked(I)I -/
def xp_164_0 : List (Nat × xm_O) := [
  (0, .inl (xe_push (.int 0) 1)),
  (1, .inl (xe_istore 2 2)),
  (2, .inl (xe_aload 0 3)),
  (3, .inl (xe_push (.int 0) 4)),
  (4, .inr (.inr (.inl (xc_V (xj_1 8 165) [0])))),
  (7, .inl (xe_aload 0 8)),
  (8, .inl (xe_getf (xj_1 8 21) 11)),
  (11, .inl (xe_iload 1 12)),
  (12, .inl (xe_ald (fun t => t == 0) 13)),
  (13, .inl (xe_istore 3 14)),
  (14, .inl (xe_iload 3 15)),
  (15, .inl (xe_aload 0 16)),
  (16, .inl (xe_getf (xj_1 8 22) 19)),
  (19, .inl (xe_iload 1 20)),
  (20, .inl (xe_ald (fun t => t == 0) 21)),
  (21, .inl (xe_icmp (fun x y => decide (y ≤ x)) 335 24)),
  (24, .inl (xe_aload 0 25)),
  (25, .inl (xe_getf (xj_1 8 20) 28)),
  (28, .inl (xe_iload 3 29)),
  (29, .inl (xe_ald (fun t => t == 0) 30)),
  (30, .inl (xe_istore 4 32)),
  (32, .inl (xe_iload 4 34)),
  (34, .inl (xe_push (.int 28) 36)),
  (36, .inl (xe_icmp (fun x y => decide (x = y)) 46 39)),
  (39, .inl (xe_iload 4 41)),
  (41, .inl (xe_push (.int 30) 43)),
  (43, .inl (xe_icmp (fun x y => decide (¬ x = y)) 75 46)),
  (46, .inl (xe_iinc 2 1 49)),
  (49, .inl (xe_aload 0 50)),
  (50, .inl (xe_getf (xj_1 8 34) 53)),
  (53, .inl (xe_iload 2 54)),
  (54, .inl (xe_iload 4 56)),
  (56, .inl (xe_push (.int 30) 58)),
  (58, .inl (xe_icmp (fun x y => decide (¬ x = y)) 65 61)),
  (61, .inl (xe_push (.int 1) 62)),
  (62, .inl (xe_goto 66)),
  (65, .inl (xe_push (.int 0) 66)),
  (66, .inl (xe_ast 300 0 (xm_kd 0) 67)),
  (67, .inl (xe_aload 0 68)),
  (68, .inl (xe_iload 2 69)),
  (69, .inr (.inr (.inl (xc_V (xj_1 8 165) [0])))),
  (72, .inl (xe_goto 329)),
  (75, .inl (xe_iload 4 77)),
  (77, .inl (xe_push (.int 20) 79)),
  (79, .inl (xe_icmp (fun x y => decide (x = y)) 89 82)),
  (82, .inl (xe_iload 4 84)),
  (84, .inl (xe_push (.int 21) 86)),
  (86, .inl (xe_icmp (fun x y => decide (¬ x = y)) 105 89)),
  (89, .inl (xe_aload 0 90)),
  (90, .inl (xe_iload 2 91))]
theorem xq_164_0 {G : xm_G} (hG : xm_W xk_B G) (hO : xm_Og G) : ∀ q ∈ xp_164_0, xm_op xk_B G xd xk_N "LiarsCockModel" "worked" prog_28_method_20_code 6 (some (FieldType.int)) q.1 q.2 :=
  xw_cons (xw_E xn_push (xo_iconst dX9_worked_0 (by decide))) <|
  xw_cons (xw_E xn_istore (xo_istore_n dX9_worked_1 rfl)) <|
  xw_cons (xw_E xn_aload (xo_aload_n dX9_worked_2 rfl)) <|
  xw_cons (xw_E xn_push (xo_iconst dX9_worked_3 (by decide))) <|
  xw_cons (xl_v_27_260 hG dX9_worked_4) <|
  xw_cons (xw_E xn_aload (xo_aload_n dX9_worked_7 rfl)) <|
  xw_cons (xw_E xn_getf (xo_getf hG xg_27_48 dX9_worked_8)) <|
  xw_cons (xw_E xn_iload (xo_iload_n dX9_worked_11 rfl)) <|
  xw_cons (xw_E xn_ald (xo_iald xk_hB dX9_worked_12)) <|
  xw_cons (xw_E xn_istore (xo_istore_n dX9_worked_13 rfl)) <|
  xw_cons (xw_E xn_iload (xo_iload_n dX9_worked_14 rfl)) <|
  xw_cons (xw_E xn_aload (xo_aload_n dX9_worked_15 rfl)) <|
  xw_cons (xw_E xn_getf (xo_getf hG xg_27_51 dX9_worked_16)) <|
  xw_cons (xw_E xn_iload (xo_iload_n dX9_worked_19 rfl)) <|
  xw_cons (xw_E xn_ald (xo_iald xk_hB dX9_worked_20)) <|
  xw_cons (xw_E xn_icmp (xo_icmp_ge dX9_worked_21 (by decide))) <|
  xw_cons (xw_E xn_aload (xo_aload_n dX9_worked_24 rfl)) <|
  xw_cons (xw_E xn_getf (xo_getf hG xg_27_45 dX9_worked_25)) <|
  xw_cons (xw_E xn_iload (xo_iload_n dX9_worked_28 rfl)) <|
  xw_cons (xw_E xn_ald (xo_iald xk_hB dX9_worked_29)) <|
  xw_cons (xw_E xn_istore (xo_istore dX9_worked_30)) <|
  xw_cons (xw_E xn_iload (xo_iload dX9_worked_32)) <|
  xw_cons (xw_E xn_push (xo_bipush dX9_worked_34 (by decide))) <|
  xw_cons (xw_E xn_icmp (xo_icmp_eq dX9_worked_36 (by decide))) <|
  xw_cons (xw_E xn_iload (xo_iload dX9_worked_39)) <|
  xw_cons (xw_E xn_push (xo_bipush dX9_worked_41 (by decide))) <|
  xw_cons (xw_E xn_icmp (xo_icmp_ne dX9_worked_43 (by decide))) <|
  xw_cons (xw_E xn_iinc (xo_iinc dX9_worked_46 (by decide))) <|
  xw_cons (xw_E xn_aload (xo_aload_n dX9_worked_49 rfl)) <|
  xw_cons (xw_E xn_getf (xo_getf hG xg_27_84 dX9_worked_50)) <|
  xw_cons (xw_E xn_iload (xo_iload_n dX9_worked_53 rfl)) <|
  xw_cons (xw_E xn_iload (xo_iload dX9_worked_54)) <|
  xw_cons (xw_E xn_push (xo_bipush dX9_worked_56 (by decide))) <|
  xw_cons (xw_E xn_icmp (xo_icmp_ne dX9_worked_58 (by decide))) <|
  xw_cons (xw_E xn_push (xo_iconst dX9_worked_61 (by decide))) <|
  xw_cons (xw_E xn_goto (xo_goto dX9_worked_62 (by decide))) <|
  xw_cons (xw_E xn_push (xo_iconst dX9_worked_65 (by decide))) <|
  xw_cons (xw_E xn_ast (xo_iast hG xk_hB rfl dX9_worked_66)) <|
  xw_cons (xw_E xn_aload (xo_aload_n dX9_worked_67 rfl)) <|
  xw_cons (xw_E xn_iload (xo_iload_n dX9_worked_68 rfl)) <|
  xw_cons (xl_v_27_260 hG dX9_worked_69) <|
  xw_cons (xw_E xn_goto (xo_goto dX9_worked_72 (by decide))) <|
  xw_cons (xw_E xn_iload (xo_iload dX9_worked_75)) <|
  xw_cons (xw_E xn_push (xo_bipush dX9_worked_77 (by decide))) <|
  xw_cons (xw_E xn_icmp (xo_icmp_eq dX9_worked_79 (by decide))) <|
  xw_cons (xw_E xn_iload (xo_iload dX9_worked_82)) <|
  xw_cons (xw_E xn_push (xo_bipush dX9_worked_84 (by decide))) <|
  xw_cons (xw_E xn_icmp (xo_icmp_ne dX9_worked_86 (by decide))) <|
  xw_cons (xw_E xn_aload (xo_aload_n dX9_worked_89 rfl)) <|
  xw_cons (xw_E xn_iload (xo_iload_n dX9_worked_90 rfl)) <|
  xw_nil _
def xp_164_1 : List (Nat × xm_O) := [
  (91, .inr (.inr (.inl (xc_V (xj_1 8 166) [0])))),
  (94, .inl (xe_aload 0 95)),
  (95, .inl (xe_getf (xj_1 8 31) 98)),
  (98, .inl (xe_iload 2 99)),
  (99, .inl (xe_iload 4 101)),
  (101, .inl (xe_ast 300 0 (xm_kd 0) 102)),
  (102, .inl (xe_goto 329)),
  (105, .inl (xe_iload 4 107)),
  (107, .inl (xe_push (.int 22) 109)),
  (109, .inl (xe_icmp (fun x y => decide (¬ x = y)) 123 112)),
  (112, .inl (xe_aload 0 113)),
  (113, .inl (xe_getf (xj_1 8 33) 116)),
  (116, .inl (xe_iload 2 117)),
  (117, .inl (xe_iload 4 119)),
  (119, .inl (xe_ast 300 0 (xm_kd 0) 120)),
  (120, .inl (xe_goto 329)),
  (123, .inl (xe_iload 4 125)),
  (125, .inl (xe_push (.int 24) 127)),
  (127, .inl (xe_icmp (fun x y => decide (x = y)) 137 130)),
  (130, .inl (xe_iload 4 132)),
  (132, .inl (xe_push (.int 25) 134)),
  (134, .inl (xe_icmp (fun x y => decide (¬ x = y)) 180 137)),
  (137, .inl (xe_aload 0 138)),
  (138, .inl (xe_iload 2 139)),
  (139, .inr (.inr (.inl (xc_V (xj_1 8 166) [0])))),
  (142, .inl (xe_aload 0 143)),
  (143, .inl (xe_getf (xj_1 8 28) 146)),
  (146, .inl (xe_iload 2 147)),
  (147, .inl (xe_aload 0 148)),
  (148, .inl (xe_getf (xj_1 8 30) 151)),
  (151, .inl (xe_iload 2 152)),
  (152, .inl (xe_ald (fun t => t == 0) 153)),
  (153, .inl (xe_ast 300 0 (xm_kd 0) 154)),
  (154, .inl (xe_aload 0 155)),
  (155, .inl (xe_getf (xj_1 8 29) 158)),
  (158, .inl (xe_iload 2 159)),
  (159, .inl (xe_iload 4 161)),
  (161, .inl (xe_ast 300 0 (xm_kd 0) 162)),
  (162, .inl (xe_aload 0 163)),
  (163, .inl (xe_getf (xj_1 8 30) 166)),
  (166, .inl (xe_iload 2 167)),
  (167, .inl (xe_push (.int 0) 168)),
  (168, .inl (xe_ast 300 0 (xm_kd 0) 169)),
  (169, .inl (xe_aload 0 170)),
  (170, .inl (xe_getf (xj_1 8 31) 173)),
  (173, .inl (xe_iload 2 174)),
  (174, .inl (xe_push (.int 20) 176)),
  (176, .inl (xe_ast 300 0 (xm_kd 0) 177)),
  (177, .inl (xe_goto 329)),
  (180, .inl (xe_iload 4 182))]
theorem xq_164_1 {G : xm_G} (hG : xm_W xk_B G) (hO : xm_Og G) : ∀ q ∈ xp_164_1, xm_op xk_B G xd xk_N "LiarsCockModel" "worked" prog_28_method_20_code 6 (some (FieldType.int)) q.1 q.2 :=
  xw_cons (xl_v_27_257 hG dX9_worked_91) <|
  xw_cons (xw_E xn_aload (xo_aload_n dX9_worked_94 rfl)) <|
  xw_cons (xw_E xn_getf (xo_getf hG xg_27_75 dX9_worked_95)) <|
  xw_cons (xw_E xn_iload (xo_iload_n dX9_worked_98 rfl)) <|
  xw_cons (xw_E xn_iload (xo_iload dX9_worked_99)) <|
  xw_cons (xw_E xn_ast (xo_iast hG xk_hB rfl dX9_worked_101)) <|
  xw_cons (xw_E xn_goto (xo_goto dX9_worked_102 (by decide))) <|
  xw_cons (xw_E xn_iload (xo_iload dX9_worked_105)) <|
  xw_cons (xw_E xn_push (xo_bipush dX9_worked_107 (by decide))) <|
  xw_cons (xw_E xn_icmp (xo_icmp_ne dX9_worked_109 (by decide))) <|
  xw_cons (xw_E xn_aload (xo_aload_n dX9_worked_112 rfl)) <|
  xw_cons (xw_E xn_getf (xo_getf hG xg_27_81 dX9_worked_113)) <|
  xw_cons (xw_E xn_iload (xo_iload_n dX9_worked_116 rfl)) <|
  xw_cons (xw_E xn_iload (xo_iload dX9_worked_117)) <|
  xw_cons (xw_E xn_ast (xo_iast hG xk_hB rfl dX9_worked_119)) <|
  xw_cons (xw_E xn_goto (xo_goto dX9_worked_120 (by decide))) <|
  xw_cons (xw_E xn_iload (xo_iload dX9_worked_123)) <|
  xw_cons (xw_E xn_push (xo_bipush dX9_worked_125 (by decide))) <|
  xw_cons (xw_E xn_icmp (xo_icmp_eq dX9_worked_127 (by decide))) <|
  xw_cons (xw_E xn_iload (xo_iload dX9_worked_130)) <|
  xw_cons (xw_E xn_push (xo_bipush dX9_worked_132 (by decide))) <|
  xw_cons (xw_E xn_icmp (xo_icmp_ne dX9_worked_134 (by decide))) <|
  xw_cons (xw_E xn_aload (xo_aload_n dX9_worked_137 rfl)) <|
  xw_cons (xw_E xn_iload (xo_iload_n dX9_worked_138 rfl)) <|
  xw_cons (xl_v_27_257 hG dX9_worked_139) <|
  xw_cons (xw_E xn_aload (xo_aload_n dX9_worked_142 rfl)) <|
  xw_cons (xw_E xn_getf (xo_getf hG xg_27_66 dX9_worked_143)) <|
  xw_cons (xw_E xn_iload (xo_iload_n dX9_worked_146 rfl)) <|
  xw_cons (xw_E xn_aload (xo_aload_n dX9_worked_147 rfl)) <|
  xw_cons (xw_E xn_getf (xo_getf hG xg_27_72 dX9_worked_148)) <|
  xw_cons (xw_E xn_iload (xo_iload_n dX9_worked_151 rfl)) <|
  xw_cons (xw_E xn_ald (xo_iald xk_hB dX9_worked_152)) <|
  xw_cons (xw_E xn_ast (xo_iast hG xk_hB rfl dX9_worked_153)) <|
  xw_cons (xw_E xn_aload (xo_aload_n dX9_worked_154 rfl)) <|
  xw_cons (xw_E xn_getf (xo_getf hG xg_27_69 dX9_worked_155)) <|
  xw_cons (xw_E xn_iload (xo_iload_n dX9_worked_158 rfl)) <|
  xw_cons (xw_E xn_iload (xo_iload dX9_worked_159)) <|
  xw_cons (xw_E xn_ast (xo_iast hG xk_hB rfl dX9_worked_161)) <|
  xw_cons (xw_E xn_aload (xo_aload_n dX9_worked_162 rfl)) <|
  xw_cons (xw_E xn_getf (xo_getf hG xg_27_72 dX9_worked_163)) <|
  xw_cons (xw_E xn_iload (xo_iload_n dX9_worked_166 rfl)) <|
  xw_cons (xw_E xn_push (xo_iconst dX9_worked_167 (by decide))) <|
  xw_cons (xw_E xn_ast (xo_iast hG xk_hB rfl dX9_worked_168)) <|
  xw_cons (xw_E xn_aload (xo_aload_n dX9_worked_169 rfl)) <|
  xw_cons (xw_E xn_getf (xo_getf hG xg_27_75 dX9_worked_170)) <|
  xw_cons (xw_E xn_iload (xo_iload_n dX9_worked_173 rfl)) <|
  xw_cons (xw_E xn_push (xo_bipush dX9_worked_174 (by decide))) <|
  xw_cons (xw_E xn_ast (xo_iast hG xk_hB rfl dX9_worked_176)) <|
  xw_cons (xw_E xn_goto (xo_goto dX9_worked_177 (by decide))) <|
  xw_cons (xw_E xn_iload (xo_iload dX9_worked_180)) <|
  xw_nil _
def xp_164_2 : List (Nat × xm_O) := [
  (182, .inl (xe_push (.int 26) 184)),
  (184, .inl (xe_icmp (fun x y => decide (x = y)) 194 187)),
  (187, .inl (xe_iload 4 189)),
  (189, .inl (xe_push (.int 27) 191)),
  (191, .inl (xe_icmp (fun x y => decide (¬ x = y)) 210 194)),
  (194, .inl (xe_aload 0 195)),
  (195, .inl (xe_iload 2 196)),
  (196, .inr (.inr (.inl (xc_V (xj_1 8 167) [0])))),
  (199, .inl (xe_aload 0 200)),
  (200, .inl (xe_getf (xj_1 8 27) 203)),
  (203, .inl (xe_iload 2 204)),
  (204, .inl (xe_iload 4 206)),
  (206, .inl (xe_ast 300 0 (xm_kd 0) 207)),
  (207, .inl (xe_goto 329)),
  (210, .inl (xe_iload 4 212)),
  (212, .inl (xe_push (.int 100) 214)),
  (214, .inl (xe_icmp (fun x y => decide (x < y)) 225 217)),
  (217, .inl (xe_iload 4 219)),
  (219, .inl (xe_push (.int 100) 221)),
  (221, .inl (xe_ii (fun x y => x - y) 222)),
  (222, .inl (xe_goto 243)),
  (225, .inl (xe_iload 4 227)),
  (227, .inl (xe_push (.int 20) 229)),
  (229, .inl (xe_icmp (fun x y => decide (y ≤ x)) 242 232)),
  (232, .inl (xe_aload 0 233)),
  (233, .inl (xe_getf (xj_1 8 35) 236)),
  (236, .inl (xe_iload 4 238)),
  (238, .inl (xe_ald (fun t => t == 0) 239)),
  (239, .inl (xe_goto 243)),
  (242, .inl (xe_push (.int 0) 243)),
  (243, .inl (xe_istore 5 245)),
  (245, .inl (xe_iload 4 247)),
  (247, .inl (xe_push (.int 29) 249)),
  (249, .inl (xe_icmp (fun x y => decide (¬ x = y)) 268 252)),
  (252, .inl (xe_aload 0 253)),
  (253, .inl (xe_iload 2 254)),
  (254, .inr (.inr (.inl (xc_V (xj_1 8 167) [0])))),
  (257, .inl (xe_aload 0 258)),
  (258, .inl (xe_getf (xj_1 8 26) 261)),
  (261, .inl (xe_iload 2 262)),
  (262, .inl (xe_ald (fun t => t == 0) 263)),
  (263, .inl (xe_istore 5 265)),
  (265, .inl (xe_iinc 2 (-1) 268)),
  (268, .inl (xe_iload 2 269)),
  (269, .inl (xe_if (fun x => decide (x ≤ 0)) 300 272)),
  (272, .inl (xe_aload 0 273)),
  (273, .inl (xe_getf (xj_1 8 34) 276)),
  (276, .inl (xe_iload 2 277)),
  (277, .inl (xe_ald (fun t => t == 0) 278)),
  (278, .inl (xe_push (.int 1) 279))]
theorem xq_164_2 {G : xm_G} (hG : xm_W xk_B G) (hO : xm_Og G) : ∀ q ∈ xp_164_2, xm_op xk_B G xd xk_N "LiarsCockModel" "worked" prog_28_method_20_code 6 (some (FieldType.int)) q.1 q.2 :=
  xw_cons (xw_E xn_push (xo_bipush dX9_worked_182 (by decide))) <|
  xw_cons (xw_E xn_icmp (xo_icmp_eq dX9_worked_184 (by decide))) <|
  xw_cons (xw_E xn_iload (xo_iload dX9_worked_187)) <|
  xw_cons (xw_E xn_push (xo_bipush dX9_worked_189 (by decide))) <|
  xw_cons (xw_E xn_icmp (xo_icmp_ne dX9_worked_191 (by decide))) <|
  xw_cons (xw_E xn_aload (xo_aload_n dX9_worked_194 rfl)) <|
  xw_cons (xw_E xn_iload (xo_iload_n dX9_worked_195 rfl)) <|
  xw_cons (xl_v_27_263 hG dX9_worked_196) <|
  xw_cons (xw_E xn_aload (xo_aload_n dX9_worked_199 rfl)) <|
  xw_cons (xw_E xn_getf (xo_getf hG xg_27_63 dX9_worked_200)) <|
  xw_cons (xw_E xn_iload (xo_iload_n dX9_worked_203 rfl)) <|
  xw_cons (xw_E xn_iload (xo_iload dX9_worked_204)) <|
  xw_cons (xw_E xn_ast (xo_iast hG xk_hB rfl dX9_worked_206)) <|
  xw_cons (xw_E xn_goto (xo_goto dX9_worked_207 (by decide))) <|
  xw_cons (xw_E xn_iload (xo_iload dX9_worked_210)) <|
  xw_cons (xw_E xn_push (xo_bipush dX9_worked_212 (by decide))) <|
  xw_cons (xw_E xn_icmp (xo_icmp_lt dX9_worked_214 (by decide))) <|
  xw_cons (xw_E xn_iload (xo_iload dX9_worked_217)) <|
  xw_cons (xw_E xn_push (xo_bipush dX9_worked_219 (by decide))) <|
  xw_cons (xw_E xn_ii (xo_isub dX9_worked_221)) <|
  xw_cons (xw_E xn_goto (xo_goto dX9_worked_222 (by decide))) <|
  xw_cons (xw_E xn_iload (xo_iload dX9_worked_225)) <|
  xw_cons (xw_E xn_push (xo_bipush dX9_worked_227 (by decide))) <|
  xw_cons (xw_E xn_icmp (xo_icmp_ge dX9_worked_229 (by decide))) <|
  xw_cons (xw_E xn_aload (xo_aload_n dX9_worked_232 rfl)) <|
  xw_cons (xw_E xn_getf (xo_getf hG xg_27_87 dX9_worked_233)) <|
  xw_cons (xw_E xn_iload (xo_iload dX9_worked_236)) <|
  xw_cons (xw_E xn_ald (xo_iald xk_hB dX9_worked_238)) <|
  xw_cons (xw_E xn_goto (xo_goto dX9_worked_239 (by decide))) <|
  xw_cons (xw_E xn_push (xo_iconst dX9_worked_242 (by decide))) <|
  xw_cons (xw_E xn_istore (xo_istore dX9_worked_243)) <|
  xw_cons (xw_E xn_iload (xo_iload dX9_worked_245)) <|
  xw_cons (xw_E xn_push (xo_bipush dX9_worked_247 (by decide))) <|
  xw_cons (xw_E xn_icmp (xo_icmp_ne dX9_worked_249 (by decide))) <|
  xw_cons (xw_E xn_aload (xo_aload_n dX9_worked_252 rfl)) <|
  xw_cons (xw_E xn_iload (xo_iload_n dX9_worked_253 rfl)) <|
  xw_cons (xl_v_27_263 hG dX9_worked_254) <|
  xw_cons (xw_E xn_aload (xo_aload_n dX9_worked_257 rfl)) <|
  xw_cons (xw_E xn_getf (xo_getf hG xg_27_60 dX9_worked_258)) <|
  xw_cons (xw_E xn_iload (xo_iload_n dX9_worked_261 rfl)) <|
  xw_cons (xw_E xn_ald (xo_iald xk_hB dX9_worked_262)) <|
  xw_cons (xw_E xn_istore (xo_istore dX9_worked_263)) <|
  xw_cons (xw_E xn_iinc (xo_iinc dX9_worked_265 (by decide))) <|
  xw_cons (xw_E xn_iload (xo_iload_n dX9_worked_268 rfl)) <|
  xw_cons (xw_E xn_if (xo_if_le dX9_worked_269 (by decide))) <|
  xw_cons (xw_E xn_aload (xo_aload_n dX9_worked_272 rfl)) <|
  xw_cons (xw_E xn_getf (xo_getf hG xg_27_84 dX9_worked_273)) <|
  xw_cons (xw_E xn_iload (xo_iload_n dX9_worked_276 rfl)) <|
  xw_cons (xw_E xn_ald (xo_iald xk_hB dX9_worked_277)) <|
  xw_cons (xw_E xn_push (xo_iconst dX9_worked_278 (by decide))) <|
  xw_nil _
def xp_164_3 : List (Nat × xm_O) := [
  (279, .inl (xe_icmp (fun x y => decide (¬ x = y)) 300 282)),
  (282, .inl (xe_iload 5 284)),
  (284, .inl (xe_if (fun x => decide (¬ x = 0)) 291 287)),
  (287, .inl (xe_push (.int 1) 288)),
  (288, .inl (xe_goto 292)),
  (291, .inl (xe_push (.int 0) 292)),
  (292, .inl (xe_istore 5 294)),
  (294, .inl (xe_iinc 2 (-1) 297)),
  (297, .inl (xe_goto 268)),
  (300, .inl (xe_aload 0 301)),
  (301, .inl (xe_getf (xj_1 8 32) 304)),
  (304, .inl (xe_iload 2 305)),
  (305, .inl (xe_aload 0 306)),
  (306, .inl (xe_getf (xj_1 8 33) 309)),
  (309, .inl (xe_iload 2 310)),
  (310, .inl (xe_ald (fun t => t == 0) 311)),
  (311, .inl (xe_if (fun x => decide (¬ x = 0)) 319 314)),
  (314, .inl (xe_iload 5 316)),
  (316, .inl (xe_goto 328)),
  (319, .inl (xe_aload 0 320)),
  (320, .inl (xe_getf (xj_1 8 32) 323)),
  (323, .inl (xe_iload 2 324)),
  (324, .inl (xe_ald (fun t => t == 0) 325)),
  (325, .inl (xe_iload 5 327)),
  (327, .inl (xe_ii (fun x y => x * y) 328)),
  (328, .inl (xe_ast 300 0 (xm_kd 0) 329)),
  (329, .inl (xe_iinc 3 1 332)),
  (332, .inl (xe_goto 14)),
  (335, .inl (xe_aload 0 336)),
  (336, .inl (xe_push (.int 0) 337)),
  (337, .inr (.inr (.inl (xc_V (xj_1 8 167) [0])))),
  (340, .inl (xe_aload 0 341)),
  (341, .inl (xe_getf (xj_1 8 26) 344)),
  (344, .inl (xe_push (.int 0) 345)),
  (345, .inl (xe_ald (fun t => t == 0) 346)),
  (346, .inr (.inl xr_i))]
theorem xq_164_3 {G : xm_G} (hG : xm_W xk_B G) (hO : xm_Og G) : ∀ q ∈ xp_164_3, xm_op xk_B G xd xk_N "LiarsCockModel" "worked" prog_28_method_20_code 6 (some (FieldType.int)) q.1 q.2 :=
  xw_cons (xw_E xn_icmp (xo_icmp_ne dX9_worked_279 (by decide))) <|
  xw_cons (xw_E xn_iload (xo_iload dX9_worked_282)) <|
  xw_cons (xw_E xn_if (xo_if_ne dX9_worked_284 (by decide))) <|
  xw_cons (xw_E xn_push (xo_iconst dX9_worked_287 (by decide))) <|
  xw_cons (xw_E xn_goto (xo_goto dX9_worked_288 (by decide))) <|
  xw_cons (xw_E xn_push (xo_iconst dX9_worked_291 (by decide))) <|
  xw_cons (xw_E xn_istore (xo_istore dX9_worked_292)) <|
  xw_cons (xw_E xn_iinc (xo_iinc dX9_worked_294 (by decide))) <|
  xw_cons (xw_E xn_goto (xo_goto dX9_worked_297 (by decide))) <|
  xw_cons (xw_E xn_aload (xo_aload_n dX9_worked_300 rfl)) <|
  xw_cons (xw_E xn_getf (xo_getf hG xg_27_78 dX9_worked_301)) <|
  xw_cons (xw_E xn_iload (xo_iload_n dX9_worked_304 rfl)) <|
  xw_cons (xw_E xn_aload (xo_aload_n dX9_worked_305 rfl)) <|
  xw_cons (xw_E xn_getf (xo_getf hG xg_27_81 dX9_worked_306)) <|
  xw_cons (xw_E xn_iload (xo_iload_n dX9_worked_309 rfl)) <|
  xw_cons (xw_E xn_ald (xo_iald xk_hB dX9_worked_310)) <|
  xw_cons (xw_E xn_if (xo_if_ne dX9_worked_311 (by decide))) <|
  xw_cons (xw_E xn_iload (xo_iload dX9_worked_314)) <|
  xw_cons (xw_E xn_goto (xo_goto dX9_worked_316 (by decide))) <|
  xw_cons (xw_E xn_aload (xo_aload_n dX9_worked_319 rfl)) <|
  xw_cons (xw_E xn_getf (xo_getf hG xg_27_78 dX9_worked_320)) <|
  xw_cons (xw_E xn_iload (xo_iload_n dX9_worked_323 rfl)) <|
  xw_cons (xw_E xn_ald (xo_iald xk_hB dX9_worked_324)) <|
  xw_cons (xw_E xn_iload (xo_iload dX9_worked_325)) <|
  xw_cons (xw_E xn_ii (xo_imul dX9_worked_327)) <|
  xw_cons (xw_E xn_ast (xo_iast hG xk_hB rfl dX9_worked_328)) <|
  xw_cons (xw_E xn_iinc (xo_iinc dX9_worked_329 (by decide))) <|
  xw_cons (xw_E xn_goto (xo_goto dX9_worked_332 (by decide))) <|
  xw_cons (xw_E xn_aload (xo_aload_n dX9_worked_335 rfl)) <|
  xw_cons (xw_E xn_push (xo_iconst dX9_worked_336 (by decide))) <|
  xw_cons (xl_v_27_263 hG dX9_worked_337) <|
  xw_cons (xw_E xn_aload (xo_aload_n dX9_worked_340 rfl)) <|
  xw_cons (xw_E xn_getf (xo_getf hG xg_27_60 dX9_worked_341)) <|
  xw_cons (xw_E xn_push (xo_iconst dX9_worked_344 (by decide))) <|
  xw_cons (xw_E xn_ald (xo_iald xk_hB dX9_worked_345)) <|
  xw_cons (xw_R (xt_i dX9_worked_346)) <|
  xw_nil _
def xp_164 : List (Nat × xm_O) := xp_164_0 ++ xp_164_1 ++ xp_164_2 ++ xp_164_3
theorem xq_164 {G : xm_G} (hG : xm_W xk_B G) (hO : xm_Og G) : ∀ q ∈ xp_164, xm_op xk_B G xd xk_N "LiarsCockModel" "worked" prog_28_method_20_code 6 (some (FieldType.int)) q.1 q.2 := xw_app (xw_app (xw_app (xq_164_0 hG hO) (xq_164_1 hG hO)) (xq_164_2 hG hO)) (xq_164_3 hG hO)
/- 165: LiarsCockModel.opens(I)V -/
def xp_165_0 : List (Nat × xm_O) := [
  (0, .inl (xe_aload 0 1)),
  (1, .inl (xe_getf (xj_1 8 27) 4)),
  (4, .inl (xe_iload 1 5)),
  (5, .inl (xe_push (.int 0) 6)),
  (6, .inl (xe_ast 300 0 (xm_kd 0) 7)),
  (7, .inl (xe_aload 0 8)),
  (8, .inl (xe_getf (xj_1 8 29) 11)),
  (11, .inl (xe_iload 1 12)),
  (12, .inl (xe_push (.int 0) 13)),
  (13, .inl (xe_ast 300 0 (xm_kd 0) 14)),
  (14, .inl (xe_aload 0 15)),
  (15, .inl (xe_getf (xj_1 8 30) 18)),
  (18, .inl (xe_iload 1 19)),
  (19, .inl (xe_push (.int 0) 20)),
  (20, .inl (xe_ast 300 0 (xm_kd 0) 21)),
  (21, .inl (xe_aload 0 22)),
  (22, .inl (xe_getf (xj_1 8 31) 25)),
  (25, .inl (xe_iload 1 26)),
  (26, .inl (xe_push (.int 20) 28)),
  (28, .inl (xe_ast 300 0 (xm_kd 0) 29)),
  (29, .inl (xe_aload 0 30)),
  (30, .inl (xe_getf (xj_1 8 33) 33)),
  (33, .inl (xe_iload 1 34)),
  (34, .inl (xe_push (.int 0) 35)),
  (35, .inl (xe_ast 300 0 (xm_kd 0) 36)),
  (36, .inr (.inl xr_v))]
theorem xq_165_0 {G : xm_G} (hG : xm_W xk_B G) (hO : xm_Og G) : ∀ q ∈ xp_165_0, xm_op xk_B G xd xk_N "LiarsCockModel" "opens" prog_28_method_17_code 2 none q.1 q.2 :=
  xw_cons (xw_E xn_aload (xo_aload_n dX9_opens_0 rfl)) <|
  xw_cons (xw_E xn_getf (xo_getf hG xg_27_63 dX9_opens_1)) <|
  xw_cons (xw_E xn_iload (xo_iload_n dX9_opens_4 rfl)) <|
  xw_cons (xw_E xn_push (xo_iconst dX9_opens_5 (by decide))) <|
  xw_cons (xw_E xn_ast (xo_iast hG xk_hB rfl dX9_opens_6)) <|
  xw_cons (xw_E xn_aload (xo_aload_n dX9_opens_7 rfl)) <|
  xw_cons (xw_E xn_getf (xo_getf hG xg_27_69 dX9_opens_8)) <|
  xw_cons (xw_E xn_iload (xo_iload_n dX9_opens_11 rfl)) <|
  xw_cons (xw_E xn_push (xo_iconst dX9_opens_12 (by decide))) <|
  xw_cons (xw_E xn_ast (xo_iast hG xk_hB rfl dX9_opens_13)) <|
  xw_cons (xw_E xn_aload (xo_aload_n dX9_opens_14 rfl)) <|
  xw_cons (xw_E xn_getf (xo_getf hG xg_27_72 dX9_opens_15)) <|
  xw_cons (xw_E xn_iload (xo_iload_n dX9_opens_18 rfl)) <|
  xw_cons (xw_E xn_push (xo_iconst dX9_opens_19 (by decide))) <|
  xw_cons (xw_E xn_ast (xo_iast hG xk_hB rfl dX9_opens_20)) <|
  xw_cons (xw_E xn_aload (xo_aload_n dX9_opens_21 rfl)) <|
  xw_cons (xw_E xn_getf (xo_getf hG xg_27_75 dX9_opens_22)) <|
  xw_cons (xw_E xn_iload (xo_iload_n dX9_opens_25 rfl)) <|
  xw_cons (xw_E xn_push (xo_bipush dX9_opens_26 (by decide))) <|
  xw_cons (xw_E xn_ast (xo_iast hG xk_hB rfl dX9_opens_28)) <|
  xw_cons (xw_E xn_aload (xo_aload_n dX9_opens_29 rfl)) <|
  xw_cons (xw_E xn_getf (xo_getf hG xg_27_81 dX9_opens_30)) <|
  xw_cons (xw_E xn_iload (xo_iload_n dX9_opens_33 rfl)) <|
  xw_cons (xw_E xn_push (xo_iconst dX9_opens_34 (by decide))) <|
  xw_cons (xw_E xn_ast (xo_iast hG xk_hB rfl dX9_opens_35)) <|
  xw_cons (xw_R (xt_v dX9_opens_36)) <|
  xw_nil _
def xp_165 : List (Nat × xm_O) := xp_165_0
theorem xq_165 {G : xm_G} (hG : xm_W xk_B G) (hO : xm_Og G) : ∀ q ∈ xp_165, xm_op xk_B G xd xk_N "LiarsCockModel" "opens" prog_28_method_17_code 2 none q.1 q.2 := xq_165_0 hG hO
/- 166: LiarsCockModel.sums(I)V -/
def xp_166_0 : List (Nat × xm_O) := [
  (0, .inl (xe_aload 0 1)),
  (1, .inl (xe_getf (xj_1 8 30) 4)),
  (4, .inl (xe_iload 1 5)),
  (5, .inl (xe_aload 0 6)),
  (6, .inl (xe_getf (xj_1 8 31) 9)),
  (9, .inl (xe_iload 1 10)),
  (10, .inl (xe_ald (fun t => t == 0) 11)),
  (11, .inl (xe_push (.int 21) 13)),
  (13, .inl (xe_icmp (fun x y => decide (¬ x = y)) 32 16)),
  (16, .inl (xe_aload 0 17)),
  (17, .inl (xe_getf (xj_1 8 30) 20)),
  (20, .inl (xe_iload 1 21)),
  (21, .inl (xe_ald (fun t => t == 0) 22)),
  (22, .inl (xe_aload 0 23)),
  (23, .inl (xe_getf (xj_1 8 32) 26)),
  (26, .inl (xe_iload 1 27)),
  (27, .inl (xe_ald (fun t => t == 0) 28)),
  (28, .inl (xe_ii (fun x y => x - y) 29)),
  (29, .inl (xe_goto 45)),
  (32, .inl (xe_aload 0 33)),
  (33, .inl (xe_getf (xj_1 8 30) 36)),
  (36, .inl (xe_iload 1 37)),
  (37, .inl (xe_ald (fun t => t == 0) 38)),
  (38, .inl (xe_aload 0 39)),
  (39, .inl (xe_getf (xj_1 8 32) 42)),
  (42, .inl (xe_iload 1 43)),
  (43, .inl (xe_ald (fun t => t == 0) 44)),
  (44, .inl (xe_ii (fun x y => x + y) 45)),
  (45, .inl (xe_ast 300 0 (xm_kd 0) 46)),
  (46, .inl (xe_aload 0 47)),
  (47, .inl (xe_getf (xj_1 8 33) 50)),
  (50, .inl (xe_iload 1 51)),
  (51, .inl (xe_push (.int 0) 52)),
  (52, .inl (xe_ast 300 0 (xm_kd 0) 53)),
  (53, .inr (.inl xr_v))]
theorem xq_166_0 {G : xm_G} (hG : xm_W xk_B G) (hO : xm_Og G) : ∀ q ∈ xp_166_0, xm_op xk_B G xd xk_N "LiarsCockModel" "sums" prog_28_method_18_code 2 none q.1 q.2 :=
  xw_cons (xw_E xn_aload (xo_aload_n dX9_sums_0 rfl)) <|
  xw_cons (xw_E xn_getf (xo_getf hG xg_27_72 dX9_sums_1)) <|
  xw_cons (xw_E xn_iload (xo_iload_n dX9_sums_4 rfl)) <|
  xw_cons (xw_E xn_aload (xo_aload_n dX9_sums_5 rfl)) <|
  xw_cons (xw_E xn_getf (xo_getf hG xg_27_75 dX9_sums_6)) <|
  xw_cons (xw_E xn_iload (xo_iload_n dX9_sums_9 rfl)) <|
  xw_cons (xw_E xn_ald (xo_iald xk_hB dX9_sums_10)) <|
  xw_cons (xw_E xn_push (xo_bipush dX9_sums_11 (by decide))) <|
  xw_cons (xw_E xn_icmp (xo_icmp_ne dX9_sums_13 (by decide))) <|
  xw_cons (xw_E xn_aload (xo_aload_n dX9_sums_16 rfl)) <|
  xw_cons (xw_E xn_getf (xo_getf hG xg_27_72 dX9_sums_17)) <|
  xw_cons (xw_E xn_iload (xo_iload_n dX9_sums_20 rfl)) <|
  xw_cons (xw_E xn_ald (xo_iald xk_hB dX9_sums_21)) <|
  xw_cons (xw_E xn_aload (xo_aload_n dX9_sums_22 rfl)) <|
  xw_cons (xw_E xn_getf (xo_getf hG xg_27_78 dX9_sums_23)) <|
  xw_cons (xw_E xn_iload (xo_iload_n dX9_sums_26 rfl)) <|
  xw_cons (xw_E xn_ald (xo_iald xk_hB dX9_sums_27)) <|
  xw_cons (xw_E xn_ii (xo_isub dX9_sums_28)) <|
  xw_cons (xw_E xn_goto (xo_goto dX9_sums_29 (by decide))) <|
  xw_cons (xw_E xn_aload (xo_aload_n dX9_sums_32 rfl)) <|
  xw_cons (xw_E xn_getf (xo_getf hG xg_27_72 dX9_sums_33)) <|
  xw_cons (xw_E xn_iload (xo_iload_n dX9_sums_36 rfl)) <|
  xw_cons (xw_E xn_ald (xo_iald xk_hB dX9_sums_37)) <|
  xw_cons (xw_E xn_aload (xo_aload_n dX9_sums_38 rfl)) <|
  xw_cons (xw_E xn_getf (xo_getf hG xg_27_78 dX9_sums_39)) <|
  xw_cons (xw_E xn_iload (xo_iload_n dX9_sums_42 rfl)) <|
  xw_cons (xw_E xn_ald (xo_iald xk_hB dX9_sums_43)) <|
  xw_cons (xw_E xn_ii (xo_iadd dX9_sums_44)) <|
  xw_cons (xw_E xn_ast (xo_iast hG xk_hB rfl dX9_sums_45)) <|
  xw_cons (xw_E xn_aload (xo_aload_n dX9_sums_46 rfl)) <|
  xw_cons (xw_E xn_getf (xo_getf hG xg_27_81 dX9_sums_47)) <|
  xw_cons (xw_E xn_iload (xo_iload_n dX9_sums_50 rfl)) <|
  xw_cons (xw_E xn_push (xo_iconst dX9_sums_51 (by decide))) <|
  xw_cons (xw_E xn_ast (xo_iast hG xk_hB rfl dX9_sums_52)) <|
  xw_cons (xw_R (xt_v dX9_sums_53)) <|
  xw_nil _
def xp_166 : List (Nat × xm_O) := xp_166_0
theorem xq_166 {G : xm_G} (hG : xm_W xk_B G) (hO : xm_Og G) : ∀ q ∈ xp_166, xm_op xk_B G xd xk_N "LiarsCockModel" "sums" prog_28_method_18_code 2 none q.1 q.2 := xq_166_0 hG hO
/- 167: LiarsCockModel.tests(I)V -/
def xp_167_0 : List (Nat × xm_O) := [
  (0, .inl (xe_aload 0 1)),
  (1, .inl (xe_iload 1 2)),
  (2, .inr (.inr (.inl (xc_V (xj_1 8 166) [0])))),
  (5, .inl (xe_aload 0 6)),
  (6, .inl (xe_getf (xj_1 8 30) 9)),
  (9, .inl (xe_iload 1 10)),
  (10, .inl (xe_ald (fun t => t == 0) 11)),
  (11, .inl (xe_istore 2 12)),
  (12, .inl (xe_aload 0 13)),
  (13, .inl (xe_getf (xj_1 8 29) 16)),
  (16, .inl (xe_iload 1 17)),
  (17, .inl (xe_ald (fun t => t == 0) 18)),
  (18, .inl (xe_push (.int 24) 20)),
  (20, .inl (xe_icmp (fun x y => decide (¬ x = y)) 44 23)),
  (23, .inl (xe_aload 0 24)),
  (24, .inl (xe_getf (xj_1 8 28) 27)),
  (27, .inl (xe_iload 1 28)),
  (28, .inl (xe_ald (fun t => t == 0) 29)),
  (29, .inl (xe_aload 0 30)),
  (30, .inl (xe_getf (xj_1 8 30) 33)),
  (33, .inl (xe_iload 1 34)),
  (34, .inl (xe_ald (fun t => t == 0) 35)),
  (35, .inl (xe_icmp (fun x y => decide (y ≤ x)) 42 38)),
  (38, .inl (xe_push (.int 1) 39)),
  (39, .inl (xe_goto 43)),
  (42, .inl (xe_push (.int 0) 43)),
  (43, .inl (xe_istore 2 44)),
  (44, .inl (xe_aload 0 45)),
  (45, .inl (xe_getf (xj_1 8 29) 48)),
  (48, .inl (xe_iload 1 49)),
  (49, .inl (xe_ald (fun t => t == 0) 50)),
  (50, .inl (xe_push (.int 25) 52)),
  (52, .inl (xe_icmp (fun x y => decide (¬ x = y)) 76 55)),
  (55, .inl (xe_aload 0 56)),
  (56, .inl (xe_getf (xj_1 8 28) 59)),
  (59, .inl (xe_iload 1 60)),
  (60, .inl (xe_ald (fun t => t == 0) 61)),
  (61, .inl (xe_aload 0 62)),
  (62, .inl (xe_getf (xj_1 8 30) 65)),
  (65, .inl (xe_iload 1 66)),
  (66, .inl (xe_ald (fun t => t == 0) 67)),
  (67, .inl (xe_icmp (fun x y => decide (¬ x = y)) 74 70)),
  (70, .inl (xe_push (.int 1) 71)),
  (71, .inl (xe_goto 75)),
  (74, .inl (xe_push (.int 0) 75)),
  (75, .inl (xe_istore 2 76)),
  (76, .inl (xe_aload 0 77)),
  (77, .inl (xe_getf (xj_1 8 27) 80)),
  (80, .inl (xe_iload 1 81)),
  (81, .inl (xe_ald (fun t => t == 0) 82))]
theorem xq_167_0 {G : xm_G} (hG : xm_W xk_B G) (hO : xm_Og G) : ∀ q ∈ xp_167_0, xm_op xk_B G xd xk_N "LiarsCockModel" "tests" prog_28_method_19_code 3 none q.1 q.2 :=
  xw_cons (xw_E xn_aload (xo_aload_n dX9_tests_0 rfl)) <|
  xw_cons (xw_E xn_iload (xo_iload_n dX9_tests_1 rfl)) <|
  xw_cons (xl_v_27_257 hG dX9_tests_2) <|
  xw_cons (xw_E xn_aload (xo_aload_n dX9_tests_5 rfl)) <|
  xw_cons (xw_E xn_getf (xo_getf hG xg_27_72 dX9_tests_6)) <|
  xw_cons (xw_E xn_iload (xo_iload_n dX9_tests_9 rfl)) <|
  xw_cons (xw_E xn_ald (xo_iald xk_hB dX9_tests_10)) <|
  xw_cons (xw_E xn_istore (xo_istore_n dX9_tests_11 rfl)) <|
  xw_cons (xw_E xn_aload (xo_aload_n dX9_tests_12 rfl)) <|
  xw_cons (xw_E xn_getf (xo_getf hG xg_27_69 dX9_tests_13)) <|
  xw_cons (xw_E xn_iload (xo_iload_n dX9_tests_16 rfl)) <|
  xw_cons (xw_E xn_ald (xo_iald xk_hB dX9_tests_17)) <|
  xw_cons (xw_E xn_push (xo_bipush dX9_tests_18 (by decide))) <|
  xw_cons (xw_E xn_icmp (xo_icmp_ne dX9_tests_20 (by decide))) <|
  xw_cons (xw_E xn_aload (xo_aload_n dX9_tests_23 rfl)) <|
  xw_cons (xw_E xn_getf (xo_getf hG xg_27_66 dX9_tests_24)) <|
  xw_cons (xw_E xn_iload (xo_iload_n dX9_tests_27 rfl)) <|
  xw_cons (xw_E xn_ald (xo_iald xk_hB dX9_tests_28)) <|
  xw_cons (xw_E xn_aload (xo_aload_n dX9_tests_29 rfl)) <|
  xw_cons (xw_E xn_getf (xo_getf hG xg_27_72 dX9_tests_30)) <|
  xw_cons (xw_E xn_iload (xo_iload_n dX9_tests_33 rfl)) <|
  xw_cons (xw_E xn_ald (xo_iald xk_hB dX9_tests_34)) <|
  xw_cons (xw_E xn_icmp (xo_icmp_ge dX9_tests_35 (by decide))) <|
  xw_cons (xw_E xn_push (xo_iconst dX9_tests_38 (by decide))) <|
  xw_cons (xw_E xn_goto (xo_goto dX9_tests_39 (by decide))) <|
  xw_cons (xw_E xn_push (xo_iconst dX9_tests_42 (by decide))) <|
  xw_cons (xw_E xn_istore (xo_istore_n dX9_tests_43 rfl)) <|
  xw_cons (xw_E xn_aload (xo_aload_n dX9_tests_44 rfl)) <|
  xw_cons (xw_E xn_getf (xo_getf hG xg_27_69 dX9_tests_45)) <|
  xw_cons (xw_E xn_iload (xo_iload_n dX9_tests_48 rfl)) <|
  xw_cons (xw_E xn_ald (xo_iald xk_hB dX9_tests_49)) <|
  xw_cons (xw_E xn_push (xo_bipush dX9_tests_50 (by decide))) <|
  xw_cons (xw_E xn_icmp (xo_icmp_ne dX9_tests_52 (by decide))) <|
  xw_cons (xw_E xn_aload (xo_aload_n dX9_tests_55 rfl)) <|
  xw_cons (xw_E xn_getf (xo_getf hG xg_27_66 dX9_tests_56)) <|
  xw_cons (xw_E xn_iload (xo_iload_n dX9_tests_59 rfl)) <|
  xw_cons (xw_E xn_ald (xo_iald xk_hB dX9_tests_60)) <|
  xw_cons (xw_E xn_aload (xo_aload_n dX9_tests_61 rfl)) <|
  xw_cons (xw_E xn_getf (xo_getf hG xg_27_72 dX9_tests_62)) <|
  xw_cons (xw_E xn_iload (xo_iload_n dX9_tests_65 rfl)) <|
  xw_cons (xw_E xn_ald (xo_iald xk_hB dX9_tests_66)) <|
  xw_cons (xw_E xn_icmp (xo_icmp_ne dX9_tests_67 (by decide))) <|
  xw_cons (xw_E xn_push (xo_iconst dX9_tests_70 (by decide))) <|
  xw_cons (xw_E xn_goto (xo_goto dX9_tests_71 (by decide))) <|
  xw_cons (xw_E xn_push (xo_iconst dX9_tests_74 (by decide))) <|
  xw_cons (xw_E xn_istore (xo_istore_n dX9_tests_75 rfl)) <|
  xw_cons (xw_E xn_aload (xo_aload_n dX9_tests_76 rfl)) <|
  xw_cons (xw_E xn_getf (xo_getf hG xg_27_63 dX9_tests_77)) <|
  xw_cons (xw_E xn_iload (xo_iload_n dX9_tests_80 rfl)) <|
  xw_cons (xw_E xn_ald (xo_iald xk_hB dX9_tests_81)) <|
  xw_nil _
def xp_167_1 : List (Nat × xm_O) := [
  (82, .inl (xe_push (.int 26) 84)),
  (84, .inl (xe_icmp (fun x y => decide (¬ x = y)) 106 87)),
  (87, .inl (xe_aload 0 88)),
  (88, .inl (xe_getf (xj_1 8 26) 91)),
  (91, .inl (xe_iload 1 92)),
  (92, .inl (xe_ald (fun t => t == 0) 93)),
  (93, .inl (xe_if (fun x => decide (x = 0)) 104 96)),
  (96, .inl (xe_iload 2 97)),
  (97, .inl (xe_if (fun x => decide (x = 0)) 104 100)),
  (100, .inl (xe_push (.int 1) 101)),
  (101, .inl (xe_goto 105)),
  (104, .inl (xe_push (.int 0) 105)),
  (105, .inl (xe_istore 2 106)),
  (106, .inl (xe_aload 0 107)),
  (107, .inl (xe_getf (xj_1 8 27) 110)),
  (110, .inl (xe_iload 1 111)),
  (111, .inl (xe_ald (fun t => t == 0) 112)),
  (112, .inl (xe_push (.int 27) 114)),
  (114, .inl (xe_icmp (fun x y => decide (¬ x = y)) 136 117)),
  (117, .inl (xe_aload 0 118)),
  (118, .inl (xe_getf (xj_1 8 26) 121)),
  (121, .inl (xe_iload 1 122)),
  (122, .inl (xe_ald (fun t => t == 0) 123)),
  (123, .inl (xe_if (fun x => decide (¬ x = 0)) 130 126)),
  (126, .inl (xe_iload 2 127)),
  (127, .inl (xe_if (fun x => decide (x = 0)) 134 130)),
  (130, .inl (xe_push (.int 1) 131)),
  (131, .inl (xe_goto 135)),
  (134, .inl (xe_push (.int 0) 135)),
  (135, .inl (xe_istore 2 136)),
  (136, .inl (xe_aload 0 137)),
  (137, .inl (xe_getf (xj_1 8 26) 140)),
  (140, .inl (xe_iload 1 141)),
  (141, .inl (xe_iload 2 142)),
  (142, .inl (xe_ast 300 0 (xm_kd 0) 143)),
  (143, .inl (xe_aload 0 144)),
  (144, .inl (xe_getf (xj_1 8 29) 147)),
  (147, .inl (xe_iload 1 148)),
  (148, .inl (xe_push (.int 0) 149)),
  (149, .inl (xe_ast 300 0 (xm_kd 0) 150)),
  (150, .inl (xe_aload 0 151)),
  (151, .inl (xe_getf (xj_1 8 30) 154)),
  (154, .inl (xe_iload 1 155)),
  (155, .inl (xe_push (.int 0) 156)),
  (156, .inl (xe_ast 300 0 (xm_kd 0) 157)),
  (157, .inl (xe_aload 0 158)),
  (158, .inl (xe_getf (xj_1 8 31) 161)),
  (161, .inl (xe_iload 1 162)),
  (162, .inl (xe_push (.int 20) 164)),
  (164, .inl (xe_ast 300 0 (xm_kd 0) 165))]
theorem xq_167_1 {G : xm_G} (hG : xm_W xk_B G) (hO : xm_Og G) : ∀ q ∈ xp_167_1, xm_op xk_B G xd xk_N "LiarsCockModel" "tests" prog_28_method_19_code 3 none q.1 q.2 :=
  xw_cons (xw_E xn_push (xo_bipush dX9_tests_82 (by decide))) <|
  xw_cons (xw_E xn_icmp (xo_icmp_ne dX9_tests_84 (by decide))) <|
  xw_cons (xw_E xn_aload (xo_aload_n dX9_tests_87 rfl)) <|
  xw_cons (xw_E xn_getf (xo_getf hG xg_27_60 dX9_tests_88)) <|
  xw_cons (xw_E xn_iload (xo_iload_n dX9_tests_91 rfl)) <|
  xw_cons (xw_E xn_ald (xo_iald xk_hB dX9_tests_92)) <|
  xw_cons (xw_E xn_if (xo_if_eq dX9_tests_93 (by decide))) <|
  xw_cons (xw_E xn_iload (xo_iload_n dX9_tests_96 rfl)) <|
  xw_cons (xw_E xn_if (xo_if_eq dX9_tests_97 (by decide))) <|
  xw_cons (xw_E xn_push (xo_iconst dX9_tests_100 (by decide))) <|
  xw_cons (xw_E xn_goto (xo_goto dX9_tests_101 (by decide))) <|
  xw_cons (xw_E xn_push (xo_iconst dX9_tests_104 (by decide))) <|
  xw_cons (xw_E xn_istore (xo_istore_n dX9_tests_105 rfl)) <|
  xw_cons (xw_E xn_aload (xo_aload_n dX9_tests_106 rfl)) <|
  xw_cons (xw_E xn_getf (xo_getf hG xg_27_63 dX9_tests_107)) <|
  xw_cons (xw_E xn_iload (xo_iload_n dX9_tests_110 rfl)) <|
  xw_cons (xw_E xn_ald (xo_iald xk_hB dX9_tests_111)) <|
  xw_cons (xw_E xn_push (xo_bipush dX9_tests_112 (by decide))) <|
  xw_cons (xw_E xn_icmp (xo_icmp_ne dX9_tests_114 (by decide))) <|
  xw_cons (xw_E xn_aload (xo_aload_n dX9_tests_117 rfl)) <|
  xw_cons (xw_E xn_getf (xo_getf hG xg_27_60 dX9_tests_118)) <|
  xw_cons (xw_E xn_iload (xo_iload_n dX9_tests_121 rfl)) <|
  xw_cons (xw_E xn_ald (xo_iald xk_hB dX9_tests_122)) <|
  xw_cons (xw_E xn_if (xo_if_ne dX9_tests_123 (by decide))) <|
  xw_cons (xw_E xn_iload (xo_iload_n dX9_tests_126 rfl)) <|
  xw_cons (xw_E xn_if (xo_if_eq dX9_tests_127 (by decide))) <|
  xw_cons (xw_E xn_push (xo_iconst dX9_tests_130 (by decide))) <|
  xw_cons (xw_E xn_goto (xo_goto dX9_tests_131 (by decide))) <|
  xw_cons (xw_E xn_push (xo_iconst dX9_tests_134 (by decide))) <|
  xw_cons (xw_E xn_istore (xo_istore_n dX9_tests_135 rfl)) <|
  xw_cons (xw_E xn_aload (xo_aload_n dX9_tests_136 rfl)) <|
  xw_cons (xw_E xn_getf (xo_getf hG xg_27_60 dX9_tests_137)) <|
  xw_cons (xw_E xn_iload (xo_iload_n dX9_tests_140 rfl)) <|
  xw_cons (xw_E xn_iload (xo_iload_n dX9_tests_141 rfl)) <|
  xw_cons (xw_E xn_ast (xo_iast hG xk_hB rfl dX9_tests_142)) <|
  xw_cons (xw_E xn_aload (xo_aload_n dX9_tests_143 rfl)) <|
  xw_cons (xw_E xn_getf (xo_getf hG xg_27_69 dX9_tests_144)) <|
  xw_cons (xw_E xn_iload (xo_iload_n dX9_tests_147 rfl)) <|
  xw_cons (xw_E xn_push (xo_iconst dX9_tests_148 (by decide))) <|
  xw_cons (xw_E xn_ast (xo_iast hG xk_hB rfl dX9_tests_149)) <|
  xw_cons (xw_E xn_aload (xo_aload_n dX9_tests_150 rfl)) <|
  xw_cons (xw_E xn_getf (xo_getf hG xg_27_72 dX9_tests_151)) <|
  xw_cons (xw_E xn_iload (xo_iload_n dX9_tests_154 rfl)) <|
  xw_cons (xw_E xn_push (xo_iconst dX9_tests_155 (by decide))) <|
  xw_cons (xw_E xn_ast (xo_iast hG xk_hB rfl dX9_tests_156)) <|
  xw_cons (xw_E xn_aload (xo_aload_n dX9_tests_157 rfl)) <|
  xw_cons (xw_E xn_getf (xo_getf hG xg_27_75 dX9_tests_158)) <|
  xw_cons (xw_E xn_iload (xo_iload_n dX9_tests_161 rfl)) <|
  xw_cons (xw_E xn_push (xo_bipush dX9_tests_162 (by decide))) <|
  xw_cons (xw_E xn_ast (xo_iast hG xk_hB rfl dX9_tests_164)) <|
  xw_nil _
def xp_167_2 : List (Nat × xm_O) := [
  (165, .inr (.inl xr_v))]
theorem xq_167_2 {G : xm_G} (hG : xm_W xk_B G) (hO : xm_Og G) : ∀ q ∈ xp_167_2, xm_op xk_B G xd xk_N "LiarsCockModel" "tests" prog_28_method_19_code 3 none q.1 q.2 :=
  xw_cons (xw_R (xt_v dX9_tests_165)) <|
  xw_nil _
def xp_167 : List (Nat × xm_O) := xp_167_0 ++ xp_167_1 ++ xp_167_2
theorem xq_167 {G : xm_G} (hG : xm_W xk_B G) (hO : xm_Og G) : ∀ q ∈ xp_167, xm_op xk_B G xd xk_N "LiarsCockModel" "tests" prog_28_method_19_code 3 none q.1 q.2 := xw_app (xw_app (xq_167_0 hG hO) (xq_167_1 hG hO)) (xq_167_2 hG hO)
/- 168: LiarsCockModel.allWorlds()J -/
def xp_168_0 : List (Nat × xm_O) := [
  (0, .inl (xe_aload 0 1)),
  (1, .inl (xe_getf (xj_1 8 10) 4)),
  (4, .inl (xe_push (.int 0) 5)),
  (5, .inl (xe_ald (fun t => t == 0) 6)),
  (6, .inl (xe_push (.int 6) 8)),
  (8, .inl (xe_icmp (fun x y => decide (¬ x = y)) 17 11)),
  (11, .inl (xe_push (.long (-1 : Int64)) 14)),
  (14, .inl (xe_goto 29)),
  (17, .inl (xe_push (.long 1) 18)),
  (18, .inl (xe_push (.int 1) 19)),
  (19, .inl (xe_aload 0 20)),
  (20, .inl (xe_getf (xj_1 8 10) 23)),
  (23, .inl (xe_push (.int 0) 24)),
  (24, .inl (xe_ald (fun t => t == 0) 25)),
  (25, .inl (xe_ii (fun x y => x <<< (y &&& 31)) 26)),
  (26, .inl (xe_li (fun x y => x <<< (y.toInt64 &&& 63)) 27)),
  (27, .inl (xe_push (.long 1) 28)),
  (28, .inl (xe_ll (fun x y => x - y) 29)),
  (29, .inr (.inl xr_l))]
theorem xq_168_0 {G : xm_G} (hG : xm_W xk_B G) (hO : xm_Og G) : ∀ q ∈ xp_168_0, xm_op xk_B G xd xk_N "LiarsCockModel" "allWorlds" prog_28_method_33_code 1 (some (FieldType.long)) q.1 q.2 :=
  xw_cons (xw_E xn_aload (xo_aload_n dX9_allWorlds_0 rfl)) <|
  xw_cons (xw_E xn_getf (xo_getf hG xg_27_13 dX9_allWorlds_1)) <|
  xw_cons (xw_E xn_push (xo_iconst dX9_allWorlds_4 (by decide))) <|
  xw_cons (xw_E xn_ald (xo_iald xk_hB dX9_allWorlds_5)) <|
  xw_cons (xw_E xn_push (xo_bipush dX9_allWorlds_6 (by decide))) <|
  xw_cons (xw_E xn_icmp (xo_icmp_ne dX9_allWorlds_8 (by decide))) <|
  xw_cons (xw_E xn_push (xo_ldc2 hG q1956 dX9_allWorlds_11)) <|
  xw_cons (xw_E xn_goto (xo_goto dX9_allWorlds_14 (by decide))) <|
  xw_cons (xw_E xn_push (xo_lconst dX9_allWorlds_17 (by decide))) <|
  xw_cons (xw_E xn_push (xo_iconst dX9_allWorlds_18 (by decide))) <|
  xw_cons (xw_E xn_aload (xo_aload_n dX9_allWorlds_19 rfl)) <|
  xw_cons (xw_E xn_getf (xo_getf hG xg_27_13 dX9_allWorlds_20)) <|
  xw_cons (xw_E xn_push (xo_iconst dX9_allWorlds_23 (by decide))) <|
  xw_cons (xw_E xn_ald (xo_iald xk_hB dX9_allWorlds_24)) <|
  xw_cons (xw_E xn_ii (xo_ishl dX9_allWorlds_25)) <|
  xw_cons (xw_E xn_li (xo_lshl dX9_allWorlds_26)) <|
  xw_cons (xw_E xn_push (xo_lconst dX9_allWorlds_27 (by decide))) <|
  xw_cons (xw_E xn_ll (xo_lsub dX9_allWorlds_28)) <|
  xw_cons (xw_R (xt_l dX9_allWorlds_29)) <|
  xw_nil _
def xp_168 : List (Nat × xm_O) := xp_168_0
theorem xq_168 {G : xm_G} (hG : xm_W xk_B G) (hO : xm_Og G) : ∀ q ∈ xp_168, xm_op xk_B G xd xk_N "LiarsCockModel" "allWorlds" prog_28_method_33_code 1 (some (FieldType.long)) q.1 q.2 := xq_168_0 hG hO
/- 169: LiarsCockModel.say(II)I -/
def xp_169_0 : List (Nat × xm_O) := [
  (0, .inl (xe_aload 0 1)),
  (1, .inl (xe_push (.int 0) 2)),
  (2, .inl (xe_putf 300 0 (xj_1 8 0) 5)),
  (5, .inl (xe_aload 0 6)),
  (6, .inl (xe_iload 1 7)),
  (7, .inr (.inr (.inl (xc_V (xj_1 8 170) [0])))),
  (10, .inl (xe_if (fun x => decide (x = 0)) 51 13)),
  (13, .inl (xe_iload 2 14)),
  (14, .inr (.inr (.inl (xc_S 171 [0])))),
  (17, .inl (xe_if (fun x => decide (x = 0)) 51 20)),
  (20, .inl (xe_aload 0 21)),
  (21, .inl (xe_getf (xj_1 8 40) 24)),
  (24, .inl (xe_push (.int 24) 26)),
  (26, .inl (xe_icmp (fun x y => decide (x = y)) 51 29)),
  (29, .inl (xe_aload 0 30)),
  (30, .inl (xe_getf (xj_1 8 40) 33)),
  (33, .inl (xe_if (fun x => decide (x ≤ 0)) 58 36)),
  (36, .inl (xe_iload 2 37)),
  (37, .inl (xe_aload 0 38)),
  (38, .inl (xe_getf (xj_1 8 46) 41)),
  (41, .inl (xe_aload 0 42)),
  (42, .inl (xe_getf (xj_1 8 40) 45)),
  (45, .inl (xe_push (.int 1) 46)),
  (46, .inl (xe_ii (fun x y => x - y) 47)),
  (47, .inl (xe_ald (fun t => t == 0) 48)),
  (48, .inl (xe_icmp (fun x y => decide (y ≤ x)) 58 51)),
  (51, .inl (xe_aload 0 52)),
  (52, .inl (xe_push (.int 0) 53)),
  (53, .inl (xe_putf 300 0 (xj_1 8 1) 56)),
  (56, .inl (xe_push (.int (-1)) 57)),
  (57, .inr (.inl xr_i)),
  (58, .inl (xe_aload 0 59)),
  (59, .inl (xe_aload 0 60)),
  (60, .inl (xe_getf (xj_1 8 40) 63)),
  (63, .inl (xe_iload 1 64)),
  (64, .inl (xe_iload 2 65)),
  (65, .inr (.inr (.inl (xc_V (xj_1 8 172) [0, 0, 0])))),
  (68, .inl (xe_istore 3 69)),
  (69, .inl (xe_aload 0 70)),
  (70, .inl (xe_dup 71)),
  (71, .inl (xe_getf (xj_1 8 40) 74)),
  (74, .inl (xe_iload 3 75)),
  (75, .inl (xe_if (fun x => decide (¬ x = 0)) 82 78)),
  (78, .inl (xe_push (.int 1) 79)),
  (79, .inl (xe_goto 83)),
  (82, .inl (xe_push (.int 0) 83)),
  (83, .inl (xe_ii (fun x y => x + y) 84)),
  (84, .inl (xe_putf 300 0 (xj_1 8 40) 87)),
  (87, .inl (xe_iload 3 88)),
  (88, .inr (.inl xr_i))]
theorem xq_169_0 {G : xm_G} (hG : xm_W xk_B G) (hO : xm_Og G) : ∀ q ∈ xp_169_0, xm_op xk_B G xd xk_N "LiarsCockModel" "say" prog_28_method_42_code 4 (some (FieldType.int)) q.1 q.2 :=
  xw_cons (xw_E xn_aload (xo_aload_n dX9_say_0 rfl)) <|
  xw_cons (xw_E xn_push (xo_iconst dX9_say_1 (by decide))) <|
  xw_cons (xw_E xn_putf (xo_putf hG rfl xu_27_162 dX9_say_2)) <|
  xw_cons (xw_E xn_aload (xo_aload_n dX9_say_5 rfl)) <|
  xw_cons (xw_E xn_iload (xo_iload_n dX9_say_6 rfl)) <|
  xw_cons (xl_v_27_337 hG dX9_say_7) <|
  xw_cons (xw_E xn_if (xo_if_eq dX9_say_10 (by decide))) <|
  xw_cons (xw_E xn_iload (xo_iload_n dX9_say_13 rfl)) <|
  xw_cons (xl_s_27_340 hG dX9_say_14) <|
  xw_cons (xw_E xn_if (xo_if_eq dX9_say_17 (by decide))) <|
  xw_cons (xw_E xn_aload (xo_aload_n dX9_say_20 rfl)) <|
  xw_cons (xw_E xn_getf (xo_getf hG xg_27_322 dX9_say_21)) <|
  xw_cons (xw_E xn_push (xo_bipush dX9_say_24 (by decide))) <|
  xw_cons (xw_E xn_icmp (xo_icmp_eq dX9_say_26 (by decide))) <|
  xw_cons (xw_E xn_aload (xo_aload_n dX9_say_29 rfl)) <|
  xw_cons (xw_E xn_getf (xo_getf hG xg_27_322 dX9_say_30)) <|
  xw_cons (xw_E xn_if (xo_if_le dX9_say_33 (by decide))) <|
  xw_cons (xw_E xn_iload (xo_iload_n dX9_say_36 rfl)) <|
  xw_cons (xw_E xn_aload (xo_aload_n dX9_say_37 rfl)) <|
  xw_cons (xw_E xn_getf (xo_getf hG xg_27_99 dX9_say_38)) <|
  xw_cons (xw_E xn_aload (xo_aload_n dX9_say_41 rfl)) <|
  xw_cons (xw_E xn_getf (xo_getf hG xg_27_322 dX9_say_42)) <|
  xw_cons (xw_E xn_push (xo_iconst dX9_say_45 (by decide))) <|
  xw_cons (xw_E xn_ii (xo_isub dX9_say_46)) <|
  xw_cons (xw_E xn_ald (xo_iald xk_hB dX9_say_47)) <|
  xw_cons (xw_E xn_icmp (xo_icmp_ge dX9_say_48 (by decide))) <|
  xw_cons (xw_E xn_aload (xo_aload_n dX9_say_51 rfl)) <|
  xw_cons (xw_E xn_push (xo_iconst dX9_say_52 (by decide))) <|
  xw_cons (xw_E xn_putf (xo_putf hG rfl xu_27_168 dX9_say_53)) <|
  xw_cons (xw_E xn_push (xo_iconst dX9_say_56 (by decide))) <|
  xw_cons (xw_R (xt_i dX9_say_57)) <|
  xw_cons (xw_E xn_aload (xo_aload_n dX9_say_58 rfl)) <|
  xw_cons (xw_E xn_aload (xo_aload_n dX9_say_59 rfl)) <|
  xw_cons (xw_E xn_getf (xo_getf hG xg_27_322 dX9_say_60)) <|
  xw_cons (xw_E xn_iload (xo_iload_n dX9_say_63 rfl)) <|
  xw_cons (xw_E xn_iload (xo_iload_n dX9_say_64 rfl)) <|
  xw_cons (xl_v_27_343 hG dX9_say_65) <|
  xw_cons (xw_E xn_istore (xo_istore_n dX9_say_68 rfl)) <|
  xw_cons (xw_E xn_aload (xo_aload_n dX9_say_69 rfl)) <|
  xw_cons (xw_E xn_dup (xo_dup dX9_say_70)) <|
  xw_cons (xw_E xn_getf (xo_getf hG xg_27_322 dX9_say_71)) <|
  xw_cons (xw_E xn_iload (xo_iload_n dX9_say_74 rfl)) <|
  xw_cons (xw_E xn_if (xo_if_ne dX9_say_75 (by decide))) <|
  xw_cons (xw_E xn_push (xo_iconst dX9_say_78 (by decide))) <|
  xw_cons (xw_E xn_goto (xo_goto dX9_say_79 (by decide))) <|
  xw_cons (xw_E xn_push (xo_iconst dX9_say_82 (by decide))) <|
  xw_cons (xw_E xn_ii (xo_iadd dX9_say_83)) <|
  xw_cons (xw_E xn_putf (xo_putf hG rfl xu_27_322 dX9_say_84)) <|
  xw_cons (xw_E xn_iload (xo_iload_n dX9_say_87 rfl)) <|
  xw_cons (xw_R (xt_i dX9_say_88)) <|
  xw_nil _
def xp_169 : List (Nat × xm_O) := xp_169_0
theorem xq_169 {G : xm_G} (hG : xm_W xk_B G) (hO : xm_Og G) : ∀ q ∈ xp_169, xm_op xk_B G xd xk_N "LiarsCockModel" "say" prog_28_method_42_code 4 (some (FieldType.int)) q.1 q.2 := xq_169_0 hG hO
/- 170: LiarsCockModel.isPerson(I)Z -/
def xp_170_0 : List (Nat × xm_O) := [
  (0, .inl (xe_iload 1 1)),
  (1, .inl (xe_if (fun x => decide (x < 0)) 18 4)),
  (4, .inl (xe_iload 1 5)),
  (5, .inl (xe_aload 0 6)),
  (6, .inl (xe_getf (xj_1 8 10) 9)),
  (9, .inl (xe_push (.int 2) 10)),
  (10, .inl (xe_ald (fun t => t == 0) 11)),
  (11, .inl (xe_icmp (fun x y => decide (y ≤ x)) 18 14)),
  (14, .inl (xe_push (.int 1) 15)),
  (15, .inl (xe_goto 19)),
  (18, .inl (xe_push (.int 0) 19)),
  (19, .inr (.inl xr_z))]
theorem xq_170_0 {G : xm_G} (hG : xm_W xk_B G) (hO : xm_Og G) : ∀ q ∈ xp_170_0, xm_op xk_B G xd xk_N "LiarsCockModel" "isPerson" prog_28_method_36_code 2 (some (FieldType.boolean)) q.1 q.2 :=
  xw_cons (xw_E xn_iload (xo_iload_n dX9_isPerson_0 rfl)) <|
  xw_cons (xw_E xn_if (xo_if_lt dX9_isPerson_1 (by decide))) <|
  xw_cons (xw_E xn_iload (xo_iload_n dX9_isPerson_4 rfl)) <|
  xw_cons (xw_E xn_aload (xo_aload_n dX9_isPerson_5 rfl)) <|
  xw_cons (xw_E xn_getf (xo_getf hG xg_27_13 dX9_isPerson_6)) <|
  xw_cons (xw_E xn_push (xo_iconst dX9_isPerson_9 (by decide))) <|
  xw_cons (xw_E xn_ald (xo_iald xk_hB dX9_isPerson_10)) <|
  xw_cons (xw_E xn_icmp (xo_icmp_ge dX9_isPerson_11 (by decide))) <|
  xw_cons (xw_E xn_push (xo_iconst dX9_isPerson_14 (by decide))) <|
  xw_cons (xw_E xn_goto (xo_goto dX9_isPerson_15 (by decide))) <|
  xw_cons (xw_E xn_push (xo_iconst dX9_isPerson_18 (by decide))) <|
  xw_cons (xw_R (xt_z dX9_isPerson_19)) <|
  xw_nil _
def xp_170 : List (Nat × xm_O) := xp_170_0
theorem xq_170 {G : xm_G} (hG : xm_W xk_B G) (hO : xm_Og G) : ∀ q ∈ xp_170, xm_op xk_B G xd xk_N "LiarsCockModel" "isPerson" prog_28_method_36_code 2 (some (FieldType.boolean)) q.1 q.2 := xq_170_0 hG hO
/- 171: LiarsCockModel.isMinute(I)Z -/
def xp_171_0 : List (Nat × xm_O) := [
  (0, .inl (xe_iload 0 1)),
  (1, .inl (xe_if (fun x => decide (x < 0)) 15 4)),
  (4, .inl (xe_iload 0 5)),
  (5, .inl (xe_push (.int 1440) 8)),
  (8, .inl (xe_icmp (fun x y => decide (y ≤ x)) 15 11)),
  (11, .inl (xe_push (.int 1) 12)),
  (12, .inl (xe_goto 16)),
  (15, .inl (xe_push (.int 0) 16)),
  (16, .inr (.inl xr_z))]
theorem xq_171_0 {G : xm_G} (hG : xm_W xk_B G) (hO : xm_Og G) : ∀ q ∈ xp_171_0, xm_op xk_B G xd xk_N "LiarsCockModel" "isMinute" prog_28_method_40_code 1 (some (FieldType.boolean)) q.1 q.2 :=
  xw_cons (xw_E xn_iload (xo_iload_n dX9_isMinute_0 rfl)) <|
  xw_cons (xw_E xn_if (xo_if_lt dX9_isMinute_1 (by decide))) <|
  xw_cons (xw_E xn_iload (xo_iload_n dX9_isMinute_4 rfl)) <|
  xw_cons (xw_E xn_push (xo_sipush dX9_isMinute_5 (by decide))) <|
  xw_cons (xw_E xn_icmp (xo_icmp_ge dX9_isMinute_8 (by decide))) <|
  xw_cons (xw_E xn_push (xo_iconst dX9_isMinute_11 (by decide))) <|
  xw_cons (xw_E xn_goto (xo_goto dX9_isMinute_12 (by decide))) <|
  xw_cons (xw_E xn_push (xo_iconst dX9_isMinute_15 (by decide))) <|
  xw_cons (xw_R (xt_z dX9_isMinute_16)) <|
  xw_nil _
def xp_171 : List (Nat × xm_O) := xp_171_0
theorem xq_171 {G : xm_G} (hG : xm_W xk_B G) (hO : xm_Og G) : ∀ q ∈ xp_171, xm_op xk_B G xd xk_N "LiarsCockModel" "isMinute" prog_28_method_40_code 1 (some (FieldType.boolean)) q.1 q.2 := xq_171_0 hG hO
/- 172: LiarsCockModel.lays(III)I -/
def xp_172_0 : List (Nat × xm_O) := [
  (0, .inl (xe_push (.int 0) 1)),
  (1, .inl (xe_istore 4 3)),
  (3, .inl (xe_iload 4 5)),
  (5, .inl (xe_push (.int 3) 6)),
  (6, .inl (xe_icmp (fun x y => decide (y ≤ x)) 31 9)),
  (9, .inl (xe_aload 0 10)),
  (10, .inl (xe_getf (xj_1 8 10) 13)),
  (13, .inl (xe_push (.int 3) 14)),
  (14, .inl (xe_iload 4 16)),
  (16, .inl (xe_ii (fun x y => x + y) 17)),
  (17, .inl (xe_aload 0 18)),
  (18, .inl (xe_getf (xj_1 8 10) 21)),
  (21, .inl (xe_iload 4 23)),
  (23, .inl (xe_ald (fun t => t == 0) 24)),
  (24, .inl (xe_ast 300 0 (xm_kd 0) 25)),
  (25, .inl (xe_iinc 4 1 28)),
  (28, .inl (xe_goto 3)),
  (31, .inl (xe_push (.int 0) 32)),
  (32, .inl (xe_istore 4 34)),
  (34, .inl (xe_iload 4 36)),
  (36, .inl (xe_push (.int 18) 38)),
  (38, .inl (xe_icmp (fun x y => decide (y ≤ x)) 64 41)),
  (41, .inl (xe_aload 0 42)),
  (42, .inl (xe_getf (xj_1 8 11) 45)),
  (45, .inl (xe_push (.int 18) 47)),
  (47, .inl (xe_iload 4 49)),
  (49, .inl (xe_ii (fun x y => x + y) 50)),
  (50, .inl (xe_aload 0 51)),
  (51, .inl (xe_getf (xj_1 8 11) 54)),
  (54, .inl (xe_iload 4 56)),
  (56, .inl (xe_ald (fun t => t == 1) 57)),
  (57, .inl (xe_ast 300 1 (xm_kd 1) 58)),
  (58, .inl (xe_iinc 4 1 61)),
  (61, .inl (xe_goto 34)),
  (64, .inl (xe_aload 0 65)),
  (65, .inr (.inr (.inl (xc_V (xj_1 8 143) [])))),
  (68, .inl (xe_aload 0 69)),
  (69, .inl (xe_getf (xj_1 8 6) 72)),
  (72, .inl (xe_if (fun x => decide (¬ x = 0)) 79 75)),
  (75, .inl (xe_push (.int 1) 76)),
  (76, .inl (xe_goto 80)),
  (79, .inl (xe_push (.int 0) 80)),
  (80, .inl (xe_istore 4 82)),
  (82, .inl (xe_iload 4 84)),
  (84, .inl (xe_if (fun x => decide (¬ x = 0)) 100 87)),
  (87, .inl (xe_aload 0 88)),
  (88, .inl (xe_push (.int 1) 89)),
  (89, .inr (.inr (.inl (xc_V (xj_1 8 161) [0])))),
  (92, .inl (xe_if (fun x => decide (¬ x = 0)) 100 95)),
  (95, .inl (xe_aload 0 96))]
theorem xq_172_0 {G : xm_G} (hG : xm_W xk_B G) (hO : xm_Og G) : ∀ q ∈ xp_172_0, xm_op xk_B G xd xk_N "LiarsCockModel" "lays" prog_28_method_41_code 5 (some (FieldType.int)) q.1 q.2 :=
  xw_cons (xw_E xn_push (xo_iconst dX9_lays_0 (by decide))) <|
  xw_cons (xw_E xn_istore (xo_istore dX9_lays_1)) <|
  xw_cons (xw_E xn_iload (xo_iload dX9_lays_3)) <|
  xw_cons (xw_E xn_push (xo_iconst dX9_lays_5 (by decide))) <|
  xw_cons (xw_E xn_icmp (xo_icmp_ge dX9_lays_6 (by decide))) <|
  xw_cons (xw_E xn_aload (xo_aload_n dX9_lays_9 rfl)) <|
  xw_cons (xw_E xn_getf (xo_getf hG xg_27_13 dX9_lays_10)) <|
  xw_cons (xw_E xn_push (xo_iconst dX9_lays_13 (by decide))) <|
  xw_cons (xw_E xn_iload (xo_iload dX9_lays_14)) <|
  xw_cons (xw_E xn_ii (xo_iadd dX9_lays_16)) <|
  xw_cons (xw_E xn_aload (xo_aload_n dX9_lays_17 rfl)) <|
  xw_cons (xw_E xn_getf (xo_getf hG xg_27_13 dX9_lays_18)) <|
  xw_cons (xw_E xn_iload (xo_iload dX9_lays_21)) <|
  xw_cons (xw_E xn_ald (xo_iald xk_hB dX9_lays_23)) <|
  xw_cons (xw_E xn_ast (xo_iast hG xk_hB rfl dX9_lays_24)) <|
  xw_cons (xw_E xn_iinc (xo_iinc dX9_lays_25 (by decide))) <|
  xw_cons (xw_E xn_goto (xo_goto dX9_lays_28 (by decide))) <|
  xw_cons (xw_E xn_push (xo_iconst dX9_lays_31 (by decide))) <|
  xw_cons (xw_E xn_istore (xo_istore dX9_lays_32)) <|
  xw_cons (xw_E xn_iload (xo_iload dX9_lays_34)) <|
  xw_cons (xw_E xn_push (xo_bipush dX9_lays_36 (by decide))) <|
  xw_cons (xw_E xn_icmp (xo_icmp_ge dX9_lays_38 (by decide))) <|
  xw_cons (xw_E xn_aload (xo_aload_n dX9_lays_41 rfl)) <|
  xw_cons (xw_E xn_getf (xo_getf hG xg_27_16 dX9_lays_42)) <|
  xw_cons (xw_E xn_push (xo_bipush dX9_lays_45 (by decide))) <|
  xw_cons (xw_E xn_iload (xo_iload dX9_lays_47)) <|
  xw_cons (xw_E xn_ii (xo_iadd dX9_lays_49)) <|
  xw_cons (xw_E xn_aload (xo_aload_n dX9_lays_50 rfl)) <|
  xw_cons (xw_E xn_getf (xo_getf hG xg_27_16 dX9_lays_51)) <|
  xw_cons (xw_E xn_iload (xo_iload dX9_lays_54)) <|
  xw_cons (xw_E xn_ald (xo_lald xk_hB dX9_lays_56)) <|
  xw_cons (xw_E xn_ast (xo_last hG xk_hB rfl dX9_lays_57)) <|
  xw_cons (xw_E xn_iinc (xo_iinc dX9_lays_58 (by decide))) <|
  xw_cons (xw_E xn_goto (xo_goto dX9_lays_61 (by decide))) <|
  xw_cons (xw_E xn_aload (xo_aload_n dX9_lays_64 rfl)) <|
  xw_cons (xl_v_27_309 hG dX9_lays_65) <|
  xw_cons (xw_E xn_aload (xo_aload_n dX9_lays_68 rfl)) <|
  xw_cons (xw_E xn_getf (xo_getf hG xg_27_187 dX9_lays_69)) <|
  xw_cons (xw_E xn_if (xo_if_ne dX9_lays_72 (by decide))) <|
  xw_cons (xw_E xn_push (xo_iconst dX9_lays_75 (by decide))) <|
  xw_cons (xw_E xn_goto (xo_goto dX9_lays_76 (by decide))) <|
  xw_cons (xw_E xn_push (xo_iconst dX9_lays_79 (by decide))) <|
  xw_cons (xw_E xn_istore (xo_istore dX9_lays_80)) <|
  xw_cons (xw_E xn_iload (xo_iload dX9_lays_82)) <|
  xw_cons (xw_E xn_if (xo_if_ne dX9_lays_84 (by decide))) <|
  xw_cons (xw_E xn_aload (xo_aload_n dX9_lays_87 rfl)) <|
  xw_cons (xw_E xn_push (xo_iconst dX9_lays_88 (by decide))) <|
  xw_cons (xl_v_27_284 hG dX9_lays_89) <|
  xw_cons (xw_E xn_if (xo_if_ne dX9_lays_92 (by decide))) <|
  xw_cons (xw_E xn_aload (xo_aload_n dX9_lays_95 rfl)) <|
  xw_nil _
def xp_172_1 : List (Nat × xm_O) := [
  (96, .inl (xe_getf (xj_1 8 9) 99)),
  (99, .inr (.inl xr_i)),
  (100, .inl (xe_aload 0 101)),
  (101, .inl (xe_getf (xj_1 8 45) 104)),
  (104, .inl (xe_iload 1 105)),
  (105, .inl (xe_iload 2 106)),
  (106, .inl (xe_ast 300 0 (xm_kd 0) 107)),
  (107, .inl (xe_aload 0 108)),
  (108, .inl (xe_getf (xj_1 8 46) 111)),
  (111, .inl (xe_iload 1 112)),
  (112, .inl (xe_iload 3 113)),
  (113, .inl (xe_ast 300 0 (xm_kd 0) 114)),
  (114, .inl (xe_aload 0 115)),
  (115, .inl (xe_getf (xj_1 8 48) 118)),
  (118, .inl (xe_iload 1 119)),
  (119, .inl (xe_iload 4 121)),
  (121, .inl (xe_ast 300 2 xm_bit 122)),
  (122, .inl (xe_aload 0 123)),
  (123, .inl (xe_getf (xj_1 8 47) 126)),
  (126, .inl (xe_iload 1 127)),
  (127, .inl (xe_iload 4 129)),
  (129, .inl (xe_if (fun x => decide (x = 0)) 136 132)),
  (132, .inl (xe_push (.long 0) 133)),
  (133, .inl (xe_goto 146)),
  (136, .inl (xe_aload 0 137)),
  (137, .inl (xe_aload 0 138)),
  (138, .inl (xe_getf (xj_1 8 10) 141)),
  (141, .inl (xe_push (.int 0) 142)),
  (142, .inl (xe_ald (fun t => t == 0) 143)),
  (143, .inr (.inr (.inl (xc_V (xj_1 8 163) [0])))),
  (146, .inl (xe_ast 300 1 (xm_kd 1) 147)),
  (147, .inl (xe_push (.int 0) 148)),
  (148, .inr (.inl xr_i))]
theorem xq_172_1 {G : xm_G} (hG : xm_W xk_B G) (hO : xm_Og G) : ∀ q ∈ xp_172_1, xm_op xk_B G xd xk_N "LiarsCockModel" "lays" prog_28_method_41_code 5 (some (FieldType.int)) q.1 q.2 :=
  xw_cons (xw_E xn_getf (xo_getf hG xg_27_198 dX9_lays_96)) <|
  xw_cons (xw_R (xt_i dX9_lays_99)) <|
  xw_cons (xw_E xn_aload (xo_aload_n dX9_lays_100 rfl)) <|
  xw_cons (xw_E xn_getf (xo_getf hG xg_27_96 dX9_lays_101)) <|
  xw_cons (xw_E xn_iload (xo_iload_n dX9_lays_104 rfl)) <|
  xw_cons (xw_E xn_iload (xo_iload_n dX9_lays_105 rfl)) <|
  xw_cons (xw_E xn_ast (xo_iast hG xk_hB rfl dX9_lays_106)) <|
  xw_cons (xw_E xn_aload (xo_aload_n dX9_lays_107 rfl)) <|
  xw_cons (xw_E xn_getf (xo_getf hG xg_27_99 dX9_lays_108)) <|
  xw_cons (xw_E xn_iload (xo_iload_n dX9_lays_111 rfl)) <|
  xw_cons (xw_E xn_iload (xo_iload_n dX9_lays_112 rfl)) <|
  xw_cons (xw_E xn_ast (xo_iast hG xk_hB rfl dX9_lays_113)) <|
  xw_cons (xw_E xn_aload (xo_aload_n dX9_lays_114 rfl)) <|
  xw_cons (xw_E xn_getf (xo_getf hG xg_27_105 dX9_lays_115)) <|
  xw_cons (xw_E xn_iload (xo_iload_n dX9_lays_118 rfl)) <|
  xw_cons (xw_E xn_iload (xo_iload dX9_lays_119)) <|
  xw_cons (xw_E xn_ast (xo_zast hG xk_hB rfl dX9_lays_121)) <|
  xw_cons (xw_E xn_aload (xo_aload_n dX9_lays_122 rfl)) <|
  xw_cons (xw_E xn_getf (xo_getf hG xg_27_102 dX9_lays_123)) <|
  xw_cons (xw_E xn_iload (xo_iload_n dX9_lays_126 rfl)) <|
  xw_cons (xw_E xn_iload (xo_iload dX9_lays_127)) <|
  xw_cons (xw_E xn_if (xo_if_eq dX9_lays_129 (by decide))) <|
  xw_cons (xw_E xn_push (xo_lconst dX9_lays_132 (by decide))) <|
  xw_cons (xw_E xn_goto (xo_goto dX9_lays_133 (by decide))) <|
  xw_cons (xw_E xn_aload (xo_aload_n dX9_lays_136 rfl)) <|
  xw_cons (xw_E xn_aload (xo_aload_n dX9_lays_137 rfl)) <|
  xw_cons (xw_E xn_getf (xo_getf hG xg_27_13 dX9_lays_138)) <|
  xw_cons (xw_E xn_push (xo_iconst dX9_lays_141 (by decide))) <|
  xw_cons (xw_E xn_ald (xo_iald xk_hB dX9_lays_142)) <|
  xw_cons (xl_v_27_288 hG dX9_lays_143) <|
  xw_cons (xw_E xn_ast (xo_last hG xk_hB rfl dX9_lays_146)) <|
  xw_cons (xw_E xn_push (xo_iconst dX9_lays_147 (by decide))) <|
  xw_cons (xw_R (xt_i dX9_lays_148)) <|
  xw_nil _
def xp_172 : List (Nat × xm_O) := xp_172_0 ++ xp_172_1
theorem xq_172 {G : xm_G} (hG : xm_W xk_B G) (hO : xm_Og G) : ∀ q ∈ xp_172, xm_op xk_B G xd xk_N "LiarsCockModel" "lays" prog_28_method_41_code 5 (some (FieldType.int)) q.1 q.2 := xw_app (xq_172_0 hG hO) (xq_172_1 hG hO)
/- 173: LiarsCockModel.offer(II)I -/
def xp_173_0 : List (Nat × xm_O) := [
  (0, .inl (xe_aload 0 1)),
  (1, .inl (xe_push (.int 0) 2)),
  (2, .inl (xe_putf 300 0 (xj_1 8 0) 5)),
  (5, .inl (xe_aload 0 6)),
  (6, .inl (xe_iload 1 7)),
  (7, .inr (.inr (.inl (xc_V (xj_1 8 170) [0])))),
  (10, .inl (xe_if (fun x => decide (x = 0)) 29 13)),
  (13, .inl (xe_iload 2 14)),
  (14, .inr (.inr (.inl (xc_S 171 [0])))),
  (17, .inl (xe_if (fun x => decide (x = 0)) 29 20)),
  (20, .inl (xe_aload 0 21)),
  (21, .inl (xe_getf (xj_1 8 41) 24)),
  (24, .inl (xe_push (.int 6) 26)),
  (26, .inl (xe_icmp (fun x y => decide (¬ x = y)) 36 29)),
  (29, .inl (xe_aload 0 30)),
  (30, .inl (xe_push (.int 0) 31)),
  (31, .inl (xe_putf 300 0 (xj_1 8 1) 34)),
  (34, .inl (xe_push (.int (-1)) 35)),
  (35, .inr (.inl xr_i)),
  (36, .inl (xe_aload 0 37)),
  (37, .inl (xe_push (.int 24) 39)),
  (39, .inl (xe_aload 0 40)),
  (40, .inl (xe_getf (xj_1 8 41) 43)),
  (43, .inl (xe_ii (fun x y => x + y) 44)),
  (44, .inl (xe_iload 1 45)),
  (45, .inl (xe_iload 2 46)),
  (46, .inr (.inr (.inl (xc_V (xj_1 8 172) [0, 0, 0])))),
  (49, .inl (xe_istore 3 50)),
  (50, .inl (xe_aload 0 51)),
  (51, .inl (xe_dup 52)),
  (52, .inl (xe_getf (xj_1 8 41) 55)),
  (55, .inl (xe_iload 3 56)),
  (56, .inl (xe_if (fun x => decide (¬ x = 0)) 63 59)),
  (59, .inl (xe_push (.int 1) 60)),
  (60, .inl (xe_goto 64)),
  (63, .inl (xe_push (.int 0) 64)),
  (64, .inl (xe_ii (fun x y => x + y) 65)),
  (65, .inl (xe_putf 300 0 (xj_1 8 41) 68)),
  (68, .inl (xe_iload 3 69)),
  (69, .inr (.inl xr_i))]
theorem xq_173_0 {G : xm_G} (hG : xm_W xk_B G) (hO : xm_Og G) : ∀ q ∈ xp_173_0, xm_op xk_B G xd xk_N "LiarsCockModel" "offer" prog_28_method_43_code 4 (some (FieldType.int)) q.1 q.2 :=
  xw_cons (xw_E xn_aload (xo_aload_n dX9_offer_0 rfl)) <|
  xw_cons (xw_E xn_push (xo_iconst dX9_offer_1 (by decide))) <|
  xw_cons (xw_E xn_putf (xo_putf hG rfl xu_27_162 dX9_offer_2)) <|
  xw_cons (xw_E xn_aload (xo_aload_n dX9_offer_5 rfl)) <|
  xw_cons (xw_E xn_iload (xo_iload_n dX9_offer_6 rfl)) <|
  xw_cons (xl_v_27_337 hG dX9_offer_7) <|
  xw_cons (xw_E xn_if (xo_if_eq dX9_offer_10 (by decide))) <|
  xw_cons (xw_E xn_iload (xo_iload_n dX9_offer_13 rfl)) <|
  xw_cons (xl_s_27_340 hG dX9_offer_14) <|
  xw_cons (xw_E xn_if (xo_if_eq dX9_offer_17 (by decide))) <|
  xw_cons (xw_E xn_aload (xo_aload_n dX9_offer_20 rfl)) <|
  xw_cons (xw_E xn_getf (xo_getf hG xg_27_325 dX9_offer_21)) <|
  xw_cons (xw_E xn_push (xo_bipush dX9_offer_24 (by decide))) <|
  xw_cons (xw_E xn_icmp (xo_icmp_ne dX9_offer_26 (by decide))) <|
  xw_cons (xw_E xn_aload (xo_aload_n dX9_offer_29 rfl)) <|
  xw_cons (xw_E xn_push (xo_iconst dX9_offer_30 (by decide))) <|
  xw_cons (xw_E xn_putf (xo_putf hG rfl xu_27_168 dX9_offer_31)) <|
  xw_cons (xw_E xn_push (xo_iconst dX9_offer_34 (by decide))) <|
  xw_cons (xw_R (xt_i dX9_offer_35)) <|
  xw_cons (xw_E xn_aload (xo_aload_n dX9_offer_36 rfl)) <|
  xw_cons (xw_E xn_push (xo_bipush dX9_offer_37 (by decide))) <|
  xw_cons (xw_E xn_aload (xo_aload_n dX9_offer_39 rfl)) <|
  xw_cons (xw_E xn_getf (xo_getf hG xg_27_325 dX9_offer_40)) <|
  xw_cons (xw_E xn_ii (xo_iadd dX9_offer_43)) <|
  xw_cons (xw_E xn_iload (xo_iload_n dX9_offer_44 rfl)) <|
  xw_cons (xw_E xn_iload (xo_iload_n dX9_offer_45 rfl)) <|
  xw_cons (xl_v_27_343 hG dX9_offer_46) <|
  xw_cons (xw_E xn_istore (xo_istore_n dX9_offer_49 rfl)) <|
  xw_cons (xw_E xn_aload (xo_aload_n dX9_offer_50 rfl)) <|
  xw_cons (xw_E xn_dup (xo_dup dX9_offer_51)) <|
  xw_cons (xw_E xn_getf (xo_getf hG xg_27_325 dX9_offer_52)) <|
  xw_cons (xw_E xn_iload (xo_iload_n dX9_offer_55 rfl)) <|
  xw_cons (xw_E xn_if (xo_if_ne dX9_offer_56 (by decide))) <|
  xw_cons (xw_E xn_push (xo_iconst dX9_offer_59 (by decide))) <|
  xw_cons (xw_E xn_goto (xo_goto dX9_offer_60 (by decide))) <|
  xw_cons (xw_E xn_push (xo_iconst dX9_offer_63 (by decide))) <|
  xw_cons (xw_E xn_ii (xo_iadd dX9_offer_64)) <|
  xw_cons (xw_E xn_putf (xo_putf hG rfl xu_27_325 dX9_offer_65)) <|
  xw_cons (xw_E xn_iload (xo_iload_n dX9_offer_68 rfl)) <|
  xw_cons (xw_R (xt_i dX9_offer_69)) <|
  xw_nil _
def xp_173 : List (Nat × xm_O) := xp_173_0
theorem xq_173 {G : xm_G} (hG : xm_W xk_B G) (hO : xm_Og G) : ∀ q ∈ xp_173, xm_op xk_B G xd xk_N "LiarsCockModel" "offer" prog_28_method_43_code 4 (some (FieldType.int)) q.1 q.2 := xq_173_0 hG hO
/- 174: LiarsCockModel.truth(I)Z -/
def xp_174_0 : List (Nat × xm_O) := [
  (0, .inl (xe_aload 0 1)),
  (1, .inl (xe_push (.int 0) 2)),
  (2, .inl (xe_putf 300 0 (xj_1 8 0) 5)),
  (5, .inl (xe_aload 0 6)),
  (6, .inl (xe_iload 1 7)),
  (7, .inr (.inr (.inl (xc_V (xj_1 8 175) [0])))),
  (10, .inl (xe_if (fun x => decide (¬ x = 0)) 15 13)),
  (13, .inl (xe_push (.int 0) 14)),
  (14, .inr (.inl xr_z)),
  (15, .inl (xe_aload 0 16)),
  (16, .inl (xe_iload 1 17)),
  (17, .inl (xe_putf 300 0 (xj_1 8 44) 20)),
  (20, .inl (xe_push (.int 1) 21)),
  (21, .inr (.inl xr_z))]
theorem xq_174_0 {G : xm_G} (hG : xm_W xk_B G) (hO : xm_Og G) : ∀ q ∈ xp_174_0, xm_op xk_B G xd xk_N "LiarsCockModel" "truth" prog_28_method_44_code 2 (some (FieldType.boolean)) q.1 q.2 :=
  xw_cons (xw_E xn_aload (xo_aload_n dX9_truth_0 rfl)) <|
  xw_cons (xw_E xn_push (xo_iconst dX9_truth_1 (by decide))) <|
  xw_cons (xw_E xn_putf (xo_putf hG rfl xu_27_162 dX9_truth_2)) <|
  xw_cons (xw_E xn_aload (xo_aload_n dX9_truth_5 rfl)) <|
  xw_cons (xw_E xn_iload (xo_iload_n dX9_truth_6 rfl)) <|
  xw_cons (xl_v_27_347 hG dX9_truth_7) <|
  xw_cons (xw_E xn_if (xo_if_ne dX9_truth_10 (by decide))) <|
  xw_cons (xw_E xn_push (xo_iconst dX9_truth_13 (by decide))) <|
  xw_cons (xw_R (xt_z dX9_truth_14)) <|
  xw_cons (xw_E xn_aload (xo_aload_n dX9_truth_15 rfl)) <|
  xw_cons (xw_E xn_iload (xo_iload_n dX9_truth_16 rfl)) <|
  xw_cons (xw_E xn_putf (xo_putf hG rfl xu_27_334 dX9_truth_17)) <|
  xw_cons (xw_E xn_push (xo_iconst dX9_truth_20 (by decide))) <|
  xw_cons (xw_R (xt_z dX9_truth_21)) <|
  xw_nil _
def xp_174 : List (Nat × xm_O) := xp_174_0
theorem xq_174 {G : xm_G} (hG : xm_W xk_B G) (hO : xm_Og G) : ∀ q ∈ xp_174, xm_op xk_B G xd xk_N "LiarsCockModel" "truth" prog_28_method_44_code 2 (some (FieldType.boolean)) q.1 q.2 := xq_174_0 hG hO
/- 175: LiarsCockModel.isWorld(I)Z -/
def xp_175_0 : List (Nat × xm_O) := [
  (0, .inl (xe_iload 1 1)),
  (1, .inl (xe_if (fun x => decide (x < 0)) 20 4)),
  (4, .inl (xe_iload 1 5)),
  (5, .inl (xe_push (.int 1) 6)),
  (6, .inl (xe_aload 0 7)),
  (7, .inl (xe_getf (xj_1 8 10) 10)),
  (10, .inl (xe_push (.int 0) 11)),
  (11, .inl (xe_ald (fun t => t == 0) 12)),
  (12, .inl (xe_ii (fun x y => x <<< (y &&& 31)) 13)),
  (13, .inl (xe_icmp (fun x y => decide (y ≤ x)) 20 16)),
  (16, .inl (xe_push (.int 1) 17)),
  (17, .inl (xe_goto 21)),
  (20, .inl (xe_push (.int 0) 21)),
  (21, .inr (.inl xr_z))]
theorem xq_175_0 {G : xm_G} (hG : xm_W xk_B G) (hO : xm_Og G) : ∀ q ∈ xp_175_0, xm_op xk_B G xd xk_N "LiarsCockModel" "isWorld" prog_28_method_38_code 2 (some (FieldType.boolean)) q.1 q.2 :=
  xw_cons (xw_E xn_iload (xo_iload_n dX9_isWorld_0 rfl)) <|
  xw_cons (xw_E xn_if (xo_if_lt dX9_isWorld_1 (by decide))) <|
  xw_cons (xw_E xn_iload (xo_iload_n dX9_isWorld_4 rfl)) <|
  xw_cons (xw_E xn_push (xo_iconst dX9_isWorld_5 (by decide))) <|
  xw_cons (xw_E xn_aload (xo_aload_n dX9_isWorld_6 rfl)) <|
  xw_cons (xw_E xn_getf (xo_getf hG xg_27_13 dX9_isWorld_7)) <|
  xw_cons (xw_E xn_push (xo_iconst dX9_isWorld_10 (by decide))) <|
  xw_cons (xw_E xn_ald (xo_iald xk_hB dX9_isWorld_11)) <|
  xw_cons (xw_E xn_ii (xo_ishl dX9_isWorld_12)) <|
  xw_cons (xw_E xn_icmp (xo_icmp_ge dX9_isWorld_13 (by decide))) <|
  xw_cons (xw_E xn_push (xo_iconst dX9_isWorld_16 (by decide))) <|
  xw_cons (xw_E xn_goto (xo_goto dX9_isWorld_17 (by decide))) <|
  xw_cons (xw_E xn_push (xo_iconst dX9_isWorld_20 (by decide))) <|
  xw_cons (xw_R (xt_z dX9_isWorld_21)) <|
  xw_nil _
def xp_175 : List (Nat × xm_O) := xp_175_0
theorem xq_175 {G : xm_G} (hG : xm_W xk_B G) (hO : xm_Og G) : ∀ q ∈ xp_175, xm_op xk_B G xd xk_N "LiarsCockModel" "isWorld" prog_28_method_38_code 2 (some (FieldType.boolean)) q.1 q.2 := xq_175_0 hG hO
/- 176: LiarsCockModel.lie(II)I -/
def xp_176_0 : List (Nat × xm_O) := [
  (0, .inl (xe_aload 0 1)),
  (1, .inl (xe_push (.int 0) 2)),
  (2, .inl (xe_putf 300 0 (xj_1 8 0) 5)),
  (5, .inl (xe_iload 1 6)),
  (6, .inl (xe_if (fun x => decide (x < 0)) 25 9)),
  (9, .inl (xe_iload 1 10)),
  (10, .inl (xe_aload 0 11)),
  (11, .inl (xe_getf (xj_1 8 40) 14)),
  (14, .inl (xe_icmp (fun x y => decide (y ≤ x)) 25 17)),
  (17, .inl (xe_aload 0 18)),
  (18, .inl (xe_iload 2 19)),
  (19, .inr (.inr (.inl (xc_V (xj_1 8 175) [0])))),
  (22, .inl (xe_if (fun x => decide (¬ x = 0)) 27 25)),
  (25, .inl (xe_push (.int (-1)) 26)),
  (26, .inr (.inl xr_i)),
  (27, .inl (xe_aload 0 28)),
  (28, .inl (xe_getf (xj_1 8 47) 31)),
  (31, .inl (xe_iload 1 32)),
  (32, .inl (xe_ald (fun t => t == 1) 33)),
  (33, .inl (xe_iload 2 34)),
  (34, .inr (.inr (.inl (xc_S 177 [0, 1])))),
  (37, .inl (xe_if (fun x => decide (x = 0)) 44 40)),
  (40, .inl (xe_push (.int 1) 41)),
  (41, .inl (xe_goto 45)),
  (44, .inl (xe_push (.int 0) 45)),
  (45, .inl (xe_aload 0 46)),
  (46, .inl (xe_iload 1 47)),
  (47, .inl (xe_push (.int 0) 48)),
  (48, .inl (xe_iload 2 49)),
  (49, .inr (.inr (.inl (xc_V (xj_1 8 178) [0, 0, 0])))),
  (52, .inl (xe_if (fun x => decide (x = 0)) 59 55)),
  (55, .inl (xe_push (.int 2) 56)),
  (56, .inl (xe_goto 60)),
  (59, .inl (xe_push (.int 0) 60)),
  (60, .inl (xe_ii (fun x y => x + y) 61)),
  (61, .inl (xe_aload 0 62)),
  (62, .inl (xe_iload 1 63)),
  (63, .inl (xe_push (.int 1) 64)),
  (64, .inl (xe_iload 2 65)),
  (65, .inr (.inr (.inl (xc_V (xj_1 8 178) [0, 0, 0])))),
  (68, .inl (xe_if (fun x => decide (x = 0)) 75 71)),
  (71, .inl (xe_push (.int 4) 72)),
  (72, .inl (xe_goto 76)),
  (75, .inl (xe_push (.int 0) 76)),
  (76, .inl (xe_ii (fun x y => x + y) 77)),
  (77, .inr (.inl xr_i))]
theorem xq_176_0 {G : xm_G} (hG : xm_W xk_B G) (hO : xm_Og G) : ∀ q ∈ xp_176_0, xm_op xk_B G xd xk_N "LiarsCockModel" "lie" prog_28_method_47_code 3 (some (FieldType.int)) q.1 q.2 :=
  xw_cons (xw_E xn_aload (xo_aload_n dX9_lie_0 rfl)) <|
  xw_cons (xw_E xn_push (xo_iconst dX9_lie_1 (by decide))) <|
  xw_cons (xw_E xn_putf (xo_putf hG rfl xu_27_162 dX9_lie_2)) <|
  xw_cons (xw_E xn_iload (xo_iload_n dX9_lie_5 rfl)) <|
  xw_cons (xw_E xn_if (xo_if_lt dX9_lie_6 (by decide))) <|
  xw_cons (xw_E xn_iload (xo_iload_n dX9_lie_9 rfl)) <|
  xw_cons (xw_E xn_aload (xo_aload_n dX9_lie_10 rfl)) <|
  xw_cons (xw_E xn_getf (xo_getf hG xg_27_322 dX9_lie_11)) <|
  xw_cons (xw_E xn_icmp (xo_icmp_ge dX9_lie_14 (by decide))) <|
  xw_cons (xw_E xn_aload (xo_aload_n dX9_lie_17 rfl)) <|
  xw_cons (xw_E xn_iload (xo_iload_n dX9_lie_18 rfl)) <|
  xw_cons (xl_v_27_347 hG dX9_lie_19) <|
  xw_cons (xw_E xn_if (xo_if_ne dX9_lie_22 (by decide))) <|
  xw_cons (xw_E xn_push (xo_iconst dX9_lie_25 (by decide))) <|
  xw_cons (xw_R (xt_i dX9_lie_26)) <|
  xw_cons (xw_E xn_aload (xo_aload_n dX9_lie_27 rfl)) <|
  xw_cons (xw_E xn_getf (xo_getf hG xg_27_102 dX9_lie_28)) <|
  xw_cons (xw_E xn_iload (xo_iload_n dX9_lie_31 rfl)) <|
  xw_cons (xw_E xn_ald (xo_lald xk_hB dX9_lie_32)) <|
  xw_cons (xw_E xn_iload (xo_iload_n dX9_lie_33 rfl)) <|
  xw_cons (xl_s_27_350 hG dX9_lie_34) <|
  xw_cons (xw_E xn_if (xo_if_eq dX9_lie_37 (by decide))) <|
  xw_cons (xw_E xn_push (xo_iconst dX9_lie_40 (by decide))) <|
  xw_cons (xw_E xn_goto (xo_goto dX9_lie_41 (by decide))) <|
  xw_cons (xw_E xn_push (xo_iconst dX9_lie_44 (by decide))) <|
  xw_cons (xw_E xn_aload (xo_aload_n dX9_lie_45 rfl)) <|
  xw_cons (xw_E xn_iload (xo_iload_n dX9_lie_46 rfl)) <|
  xw_cons (xw_E xn_push (xo_iconst dX9_lie_47 (by decide))) <|
  xw_cons (xw_E xn_iload (xo_iload_n dX9_lie_48 rfl)) <|
  xw_cons (xl_v_27_358 hG dX9_lie_49) <|
  xw_cons (xw_E xn_if (xo_if_eq dX9_lie_52 (by decide))) <|
  xw_cons (xw_E xn_push (xo_iconst dX9_lie_55 (by decide))) <|
  xw_cons (xw_E xn_goto (xo_goto dX9_lie_56 (by decide))) <|
  xw_cons (xw_E xn_push (xo_iconst dX9_lie_59 (by decide))) <|
  xw_cons (xw_E xn_ii (xo_iadd dX9_lie_60)) <|
  xw_cons (xw_E xn_aload (xo_aload_n dX9_lie_61 rfl)) <|
  xw_cons (xw_E xn_iload (xo_iload_n dX9_lie_62 rfl)) <|
  xw_cons (xw_E xn_push (xo_iconst dX9_lie_63 (by decide))) <|
  xw_cons (xw_E xn_iload (xo_iload_n dX9_lie_64 rfl)) <|
  xw_cons (xl_v_27_358 hG dX9_lie_65) <|
  xw_cons (xw_E xn_if (xo_if_eq dX9_lie_68 (by decide))) <|
  xw_cons (xw_E xn_push (xo_iconst dX9_lie_71 (by decide))) <|
  xw_cons (xw_E xn_goto (xo_goto dX9_lie_72 (by decide))) <|
  xw_cons (xw_E xn_push (xo_iconst dX9_lie_75 (by decide))) <|
  xw_cons (xw_E xn_ii (xo_iadd dX9_lie_76)) <|
  xw_cons (xw_R (xt_i dX9_lie_77)) <|
  xw_nil _
def xp_176 : List (Nat × xm_O) := xp_176_0
theorem xq_176 {G : xm_G} (hG : xm_W xk_B G) (hO : xm_Og G) : ∀ q ∈ xp_176, xm_op xk_B G xd xk_N "LiarsCockModel" "lie" prog_28_method_47_code 3 (some (FieldType.int)) q.1 q.2 := xq_176_0 hG hO
/- 177: LiarsCockModel.isIn(JI)Z -/
def xp_177_0 : List (Nat × xm_O) := [
  (0, .inl (xe_lload 0 1)),
  (1, .inl (xe_iload 2 2)),
  (2, .inl (xe_li (fun x y => x >>> (y.toInt64 &&& 63)) 3)),
  (3, .inl (xe_push (.long 1) 4)),
  (4, .inl (xe_ll (fun x y => x &&& y) 5)),
  (5, .inl (xe_push (.long 1) 6)),
  (6, .inl (xe_lcmp 7)),
  (7, .inl (xe_if (fun x => decide (¬ x = 0)) 14 10)),
  (10, .inl (xe_push (.int 1) 11)),
  (11, .inl (xe_goto 15)),
  (14, .inl (xe_push (.int 0) 15)),
  (15, .inr (.inl xr_z))]
theorem xq_177_0 {G : xm_G} (hG : xm_W xk_B G) (hO : xm_Og G) : ∀ q ∈ xp_177_0, xm_op xk_B G xd xk_N "LiarsCockModel" "isIn" prog_28_method_5_code 3 (some (FieldType.boolean)) q.1 q.2 :=
  xw_cons (xw_E xn_lload (xo_lload_n dX9_isIn_0 rfl)) <|
  xw_cons (xw_E xn_iload (xo_iload_n dX9_isIn_1 rfl)) <|
  xw_cons (xw_E xn_li (xo_lshr dX9_isIn_2)) <|
  xw_cons (xw_E xn_push (xo_lconst dX9_isIn_3 (by decide))) <|
  xw_cons (xw_E xn_ll (xo_land dX9_isIn_4)) <|
  xw_cons (xw_E xn_push (xo_lconst dX9_isIn_5 (by decide))) <|
  xw_cons (xw_E xn_lcmp (xo_lcmp dX9_isIn_6)) <|
  xw_cons (xw_E xn_if (xo_if_ne dX9_isIn_7 (by decide))) <|
  xw_cons (xw_E xn_push (xo_iconst dX9_isIn_10 (by decide))) <|
  xw_cons (xw_E xn_goto (xo_goto dX9_isIn_11 (by decide))) <|
  xw_cons (xw_E xn_push (xo_iconst dX9_isIn_14 (by decide))) <|
  xw_cons (xw_R (xt_z dX9_isIn_15)) <|
  xw_nil _
def xp_177 : List (Nat × xm_O) := xp_177_0
theorem xq_177 {G : xm_G} (hG : xm_W xk_B G) (hO : xm_Og G) : ∀ q ∈ xp_177, xm_op xk_B G xd xk_N "LiarsCockModel" "isIn" prog_28_method_5_code 3 (some (FieldType.boolean)) q.1 q.2 := xq_177_0 hG hO
/- 178: LiarsCockModel.isLie(III)Z -/
def xp_178_0 : List (Nat × xm_O) := [
  (0, .inl (xe_aload 0 1)),
  (1, .inl (xe_getf (xj_1 8 48) 4)),
  (4, .inl (xe_iload 1 5)),
  (5, .inl (xe_ald (fun t => t == 2 || t == 3) 6)),
  (6, .inl (xe_if (fun x => decide (x = 0)) 11 9)),
  (9, .inl (xe_push (.int 0) 10)),
  (10, .inr (.inl xr_z)),
  (11, .inl (xe_iload 2 12)),
  (12, .inl (xe_if (fun x => decide (¬ x = 0)) 34 15)),
  (15, .inl (xe_aload 0 16)),
  (16, .inl (xe_getf (xj_1 8 47) 19)),
  (19, .inl (xe_iload 1 20)),
  (20, .inl (xe_ald (fun t => t == 1) 21)),
  (21, .inl (xe_iload 3 22)),
  (22, .inr (.inr (.inl (xc_S 177 [0, 1])))),
  (25, .inl (xe_if (fun x => decide (¬ x = 0)) 32 28)),
  (28, .inl (xe_push (.int 1) 29)),
  (29, .inl (xe_goto 33)),
  (32, .inl (xe_push (.int 0) 33)),
  (33, .inr (.inl xr_z)),
  (34, .inl (xe_aload 0 35)),
  (35, .inl (xe_getf (xj_1 8 47) 38)),
  (38, .inl (xe_iload 1 39)),
  (39, .inl (xe_ald (fun t => t == 1) 40)),
  (40, .inl (xe_aload 0 41)),
  (41, .inl (xe_aload 0 42)),
  (42, .inl (xe_getf (xj_1 8 15) 45)),
  (45, .inl (xe_aload 0 46)),
  (46, .inl (xe_getf (xj_1 8 45) 49)),
  (49, .inl (xe_iload 1 50)),
  (50, .inl (xe_ald (fun t => t == 0) 51)),
  (51, .inl (xe_ald (fun t => t == 0) 52)),
  (52, .inl (xe_iload 3 53)),
  (53, .inr (.inr (.inl (xc_V (xj_1 8 179) [0, 0])))),
  (56, .inl (xe_ll (fun x y => x &&& y) 57)),
  (57, .inl (xe_push (.long 0) 58)),
  (58, .inl (xe_lcmp 59)),
  (59, .inl (xe_if (fun x => decide (¬ x = 0)) 66 62)),
  (62, .inl (xe_push (.int 1) 63)),
  (63, .inl (xe_goto 67)),
  (66, .inl (xe_push (.int 0) 67)),
  (67, .inr (.inl xr_z))]
theorem xq_178_0 {G : xm_G} (hG : xm_W xk_B G) (hO : xm_Og G) : ∀ q ∈ xp_178_0, xm_op xk_B G xd xk_N "LiarsCockModel" "isLie" prog_28_method_46_code 4 (some (FieldType.boolean)) q.1 q.2 :=
  xw_cons (xw_E xn_aload (xo_aload_n dX9_isLie_0 rfl)) <|
  xw_cons (xw_E xn_getf (xo_getf hG xg_27_105 dX9_isLie_1)) <|
  xw_cons (xw_E xn_iload (xo_iload_n dX9_isLie_4 rfl)) <|
  xw_cons (xw_E xn_ald (xo_bald xk_hB dX9_isLie_5)) <|
  xw_cons (xw_E xn_if (xo_if_eq dX9_isLie_6 (by decide))) <|
  xw_cons (xw_E xn_push (xo_iconst dX9_isLie_9 (by decide))) <|
  xw_cons (xw_R (xt_z dX9_isLie_10)) <|
  xw_cons (xw_E xn_iload (xo_iload_n dX9_isLie_11 rfl)) <|
  xw_cons (xw_E xn_if (xo_if_ne dX9_isLie_12 (by decide))) <|
  xw_cons (xw_E xn_aload (xo_aload_n dX9_isLie_15 rfl)) <|
  xw_cons (xw_E xn_getf (xo_getf hG xg_27_102 dX9_isLie_16)) <|
  xw_cons (xw_E xn_iload (xo_iload_n dX9_isLie_19 rfl)) <|
  xw_cons (xw_E xn_ald (xo_lald xk_hB dX9_isLie_20)) <|
  xw_cons (xw_E xn_iload (xo_iload_n dX9_isLie_21 rfl)) <|
  xw_cons (xl_s_27_350 hG dX9_isLie_22) <|
  xw_cons (xw_E xn_if (xo_if_ne dX9_isLie_25 (by decide))) <|
  xw_cons (xw_E xn_push (xo_iconst dX9_isLie_28 (by decide))) <|
  xw_cons (xw_E xn_goto (xo_goto dX9_isLie_29 (by decide))) <|
  xw_cons (xw_E xn_push (xo_iconst dX9_isLie_32 (by decide))) <|
  xw_cons (xw_R (xt_z dX9_isLie_33)) <|
  xw_cons (xw_E xn_aload (xo_aload_n dX9_isLie_34 rfl)) <|
  xw_cons (xw_E xn_getf (xo_getf hG xg_27_102 dX9_isLie_35)) <|
  xw_cons (xw_E xn_iload (xo_iload_n dX9_isLie_38 rfl)) <|
  xw_cons (xw_E xn_ald (xo_lald xk_hB dX9_isLie_39)) <|
  xw_cons (xw_E xn_aload (xo_aload_n dX9_isLie_40 rfl)) <|
  xw_cons (xw_E xn_aload (xo_aload_n dX9_isLie_41 rfl)) <|
  xw_cons (xw_E xn_getf (xo_getf hG xg_27_29 dX9_isLie_42)) <|
  xw_cons (xw_E xn_aload (xo_aload_n dX9_isLie_45 rfl)) <|
  xw_cons (xw_E xn_getf (xo_getf hG xg_27_96 dX9_isLie_46)) <|
  xw_cons (xw_E xn_iload (xo_iload_n dX9_isLie_49 rfl)) <|
  xw_cons (xw_E xn_ald (xo_iald xk_hB dX9_isLie_50)) <|
  xw_cons (xw_E xn_ald (xo_iald xk_hB dX9_isLie_51)) <|
  xw_cons (xw_E xn_iload (xo_iload_n dX9_isLie_52 rfl)) <|
  xw_cons (xl_v_27_354 hG dX9_isLie_53) <|
  xw_cons (xw_E xn_ll (xo_land dX9_isLie_56)) <|
  xw_cons (xw_E xn_push (xo_lconst dX9_isLie_57 (by decide))) <|
  xw_cons (xw_E xn_lcmp (xo_lcmp dX9_isLie_58)) <|
  xw_cons (xw_E xn_if (xo_if_ne dX9_isLie_59 (by decide))) <|
  xw_cons (xw_E xn_push (xo_iconst dX9_isLie_62 (by decide))) <|
  xw_cons (xw_E xn_goto (xo_goto dX9_isLie_63 (by decide))) <|
  xw_cons (xw_E xn_push (xo_iconst dX9_isLie_66 (by decide))) <|
  xw_cons (xw_R (xt_z dX9_isLie_67)) <|
  xw_nil _
def xp_178 : List (Nat × xm_O) := xp_178_0
theorem xq_178 {G : xm_G} (hG : xm_W xk_B G) (hO : xm_Og G) : ∀ q ∈ xp_178, xm_op xk_B G xd xk_N "LiarsCockModel" "isLie" prog_28_method_46_code 4 (some (FieldType.boolean)) q.1 q.2 := xq_178_0 hG hO
/- 179: LiarsCockModel.likeFor(II)J -/
def xp_179_0 : List (Nat × xm_O) := [
  (0, .inl (xe_push (.long 0) 1)),
  (1, .inl (xe_lstore 3 2)),
  (2, .inl (xe_push (.int 0) 3)),
  (3, .inl (xe_istore 5 5)),
  (5, .inl (xe_iload 5 7)),
  (7, .inl (xe_push (.int 1) 8)),
  (8, .inl (xe_aload 0 9)),
  (9, .inl (xe_getf (xj_1 8 10) 12)),
  (12, .inl (xe_push (.int 0) 13)),
  (13, .inl (xe_ald (fun t => t == 0) 14)),
  (14, .inl (xe_ii (fun x y => x <<< (y &&& 31)) 15)),
  (15, .inl (xe_icmp (fun x y => decide (y ≤ x)) 54 18)),
  (18, .inl (xe_aload 0 19)),
  (19, .inl (xe_getf (xj_1 8 19) 22)),
  (22, .inl (xe_push (.int 0) 23)),
  (23, .inl (xe_ald (fun t => t == 1) 24)),
  (24, .inl (xe_iload 5 26)),
  (26, .inr (.inr (.inl (xc_S 177 [0, 1])))),
  (29, .inl (xe_if (fun x => decide (x = 0)) 48 32)),
  (32, .inl (xe_iload 5 34)),
  (34, .inl (xe_iload 2 35)),
  (35, .inl (xe_ii (fun x y => x ^^^ y) 36)),
  (36, .inl (xe_iload 1 37)),
  (37, .inl (xe_ii (fun x y => x &&& y) 38)),
  (38, .inl (xe_if (fun x => decide (¬ x = 0)) 48 41)),
  (41, .inl (xe_lload 3 42)),
  (42, .inl (xe_push (.long 1) 43)),
  (43, .inl (xe_iload 5 45)),
  (45, .inl (xe_li (fun x y => x <<< (y.toInt64 &&& 63)) 46)),
  (46, .inl (xe_ll (fun x y => x ||| y) 47)),
  (47, .inl (xe_lstore 3 48)),
  (48, .inl (xe_iinc 5 1 51)),
  (51, .inl (xe_goto 5)),
  (54, .inl (xe_lload 3 55)),
  (55, .inr (.inl xr_l))]
theorem xq_179_0 {G : xm_G} (hG : xm_W xk_B G) (hO : xm_Og G) : ∀ q ∈ xp_179_0, xm_op xk_B G xd xk_N "LiarsCockModel" "likeFor" prog_28_method_45_code 6 (some (FieldType.long)) q.1 q.2 :=
  xw_cons (xw_E xn_push (xo_lconst dX9_likeFor_0 (by decide))) <|
  xw_cons (xw_E xn_lstore (xo_lstore_n dX9_likeFor_1 rfl)) <|
  xw_cons (xw_E xn_push (xo_iconst dX9_likeFor_2 (by decide))) <|
  xw_cons (xw_E xn_istore (xo_istore dX9_likeFor_3)) <|
  xw_cons (xw_E xn_iload (xo_iload dX9_likeFor_5)) <|
  xw_cons (xw_E xn_push (xo_iconst dX9_likeFor_7 (by decide))) <|
  xw_cons (xw_E xn_aload (xo_aload_n dX9_likeFor_8 rfl)) <|
  xw_cons (xw_E xn_getf (xo_getf hG xg_27_13 dX9_likeFor_9)) <|
  xw_cons (xw_E xn_push (xo_iconst dX9_likeFor_12 (by decide))) <|
  xw_cons (xw_E xn_ald (xo_iald xk_hB dX9_likeFor_13)) <|
  xw_cons (xw_E xn_ii (xo_ishl dX9_likeFor_14)) <|
  xw_cons (xw_E xn_icmp (xo_icmp_ge dX9_likeFor_15 (by decide))) <|
  xw_cons (xw_E xn_aload (xo_aload_n dX9_likeFor_18 rfl)) <|
  xw_cons (xw_E xn_getf (xo_getf hG xg_27_42 dX9_likeFor_19)) <|
  xw_cons (xw_E xn_push (xo_iconst dX9_likeFor_22 (by decide))) <|
  xw_cons (xw_E xn_ald (xo_lald xk_hB dX9_likeFor_23)) <|
  xw_cons (xw_E xn_iload (xo_iload dX9_likeFor_24)) <|
  xw_cons (xl_s_27_350 hG dX9_likeFor_26) <|
  xw_cons (xw_E xn_if (xo_if_eq dX9_likeFor_29 (by decide))) <|
  xw_cons (xw_E xn_iload (xo_iload dX9_likeFor_32)) <|
  xw_cons (xw_E xn_iload (xo_iload_n dX9_likeFor_34 rfl)) <|
  xw_cons (xw_E xn_ii (xo_ixor dX9_likeFor_35)) <|
  xw_cons (xw_E xn_iload (xo_iload_n dX9_likeFor_36 rfl)) <|
  xw_cons (xw_E xn_ii (xo_iand dX9_likeFor_37)) <|
  xw_cons (xw_E xn_if (xo_if_ne dX9_likeFor_38 (by decide))) <|
  xw_cons (xw_E xn_lload (xo_lload_n dX9_likeFor_41 rfl)) <|
  xw_cons (xw_E xn_push (xo_lconst dX9_likeFor_42 (by decide))) <|
  xw_cons (xw_E xn_iload (xo_iload dX9_likeFor_43)) <|
  xw_cons (xw_E xn_li (xo_lshl dX9_likeFor_45)) <|
  xw_cons (xw_E xn_ll (xo_lor dX9_likeFor_46)) <|
  xw_cons (xw_E xn_lstore (xo_lstore_n dX9_likeFor_47 rfl)) <|
  xw_cons (xw_E xn_iinc (xo_iinc dX9_likeFor_48 (by decide))) <|
  xw_cons (xw_E xn_goto (xo_goto dX9_likeFor_51 (by decide))) <|
  xw_cons (xw_E xn_lload (xo_lload_n dX9_likeFor_54 rfl)) <|
  xw_cons (xw_R (xt_l dX9_likeFor_55)) <|
  xw_nil _
def xp_179 : List (Nat × xm_O) := xp_179_0
theorem xq_179 {G : xm_G} (hG : xm_W xk_B G) (hO : xm_Og G) : ∀ q ∈ xp_179, xm_op xk_B G xd xk_N "LiarsCockModel" "likeFor" prog_28_method_45_code 6 (some (FieldType.long)) q.1 q.2 := xq_179_0 hG hO
/- 180: LiarsCockModel.points(III)I -/
def xp_180_0 : List (Nat × xm_O) := [
  (0, .inl (xe_aload 0 1)),
  (1, .inl (xe_push (.int 0) 2)),
  (2, .inl (xe_putf 300 0 (xj_1 8 0) 5)),
  (5, .inl (xe_aload 0 6)),
  (6, .inl (xe_iload 1 7)),
  (7, .inr (.inr (.inl (xc_V (xj_1 8 181) [0])))),
  (10, .inl (xe_if (fun x => decide (x = 0)) 28 13)),
  (13, .inl (xe_iload 2 14)),
  (14, .inr (.inr (.inl (xc_S 171 [0])))),
  (17, .inl (xe_if (fun x => decide (x = 0)) 28 20)),
  (20, .inl (xe_aload 0 21)),
  (21, .inl (xe_iload 3 22)),
  (22, .inr (.inr (.inl (xc_V (xj_1 8 175) [0])))),
  (25, .inl (xe_if (fun x => decide (¬ x = 0)) 30 28)),
  (28, .inl (xe_push (.int (-1)) 29)),
  (29, .inr (.inl xr_i)),
  (30, .inl (xe_aload 0 31)),
  (31, .inl (xe_push (.int 0) 32)),
  (32, .inr (.inr (.inl (xc_V (xj_1 8 182) [0])))),
  (35, .inl (xe_aload 0 36)),
  (36, .inl (xe_iload 1 37)),
  (37, .inl (xe_iload 2 38)),
  (38, .inl (xe_iload 3 39)),
  (39, .inr (.inr (.inl (xc_V (xj_1 8 184) [0, 0, 0])))),
  (42, .inr (.inl xr_i))]
theorem xq_180_0 {G : xm_G} (hG : xm_W xk_B G) (hO : xm_Og G) : ∀ q ∈ xp_180_0, xm_op xk_B G xd xk_N "LiarsCockModel" "points" prog_28_method_52_code 4 (some (FieldType.int)) q.1 q.2 :=
  xw_cons (xw_E xn_aload (xo_aload_n dX9_points_0 rfl)) <|
  xw_cons (xw_E xn_push (xo_iconst dX9_points_1 (by decide))) <|
  xw_cons (xw_E xn_putf (xo_putf hG rfl xu_27_162 dX9_points_2)) <|
  xw_cons (xw_E xn_aload (xo_aload_n dX9_points_5 rfl)) <|
  xw_cons (xw_E xn_iload (xo_iload_n dX9_points_6 rfl)) <|
  xw_cons (xl_v_27_371 hG dX9_points_7) <|
  xw_cons (xw_E xn_if (xo_if_eq dX9_points_10 (by decide))) <|
  xw_cons (xw_E xn_iload (xo_iload_n dX9_points_13 rfl)) <|
  xw_cons (xl_s_27_340 hG dX9_points_14) <|
  xw_cons (xw_E xn_if (xo_if_eq dX9_points_17 (by decide))) <|
  xw_cons (xw_E xn_aload (xo_aload_n dX9_points_20 rfl)) <|
  xw_cons (xw_E xn_iload (xo_iload_n dX9_points_21 rfl)) <|
  xw_cons (xl_v_27_347 hG dX9_points_22) <|
  xw_cons (xw_E xn_if (xo_if_ne dX9_points_25 (by decide))) <|
  xw_cons (xw_E xn_push (xo_iconst dX9_points_28 (by decide))) <|
  xw_cons (xw_R (xt_i dX9_points_29)) <|
  xw_cons (xw_E xn_aload (xo_aload_n dX9_points_30 rfl)) <|
  xw_cons (xw_E xn_push (xo_iconst dX9_points_31 (by decide))) <|
  xw_cons (xl_v_27_374 hG dX9_points_32) <|
  xw_cons (xw_E xn_aload (xo_aload_n dX9_points_35 rfl)) <|
  xw_cons (xw_E xn_iload (xo_iload_n dX9_points_36 rfl)) <|
  xw_cons (xw_E xn_iload (xo_iload_n dX9_points_37 rfl)) <|
  xw_cons (xw_E xn_iload (xo_iload_n dX9_points_38 rfl)) <|
  xw_cons (xl_v_27_368 hG dX9_points_39) <|
  xw_cons (xw_R (xt_i dX9_points_42)) <|
  xw_nil _
def xp_180 : List (Nat × xm_O) := xp_180_0
theorem xq_180 {G : xm_G} (hG : xm_W xk_B G) (hO : xm_Og G) : ∀ q ∈ xp_180, xm_op xk_B G xd xk_N "LiarsCockModel" "points" prog_28_method_52_code 4 (some (FieldType.int)) q.1 q.2 := xq_180_0 hG hO
/- 181: LiarsCockModel.isThere(I)Z -/
def xp_181_0 : List (Nat × xm_O) := [
  (0, .inl (xe_iload 1 1)),
  (1, .inl (xe_if (fun x => decide (x < 0)) 22 4)),
  (4, .inl (xe_iload 1 5)),
  (5, .inl (xe_push (.int 2) 6)),
  (6, .inl (xe_icmp (fun x y => decide (y ≤ x)) 22 9)),
  (9, .inl (xe_aload 0 10)),
  (10, .inl (xe_getf (xj_1 8 18) 13)),
  (13, .inl (xe_iload 1 14)),
  (14, .inl (xe_ald (fun t => t == 2 || t == 3) 15)),
  (15, .inl (xe_if (fun x => decide (x = 0)) 22 18)),
  (18, .inl (xe_push (.int 1) 19)),
  (19, .inl (xe_goto 23)),
  (22, .inl (xe_push (.int 0) 23)),
  (23, .inr (.inl xr_z))]
theorem xq_181_0 {G : xm_G} (hG : xm_W xk_B G) (hO : xm_Og G) : ∀ q ∈ xp_181_0, xm_op xk_B G xd xk_N "LiarsCockModel" "isThere" prog_28_method_39_code 2 (some (FieldType.boolean)) q.1 q.2 :=
  xw_cons (xw_E xn_iload (xo_iload_n dX9_isThere_0 rfl)) <|
  xw_cons (xw_E xn_if (xo_if_lt dX9_isThere_1 (by decide))) <|
  xw_cons (xw_E xn_iload (xo_iload_n dX9_isThere_4 rfl)) <|
  xw_cons (xw_E xn_push (xo_iconst dX9_isThere_5 (by decide))) <|
  xw_cons (xw_E xn_icmp (xo_icmp_ge dX9_isThere_6 (by decide))) <|
  xw_cons (xw_E xn_aload (xo_aload_n dX9_isThere_9 rfl)) <|
  xw_cons (xw_E xn_getf (xo_getf hG xg_27_38 dX9_isThere_10)) <|
  xw_cons (xw_E xn_iload (xo_iload_n dX9_isThere_13 rfl)) <|
  xw_cons (xw_E xn_ald (xo_bald xk_hB dX9_isThere_14)) <|
  xw_cons (xw_E xn_if (xo_if_eq dX9_isThere_15 (by decide))) <|
  xw_cons (xw_E xn_push (xo_iconst dX9_isThere_18 (by decide))) <|
  xw_cons (xw_E xn_goto (xo_goto dX9_isThere_19 (by decide))) <|
  xw_cons (xw_E xn_push (xo_iconst dX9_isThere_22 (by decide))) <|
  xw_cons (xw_R (xt_z dX9_isThere_23)) <|
  xw_nil _
def xp_181 : List (Nat × xm_O) := xp_181_0
theorem xq_181 {G : xm_G} (hG : xm_W xk_B G) (hO : xm_Og G) : ∀ q ∈ xp_181, xm_op xk_B G xd xk_N "LiarsCockModel" "isThere" prog_28_method_39_code 2 (some (FieldType.boolean)) q.1 q.2 := xq_181_0 hG hO
/- 182: LiarsCockModel.rows(I)V -/
def xp_182_0 : List (Nat × xm_O) := [
  (0, .inl (xe_aload 0 1)),
  (1, .inl (xe_push (.int 0) 2)),
  (2, .inl (xe_putf 300 0 (xj_1 8 50) 5)),
  (5, .inl (xe_push (.int 0) 6)),
  (6, .inl (xe_istore 2 7)),
  (7, .inl (xe_iload 2 8)),
  (8, .inl (xe_aload 0 9)),
  (9, .inl (xe_getf (xj_1 8 40) 12)),
  (12, .inl (xe_icmp (fun x y => decide (y ≤ x)) 41 15)),
  (15, .inl (xe_aload 0 16)),
  (16, .inl (xe_getf (xj_1 8 49) 19)),
  (19, .inl (xe_aload 0 20)),
  (20, .inl (xe_getf (xj_1 8 50) 23)),
  (23, .inl (xe_iload 2 24)),
  (24, .inl (xe_ast 300 0 (xm_kd 0) 25)),
  (25, .inl (xe_aload 0 26)),
  (26, .inl (xe_dup 27)),
  (27, .inl (xe_getf (xj_1 8 50) 30)),
  (30, .inl (xe_push (.int 1) 31)),
  (31, .inl (xe_ii (fun x y => x + y) 32)),
  (32, .inl (xe_putf 300 0 (xj_1 8 50) 35)),
  (35, .inl (xe_iinc 2 1 38)),
  (38, .inl (xe_goto 7)),
  (41, .inl (xe_push (.int 0) 42)),
  (42, .inl (xe_istore 2 43)),
  (43, .inl (xe_iload 2 44)),
  (44, .inl (xe_aload 0 45)),
  (45, .inl (xe_getf (xj_1 8 41) 48)),
  (48, .inl (xe_icmp (fun x y => decide (y ≤ x)) 142 51)),
  (51, .inl (xe_iload 1 52)),
  (52, .inl (xe_iload 2 53)),
  (53, .inl (xe_ii (fun x y => x >>> (y &&& 31)) 54)),
  (54, .inl (xe_push (.int 1) 55)),
  (55, .inl (xe_ii (fun x y => x &&& y) 56)),
  (56, .inl (xe_if (fun x => decide (¬ x = 0)) 62 59)),
  (59, .inl (xe_goto 136)),
  (62, .inl (xe_aload 0 63)),
  (63, .inl (xe_getf (xj_1 8 50) 66)),
  (66, .inl (xe_istore 3 67)),
  (67, .inl (xe_iload 3 68)),
  (68, .inl (xe_if (fun x => decide (x ≤ 0)) 116 71)),
  (71, .inl (xe_aload 0 72)),
  (72, .inl (xe_getf (xj_1 8 46) 75)),
  (75, .inl (xe_aload 0 76)),
  (76, .inl (xe_getf (xj_1 8 49) 79)),
  (79, .inl (xe_iload 3 80)),
  (80, .inl (xe_push (.int 1) 81)),
  (81, .inl (xe_ii (fun x y => x - y) 82)),
  (82, .inl (xe_ald (fun t => t == 0) 83)),
  (83, .inl (xe_ald (fun t => t == 0) 84))]
theorem xq_182_0 {G : xm_G} (hG : xm_W xk_B G) (hO : xm_Og G) : ∀ q ∈ xp_182_0, xm_op xk_B G xd xk_N "LiarsCockModel" "rows" prog_28_method_49_code 4 none q.1 q.2 :=
  xw_cons (xw_E xn_aload (xo_aload_n dX9_rows_0 rfl)) <|
  xw_cons (xw_E xn_push (xo_iconst dX9_rows_1 (by decide))) <|
  xw_cons (xw_E xn_putf (xo_putf hG rfl xu_27_362 dX9_rows_2)) <|
  xw_cons (xw_E xn_push (xo_iconst dX9_rows_5 (by decide))) <|
  xw_cons (xw_E xn_istore (xo_istore_n dX9_rows_6 rfl)) <|
  xw_cons (xw_E xn_iload (xo_iload_n dX9_rows_7 rfl)) <|
  xw_cons (xw_E xn_aload (xo_aload_n dX9_rows_8 rfl)) <|
  xw_cons (xw_E xn_getf (xo_getf hG xg_27_322 dX9_rows_9)) <|
  xw_cons (xw_E xn_icmp (xo_icmp_ge dX9_rows_12 (by decide))) <|
  xw_cons (xw_E xn_aload (xo_aload_n dX9_rows_15 rfl)) <|
  xw_cons (xw_E xn_getf (xo_getf hG xg_27_108 dX9_rows_16)) <|
  xw_cons (xw_E xn_aload (xo_aload_n dX9_rows_19 rfl)) <|
  xw_cons (xw_E xn_getf (xo_getf hG xg_27_362 dX9_rows_20)) <|
  xw_cons (xw_E xn_iload (xo_iload_n dX9_rows_23 rfl)) <|
  xw_cons (xw_E xn_ast (xo_iast hG xk_hB rfl dX9_rows_24)) <|
  xw_cons (xw_E xn_aload (xo_aload_n dX9_rows_25 rfl)) <|
  xw_cons (xw_E xn_dup (xo_dup dX9_rows_26)) <|
  xw_cons (xw_E xn_getf (xo_getf hG xg_27_362 dX9_rows_27)) <|
  xw_cons (xw_E xn_push (xo_iconst dX9_rows_30 (by decide))) <|
  xw_cons (xw_E xn_ii (xo_iadd dX9_rows_31)) <|
  xw_cons (xw_E xn_putf (xo_putf hG rfl xu_27_362 dX9_rows_32)) <|
  xw_cons (xw_E xn_iinc (xo_iinc dX9_rows_35 (by decide))) <|
  xw_cons (xw_E xn_goto (xo_goto dX9_rows_38 (by decide))) <|
  xw_cons (xw_E xn_push (xo_iconst dX9_rows_41 (by decide))) <|
  xw_cons (xw_E xn_istore (xo_istore_n dX9_rows_42 rfl)) <|
  xw_cons (xw_E xn_iload (xo_iload_n dX9_rows_43 rfl)) <|
  xw_cons (xw_E xn_aload (xo_aload_n dX9_rows_44 rfl)) <|
  xw_cons (xw_E xn_getf (xo_getf hG xg_27_325 dX9_rows_45)) <|
  xw_cons (xw_E xn_icmp (xo_icmp_ge dX9_rows_48 (by decide))) <|
  xw_cons (xw_E xn_iload (xo_iload_n dX9_rows_51 rfl)) <|
  xw_cons (xw_E xn_iload (xo_iload_n dX9_rows_52 rfl)) <|
  xw_cons (xw_E xn_ii (xo_ishr dX9_rows_53)) <|
  xw_cons (xw_E xn_push (xo_iconst dX9_rows_54 (by decide))) <|
  xw_cons (xw_E xn_ii (xo_iand dX9_rows_55)) <|
  xw_cons (xw_E xn_if (xo_if_ne dX9_rows_56 (by decide))) <|
  xw_cons (xw_E xn_goto (xo_goto dX9_rows_59 (by decide))) <|
  xw_cons (xw_E xn_aload (xo_aload_n dX9_rows_62 rfl)) <|
  xw_cons (xw_E xn_getf (xo_getf hG xg_27_362 dX9_rows_63)) <|
  xw_cons (xw_E xn_istore (xo_istore_n dX9_rows_66 rfl)) <|
  xw_cons (xw_E xn_iload (xo_iload_n dX9_rows_67 rfl)) <|
  xw_cons (xw_E xn_if (xo_if_le dX9_rows_68 (by decide))) <|
  xw_cons (xw_E xn_aload (xo_aload_n dX9_rows_71 rfl)) <|
  xw_cons (xw_E xn_getf (xo_getf hG xg_27_99 dX9_rows_72)) <|
  xw_cons (xw_E xn_aload (xo_aload_n dX9_rows_75 rfl)) <|
  xw_cons (xw_E xn_getf (xo_getf hG xg_27_108 dX9_rows_76)) <|
  xw_cons (xw_E xn_iload (xo_iload_n dX9_rows_79 rfl)) <|
  xw_cons (xw_E xn_push (xo_iconst dX9_rows_80 (by decide))) <|
  xw_cons (xw_E xn_ii (xo_isub dX9_rows_81)) <|
  xw_cons (xw_E xn_ald (xo_iald xk_hB dX9_rows_82)) <|
  xw_cons (xw_E xn_ald (xo_iald xk_hB dX9_rows_83)) <|
  xw_nil _
def xp_182_1 : List (Nat × xm_O) := [
  (84, .inl (xe_aload 0 85)),
  (85, .inl (xe_getf (xj_1 8 46) 88)),
  (88, .inl (xe_push (.int 24) 90)),
  (90, .inl (xe_iload 2 91)),
  (91, .inl (xe_ii (fun x y => x + y) 92)),
  (92, .inl (xe_ald (fun t => t == 0) 93)),
  (93, .inl (xe_icmp (fun x y => decide (x ≤ y)) 116 96)),
  (96, .inl (xe_aload 0 97)),
  (97, .inl (xe_getf (xj_1 8 49) 100)),
  (100, .inl (xe_iload 3 101)),
  (101, .inl (xe_aload 0 102)),
  (102, .inl (xe_getf (xj_1 8 49) 105)),
  (105, .inl (xe_iload 3 106)),
  (106, .inl (xe_push (.int 1) 107)),
  (107, .inl (xe_ii (fun x y => x - y) 108)),
  (108, .inl (xe_ald (fun t => t == 0) 109)),
  (109, .inl (xe_ast 300 0 (xm_kd 0) 110)),
  (110, .inl (xe_iinc 3 (-1) 113)),
  (113, .inl (xe_goto 67)),
  (116, .inl (xe_aload 0 117)),
  (117, .inl (xe_getf (xj_1 8 49) 120)),
  (120, .inl (xe_iload 3 121)),
  (121, .inl (xe_push (.int 24) 123)),
  (123, .inl (xe_iload 2 124)),
  (124, .inl (xe_ii (fun x y => x + y) 125)),
  (125, .inl (xe_ast 300 0 (xm_kd 0) 126)),
  (126, .inl (xe_aload 0 127)),
  (127, .inl (xe_dup 128)),
  (128, .inl (xe_getf (xj_1 8 50) 131)),
  (131, .inl (xe_push (.int 1) 132)),
  (132, .inl (xe_ii (fun x y => x + y) 133)),
  (133, .inl (xe_putf 300 0 (xj_1 8 50) 136)),
  (136, .inl (xe_iinc 2 1 139)),
  (139, .inl (xe_goto 43)),
  (142, .inl (xe_push (.int 0) 143)),
  (143, .inl (xe_istore 2 144)),
  (144, .inl (xe_iload 2 145)),
  (145, .inl (xe_aload 0 146)),
  (146, .inl (xe_getf (xj_1 8 50) 149)),
  (149, .inl (xe_icmp (fun x y => decide (y ≤ x)) 168 152)),
  (152, .inl (xe_aload 0 153)),
  (153, .inl (xe_aload 0 154)),
  (154, .inl (xe_getf (xj_1 8 49) 157)),
  (157, .inl (xe_iload 2 158)),
  (158, .inl (xe_ald (fun t => t == 0) 159)),
  (159, .inr (.inr (.inl (xc_V (xj_1 8 183) [0])))),
  (162, .inl (xe_iinc 2 1 165)),
  (165, .inl (xe_goto 144)),
  (168, .inr (.inl xr_v))]
theorem xq_182_1 {G : xm_G} (hG : xm_W xk_B G) (hO : xm_Og G) : ∀ q ∈ xp_182_1, xm_op xk_B G xd xk_N "LiarsCockModel" "rows" prog_28_method_49_code 4 none q.1 q.2 :=
  xw_cons (xw_E xn_aload (xo_aload_n dX9_rows_84 rfl)) <|
  xw_cons (xw_E xn_getf (xo_getf hG xg_27_99 dX9_rows_85)) <|
  xw_cons (xw_E xn_push (xo_bipush dX9_rows_88 (by decide))) <|
  xw_cons (xw_E xn_iload (xo_iload_n dX9_rows_90 rfl)) <|
  xw_cons (xw_E xn_ii (xo_iadd dX9_rows_91)) <|
  xw_cons (xw_E xn_ald (xo_iald xk_hB dX9_rows_92)) <|
  xw_cons (xw_E xn_icmp (xo_icmp_le dX9_rows_93 (by decide))) <|
  xw_cons (xw_E xn_aload (xo_aload_n dX9_rows_96 rfl)) <|
  xw_cons (xw_E xn_getf (xo_getf hG xg_27_108 dX9_rows_97)) <|
  xw_cons (xw_E xn_iload (xo_iload_n dX9_rows_100 rfl)) <|
  xw_cons (xw_E xn_aload (xo_aload_n dX9_rows_101 rfl)) <|
  xw_cons (xw_E xn_getf (xo_getf hG xg_27_108 dX9_rows_102)) <|
  xw_cons (xw_E xn_iload (xo_iload_n dX9_rows_105 rfl)) <|
  xw_cons (xw_E xn_push (xo_iconst dX9_rows_106 (by decide))) <|
  xw_cons (xw_E xn_ii (xo_isub dX9_rows_107)) <|
  xw_cons (xw_E xn_ald (xo_iald xk_hB dX9_rows_108)) <|
  xw_cons (xw_E xn_ast (xo_iast hG xk_hB rfl dX9_rows_109)) <|
  xw_cons (xw_E xn_iinc (xo_iinc dX9_rows_110 (by decide))) <|
  xw_cons (xw_E xn_goto (xo_goto dX9_rows_113 (by decide))) <|
  xw_cons (xw_E xn_aload (xo_aload_n dX9_rows_116 rfl)) <|
  xw_cons (xw_E xn_getf (xo_getf hG xg_27_108 dX9_rows_117)) <|
  xw_cons (xw_E xn_iload (xo_iload_n dX9_rows_120 rfl)) <|
  xw_cons (xw_E xn_push (xo_bipush dX9_rows_121 (by decide))) <|
  xw_cons (xw_E xn_iload (xo_iload_n dX9_rows_123 rfl)) <|
  xw_cons (xw_E xn_ii (xo_iadd dX9_rows_124)) <|
  xw_cons (xw_E xn_ast (xo_iast hG xk_hB rfl dX9_rows_125)) <|
  xw_cons (xw_E xn_aload (xo_aload_n dX9_rows_126 rfl)) <|
  xw_cons (xw_E xn_dup (xo_dup dX9_rows_127)) <|
  xw_cons (xw_E xn_getf (xo_getf hG xg_27_362 dX9_rows_128)) <|
  xw_cons (xw_E xn_push (xo_iconst dX9_rows_131 (by decide))) <|
  xw_cons (xw_E xn_ii (xo_iadd dX9_rows_132)) <|
  xw_cons (xw_E xn_putf (xo_putf hG rfl xu_27_362 dX9_rows_133)) <|
  xw_cons (xw_E xn_iinc (xo_iinc dX9_rows_136 (by decide))) <|
  xw_cons (xw_E xn_goto (xo_goto dX9_rows_139 (by decide))) <|
  xw_cons (xw_E xn_push (xo_iconst dX9_rows_142 (by decide))) <|
  xw_cons (xw_E xn_istore (xo_istore_n dX9_rows_143 rfl)) <|
  xw_cons (xw_E xn_iload (xo_iload_n dX9_rows_144 rfl)) <|
  xw_cons (xw_E xn_aload (xo_aload_n dX9_rows_145 rfl)) <|
  xw_cons (xw_E xn_getf (xo_getf hG xg_27_362 dX9_rows_146)) <|
  xw_cons (xw_E xn_icmp (xo_icmp_ge dX9_rows_149 (by decide))) <|
  xw_cons (xw_E xn_aload (xo_aload_n dX9_rows_152 rfl)) <|
  xw_cons (xw_E xn_aload (xo_aload_n dX9_rows_153 rfl)) <|
  xw_cons (xw_E xn_getf (xo_getf hG xg_27_108 dX9_rows_154)) <|
  xw_cons (xw_E xn_iload (xo_iload_n dX9_rows_157 rfl)) <|
  xw_cons (xw_E xn_ald (xo_iald xk_hB dX9_rows_158)) <|
  xw_cons (xl_v_27_365 hG dX9_rows_159) <|
  xw_cons (xw_E xn_iinc (xo_iinc dX9_rows_162 (by decide))) <|
  xw_cons (xw_E xn_goto (xo_goto dX9_rows_165 (by decide))) <|
  xw_cons (xw_R (xt_v dX9_rows_168)) <|
  xw_nil _
def xp_182 : List (Nat × xm_O) := xp_182_0 ++ xp_182_1
theorem xq_182 {G : xm_G} (hG : xm_W xk_B G) (hO : xm_Og G) : ∀ q ∈ xp_182, xm_op xk_B G xd xk_N "LiarsCockModel" "rows" prog_28_method_49_code 4 none q.1 q.2 := xw_app (xq_182_0 hG hO) (xq_182_1 hG hO)
