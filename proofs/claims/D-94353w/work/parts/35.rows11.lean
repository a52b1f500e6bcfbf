/-! rows of methods, by program -/
set_option maxRecDepth 100000
/- 237: LiarsCockModel.mark(IZ)Z -/
def xp_237_0 : List (Nat × xm_O) := [
  (0, .inl (xe_aload 0 1)),
  (1, .inl (xe_push (.int 0) 2)),
  (2, .inl (xe_putf 300 0 (xj_1 8 0) 5)),
  (5, .inl (xe_iload 1 6)),
  (6, .inl (xe_push (.int 0) 7)),
  (7, .inl (xe_push (.int 3) 8)),
  (8, .inr (.inr (.inl (xc_S 200 [0, 0, 0])))),
  (11, .inl (xe_if (fun x => decide (x = 0)) 27 14)),
  (14, .inl (xe_iload 2 15)),
  (15, .inl (xe_if (fun x => decide (x = 0)) 29 18)),
  (18, .inl (xe_aload 0 19)),
  (19, .inl (xe_getf (xj_1 8 65) 22)),
  (22, .inl (xe_iload 1 23)),
  (23, .inl (xe_ald (fun t => t == 2 || t == 3) 24)),
  (24, .inl (xe_if (fun x => decide (¬ x = 0)) 29 27)),
  (27, .inl (xe_push (.int 0) 28)),
  (28, .inr (.inl xr_z)),
  (29, .inl (xe_aload 0 30)),
  (30, .inl (xe_getf (xj_1 8 65) 33)),
  (33, .inl (xe_iload 1 34)),
  (34, .inl (xe_push (.int 1) 35)),
  (35, .inl (xe_ast 300 2 xm_bit 36)),
  (36, .inl (xe_aload 0 37)),
  (37, .inl (xe_push (.int 300) 40)),
  (40, .inl (xe_iload 1 41)),
  (41, .inl (xe_ii (fun x y => x * y) 42)),
  (42, .inl (xe_putf 300 0 (xj_1 8 68) 45)),
  (45, .inl (xe_aload 0 46)),
  (46, .inl (xe_aload 0 47)),
  (47, .inl (xe_getf (xj_1 8 10) 50)),
  (50, .inl (xe_push (.int 3) 51)),
  (51, .inl (xe_iload 2 52)),
  (52, .inr (.inr (.inl (xc_V (xj_1 8 238) [0, 0, 2])))),
  (55, .inl (xe_aload 0 56)),
  (56, .inl (xe_aload 0 57)),
  (57, .inl (xe_getf (xj_1 8 12) 60)),
  (60, .inl (xe_push (.int 6) 62)),
  (62, .inl (xe_iload 2 63)),
  (63, .inr (.inr (.inl (xc_V (xj_1 8 238) [0, 0, 2])))),
  (66, .inl (xe_aload 0 67)),
  (67, .inl (xe_aload 0 68)),
  (68, .inl (xe_getf (xj_1 8 13) 71)),
  (71, .inl (xe_push (.int 6) 73)),
  (73, .inl (xe_iload 2 74)),
  (74, .inr (.inr (.inl (xc_V (xj_1 8 238) [0, 0, 2])))),
  (77, .inl (xe_aload 0 78)),
  (78, .inl (xe_aload 0 79)),
  (79, .inl (xe_getf (xj_1 8 14) 82)),
  (82, .inl (xe_push (.int 6) 84)),
  (84, .inl (xe_iload 2 85))]
theorem xq_237_0 {G : xm_G} (hG : xm_W xk_B G) (hO : xm_Og G) : ∀ q ∈ xp_237_0, xm_op xk_B G xd xk_N "LiarsCockModel" "mark" prog_28_method_103_code 4 (some (FieldType.boolean)) q.1 q.2 :=
  xw_cons (xw_E xn_aload (xo_aload_n dX9_mark_0 rfl)) <|
  xw_cons (xw_E xn_push (xo_iconst dX9_mark_1 (by decide))) <|
  xw_cons (xw_E xn_putf (xo_putf hG rfl xu_27_162 dX9_mark_2)) <|
  xw_cons (xw_E xn_iload (xo_iload_n dX9_mark_5 rfl)) <|
  xw_cons (xw_E xn_push (xo_iconst dX9_mark_6 (by decide))) <|
  xw_cons (xw_E xn_push (xo_iconst dX9_mark_7 (by decide))) <|
  xw_cons (xl_s_27_407 hG dX9_mark_8) <|
  xw_cons (xw_E xn_if (xo_if_eq dX9_mark_11 (by decide))) <|
  xw_cons (xw_E xn_iload (xo_iload_n dX9_mark_14 rfl)) <|
  xw_cons (xw_E xn_if (xo_if_eq dX9_mark_15 (by decide))) <|
  xw_cons (xw_E xn_aload (xo_aload_n dX9_mark_18 rfl)) <|
  xw_cons (xw_E xn_getf (xo_getf hG xg_27_150 dX9_mark_19)) <|
  xw_cons (xw_E xn_iload (xo_iload_n dX9_mark_22 rfl)) <|
  xw_cons (xw_E xn_ald (xo_bald xk_hB dX9_mark_23)) <|
  xw_cons (xw_E xn_if (xo_if_ne dX9_mark_24 (by decide))) <|
  xw_cons (xw_E xn_push (xo_iconst dX9_mark_27 (by decide))) <|
  xw_cons (xw_R (xt_z dX9_mark_28)) <|
  xw_cons (xw_E xn_aload (xo_aload_n dX9_mark_29 rfl)) <|
  xw_cons (xw_E xn_getf (xo_getf hG xg_27_150 dX9_mark_30)) <|
  xw_cons (xw_E xn_iload (xo_iload_n dX9_mark_33 rfl)) <|
  xw_cons (xw_E xn_push (xo_iconst dX9_mark_34 (by decide))) <|
  xw_cons (xw_E xn_ast (xo_zast hG xk_hB rfl dX9_mark_35)) <|
  xw_cons (xw_E xn_aload (xo_aload_n dX9_mark_36 rfl)) <|
  xw_cons (xw_E xn_push (xo_sipush dX9_mark_37 (by decide))) <|
  xw_cons (xw_E xn_iload (xo_iload_n dX9_mark_40 rfl)) <|
  xw_cons (xw_E xn_ii (xo_imul dX9_mark_41)) <|
  xw_cons (xw_E xn_putf (xo_putf hG rfl xu_27_471 dX9_mark_42)) <|
  xw_cons (xw_E xn_aload (xo_aload_n dX9_mark_45 rfl)) <|
  xw_cons (xw_E xn_aload (xo_aload_n dX9_mark_46 rfl)) <|
  xw_cons (xw_E xn_getf (xo_getf hG xg_27_13 dX9_mark_47)) <|
  xw_cons (xw_E xn_push (xo_iconst dX9_mark_50 (by decide))) <|
  xw_cons (xw_E xn_iload (xo_iload_n dX9_mark_51 rfl)) <|
  xw_cons (xl_v_27_478 hG dX9_mark_52) <|
  xw_cons (xw_E xn_aload (xo_aload_n dX9_mark_55 rfl)) <|
  xw_cons (xw_E xn_aload (xo_aload_n dX9_mark_56 rfl)) <|
  xw_cons (xw_E xn_getf (xo_getf hG xg_27_20 dX9_mark_57)) <|
  xw_cons (xw_E xn_push (xo_bipush dX9_mark_60 (by decide))) <|
  xw_cons (xw_E xn_iload (xo_iload_n dX9_mark_62 rfl)) <|
  xw_cons (xl_v_27_478 hG dX9_mark_63) <|
  xw_cons (xw_E xn_aload (xo_aload_n dX9_mark_66 rfl)) <|
  xw_cons (xw_E xn_aload (xo_aload_n dX9_mark_67 rfl)) <|
  xw_cons (xw_E xn_getf (xo_getf hG xg_27_23 dX9_mark_68)) <|
  xw_cons (xw_E xn_push (xo_bipush dX9_mark_71 (by decide))) <|
  xw_cons (xw_E xn_iload (xo_iload_n dX9_mark_73 rfl)) <|
  xw_cons (xl_v_27_478 hG dX9_mark_74) <|
  xw_cons (xw_E xn_aload (xo_aload_n dX9_mark_77 rfl)) <|
  xw_cons (xw_E xn_aload (xo_aload_n dX9_mark_78 rfl)) <|
  xw_cons (xw_E xn_getf (xo_getf hG xg_27_26 dX9_mark_79)) <|
  xw_cons (xw_E xn_push (xo_bipush dX9_mark_82 (by decide))) <|
  xw_cons (xw_E xn_iload (xo_iload_n dX9_mark_84 rfl)) <|
  xw_nil _
def xp_237_1 : List (Nat × xm_O) := [
  (85, .inr (.inr (.inl (xc_V (xj_1 8 238) [0, 0, 2])))),
  (88, .inl (xe_aload 0 89)),
  (89, .inl (xe_aload 0 90)),
  (90, .inl (xe_getf (xj_1 8 15) 93)),
  (93, .inl (xe_push (.int 6) 95)),
  (95, .inl (xe_iload 2 96)),
  (96, .inr (.inr (.inl (xc_V (xj_1 8 238) [0, 0, 2])))),
  (99, .inl (xe_aload 0 100)),
  (100, .inl (xe_aload 0 101)),
  (101, .inl (xe_getf (xj_1 8 16) 104)),
  (104, .inl (xe_push (.int 2) 105)),
  (105, .inl (xe_iload 2 106)),
  (106, .inr (.inr (.inl (xc_V (xj_1 8 238) [0, 0, 2])))),
  (109, .inl (xe_aload 0 110)),
  (110, .inl (xe_aload 0 111)),
  (111, .inl (xe_getf (xj_1 8 17) 114)),
  (114, .inl (xe_push (.int 2) 115)),
  (115, .inl (xe_iload 2 116)),
  (116, .inr (.inr (.inl (xc_V (xj_1 8 238) [0, 0, 2])))),
  (119, .inl (xe_push (.int 0) 120)),
  (120, .inl (xe_istore 3 121)),
  (121, .inl (xe_iload 3 122)),
  (122, .inl (xe_push (.int 2) 123)),
  (123, .inl (xe_icmp (fun x y => decide (y ≤ x)) 166 126)),
  (126, .inl (xe_aload 0 127)),
  (127, .inl (xe_getf (xj_1 8 18) 130)),
  (130, .inl (xe_iload 3 131)),
  (131, .inl (xe_aload 0 132)),
  (132, .inl (xe_aload 0 133)),
  (133, .inl (xe_getf (xj_1 8 18) 136)),
  (136, .inl (xe_iload 3 137)),
  (137, .inl (xe_ald (fun t => t == 2 || t == 3) 138)),
  (138, .inl (xe_if (fun x => decide (x = 0)) 145 141)),
  (141, .inl (xe_push (.int 1) 142)),
  (142, .inl (xe_goto 146)),
  (145, .inl (xe_push (.int 0) 146)),
  (146, .inl (xe_iload 2 147)),
  (147, .inr (.inr (.inl (xc_V (xj_1 8 239) [0, 0])))),
  (150, .inl (xe_push (.int 1) 151)),
  (151, .inl (xe_icmp (fun x y => decide (¬ x = y)) 158 154)),
  (154, .inl (xe_push (.int 1) 155)),
  (155, .inl (xe_goto 159)),
  (158, .inl (xe_push (.int 0) 159)),
  (159, .inl (xe_ast 300 2 xm_bit 160)),
  (160, .inl (xe_iinc 3 1 163)),
  (163, .inl (xe_goto 121)),
  (166, .inl (xe_aload 0 167)),
  (167, .inl (xe_aload 0 168)),
  (168, .inl (xe_aload 0 169)),
  (169, .inl (xe_getf (xj_1 8 37) 172))]
theorem xq_237_1 {G : xm_G} (hG : xm_W xk_B G) (hO : xm_Og G) : ∀ q ∈ xp_237_1, xm_op xk_B G xd xk_N "LiarsCockModel" "mark" prog_28_method_103_code 4 (some (FieldType.boolean)) q.1 q.2 :=
  xw_cons (xl_v_27_478 hG dX9_mark_85) <|
  xw_cons (xw_E xn_aload (xo_aload_n dX9_mark_88 rfl)) <|
  xw_cons (xw_E xn_aload (xo_aload_n dX9_mark_89 rfl)) <|
  xw_cons (xw_E xn_getf (xo_getf hG xg_27_29 dX9_mark_90)) <|
  xw_cons (xw_E xn_push (xo_bipush dX9_mark_93 (by decide))) <|
  xw_cons (xw_E xn_iload (xo_iload_n dX9_mark_95 rfl)) <|
  xw_cons (xl_v_27_478 hG dX9_mark_96) <|
  xw_cons (xw_E xn_aload (xo_aload_n dX9_mark_99 rfl)) <|
  xw_cons (xw_E xn_aload (xo_aload_n dX9_mark_100 rfl)) <|
  xw_cons (xw_E xn_getf (xo_getf hG xg_27_32 dX9_mark_101)) <|
  xw_cons (xw_E xn_push (xo_iconst dX9_mark_104 (by decide))) <|
  xw_cons (xw_E xn_iload (xo_iload_n dX9_mark_105 rfl)) <|
  xw_cons (xl_v_27_478 hG dX9_mark_106) <|
  xw_cons (xw_E xn_aload (xo_aload_n dX9_mark_109 rfl)) <|
  xw_cons (xw_E xn_aload (xo_aload_n dX9_mark_110 rfl)) <|
  xw_cons (xw_E xn_getf (xo_getf hG xg_27_35 dX9_mark_111)) <|
  xw_cons (xw_E xn_push (xo_iconst dX9_mark_114 (by decide))) <|
  xw_cons (xw_E xn_iload (xo_iload_n dX9_mark_115 rfl)) <|
  xw_cons (xl_v_27_478 hG dX9_mark_116) <|
  xw_cons (xw_E xn_push (xo_iconst dX9_mark_119 (by decide))) <|
  xw_cons (xw_E xn_istore (xo_istore_n dX9_mark_120 rfl)) <|
  xw_cons (xw_E xn_iload (xo_iload_n dX9_mark_121 rfl)) <|
  xw_cons (xw_E xn_push (xo_iconst dX9_mark_122 (by decide))) <|
  xw_cons (xw_E xn_icmp (xo_icmp_ge dX9_mark_123 (by decide))) <|
  xw_cons (xw_E xn_aload (xo_aload_n dX9_mark_126 rfl)) <|
  xw_cons (xw_E xn_getf (xo_getf hG xg_27_38 dX9_mark_127)) <|
  xw_cons (xw_E xn_iload (xo_iload_n dX9_mark_130 rfl)) <|
  xw_cons (xw_E xn_aload (xo_aload_n dX9_mark_131 rfl)) <|
  xw_cons (xw_E xn_aload (xo_aload_n dX9_mark_132 rfl)) <|
  xw_cons (xw_E xn_getf (xo_getf hG xg_27_38 dX9_mark_133)) <|
  xw_cons (xw_E xn_iload (xo_iload_n dX9_mark_136 rfl)) <|
  xw_cons (xw_E xn_ald (xo_bald xk_hB dX9_mark_137)) <|
  xw_cons (xw_E xn_if (xo_if_eq dX9_mark_138 (by decide))) <|
  xw_cons (xw_E xn_push (xo_iconst dX9_mark_141 (by decide))) <|
  xw_cons (xw_E xn_goto (xo_goto dX9_mark_142 (by decide))) <|
  xw_cons (xw_E xn_push (xo_iconst dX9_mark_145 (by decide))) <|
  xw_cons (xw_E xn_iload (xo_iload_n dX9_mark_146 rfl)) <|
  xw_cons (xl_v_27_474 hG dX9_mark_147) <|
  xw_cons (xw_E xn_push (xo_iconst dX9_mark_150 (by decide))) <|
  xw_cons (xw_E xn_icmp (xo_icmp_ne dX9_mark_151 (by decide))) <|
  xw_cons (xw_E xn_push (xo_iconst dX9_mark_154 (by decide))) <|
  xw_cons (xw_E xn_goto (xo_goto dX9_mark_155 (by decide))) <|
  xw_cons (xw_E xn_push (xo_iconst dX9_mark_158 (by decide))) <|
  xw_cons (xw_E xn_ast (xo_zast hG xk_hB rfl dX9_mark_159)) <|
  xw_cons (xw_E xn_iinc (xo_iinc dX9_mark_160 (by decide))) <|
  xw_cons (xw_E xn_goto (xo_goto dX9_mark_163 (by decide))) <|
  xw_cons (xw_E xn_aload (xo_aload_n dX9_mark_166 rfl)) <|
  xw_cons (xw_E xn_aload (xo_aload_n dX9_mark_167 rfl)) <|
  xw_cons (xw_E xn_aload (xo_aload_n dX9_mark_168 rfl)) <|
  xw_cons (xw_E xn_getf (xo_getf hG xg_27_315 dX9_mark_169)) <|
  xw_nil _
def xp_237_2 : List (Nat × xm_O) := [
  (172, .inl (xe_iload 2 173)),
  (173, .inr (.inr (.inl (xc_V (xj_1 8 239) [0, 0])))),
  (176, .inl (xe_putf 300 0 (xj_1 8 37) 179)),
  (179, .inl (xe_aload 0 180)),
  (180, .inl (xe_aload 0 181)),
  (181, .inl (xe_aload 0 182)),
  (182, .inl (xe_getf (xj_1 8 40) 185)),
  (185, .inl (xe_iload 2 186)),
  (186, .inr (.inr (.inl (xc_V (xj_1 8 239) [0, 0])))),
  (189, .inl (xe_putf 300 0 (xj_1 8 40) 192)),
  (192, .inl (xe_aload 0 193)),
  (193, .inl (xe_aload 0 194)),
  (194, .inl (xe_aload 0 195)),
  (195, .inl (xe_getf (xj_1 8 41) 198)),
  (198, .inl (xe_iload 2 199)),
  (199, .inr (.inr (.inl (xc_V (xj_1 8 239) [0, 0])))),
  (202, .inl (xe_putf 300 0 (xj_1 8 41) 205)),
  (205, .inl (xe_aload 0 206)),
  (206, .inl (xe_aload 0 207)),
  (207, .inl (xe_aload 0 208)),
  (208, .inl (xe_getf (xj_1 8 42) 211)),
  (211, .inl (xe_iload 2 212)),
  (212, .inr (.inr (.inl (xc_V (xj_1 8 239) [0, 0])))),
  (215, .inl (xe_putf 300 0 (xj_1 8 42) 218)),
  (218, .inl (xe_aload 0 219)),
  (219, .inl (xe_aload 0 220)),
  (220, .inl (xe_aload 0 221)),
  (221, .inl (xe_getf (xj_1 8 43) 224)),
  (224, .inl (xe_iload 2 225)),
  (225, .inr (.inr (.inl (xc_V (xj_1 8 239) [0, 0])))),
  (228, .inl (xe_putf 300 0 (xj_1 8 43) 231)),
  (231, .inl (xe_aload 0 232)),
  (232, .inl (xe_aload 0 233)),
  (233, .inl (xe_aload 0 234)),
  (234, .inl (xe_getf (xj_1 8 44) 237)),
  (237, .inl (xe_iload 2 238)),
  (238, .inr (.inr (.inl (xc_V (xj_1 8 239) [0, 0])))),
  (241, .inl (xe_putf 300 0 (xj_1 8 44) 244)),
  (244, .inl (xe_aload 0 245)),
  (245, .inl (xe_aload 0 246)),
  (246, .inl (xe_getf (xj_1 8 45) 249)),
  (249, .inl (xe_push (.int 30) 251)),
  (251, .inl (xe_iload 2 252)),
  (252, .inr (.inr (.inl (xc_V (xj_1 8 238) [0, 0, 2])))),
  (255, .inl (xe_aload 0 256)),
  (256, .inl (xe_aload 0 257)),
  (257, .inl (xe_getf (xj_1 8 46) 260)),
  (260, .inl (xe_push (.int 30) 262)),
  (262, .inl (xe_iload 2 263)),
  (263, .inr (.inr (.inl (xc_V (xj_1 8 238) [0, 0, 2]))))]
theorem xq_237_2 {G : xm_G} (hG : xm_W xk_B G) (hO : xm_Og G) : ∀ q ∈ xp_237_2, xm_op xk_B G xd xk_N "LiarsCockModel" "mark" prog_28_method_103_code 4 (some (FieldType.boolean)) q.1 q.2 :=
  xw_cons (xw_E xn_iload (xo_iload_n dX9_mark_172 rfl)) <|
  xw_cons (xl_v_27_474 hG dX9_mark_173) <|
  xw_cons (xw_E xn_putf (xo_putf hG rfl xu_27_315 dX9_mark_176)) <|
  xw_cons (xw_E xn_aload (xo_aload_n dX9_mark_179 rfl)) <|
  xw_cons (xw_E xn_aload (xo_aload_n dX9_mark_180 rfl)) <|
  xw_cons (xw_E xn_aload (xo_aload_n dX9_mark_181 rfl)) <|
  xw_cons (xw_E xn_getf (xo_getf hG xg_27_322 dX9_mark_182)) <|
  xw_cons (xw_E xn_iload (xo_iload_n dX9_mark_185 rfl)) <|
  xw_cons (xl_v_27_474 hG dX9_mark_186) <|
  xw_cons (xw_E xn_putf (xo_putf hG rfl xu_27_322 dX9_mark_189)) <|
  xw_cons (xw_E xn_aload (xo_aload_n dX9_mark_192 rfl)) <|
  xw_cons (xw_E xn_aload (xo_aload_n dX9_mark_193 rfl)) <|
  xw_cons (xw_E xn_aload (xo_aload_n dX9_mark_194 rfl)) <|
  xw_cons (xw_E xn_getf (xo_getf hG xg_27_325 dX9_mark_195)) <|
  xw_cons (xw_E xn_iload (xo_iload_n dX9_mark_198 rfl)) <|
  xw_cons (xl_v_27_474 hG dX9_mark_199) <|
  xw_cons (xw_E xn_putf (xo_putf hG rfl xu_27_325 dX9_mark_202)) <|
  xw_cons (xw_E xn_aload (xo_aload_n dX9_mark_205 rfl)) <|
  xw_cons (xw_E xn_aload (xo_aload_n dX9_mark_206 rfl)) <|
  xw_cons (xw_E xn_aload (xo_aload_n dX9_mark_207 rfl)) <|
  xw_cons (xw_E xn_getf (xo_getf hG xg_27_328 dX9_mark_208)) <|
  xw_cons (xw_E xn_iload (xo_iload_n dX9_mark_211 rfl)) <|
  xw_cons (xl_v_27_474 hG dX9_mark_212) <|
  xw_cons (xw_E xn_putf (xo_putf hG rfl xu_27_328 dX9_mark_215)) <|
  xw_cons (xw_E xn_aload (xo_aload_n dX9_mark_218 rfl)) <|
  xw_cons (xw_E xn_aload (xo_aload_n dX9_mark_219 rfl)) <|
  xw_cons (xw_E xn_aload (xo_aload_n dX9_mark_220 rfl)) <|
  xw_cons (xw_E xn_getf (xo_getf hG xg_27_331 dX9_mark_221)) <|
  xw_cons (xw_E xn_iload (xo_iload_n dX9_mark_224 rfl)) <|
  xw_cons (xl_v_27_474 hG dX9_mark_225) <|
  xw_cons (xw_E xn_putf (xo_putf hG rfl xu_27_331 dX9_mark_228)) <|
  xw_cons (xw_E xn_aload (xo_aload_n dX9_mark_231 rfl)) <|
  xw_cons (xw_E xn_aload (xo_aload_n dX9_mark_232 rfl)) <|
  xw_cons (xw_E xn_aload (xo_aload_n dX9_mark_233 rfl)) <|
  xw_cons (xw_E xn_getf (xo_getf hG xg_27_334 dX9_mark_234)) <|
  xw_cons (xw_E xn_iload (xo_iload_n dX9_mark_237 rfl)) <|
  xw_cons (xl_v_27_474 hG dX9_mark_238) <|
  xw_cons (xw_E xn_putf (xo_putf hG rfl xu_27_334 dX9_mark_241)) <|
  xw_cons (xw_E xn_aload (xo_aload_n dX9_mark_244 rfl)) <|
  xw_cons (xw_E xn_aload (xo_aload_n dX9_mark_245 rfl)) <|
  xw_cons (xw_E xn_getf (xo_getf hG xg_27_96 dX9_mark_246)) <|
  xw_cons (xw_E xn_push (xo_bipush dX9_mark_249 (by decide))) <|
  xw_cons (xw_E xn_iload (xo_iload_n dX9_mark_251 rfl)) <|
  xw_cons (xl_v_27_478 hG dX9_mark_252) <|
  xw_cons (xw_E xn_aload (xo_aload_n dX9_mark_255 rfl)) <|
  xw_cons (xw_E xn_aload (xo_aload_n dX9_mark_256 rfl)) <|
  xw_cons (xw_E xn_getf (xo_getf hG xg_27_99 dX9_mark_257)) <|
  xw_cons (xw_E xn_push (xo_bipush dX9_mark_260 (by decide))) <|
  xw_cons (xw_E xn_iload (xo_iload_n dX9_mark_262 rfl)) <|
  xw_cons (xl_v_27_478 hG dX9_mark_263) <|
  xw_nil _
def xp_237_3 : List (Nat × xm_O) := [
  (266, .inl (xe_push (.int 0) 267)),
  (267, .inl (xe_istore 3 268)),
  (268, .inl (xe_iload 3 269)),
  (269, .inl (xe_push (.int 30) 271)),
  (271, .inl (xe_icmp (fun x y => decide (y ≤ x)) 314 274)),
  (274, .inl (xe_aload 0 275)),
  (275, .inl (xe_getf (xj_1 8 48) 278)),
  (278, .inl (xe_iload 3 279)),
  (279, .inl (xe_aload 0 280)),
  (280, .inl (xe_aload 0 281)),
  (281, .inl (xe_getf (xj_1 8 48) 284)),
  (284, .inl (xe_iload 3 285)),
  (285, .inl (xe_ald (fun t => t == 2 || t == 3) 286)),
  (286, .inl (xe_if (fun x => decide (x = 0)) 293 289)),
  (289, .inl (xe_push (.int 1) 290)),
  (290, .inl (xe_goto 294)),
  (293, .inl (xe_push (.int 0) 294)),
  (294, .inl (xe_iload 2 295)),
  (295, .inr (.inr (.inl (xc_V (xj_1 8 239) [0, 0])))),
  (298, .inl (xe_push (.int 1) 299)),
  (299, .inl (xe_icmp (fun x y => decide (¬ x = y)) 306 302)),
  (302, .inl (xe_push (.int 1) 303)),
  (303, .inl (xe_goto 307)),
  (306, .inl (xe_push (.int 0) 307)),
  (307, .inl (xe_ast 300 2 xm_bit 308)),
  (308, .inl (xe_iinc 3 1 311)),
  (311, .inl (xe_goto 268)),
  (314, .inl (xe_aload 0 315)),
  (315, .inl (xe_aload 0 316)),
  (316, .inl (xe_getf (xj_1 8 52) 319)),
  (319, .inl (xe_push (.int 12) 321)),
  (321, .inl (xe_iload 2 322)),
  (322, .inr (.inr (.inl (xc_V (xj_1 8 238) [0, 0, 2])))),
  (325, .inl (xe_aload 0 326)),
  (326, .inl (xe_aload 0 327)),
  (327, .inl (xe_getf (xj_1 8 53) 330)),
  (330, .inl (xe_push (.int 12) 332)),
  (332, .inl (xe_iload 2 333)),
  (333, .inr (.inr (.inl (xc_V (xj_1 8 238) [0, 0, 2])))),
  (336, .inl (xe_aload 0 337)),
  (337, .inl (xe_aload 0 338)),
  (338, .inl (xe_getf (xj_1 8 54) 341)),
  (341, .inl (xe_push (.int 12) 343)),
  (343, .inl (xe_iload 2 344)),
  (344, .inr (.inr (.inl (xc_V (xj_1 8 238) [0, 0, 2])))),
  (347, .inl (xe_aload 0 348)),
  (348, .inl (xe_aload 0 349)),
  (349, .inl (xe_getf (xj_1 8 55) 352)),
  (352, .inl (xe_push (.int 12) 354)),
  (354, .inl (xe_iload 2 355))]
theorem xq_237_3 {G : xm_G} (hG : xm_W xk_B G) (hO : xm_Og G) : ∀ q ∈ xp_237_3, xm_op xk_B G xd xk_N "LiarsCockModel" "mark" prog_28_method_103_code 4 (some (FieldType.boolean)) q.1 q.2 :=
  xw_cons (xw_E xn_push (xo_iconst dX9_mark_266 (by decide))) <|
  xw_cons (xw_E xn_istore (xo_istore_n dX9_mark_267 rfl)) <|
  xw_cons (xw_E xn_iload (xo_iload_n dX9_mark_268 rfl)) <|
  xw_cons (xw_E xn_push (xo_bipush dX9_mark_269 (by decide))) <|
  xw_cons (xw_E xn_icmp (xo_icmp_ge dX9_mark_271 (by decide))) <|
  xw_cons (xw_E xn_aload (xo_aload_n dX9_mark_274 rfl)) <|
  xw_cons (xw_E xn_getf (xo_getf hG xg_27_105 dX9_mark_275)) <|
  xw_cons (xw_E xn_iload (xo_iload_n dX9_mark_278 rfl)) <|
  xw_cons (xw_E xn_aload (xo_aload_n dX9_mark_279 rfl)) <|
  xw_cons (xw_E xn_aload (xo_aload_n dX9_mark_280 rfl)) <|
  xw_cons (xw_E xn_getf (xo_getf hG xg_27_105 dX9_mark_281)) <|
  xw_cons (xw_E xn_iload (xo_iload_n dX9_mark_284 rfl)) <|
  xw_cons (xw_E xn_ald (xo_bald xk_hB dX9_mark_285)) <|
  xw_cons (xw_E xn_if (xo_if_eq dX9_mark_286 (by decide))) <|
  xw_cons (xw_E xn_push (xo_iconst dX9_mark_289 (by decide))) <|
  xw_cons (xw_E xn_goto (xo_goto dX9_mark_290 (by decide))) <|
  xw_cons (xw_E xn_push (xo_iconst dX9_mark_293 (by decide))) <|
  xw_cons (xw_E xn_iload (xo_iload_n dX9_mark_294 rfl)) <|
  xw_cons (xl_v_27_474 hG dX9_mark_295) <|
  xw_cons (xw_E xn_push (xo_iconst dX9_mark_298 (by decide))) <|
  xw_cons (xw_E xn_icmp (xo_icmp_ne dX9_mark_299 (by decide))) <|
  xw_cons (xw_E xn_push (xo_iconst dX9_mark_302 (by decide))) <|
  xw_cons (xw_E xn_goto (xo_goto dX9_mark_303 (by decide))) <|
  xw_cons (xw_E xn_push (xo_iconst dX9_mark_306 (by decide))) <|
  xw_cons (xw_E xn_ast (xo_zast hG xk_hB rfl dX9_mark_307)) <|
  xw_cons (xw_E xn_iinc (xo_iinc dX9_mark_308 (by decide))) <|
  xw_cons (xw_E xn_goto (xo_goto dX9_mark_311 (by decide))) <|
  xw_cons (xw_E xn_aload (xo_aload_n dX9_mark_314 rfl)) <|
  xw_cons (xw_E xn_aload (xo_aload_n dX9_mark_315 rfl)) <|
  xw_cons (xw_E xn_getf (xo_getf hG xg_27_114 dX9_mark_316)) <|
  xw_cons (xw_E xn_push (xo_bipush dX9_mark_319 (by decide))) <|
  xw_cons (xw_E xn_iload (xo_iload_n dX9_mark_321 rfl)) <|
  xw_cons (xl_v_27_478 hG dX9_mark_322) <|
  xw_cons (xw_E xn_aload (xo_aload_n dX9_mark_325 rfl)) <|
  xw_cons (xw_E xn_aload (xo_aload_n dX9_mark_326 rfl)) <|
  xw_cons (xw_E xn_getf (xo_getf hG xg_27_117 dX9_mark_327)) <|
  xw_cons (xw_E xn_push (xo_bipush dX9_mark_330 (by decide))) <|
  xw_cons (xw_E xn_iload (xo_iload_n dX9_mark_332 rfl)) <|
  xw_cons (xl_v_27_478 hG dX9_mark_333) <|
  xw_cons (xw_E xn_aload (xo_aload_n dX9_mark_336 rfl)) <|
  xw_cons (xw_E xn_aload (xo_aload_n dX9_mark_337 rfl)) <|
  xw_cons (xw_E xn_getf (xo_getf hG xg_27_120 dX9_mark_338)) <|
  xw_cons (xw_E xn_push (xo_bipush dX9_mark_341 (by decide))) <|
  xw_cons (xw_E xn_iload (xo_iload_n dX9_mark_343 rfl)) <|
  xw_cons (xl_v_27_478 hG dX9_mark_344) <|
  xw_cons (xw_E xn_aload (xo_aload_n dX9_mark_347 rfl)) <|
  xw_cons (xw_E xn_aload (xo_aload_n dX9_mark_348 rfl)) <|
  xw_cons (xw_E xn_getf (xo_getf hG xg_27_123 dX9_mark_349)) <|
  xw_cons (xw_E xn_push (xo_bipush dX9_mark_352 (by decide))) <|
  xw_cons (xw_E xn_iload (xo_iload_n dX9_mark_354 rfl)) <|
  xw_nil _
def xp_237_4 : List (Nat × xm_O) := [
  (355, .inr (.inr (.inl (xc_V (xj_1 8 238) [0, 0, 2])))),
  (358, .inl (xe_aload 0 359)),
  (359, .inl (xe_aload 0 360)),
  (360, .inl (xe_getf (xj_1 8 59) 363)),
  (363, .inl (xe_push (.int 4) 364)),
  (364, .inl (xe_iload 2 365)),
  (365, .inr (.inr (.inl (xc_V (xj_1 8 238) [0, 0, 2])))),
  (368, .inl (xe_aload 0 369)),
  (369, .inl (xe_aload 0 370)),
  (370, .inl (xe_getf (xj_1 8 60) 373)),
  (373, .inl (xe_push (.int 4) 374)),
  (374, .inl (xe_iload 2 375)),
  (375, .inr (.inr (.inl (xc_V (xj_1 8 238) [0, 0, 2])))),
  (378, .inl (xe_aload 0 379)),
  (379, .inl (xe_aload 0 380)),
  (380, .inl (xe_getf (xj_1 8 11) 383)),
  (383, .inl (xe_push (.int 18) 385)),
  (385, .inl (xe_push (.int 100) 387)),
  (387, .inl (xe_iload 1 388)),
  (388, .inl (xe_ii (fun x y => x * y) 389)),
  (389, .inl (xe_iload 2 390)),
  (390, .inr (.inr (.inl (xc_V (xj_1 8 240) [0, 0, 0, 2])))),
  (393, .inl (xe_aload 0 394)),
  (394, .inl (xe_aload 0 395)),
  (395, .inl (xe_getf (xj_1 8 47) 398)),
  (398, .inl (xe_push (.int 30) 400)),
  (400, .inl (xe_push (.int 100) 402)),
  (402, .inl (xe_iload 1 403)),
  (403, .inl (xe_ii (fun x y => x * y) 404)),
  (404, .inl (xe_push (.int 18) 406)),
  (406, .inl (xe_ii (fun x y => x + y) 407)),
  (407, .inl (xe_iload 2 408)),
  (408, .inr (.inr (.inl (xc_V (xj_1 8 240) [0, 0, 0, 2])))),
  (411, .inl (xe_aload 0 412)),
  (412, .inl (xe_aload 0 413)),
  (413, .inl (xe_getf (xj_1 8 19) 416)),
  (416, .inl (xe_push (.int 1) 417)),
  (417, .inl (xe_push (.int 100) 419)),
  (419, .inl (xe_iload 1 420)),
  (420, .inl (xe_ii (fun x y => x * y) 421)),
  (421, .inl (xe_push (.int 48) 423)),
  (423, .inl (xe_ii (fun x y => x + y) 424)),
  (424, .inl (xe_iload 2 425)),
  (425, .inr (.inr (.inl (xc_V (xj_1 8 240) [0, 0, 0, 2])))),
  (428, .inl (xe_push (.int 1) 429)),
  (429, .inr (.inl xr_z))]
theorem xq_237_4 {G : xm_G} (hG : xm_W xk_B G) (hO : xm_Og G) : ∀ q ∈ xp_237_4, xm_op xk_B G xd xk_N "LiarsCockModel" "mark" prog_28_method_103_code 4 (some (FieldType.boolean)) q.1 q.2 :=
  xw_cons (xl_v_27_478 hG dX9_mark_355) <|
  xw_cons (xw_E xn_aload (xo_aload_n dX9_mark_358 rfl)) <|
  xw_cons (xw_E xn_aload (xo_aload_n dX9_mark_359 rfl)) <|
  xw_cons (xw_E xn_getf (xo_getf hG xg_27_135 dX9_mark_360)) <|
  xw_cons (xw_E xn_push (xo_iconst dX9_mark_363 (by decide))) <|
  xw_cons (xw_E xn_iload (xo_iload_n dX9_mark_364 rfl)) <|
  xw_cons (xl_v_27_478 hG dX9_mark_365) <|
  xw_cons (xw_E xn_aload (xo_aload_n dX9_mark_368 rfl)) <|
  xw_cons (xw_E xn_aload (xo_aload_n dX9_mark_369 rfl)) <|
  xw_cons (xw_E xn_getf (xo_getf hG xg_27_138 dX9_mark_370)) <|
  xw_cons (xw_E xn_push (xo_iconst dX9_mark_373 (by decide))) <|
  xw_cons (xw_E xn_iload (xo_iload_n dX9_mark_374 rfl)) <|
  xw_cons (xl_v_27_478 hG dX9_mark_375) <|
  xw_cons (xw_E xn_aload (xo_aload_n dX9_mark_378 rfl)) <|
  xw_cons (xw_E xn_aload (xo_aload_n dX9_mark_379 rfl)) <|
  xw_cons (xw_E xn_getf (xo_getf hG xg_27_16 dX9_mark_380)) <|
  xw_cons (xw_E xn_push (xo_bipush dX9_mark_383 (by decide))) <|
  xw_cons (xw_E xn_push (xo_bipush dX9_mark_385 (by decide))) <|
  xw_cons (xw_E xn_iload (xo_iload_n dX9_mark_387 rfl)) <|
  xw_cons (xw_E xn_ii (xo_imul dX9_mark_388)) <|
  xw_cons (xw_E xn_iload (xo_iload_n dX9_mark_389 rfl)) <|
  xw_cons (xl_v_27_482 hG dX9_mark_390) <|
  xw_cons (xw_E xn_aload (xo_aload_n dX9_mark_393 rfl)) <|
  xw_cons (xw_E xn_aload (xo_aload_n dX9_mark_394 rfl)) <|
  xw_cons (xw_E xn_getf (xo_getf hG xg_27_102 dX9_mark_395)) <|
  xw_cons (xw_E xn_push (xo_bipush dX9_mark_398 (by decide))) <|
  xw_cons (xw_E xn_push (xo_bipush dX9_mark_400 (by decide))) <|
  xw_cons (xw_E xn_iload (xo_iload_n dX9_mark_402 rfl)) <|
  xw_cons (xw_E xn_ii (xo_imul dX9_mark_403)) <|
  xw_cons (xw_E xn_push (xo_bipush dX9_mark_404 (by decide))) <|
  xw_cons (xw_E xn_ii (xo_iadd dX9_mark_406)) <|
  xw_cons (xw_E xn_iload (xo_iload_n dX9_mark_407 rfl)) <|
  xw_cons (xl_v_27_482 hG dX9_mark_408) <|
  xw_cons (xw_E xn_aload (xo_aload_n dX9_mark_411 rfl)) <|
  xw_cons (xw_E xn_aload (xo_aload_n dX9_mark_412 rfl)) <|
  xw_cons (xw_E xn_getf (xo_getf hG xg_27_42 dX9_mark_413)) <|
  xw_cons (xw_E xn_push (xo_iconst dX9_mark_416 (by decide))) <|
  xw_cons (xw_E xn_push (xo_bipush dX9_mark_417 (by decide))) <|
  xw_cons (xw_E xn_iload (xo_iload_n dX9_mark_419 rfl)) <|
  xw_cons (xw_E xn_ii (xo_imul dX9_mark_420)) <|
  xw_cons (xw_E xn_push (xo_bipush dX9_mark_421 (by decide))) <|
  xw_cons (xw_E xn_ii (xo_iadd dX9_mark_423)) <|
  xw_cons (xw_E xn_iload (xo_iload_n dX9_mark_424 rfl)) <|
  xw_cons (xl_v_27_482 hG dX9_mark_425) <|
  xw_cons (xw_E xn_push (xo_iconst dX9_mark_428 (by decide))) <|
  xw_cons (xw_R (xt_z dX9_mark_429)) <|
  xw_nil _
def xp_237 : List (Nat × xm_O) := xp_237_0 ++ xp_237_1 ++ xp_237_2 ++ xp_237_3 ++ xp_237_4
theorem xq_237 {G : xm_G} (hG : xm_W xk_B G) (hO : xm_Og G) : ∀ q ∈ xp_237, xm_op xk_B G xd xk_N "LiarsCockModel" "mark" prog_28_method_103_code 4 (some (FieldType.boolean)) q.1 q.2 := xw_app (xw_app (xw_app (xw_app (xq_237_0 hG hO) (xq_237_1 hG hO)) (xq_237_2 hG hO)) (xq_237_3 hG hO)) (xq_237_4 hG hO)
/- 238: LiarsCockModel.keepsRow([IIZ)V -/
def xp_238_0 : List (Nat × xm_O) := [
  (0, .inl (xe_push (.int 0) 1)),
  (1, .inl (xe_istore 4 3)),
  (3, .inl (xe_iload 4 5)),
  (5, .inl (xe_iload 2 6)),
  (6, .inl (xe_icmp (fun x y => decide (y ≤ x)) 28 9)),
  (9, .inl (xe_aload 1 10)),
  (10, .inl (xe_iload 4 12)),
  (12, .inl (xe_aload 0 13)),
  (13, .inl (xe_aload 1 14)),
  (14, .inl (xe_iload 4 16)),
  (16, .inl (xe_ald (fun t => t == 0) 17)),
  (17, .inl (xe_iload 3 18)),
  (18, .inr (.inr (.inl (xc_V (xj_1 8 239) [0, 0])))),
  (21, .inl (xe_ast 300 0 (xm_kd 0) 22)),
  (22, .inl (xe_iinc 4 1 25)),
  (25, .inl (xe_goto 3)),
  (28, .inr (.inl xr_v))]
theorem xq_238_0 {G : xm_G} (hG : xm_W xk_B G) (hO : xm_Og G) : ∀ q ∈ xp_238_0, xm_op xk_B G xd xk_N "LiarsCockModel" "keepsRow" prog_28_method_101_code 5 none q.1 q.2 :=
  xw_cons (xw_E xn_push (xo_iconst dX9_keepsRow_0 (by decide))) <|
  xw_cons (xw_E xn_istore (xo_istore dX9_keepsRow_1)) <|
  xw_cons (xw_E xn_iload (xo_iload dX9_keepsRow_3)) <|
  xw_cons (xw_E xn_iload (xo_iload_n dX9_keepsRow_5 rfl)) <|
  xw_cons (xw_E xn_icmp (xo_icmp_ge dX9_keepsRow_6 (by decide))) <|
  xw_cons (xw_E xn_aload (xo_aload_n dX9_keepsRow_9 rfl)) <|
  xw_cons (xw_E xn_iload (xo_iload dX9_keepsRow_10)) <|
  xw_cons (xw_E xn_aload (xo_aload_n dX9_keepsRow_12 rfl)) <|
  xw_cons (xw_E xn_aload (xo_aload_n dX9_keepsRow_13 rfl)) <|
  xw_cons (xw_E xn_iload (xo_iload dX9_keepsRow_14)) <|
  xw_cons (xw_E xn_ald (xo_iald xk_hB dX9_keepsRow_16)) <|
  xw_cons (xw_E xn_iload (xo_iload_n dX9_keepsRow_17 rfl)) <|
  xw_cons (xl_v_27_474 hG dX9_keepsRow_18) <|
  xw_cons (xw_E xn_ast (xo_iast hG xk_hB rfl dX9_keepsRow_21)) <|
  xw_cons (xw_E xn_iinc (xo_iinc dX9_keepsRow_22 (by decide))) <|
  xw_cons (xw_E xn_goto (xo_goto dX9_keepsRow_25 (by decide))) <|
  xw_cons (xw_R (xt_v dX9_keepsRow_28)) <|
  xw_nil _
def xp_238 : List (Nat × xm_O) := xp_238_0
theorem xq_238 {G : xm_G} (hG : xm_W xk_B G) (hO : xm_Og G) : ∀ q ∈ xp_238, xm_op xk_B G xd xk_N "LiarsCockModel" "keepsRow" prog_28_method_101_code 5 none q.1 q.2 := xq_238_0 hG hO
/- 239: LiarsCockModel.keeps(IZ)I -/
def xp_239_0 : List (Nat × xm_O) := [
  (0, .inl (xe_aload 0 1)),
  (1, .inl (xe_getf (xj_1 8 68) 4)),
  (4, .inl (xe_istore 3 5)),
  (5, .inl (xe_aload 0 6)),
  (6, .inl (xe_dup 7)),
  (7, .inl (xe_getf (xj_1 8 68) 10)),
  (10, .inl (xe_push (.int 1) 11)),
  (11, .inl (xe_ii (fun x y => x + y) 12)),
  (12, .inl (xe_putf 300 0 (xj_1 8 68) 15)),
  (15, .inl (xe_iload 2 16)),
  (16, .inl (xe_if (fun x => decide (x = 0)) 26 19)),
  (19, .inl (xe_aload 0 20)),
  (20, .inl (xe_getf (xj_1 8 66) 23)),
  (23, .inl (xe_iload 3 24)),
  (24, .inl (xe_ald (fun t => t == 0) 25)),
  (25, .inr (.inl xr_i)),
  (26, .inl (xe_aload 0 27)),
  (27, .inl (xe_getf (xj_1 8 66) 30)),
  (30, .inl (xe_iload 3 31)),
  (31, .inl (xe_iload 1 32)),
  (32, .inl (xe_ast 300 0 (xm_kd 0) 33)),
  (33, .inl (xe_iload 1 34)),
  (34, .inr (.inl xr_i))]
theorem xq_239_0 {G : xm_G} (hG : xm_W xk_B G) (hO : xm_Og G) : ∀ q ∈ xp_239_0, xm_op xk_B G xd xk_N "LiarsCockModel" "keeps" prog_28_method_100_code 4 (some (FieldType.int)) q.1 q.2 :=
  xw_cons (xw_E xn_aload (xo_aload_n dX9_keeps_0 rfl)) <|
  xw_cons (xw_E xn_getf (xo_getf hG xg_27_471 dX9_keeps_1)) <|
  xw_cons (xw_E xn_istore (xo_istore_n dX9_keeps_4 rfl)) <|
  xw_cons (xw_E xn_aload (xo_aload_n dX9_keeps_5 rfl)) <|
  xw_cons (xw_E xn_dup (xo_dup dX9_keeps_6)) <|
  xw_cons (xw_E xn_getf (xo_getf hG xg_27_471 dX9_keeps_7)) <|
  xw_cons (xw_E xn_push (xo_iconst dX9_keeps_10 (by decide))) <|
  xw_cons (xw_E xn_ii (xo_iadd dX9_keeps_11)) <|
  xw_cons (xw_E xn_putf (xo_putf hG rfl xu_27_471 dX9_keeps_12)) <|
  xw_cons (xw_E xn_iload (xo_iload_n dX9_keeps_15 rfl)) <|
  xw_cons (xw_E xn_if (xo_if_eq dX9_keeps_16 (by decide))) <|
  xw_cons (xw_E xn_aload (xo_aload_n dX9_keeps_19 rfl)) <|
  xw_cons (xw_E xn_getf (xo_getf hG xg_27_153 dX9_keeps_20)) <|
  xw_cons (xw_E xn_iload (xo_iload_n dX9_keeps_23 rfl)) <|
  xw_cons (xw_E xn_ald (xo_iald xk_hB dX9_keeps_24)) <|
  xw_cons (xw_R (xt_i dX9_keeps_25)) <|
  xw_cons (xw_E xn_aload (xo_aload_n dX9_keeps_26 rfl)) <|
  xw_cons (xw_E xn_getf (xo_getf hG xg_27_153 dX9_keeps_27)) <|
  xw_cons (xw_E xn_iload (xo_iload_n dX9_keeps_30 rfl)) <|
  xw_cons (xw_E xn_iload (xo_iload_n dX9_keeps_31 rfl)) <|
  xw_cons (xw_E xn_ast (xo_iast hG xk_hB rfl dX9_keeps_32)) <|
  xw_cons (xw_E xn_iload (xo_iload_n dX9_keeps_33 rfl)) <|
  xw_cons (xw_R (xt_i dX9_keeps_34)) <|
  xw_nil _
def xp_239 : List (Nat × xm_O) := xp_239_0
theorem xq_239 {G : xm_G} (hG : xm_W xk_B G) (hO : xm_Og G) : ∀ q ∈ xp_239, xm_op xk_B G xd xk_N "LiarsCockModel" "keeps" prog_28_method_100_code 4 (some (FieldType.int)) q.1 q.2 := xq_239_0 hG hO
/- 240: LiarsCockModel.keepsLongs([JIIZ)V -/
def xp_240_0 : List (Nat × xm_O) := [
  (0, .inl (xe_push (.int 0) 1)),
  (1, .inl (xe_istore 5 3)),
  (3, .inl (xe_iload 5 5)),
  (5, .inl (xe_iload 2 6)),
  (6, .inl (xe_icmp (fun x y => decide (y ≤ x)) 49 9)),
  (9, .inl (xe_iload 4 11)),
  (11, .inl (xe_if (fun x => decide (x = 0)) 30 14)),
  (14, .inl (xe_aload 1 15)),
  (15, .inl (xe_iload 5 17)),
  (17, .inl (xe_aload 0 18)),
  (18, .inl (xe_getf (xj_1 8 67) 21)),
  (21, .inl (xe_iload 3 22)),
  (22, .inl (xe_iload 5 24)),
  (24, .inl (xe_ii (fun x y => x + y) 25)),
  (25, .inl (xe_ald (fun t => t == 1) 26)),
  (26, .inl (xe_ast 300 1 (xm_kd 1) 27)),
  (27, .inl (xe_goto 43)),
  (30, .inl (xe_aload 0 31)),
  (31, .inl (xe_getf (xj_1 8 67) 34)),
  (34, .inl (xe_iload 3 35)),
  (35, .inl (xe_iload 5 37)),
  (37, .inl (xe_ii (fun x y => x + y) 38)),
  (38, .inl (xe_aload 1 39)),
  (39, .inl (xe_iload 5 41)),
  (41, .inl (xe_ald (fun t => t == 1) 42)),
  (42, .inl (xe_ast 300 1 (xm_kd 1) 43)),
  (43, .inl (xe_iinc 5 1 46)),
  (46, .inl (xe_goto 3)),
  (49, .inr (.inl xr_v))]
theorem xq_240_0 {G : xm_G} (hG : xm_W xk_B G) (hO : xm_Og G) : ∀ q ∈ xp_240_0, xm_op xk_B G xd xk_N "LiarsCockModel" "keepsLongs" prog_28_method_102_code 6 none q.1 q.2 :=
  xw_cons (xw_E xn_push (xo_iconst dX9_keepsLongs_0 (by decide))) <|
  xw_cons (xw_E xn_istore (xo_istore dX9_keepsLongs_1)) <|
  xw_cons (xw_E xn_iload (xo_iload dX9_keepsLongs_3)) <|
  xw_cons (xw_E xn_iload (xo_iload_n dX9_keepsLongs_5 rfl)) <|
  xw_cons (xw_E xn_icmp (xo_icmp_ge dX9_keepsLongs_6 (by decide))) <|
  xw_cons (xw_E xn_iload (xo_iload dX9_keepsLongs_9)) <|
  xw_cons (xw_E xn_if (xo_if_eq dX9_keepsLongs_11 (by decide))) <|
  xw_cons (xw_E xn_aload (xo_aload_n dX9_keepsLongs_14 rfl)) <|
  xw_cons (xw_E xn_iload (xo_iload dX9_keepsLongs_15)) <|
  xw_cons (xw_E xn_aload (xo_aload_n dX9_keepsLongs_17 rfl)) <|
  xw_cons (xw_E xn_getf (xo_getf hG xg_27_156 dX9_keepsLongs_18)) <|
  xw_cons (xw_E xn_iload (xo_iload_n dX9_keepsLongs_21 rfl)) <|
  xw_cons (xw_E xn_iload (xo_iload dX9_keepsLongs_22)) <|
  xw_cons (xw_E xn_ii (xo_iadd dX9_keepsLongs_24)) <|
  xw_cons (xw_E xn_ald (xo_lald xk_hB dX9_keepsLongs_25)) <|
  xw_cons (xw_E xn_ast (xo_last hG xk_hB rfl dX9_keepsLongs_26)) <|
  xw_cons (xw_E xn_goto (xo_goto dX9_keepsLongs_27 (by decide))) <|
  xw_cons (xw_E xn_aload (xo_aload_n dX9_keepsLongs_30 rfl)) <|
  xw_cons (xw_E xn_getf (xo_getf hG xg_27_156 dX9_keepsLongs_31)) <|
  xw_cons (xw_E xn_iload (xo_iload_n dX9_keepsLongs_34 rfl)) <|
  xw_cons (xw_E xn_iload (xo_iload dX9_keepsLongs_35)) <|
  xw_cons (xw_E xn_ii (xo_iadd dX9_keepsLongs_37)) <|
  xw_cons (xw_E xn_aload (xo_aload_n dX9_keepsLongs_38 rfl)) <|
  xw_cons (xw_E xn_iload (xo_iload dX9_keepsLongs_39)) <|
  xw_cons (xw_E xn_ald (xo_lald xk_hB dX9_keepsLongs_41)) <|
  xw_cons (xw_E xn_ast (xo_last hG xk_hB rfl dX9_keepsLongs_42)) <|
  xw_cons (xw_E xn_iinc (xo_iinc dX9_keepsLongs_43 (by decide))) <|
  xw_cons (xw_E xn_goto (xo_goto dX9_keepsLongs_46 (by decide))) <|
  xw_cons (xw_R (xt_v dX9_keepsLongs_49)) <|
  xw_nil _
def xp_240 : List (Nat × xm_O) := xp_240_0
theorem xq_240 {G : xm_G} (hG : xm_W xk_B G) (hO : xm_Og G) : ∀ q ∈ xp_240, xm_op xk_B G xd xk_N "LiarsCockModel" "keepsLongs" prog_28_method_102_code 6 none q.1 q.2 := xq_240_0 hG hO
/- 241: LiarsCockModel.count(I)I -/
def xp_241_0 : List (Nat × xm_O) := [
  (0, .inl (xe_aload 0 1)),
  (1, .inl (xe_push (.int 0) 2)),
  (2, .inl (xe_putf 300 0 (xj_1 8 0) 5)),
  (5, .inl (xe_iload 1 6)),
  (6, .inl (xe_push (.int 0) 7)),
  (7, .inl (xe_push (.int 11) 9)),
  (9, .inr (.inr (.inl (xc_S 200 [0, 0, 0])))),
  (12, .inl (xe_if (fun x => decide (¬ x = 0)) 17 15)),
  (15, .inl (xe_push (.int (-1)) 16)),
  (16, .inr (.inl xr_i)),
  (17, .inl (xe_iload 1 18)),
  (18, .inl (xe_push (.int 3) 19)),
  (19, .inl (xe_icmp (fun x y => decide (y ≤ x)) 29 22)),
  (22, .inl (xe_aload 0 23)),
  (23, .inl (xe_getf (xj_1 8 10) 26)),
  (26, .inl (xe_iload 1 27)),
  (27, .inl (xe_ald (fun t => t == 0) 28)),
  (28, .inr (.inl xr_i)),
  (29, .inl (xe_iload 1 30)),
  (30, .inl (xe_push (.int 3) 31)),
  (31, .inl (xe_icmp (fun x y => decide (¬ x = y)) 41 34)),
  (34, .inl (xe_aload 0 35)),
  (35, .inl (xe_getf (xj_1 8 37) 38)),
  (38, .inl (xe_goto 149)),
  (41, .inl (xe_iload 1 42)),
  (42, .inl (xe_push (.int 4) 43)),
  (43, .inl (xe_icmp (fun x y => decide (¬ x = y)) 63 46)),
  (46, .inl (xe_aload 0 47)),
  (47, .inl (xe_getf (xj_1 8 18) 50)),
  (50, .inl (xe_push (.int 1) 51)),
  (51, .inl (xe_ald (fun t => t == 2 || t == 3) 52)),
  (52, .inl (xe_if (fun x => decide (x = 0)) 59 55)),
  (55, .inl (xe_push (.int 2) 56)),
  (56, .inl (xe_goto 149)),
  (59, .inl (xe_push (.int 1) 60)),
  (60, .inl (xe_goto 149)),
  (63, .inl (xe_iload 1 64)),
  (64, .inl (xe_push (.int 5) 65)),
  (65, .inl (xe_icmp (fun x y => decide (¬ x = y)) 75 68)),
  (68, .inl (xe_aload 0 69)),
  (69, .inl (xe_getf (xj_1 8 40) 72)),
  (72, .inl (xe_goto 149)),
  (75, .inl (xe_iload 1 76)),
  (76, .inl (xe_push (.int 6) 78)),
  (78, .inl (xe_icmp (fun x y => decide (¬ x = y)) 88 81)),
  (81, .inl (xe_aload 0 82)),
  (82, .inl (xe_getf (xj_1 8 42) 85)),
  (85, .inl (xe_goto 149)),
  (88, .inl (xe_iload 1 89)),
  (89, .inl (xe_push (.int 7) 91))]
theorem xq_241_0 {G : xm_G} (hG : xm_W xk_B G) (hO : xm_Og G) : ∀ q ∈ xp_241_0, xm_op xk_B G xd xk_N "LiarsCockModel" "count" prog_28_method_104_code 2 (some (FieldType.int)) q.1 q.2 :=
  xw_cons (xw_E xn_aload (xo_aload_n dX9_count_0 rfl)) <|
  xw_cons (xw_E xn_push (xo_iconst dX9_count_1 (by decide))) <|
  xw_cons (xw_E xn_putf (xo_putf hG rfl xu_27_162 dX9_count_2)) <|
  xw_cons (xw_E xn_iload (xo_iload_n dX9_count_5 rfl)) <|
  xw_cons (xw_E xn_push (xo_iconst dX9_count_6 (by decide))) <|
  xw_cons (xw_E xn_push (xo_bipush dX9_count_7 (by decide))) <|
  xw_cons (xl_s_27_407 hG dX9_count_9) <|
  xw_cons (xw_E xn_if (xo_if_ne dX9_count_12 (by decide))) <|
  xw_cons (xw_E xn_push (xo_iconst dX9_count_15 (by decide))) <|
  xw_cons (xw_R (xt_i dX9_count_16)) <|
  xw_cons (xw_E xn_iload (xo_iload_n dX9_count_17 rfl)) <|
  xw_cons (xw_E xn_push (xo_iconst dX9_count_18 (by decide))) <|
  xw_cons (xw_E xn_icmp (xo_icmp_ge dX9_count_19 (by decide))) <|
  xw_cons (xw_E xn_aload (xo_aload_n dX9_count_22 rfl)) <|
  xw_cons (xw_E xn_getf (xo_getf hG xg_27_13 dX9_count_23)) <|
  xw_cons (xw_E xn_iload (xo_iload_n dX9_count_26 rfl)) <|
  xw_cons (xw_E xn_ald (xo_iald xk_hB dX9_count_27)) <|
  xw_cons (xw_R (xt_i dX9_count_28)) <|
  xw_cons (xw_E xn_iload (xo_iload_n dX9_count_29 rfl)) <|
  xw_cons (xw_E xn_push (xo_iconst dX9_count_30 (by decide))) <|
  xw_cons (xw_E xn_icmp (xo_icmp_ne dX9_count_31 (by decide))) <|
  xw_cons (xw_E xn_aload (xo_aload_n dX9_count_34 rfl)) <|
  xw_cons (xw_E xn_getf (xo_getf hG xg_27_315 dX9_count_35)) <|
  xw_cons (xw_E xn_goto (xo_goto dX9_count_38 (by decide))) <|
  xw_cons (xw_E xn_iload (xo_iload_n dX9_count_41 rfl)) <|
  xw_cons (xw_E xn_push (xo_iconst dX9_count_42 (by decide))) <|
  xw_cons (xw_E xn_icmp (xo_icmp_ne dX9_count_43 (by decide))) <|
  xw_cons (xw_E xn_aload (xo_aload_n dX9_count_46 rfl)) <|
  xw_cons (xw_E xn_getf (xo_getf hG xg_27_38 dX9_count_47)) <|
  xw_cons (xw_E xn_push (xo_iconst dX9_count_50 (by decide))) <|
  xw_cons (xw_E xn_ald (xo_bald xk_hB dX9_count_51)) <|
  xw_cons (xw_E xn_if (xo_if_eq dX9_count_52 (by decide))) <|
  xw_cons (xw_E xn_push (xo_iconst dX9_count_55 (by decide))) <|
  xw_cons (xw_E xn_goto (xo_goto dX9_count_56 (by decide))) <|
  xw_cons (xw_E xn_push (xo_iconst dX9_count_59 (by decide))) <|
  xw_cons (xw_E xn_goto (xo_goto dX9_count_60 (by decide))) <|
  xw_cons (xw_E xn_iload (xo_iload_n dX9_count_63 rfl)) <|
  xw_cons (xw_E xn_push (xo_iconst dX9_count_64 (by decide))) <|
  xw_cons (xw_E xn_icmp (xo_icmp_ne dX9_count_65 (by decide))) <|
  xw_cons (xw_E xn_aload (xo_aload_n dX9_count_68 rfl)) <|
  xw_cons (xw_E xn_getf (xo_getf hG xg_27_322 dX9_count_69)) <|
  xw_cons (xw_E xn_goto (xo_goto dX9_count_72 (by decide))) <|
  xw_cons (xw_E xn_iload (xo_iload_n dX9_count_75 rfl)) <|
  xw_cons (xw_E xn_push (xo_bipush dX9_count_76 (by decide))) <|
  xw_cons (xw_E xn_icmp (xo_icmp_ne dX9_count_78 (by decide))) <|
  xw_cons (xw_E xn_aload (xo_aload_n dX9_count_81 rfl)) <|
  xw_cons (xw_E xn_getf (xo_getf hG xg_27_328 dX9_count_82)) <|
  xw_cons (xw_E xn_goto (xo_goto dX9_count_85 (by decide))) <|
  xw_cons (xw_E xn_iload (xo_iload_n dX9_count_88 rfl)) <|
  xw_cons (xw_E xn_push (xo_bipush dX9_count_89 (by decide))) <|
  xw_nil _
def xp_241_1 : List (Nat × xm_O) := [
  (91, .inl (xe_icmp (fun x y => decide (¬ x = y)) 101 94)),
  (94, .inl (xe_aload 0 95)),
  (95, .inl (xe_getf (xj_1 8 41) 98)),
  (98, .inl (xe_goto 149)),
  (101, .inl (xe_iload 1 102)),
  (102, .inl (xe_push (.int 8) 104)),
  (104, .inl (xe_icmp (fun x y => decide (¬ x = y)) 114 107)),
  (107, .inl (xe_aload 0 108)),
  (108, .inl (xe_getf (xj_1 8 43) 111)),
  (111, .inl (xe_goto 149)),
  (114, .inl (xe_iload 1 115)),
  (115, .inl (xe_push (.int 9) 117)),
  (117, .inl (xe_icmp (fun x y => decide (¬ x = y)) 127 120)),
  (120, .inl (xe_aload 0 121)),
  (121, .inl (xe_getf (xj_1 8 44) 124)),
  (124, .inl (xe_goto 149)),
  (127, .inl (xe_iload 1 128)),
  (128, .inl (xe_push (.int 10) 130)),
  (130, .inl (xe_icmp (fun x y => decide (¬ x = y)) 140 133)),
  (133, .inl (xe_aload 0 134)),
  (134, .inl (xe_getf (xj_1 8 1) 137)),
  (137, .inl (xe_goto 149)),
  (140, .inl (xe_aload 0 141)),
  (141, .inl (xe_getf (xj_1 8 19) 144)),
  (144, .inl (xe_push (.int 0) 145)),
  (145, .inl (xe_ald (fun t => t == 1) 146)),
  (146, .inr (.inr (.inl (xc_S 195 [1])))),
  (149, .inr (.inl xr_i))]
theorem xq_241_1 {G : xm_G} (hG : xm_W xk_B G) (hO : xm_Og G) : ∀ q ∈ xp_241_1, xm_op xk_B G xd xk_N "LiarsCockModel" "count" prog_28_method_104_code 2 (some (FieldType.int)) q.1 q.2 :=
  xw_cons (xw_E xn_icmp (xo_icmp_ne dX9_count_91 (by decide))) <|
  xw_cons (xw_E xn_aload (xo_aload_n dX9_count_94 rfl)) <|
  xw_cons (xw_E xn_getf (xo_getf hG xg_27_325 dX9_count_95)) <|
  xw_cons (xw_E xn_goto (xo_goto dX9_count_98 (by decide))) <|
  xw_cons (xw_E xn_iload (xo_iload_n dX9_count_101 rfl)) <|
  xw_cons (xw_E xn_push (xo_bipush dX9_count_102 (by decide))) <|
  xw_cons (xw_E xn_icmp (xo_icmp_ne dX9_count_104 (by decide))) <|
  xw_cons (xw_E xn_aload (xo_aload_n dX9_count_107 rfl)) <|
  xw_cons (xw_E xn_getf (xo_getf hG xg_27_331 dX9_count_108)) <|
  xw_cons (xw_E xn_goto (xo_goto dX9_count_111 (by decide))) <|
  xw_cons (xw_E xn_iload (xo_iload_n dX9_count_114 rfl)) <|
  xw_cons (xw_E xn_push (xo_bipush dX9_count_115 (by decide))) <|
  xw_cons (xw_E xn_icmp (xo_icmp_ne dX9_count_117 (by decide))) <|
  xw_cons (xw_E xn_aload (xo_aload_n dX9_count_120 rfl)) <|
  xw_cons (xw_E xn_getf (xo_getf hG xg_27_334 dX9_count_121)) <|
  xw_cons (xw_E xn_goto (xo_goto dX9_count_124 (by decide))) <|
  xw_cons (xw_E xn_iload (xo_iload_n dX9_count_127 rfl)) <|
  xw_cons (xw_E xn_push (xo_bipush dX9_count_128 (by decide))) <|
  xw_cons (xw_E xn_icmp (xo_icmp_ne dX9_count_130 (by decide))) <|
  xw_cons (xw_E xn_aload (xo_aload_n dX9_count_133 rfl)) <|
  xw_cons (xw_E xn_getf (xo_getf hG xg_27_168 dX9_count_134)) <|
  xw_cons (xw_E xn_goto (xo_goto dX9_count_137 (by decide))) <|
  xw_cons (xw_E xn_aload (xo_aload_n dX9_count_140 rfl)) <|
  xw_cons (xw_E xn_getf (xo_getf hG xg_27_42 dX9_count_141)) <|
  xw_cons (xw_E xn_push (xo_iconst dX9_count_144 (by decide))) <|
  xw_cons (xw_E xn_ald (xo_lald xk_hB dX9_count_145)) <|
  xw_cons (xl_s_27_399 hG dX9_count_146) <|
  xw_cons (xw_R (xt_i dX9_count_149)) <|
  xw_nil _
def xp_241 : List (Nat × xm_O) := xp_241_0 ++ xp_241_1
theorem xq_241 {G : xm_G} (hG : xm_W xk_B G) (hO : xm_Og G) : ∀ q ∈ xp_241, xm_op xk_B G xd xk_N "LiarsCockModel" "count" prog_28_method_104_code 2 (some (FieldType.int)) q.1 q.2 := xw_app (xq_241_0 hG hO) (xq_241_1 hG hO)
/- 242: LiarsCock$Wrong.<init>(I)V -/
def xp_242_0 : List (Nat × xm_O) := [
  (0, .inl (xe_aload 0 1)),
  (4, .inl (xe_aload 0 5)),
  (5, .inl (xe_iload 1 6)),
  (6, .inl (xe_putf 300 0 (xj_1 9 0) 9)),
  (9, .inr (.inl xr_v))]
theorem xq_242_0 {G : xm_G} (hG : xm_W xk_B G) (hO : xm_Og G) : ∀ q ∈ xp_242_0, xm_op xk_B G xd xk_N "LiarsCock$Wrong" "<init>" prog_26_method_1_code 2 none q.1 q.2 :=
  xw_cons (xw_E xn_aload (xo_aload_n dX10_init_0 rfl)) <|
  xw_cons (xw_E xn_aload (xo_aload_n dX10_init_4 rfl)) <|
  xw_cons (xw_E xn_iload (xo_iload_n dX10_init_5 rfl)) <|
  xw_cons (xw_E xn_putf (xo_putf hG rfl xu_25_7 dX10_init_6)) <|
  xw_cons (xw_R (xt_v dX10_init_9)) <|
  xw_nil _
def xp_242 : List (Nat × xm_O) := xp_242_0
theorem xq_242 {G : xm_G} (hG : xm_W xk_B G) (hO : xm_Og G) : ∀ q ∈ xp_242, xm_op xk_B G xd xk_N "LiarsCock$Wrong" "<init>" prog_26_method_1_code 2 none q.1 q.2 := xq_242_0 hG hO
/- 243: LiarsCock$Person.<init>(I)V -/
def xp_243_0 : List (Nat × xm_O) := [
  (0, .inl (xe_aload 0 1)),
  (1, .inl (xe_objInit 4)),
  (4, .inl (xe_aload 0 5)),
  (5, .inl (xe_iload 1 6)),
  (6, .inl (xe_putf 300 0 (xj_1 10 0) 9)),
  (9, .inr (.inl xr_v))]
theorem xq_243_0 {G : xm_G} (hG : xm_W xk_B G) (hO : xm_Og G) : ∀ q ∈ xp_243_0, xm_op xk_B G xd xk_N "LiarsCock$Person" "<init>" prog_18_method_1_code 2 none q.1 q.2 :=
  xw_cons (xw_E xn_aload (xo_aload_n dX11_init_0 rfl)) <|
  xw_cons (xw_E xn_objInit (xo_objInit hG q842 q172 q173 dX11_init_1)) <|
  xw_cons (xw_E xn_aload (xo_aload_n dX11_init_4 rfl)) <|
  xw_cons (xw_E xn_iload (xo_iload_n dX11_init_5 rfl)) <|
  xw_cons (xw_E xn_putf (xo_putf hG rfl xu_17_7 dX11_init_6)) <|
  xw_cons (xw_R (xt_v dX11_init_9)) <|
  xw_nil _
def xp_243 : List (Nat × xm_O) := xp_243_0
theorem xq_243 {G : xm_G} (hG : xm_W xk_B G) (hO : xm_Og G) : ∀ q ∈ xp_243, xm_op xk_B G xd xk_N "LiarsCock$Person" "<init>" prog_18_method_1_code 2 none q.1 q.2 := xq_243_0 hG hO
/- 244: LiarsCock$Expression.<init>()V -/
def xp_244_0 : List (Nat × xm_O) := [
  (0, .inl (xe_aload 0 1)),
  (1, .inl (xe_objInit 4)),
  (4, .inr (.inl xr_v))]
theorem xq_244_0 {G : xm_G} (hG : xm_W xk_B G) (hO : xm_Og G) : ∀ q ∈ xp_244_0, xm_op xk_B G xd xk_N "LiarsCock$Expression" "<init>" prog_6_method_1_code 1 none q.1 q.2 :=
  xw_cons (xw_E xn_aload (xo_aload_n dX12_init_0 rfl)) <|
  xw_cons (xw_E xn_objInit (xo_objInit hG q897 q172 q173 dX12_init_1)) <|
  xw_cons (xw_R (xt_v dX12_init_4)) <|
  xw_nil _
def xp_244 : List (Nat × xm_O) := xp_244_0
theorem xq_244 {G : xm_G} (hG : xm_W xk_B G) (hO : xm_Og G) : ∀ q ∈ xp_244, xm_op xk_B G xd xk_N "LiarsCock$Expression" "<init>" prog_6_method_1_code 1 none q.1 q.2 := xq_244_0 hG hO
/- 245: LiarsCock$Fact.<init>(I)V -/
def xp_245_0 : List (Nat × xm_O) := [
  (0, .inl (xe_aload 0 1)),
  (1, .inr (.inr (.inl (xc_I 244 [])))),
  (4, .inl (xe_aload 0 5)),
  (5, .inl (xe_iload 1 6)),
  (6, .inl (xe_putf 300 0 (xj_1 11 0) 9)),
  (9, .inr (.inl xr_v))]
theorem xq_245_0 {G : xm_G} (hG : xm_W xk_B G) (hO : xm_Og G) : ∀ q ∈ xp_245_0, xm_op xk_B G xd xk_N "LiarsCock$Fact" "<init>" prog_7_method_1_code 2 none q.1 q.2 :=
  xw_cons (xw_E xn_aload (xo_aload_n dX13_init_0 rfl)) <|
  xw_cons (xl_s_6_1 hG dX13_init_1) <|
  xw_cons (xw_E xn_aload (xo_aload_n dX13_init_4 rfl)) <|
  xw_cons (xw_E xn_iload (xo_iload_n dX13_init_5 rfl)) <|
  xw_cons (xw_E xn_putf (xo_putf hG rfl xu_6_7 dX13_init_6)) <|
  xw_cons (xw_R (xt_v dX13_init_9)) <|
  xw_nil _
def xp_245 : List (Nat × xm_O) := xp_245_0
theorem xq_245 {G : xm_G} (hG : xm_W xk_B G) (hO : xm_Og G) : ∀ q ∈ xp_245, xm_op xk_B G xd xk_N "LiarsCock$Fact" "<init>" prog_7_method_1_code 2 none q.1 q.2 := xq_245_0 hG hO
/- 246: LiarsCock$Fact.of(LLiarsCock$Facts;)I -/
def xp_246_0 : List (Nat × xm_O) := [
  (0, .inl (xe_aload 1 1)),
  (1, .inl (xe_getf (xj_1 3 0) 4)),
  (4, .inl (xe_aload 0 5)),
  (5, .inl (xe_getf (xj_1 11 0) 8)),
  (8, .inl (xe_ald (fun t => t == 0) 9)),
  (9, .inr (.inl xr_i))]
theorem xq_246_0 {G : xm_G} (hG : xm_W xk_B G) (hO : xm_Og G) : ∀ q ∈ xp_246_0, xm_op xk_B G xd xk_N "LiarsCock$Fact" "of" prog_7_method_2_code 2 (some (FieldType.int)) q.1 q.2 :=
  xw_cons (xw_E xn_aload (xo_aload_n dX13_of_0 rfl)) <|
  xw_cons (xw_E xn_getf (xo_getf hG xg_6_13 dX13_of_1)) <|
  xw_cons (xw_E xn_aload (xo_aload_n dX13_of_4 rfl)) <|
  xw_cons (xw_E xn_getf (xo_getf hG xg_6_7 dX13_of_5)) <|
  xw_cons (xw_E xn_ald (xo_iald xk_hB dX13_of_8)) <|
  xw_cons (xw_R (xt_i dX13_of_9)) <|
  xw_nil _
def xp_246 : List (Nat × xm_O) := xp_246_0
theorem xq_246 {G : xm_G} (hG : xm_W xk_B G) (hO : xm_Og G) : ∀ q ∈ xp_246, xm_op xk_B G xd xk_N "LiarsCock$Fact" "of" prog_7_method_2_code 2 (some (FieldType.int)) q.1 q.2 := xq_246_0 hG hO
/- 247: LiarsCock$Plain.<init>(I)V -/
def xp_247_0 : List (Nat × xm_O) := [
  (0, .inl (xe_aload 0 1)),
  (1, .inr (.inr (.inl (xc_I 244 [])))),
  (4, .inl (xe_aload 0 5)),
  (5, .inl (xe_iload 1 6)),
  (6, .inl (xe_putf 300 0 (xj_1 12 0) 9)),
  (9, .inr (.inl xr_v))]
theorem xq_247_0 {G : xm_G} (hG : xm_W xk_B G) (hO : xm_Og G) : ∀ q ∈ xp_247_0, xm_op xk_B G xd xk_N "LiarsCock$Plain" "<init>" prog_19_method_1_code 2 none q.1 q.2 :=
  xw_cons (xw_E xn_aload (xo_aload_n dX14_init_0 rfl)) <|
  xw_cons (xl_s_18_1 hG dX14_init_1) <|
  xw_cons (xw_E xn_aload (xo_aload_n dX14_init_4 rfl)) <|
  xw_cons (xw_E xn_iload (xo_iload_n dX14_init_5 rfl)) <|
  xw_cons (xw_E xn_putf (xo_putf hG rfl xu_18_7 dX14_init_6)) <|
  xw_cons (xw_R (xt_v dX14_init_9)) <|
  xw_nil _
def xp_247 : List (Nat × xm_O) := xp_247_0
theorem xq_247 {G : xm_G} (hG : xm_W xk_B G) (hO : xm_Og G) : ∀ q ∈ xp_247, xm_op xk_B G xd xk_N "LiarsCock$Plain" "<init>" prog_19_method_1_code 2 none q.1 q.2 := xq_247_0 hG hO
/- 248: LiarsCock$Plain.of(LLiarsCock$Facts;)I -/
def xp_248_0 : List (Nat × xm_O) := [
  (0, .inl (xe_aload 0 1)),
  (1, .inl (xe_getf (xj_1 12 0) 4)),
  (4, .inr (.inl xr_i))]
theorem xq_248_0 {G : xm_G} (hG : xm_W xk_B G) (hO : xm_Og G) : ∀ q ∈ xp_248_0, xm_op xk_B G xd xk_N "LiarsCock$Plain" "of" prog_19_method_2_code 2 (some (FieldType.int)) q.1 q.2 :=
  xw_cons (xw_E xn_aload (xo_aload_n dX14_of_0 rfl)) <|
  xw_cons (xw_E xn_getf (xo_getf hG xg_18_7 dX14_of_1)) <|
  xw_cons (xw_R (xt_i dX14_of_4)) <|
  xw_nil _
def xp_248 : List (Nat × xm_O) := xp_248_0
theorem xq_248 {G : xm_G} (hG : xm_W xk_B G) (hO : xm_Og G) : ∀ q ∈ xp_248, xm_op xk_B G xd xk_N "LiarsCock$Plain" "of" prog_19_method_2_code 2 (some (FieldType.int)) q.1 q.2 := xq_248_0 hG hO
/- 249: LiarsCock$Not.<init>(LLiarsCock$Expression;)V -/
def xp_249_0 : List (Nat × xm_O) := [
  (0, .inl (xe_aload 0 1)),
  (1, .inr (.inr (.inl (xc_I 244 [])))),
  (4, .inl (xe_aload 0 5)),
  (5, .inl (xe_aload 1 6)),
  (6, .inl (xe_putf 300 2 (xj_1 13 0) 9)),
  (9, .inr (.inl xr_v))]
theorem xq_249_0 {G : xm_G} (hG : xm_W xk_B G) (hO : xm_Og G) : ∀ q ∈ xp_249_0, xm_op xk_B G xd xk_N "LiarsCock$Not" "<init>" prog_15_method_1_code 2 none q.1 q.2 :=
  xw_cons (xw_E xn_aload (xo_aload_n dX15_init_0 rfl)) <|
  xw_cons (xl_s_14_1 hG dX15_init_1) <|
  xw_cons (xw_E xn_aload (xo_aload_n dX15_init_4 rfl)) <|
  xw_cons (xw_E xn_aload (xo_aload_n dX15_init_5 rfl)) <|
  xw_cons (xw_E xn_putf (xo_putf hG rfl xu_14_7 dX15_init_6)) <|
  xw_cons (xw_R (xt_v dX15_init_9)) <|
  xw_nil _
def xp_249 : List (Nat × xm_O) := xp_249_0
theorem xq_249 {G : xm_G} (hG : xm_W xk_B G) (hO : xm_Og G) : ∀ q ∈ xp_249, xm_op xk_B G xd xk_N "LiarsCock$Not" "<init>" prog_15_method_1_code 2 none q.1 q.2 := xq_249_0 hG hO
/- 250: LiarsCock$Not.of(LLiarsCock$Facts;)I -/
def xp_250_0 : List (Nat × xm_O) := [
  (0, .inl (xe_aload 0 1)),
  (1, .inl (xe_getf (xj_1 13 0) 4)),
  (4, .inl (xe_aload 1 5)),
  (5, .inr (.inr (.inl (xc_V (xj_l [(11, 246), (12, 248), (13, 250), (14, 252)]) [2])))),
  (8, .inl (xe_if (fun x => decide (¬ x = 0)) 15 11)),
  (11, .inl (xe_push (.int 1) 12)),
  (12, .inl (xe_goto 16)),
  (15, .inl (xe_push (.int 0) 16)),
  (16, .inr (.inl xr_i))]
theorem xq_250_0 {G : xm_G} (hG : xm_W xk_B G) (hO : xm_Og G) : ∀ q ∈ xp_250_0, xm_op xk_B G xd xk_N "LiarsCock$Not" "of" prog_15_method_2_code 2 (some (FieldType.int)) q.1 q.2 :=
  xw_cons (xw_E xn_aload (xo_aload_n dX15_of_0 rfl)) <|
  xw_cons (xw_E xn_getf (xo_getf hG xg_14_7 dX15_of_1)) <|
  xw_cons (xw_E xn_aload (xo_aload_n dX15_of_4 rfl)) <|
  xw_cons (xl_v_14_13 hG dX15_of_5) <|
  xw_cons (xw_E xn_if (xo_if_ne dX15_of_8 (by decide))) <|
  xw_cons (xw_E xn_push (xo_iconst dX15_of_11 (by decide))) <|
  xw_cons (xw_E xn_goto (xo_goto dX15_of_12 (by decide))) <|
  xw_cons (xw_E xn_push (xo_iconst dX15_of_15 (by decide))) <|
  xw_cons (xw_R (xt_i dX15_of_16)) <|
  xw_nil _
def xp_250 : List (Nat × xm_O) := xp_250_0
theorem xq_250 {G : xm_G} (hG : xm_W xk_B G) (hO : xm_Og G) : ∀ q ∈ xp_250, xm_op xk_B G xd xk_N "LiarsCock$Not" "of" prog_15_method_2_code 2 (some (FieldType.int)) q.1 q.2 := xq_250_0 hG hO
/- 251: LiarsCock$Chain.<init>(LLiarsCock$Expression;)V -/
def xp_251_0 : List (Nat × xm_O) := [
  (0, .inl (xe_aload 0 1)),
  (1, .inr (.inr (.inl (xc_I 244 [])))),
  (4, .inl (xe_aload 0 5)),
  (5, .inl (xe_new 25 3 xk_f25 8)),
  (8, .inl (xe_dup 9)),
  (9, .inl (xe_push (.int 1) 10)),
  (10, .inr (.inr (.inl (xc_I 278 [0])))),
  (13, .inl (xe_putf 300 2 (xj_1 14 1) 16)),
  (16, .inl (xe_aload 0 17)),
  (17, .inl (xe_aload 1 18)),
  (18, .inl (xe_putf 300 2 (xj_1 14 0) 21)),
  (21, .inr (.inl xr_v))]
theorem xq_251_0 {G : xm_G} (hG : xm_W xk_B G) (hO : xm_Og G) : ∀ q ∈ xp_251_0, xm_op xk_B G xd xk_N "LiarsCock$Chain" "<init>" prog_4_method_1_code 2 none q.1 q.2 :=
  xw_cons (xw_E xn_aload (xo_aload_n dX16_init_0 rfl)) <|
  xw_cons (xl_s_3_1 hG dX16_init_1) <|
  xw_cons (xw_E xn_aload (xo_aload_n dX16_init_4 rfl)) <|
  xw_cons (xw_E xn_new (xo_new hG xnw_3_7 dX16_init_5)) <|
  xw_cons (xw_E xn_dup (xo_dup dX16_init_8)) <|
  xw_cons (xw_E xn_push (xo_iconst dX16_init_9 (by decide))) <|
  xw_cons (xl_s_3_9 hG dX16_init_10) <|
  xw_cons (xw_E xn_putf (xo_putf hG rfl xu_3_12 dX16_init_13)) <|
  xw_cons (xw_E xn_aload (xo_aload_n dX16_init_16 rfl)) <|
  xw_cons (xw_E xn_aload (xo_aload_n dX16_init_17 rfl)) <|
  xw_cons (xw_E xn_putf (xo_putf hG rfl xu_3_18 dX16_init_18)) <|
  xw_cons (xw_R (xt_v dX16_init_21)) <|
  xw_nil _
def xp_251 : List (Nat × xm_O) := xp_251_0
theorem xq_251 {G : xm_G} (hG : xm_W xk_B G) (hO : xm_Og G) : ∀ q ∈ xp_251, xm_op xk_B G xd xk_N "LiarsCock$Chain" "<init>" prog_4_method_1_code 2 none q.1 q.2 := xq_251_0 hG hO
/- 252: LiarsCock$Chain.of(LLiarsCock$Facts;)I -/
def xp_252_0 : List (Nat × xm_O) := [
  (0, .inl (xe_aload 0 1)),
  (1, .inl (xe_getf (xj_1 14 0) 4)),
  (4, .inl (xe_aload 1 5)),
  (5, .inr (.inr (.inl (xc_V (xj_l [(11, 246), (12, 248), (13, 250), (14, 252)]) [2])))),
  (8, .inl (xe_istore 2 9)),
  (9, .inl (xe_push (.int 0) 10)),
  (10, .inl (xe_istore 3 11)),
  (11, .inl (xe_iload 3 12)),
  (12, .inl (xe_aload 0 13)),
  (13, .inl (xe_getf (xj_1 14 1) 16)),
  (16, .inr (.inr (.inl (xc_V (xj_1 25 280) [])))),
  (19, .inl (xe_icmp (fun x y => decide (y ≤ x)) 45 22)),
  (22, .inl (xe_aload 0 23)),
  (23, .inl (xe_getf (xj_1 14 1) 26)),
  (26, .inl (xe_iload 3 27)),
  (27, .inr (.inr (.inl (xc_V (xj_1 25 281) [0])))),
  (30, .inl (xe_cast (fun ci => ([15, 16, 17, 18, 19, 20, 21] : List Nat).elem ci) 33)),
  (33, .inl (xe_iload 2 34)),
  (34, .inl (xe_aload 1 35)),
  (35, .inr (.inr (.inl (xc_V (xj_l [(15, 254), (16, 254), (17, 254), (18, 254), (19, 254), (20, 254), (21, 254)]) [2, 0])))),
  (38, .inl (xe_istore 2 39)),
  (39, .inl (xe_iinc 3 1 42)),
  (42, .inl (xe_goto 11)),
  (45, .inl (xe_iload 2 46)),
  (46, .inr (.inl xr_i))]
theorem xq_252_0 {G : xm_G} (hG : xm_W xk_B G) (hO : xm_Og G) : ∀ q ∈ xp_252_0, xm_op xk_B G xd xk_N "LiarsCock$Chain" "of" prog_4_method_2_code 4 (some (FieldType.int)) q.1 q.2 :=
  xw_cons (xw_E xn_aload (xo_aload_n dX16_of_0 rfl)) <|
  xw_cons (xw_E xn_getf (xo_getf hG xg_3_18 dX16_of_1)) <|
  xw_cons (xw_E xn_aload (xo_aload_n dX16_of_4 rfl)) <|
  xw_cons (xl_v_3_22 hG dX16_of_5) <|
  xw_cons (xw_E xn_istore (xo_istore_n dX16_of_8 rfl)) <|
  xw_cons (xw_E xn_push (xo_iconst dX16_of_9 (by decide))) <|
  xw_cons (xw_E xn_istore (xo_istore_n dX16_of_10 rfl)) <|
  xw_cons (xw_E xn_iload (xo_iload_n dX16_of_11 rfl)) <|
  xw_cons (xw_E xn_aload (xo_aload_n dX16_of_12 rfl)) <|
  xw_cons (xw_E xn_getf (xo_getf hG xg_3_12 dX16_of_13)) <|
  xw_cons (xl_v_3_26 hG dX16_of_16) <|
  xw_cons (xw_E xn_icmp (xo_icmp_ge dX16_of_19 (by decide))) <|
  xw_cons (xw_E xn_aload (xo_aload_n dX16_of_22 rfl)) <|
  xw_cons (xw_E xn_getf (xo_getf hG xg_3_12 dX16_of_23)) <|
  xw_cons (xw_E xn_iload (xo_iload_n dX16_of_26 rfl)) <|
  xw_cons (xl_v_3_30 hG dX16_of_27) <|
  xw_cons (xw_E xn_cast (xo_cast hG q1046 xca_3_34 dX16_of_30)) <|
  xw_cons (xw_E xn_iload (xo_iload_n dX16_of_33 rfl)) <|
  xw_cons (xw_E xn_aload (xo_aload_n dX16_of_34 rfl)) <|
  xw_cons (xl_v_3_36 hG dX16_of_35) <|
  xw_cons (xw_E xn_istore (xo_istore_n dX16_of_38 rfl)) <|
  xw_cons (xw_E xn_iinc (xo_iinc dX16_of_39 (by decide))) <|
  xw_cons (xw_E xn_goto (xo_goto dX16_of_42 (by decide))) <|
  xw_cons (xw_E xn_iload (xo_iload_n dX16_of_45 rfl)) <|
  xw_cons (xw_R (xt_i dX16_of_46)) <|
  xw_nil _
def xp_252 : List (Nat × xm_O) := xp_252_0
theorem xq_252 {G : xm_G} (hG : xm_W xk_B G) (hO : xm_Og G) : ∀ q ∈ xp_252, xm_op xk_B G xd xk_N "LiarsCock$Chain" "of" prog_4_method_2_code 4 (some (FieldType.int)) q.1 q.2 := xq_252_0 hG hO
/- 253: LiarsCock$Link.<init>(LLiarsCock$Expression;)V -/
def xp_253_0 : List (Nat × xm_O) := [
  (0, .inl (xe_aload 0 1)),
  (1, .inl (xe_objInit 4)),
  (4, .inl (xe_aload 0 5)),
  (5, .inl (xe_aload 1 6)),
  (6, .inl (xe_putf 300 2 (xj_l [(15, 0), (16, 0), (17, 0), (18, 0), (19, 0), (20, 0), (21, 0)]) 9)),
  (9, .inr (.inl xr_v))]
theorem xq_253_0 {G : xm_G} (hG : xm_W xk_B G) (hO : xm_Og G) : ∀ q ∈ xp_253_0, xm_op xk_B G xd xk_N "LiarsCock$Link" "<init>" prog_10_method_1_code 2 none q.1 q.2 :=
  xw_cons (xw_E xn_aload (xo_aload_n dX17_init_0 rfl)) <|
  xw_cons (xw_E xn_objInit (xo_objInit hG q957 q172 q173 dX17_init_1)) <|
  xw_cons (xw_E xn_aload (xo_aload_n dX17_init_4 rfl)) <|
  xw_cons (xw_E xn_aload (xo_aload_n dX17_init_5 rfl)) <|
  xw_cons (xw_E xn_putf (xo_putf hG rfl xu_9_7 dX17_init_6)) <|
  xw_cons (xw_R (xt_v dX17_init_9)) <|
  xw_nil _
def xp_253 : List (Nat × xm_O) := xp_253_0
theorem xq_253 {G : xm_G} (hG : xm_W xk_B G) (hO : xm_Og G) : ∀ q ∈ xp_253, xm_op xk_B G xd xk_N "LiarsCock$Link" "<init>" prog_10_method_1_code 2 none q.1 q.2 := xq_253_0 hG hO
/- 254: LiarsCock$Link.on(ILLiarsCock$Facts;)I -/
def xp_254_0 : List (Nat × xm_O) := [
  (0, .inl (xe_aload 0 1)),
  (1, .inl (xe_iload 1 2)),
  (2, .inl (xe_aload 0 3)),
  (3, .inl (xe_getf (xj_l [(15, 0), (16, 0), (17, 0), (18, 0), (19, 0), (20, 0), (21, 0)]) 6)),
  (6, .inl (xe_aload 2 7)),
  (7, .inr (.inr (.inl (xc_V (xj_l [(11, 246), (12, 248), (13, 250), (14, 252)]) [2])))),
  (10, .inr (.inr (.inl (xc_V (xj_l [(15, 256), (16, 258), (17, 260), (18, 262), (19, 264), (20, 266), (21, 268)]) [0, 0])))),
  (13, .inr (.inl xr_i))]
theorem xq_254_0 {G : xm_G} (hG : xm_W xk_B G) (hO : xm_Og G) : ∀ q ∈ xp_254_0, xm_op xk_B G xd xk_N "LiarsCock$Link" "on" prog_10_method_3_code 3 (some (FieldType.int)) q.1 q.2 :=
  xw_cons (xw_E xn_aload (xo_aload_n dX17_on_0 rfl)) <|
  xw_cons (xw_E xn_iload (xo_iload_n dX17_on_1 rfl)) <|
  xw_cons (xw_E xn_aload (xo_aload_n dX17_on_2 rfl)) <|
  xw_cons (xw_E xn_getf (xo_getf hG xg_9_7 dX17_on_3)) <|
  xw_cons (xw_E xn_aload (xo_aload_n dX17_on_6 rfl)) <|
  xw_cons (xl_v_9_13 hG dX17_on_7) <|
  xw_cons (xl_v_9_19 hG dX17_on_10) <|
  xw_cons (xw_R (xt_i dX17_on_13)) <|
  xw_nil _
def xp_254 : List (Nat × xm_O) := xp_254_0
theorem xq_254 {G : xm_G} (hG : xm_W xk_B G) (hO : xm_Og G) : ∀ q ∈ xp_254, xm_op xk_B G xd xk_N "LiarsCock$Link" "on" prog_10_method_3_code 3 (some (FieldType.int)) q.1 q.2 := xq_254_0 hG hO
/- 255: LiarsCock$Times.<init>(LLiarsCock$Expression;)V -/
def xp_255_0 : List (Nat × xm_O) := [
  (0, .inl (xe_aload 0 1)),
  (1, .inl (xe_aload 1 2)),
  (2, .inr (.inr (.inl (xc_I 253 [2])))),
  (5, .inr (.inl xr_v))]
theorem xq_255_0 {G : xm_G} (hG : xm_W xk_B G) (hO : xm_Og G) : ∀ q ∈ xp_255_0, xm_op xk_B G xd xk_N "LiarsCock$Times" "<init>" prog_25_method_1_code 2 none q.1 q.2 :=
  xw_cons (xw_E xn_aload (xo_aload_n dX18_init_0 rfl)) <|
  xw_cons (xw_E xn_aload (xo_aload_n dX18_init_1 rfl)) <|
  xw_cons (xl_s_24_1 hG dX18_init_2) <|
  xw_cons (xw_R (xt_v dX18_init_5)) <|
  xw_nil _
def xp_255 : List (Nat × xm_O) := xp_255_0
theorem xq_255 {G : xm_G} (hG : xm_W xk_B G) (hO : xm_Og G) : ∀ q ∈ xp_255, xm_op xk_B G xd xk_N "LiarsCock$Times" "<init>" prog_25_method_1_code 2 none q.1 q.2 := xq_255_0 hG hO
/- 256: LiarsCock$Times.with(II)I -/
def xp_256_0 : List (Nat × xm_O) := [
  (0, .inl (xe_iload 1 1)),
  (1, .inl (xe_iload 2 2)),
  (2, .inl (xe_ii (fun x y => x * y) 3)),
  (3, .inr (.inl xr_i))]
theorem xq_256_0 {G : xm_G} (hG : xm_W xk_B G) (hO : xm_Og G) : ∀ q ∈ xp_256_0, xm_op xk_B G xd xk_N "LiarsCock$Times" "with" prog_25_method_2_code 3 (some (FieldType.int)) q.1 q.2 :=
  xw_cons (xw_E xn_iload (xo_iload_n dX18_with_0 rfl)) <|
  xw_cons (xw_E xn_iload (xo_iload_n dX18_with_1 rfl)) <|
  xw_cons (xw_E xn_ii (xo_imul dX18_with_2)) <|
  xw_cons (xw_R (xt_i dX18_with_3)) <|
  xw_nil _
def xp_256 : List (Nat × xm_O) := xp_256_0
theorem xq_256 {G : xm_G} (hG : xm_W xk_B G) (hO : xm_Og G) : ∀ q ∈ xp_256, xm_op xk_B G xd xk_N "LiarsCock$Times" "with" prog_25_method_2_code 3 (some (FieldType.int)) q.1 q.2 := xq_256_0 hG hO
/- 257: LiarsCock$Plus.<init>(LLiarsCock$Expression;)V -/
def xp_257_0 : List (Nat × xm_O) := [
  (0, .inl (xe_aload 0 1)),
  (1, .inl (xe_aload 1 2)),
  (2, .inr (.inr (.inl (xc_I 253 [2])))),
  (5, .inr (.inl xr_v))]
theorem xq_257_0 {G : xm_G} (hG : xm_W xk_B G) (hO : xm_Og G) : ∀ q ∈ xp_257_0, xm_op xk_B G xd xk_N "LiarsCock$Plus" "<init>" prog_20_method_1_code 2 none q.1 q.2 :=
  xw_cons (xw_E xn_aload (xo_aload_n dX19_init_0 rfl)) <|
  xw_cons (xw_E xn_aload (xo_aload_n dX19_init_1 rfl)) <|
  xw_cons (xl_s_19_1 hG dX19_init_2) <|
  xw_cons (xw_R (xt_v dX19_init_5)) <|
  xw_nil _
def xp_257 : List (Nat × xm_O) := xp_257_0
theorem xq_257 {G : xm_G} (hG : xm_W xk_B G) (hO : xm_Og G) : ∀ q ∈ xp_257, xm_op xk_B G xd xk_N "LiarsCock$Plus" "<init>" prog_20_method_1_code 2 none q.1 q.2 := xq_257_0 hG hO
/- 258: LiarsCock$Plus.with(II)I -/
def xp_258_0 : List (Nat × xm_O) := [
  (0, .inl (xe_iload 1 1)),
  (1, .inl (xe_iload 2 2)),
  (2, .inl (xe_ii (fun x y => x + y) 3)),
  (3, .inr (.inl xr_i))]
theorem xq_258_0 {G : xm_G} (hG : xm_W xk_B G) (hO : xm_Og G) : ∀ q ∈ xp_258_0, xm_op xk_B G xd xk_N "LiarsCock$Plus" "with" prog_20_method_2_code 3 (some (FieldType.int)) q.1 q.2 :=
  xw_cons (xw_E xn_iload (xo_iload_n dX19_with_0 rfl)) <|
  xw_cons (xw_E xn_iload (xo_iload_n dX19_with_1 rfl)) <|
  xw_cons (xw_E xn_ii (xo_iadd dX19_with_2)) <|
  xw_cons (xw_R (xt_i dX19_with_3)) <|
  xw_nil _
def xp_258 : List (Nat × xm_O) := xp_258_0
theorem xq_258 {G : xm_G} (hG : xm_W xk_B G) (hO : xm_Og G) : ∀ q ∈ xp_258, xm_op xk_B G xd xk_N "LiarsCock$Plus" "with" prog_20_method_2_code 3 (some (FieldType.int)) q.1 q.2 := xq_258_0 hG hO
/- 259: LiarsCock$Minus.<init>(LLiarsCock$Expression;)V -/
def xp_259_0 : List (Nat × xm_O) := [
  (0, .inl (xe_aload 0 1)),
  (1, .inl (xe_aload 1 2)),
  (2, .inr (.inr (.inl (xc_I 253 [2])))),
  (5, .inr (.inl xr_v))]
theorem xq_259_0 {G : xm_G} (hG : xm_W xk_B G) (hO : xm_Og G) : ∀ q ∈ xp_259_0, xm_op xk_B G xd xk_N "LiarsCock$Minus" "<init>" prog_14_method_1_code 2 none q.1 q.2 :=
  xw_cons (xw_E xn_aload (xo_aload_n dX20_init_0 rfl)) <|
  xw_cons (xw_E xn_aload (xo_aload_n dX20_init_1 rfl)) <|
  xw_cons (xl_s_13_1 hG dX20_init_2) <|
  xw_cons (xw_R (xt_v dX20_init_5)) <|
  xw_nil _
def xp_259 : List (Nat × xm_O) := xp_259_0
theorem xq_259 {G : xm_G} (hG : xm_W xk_B G) (hO : xm_Og G) : ∀ q ∈ xp_259, xm_op xk_B G xd xk_N "LiarsCock$Minus" "<init>" prog_14_method_1_code 2 none q.1 q.2 := xq_259_0 hG hO
/- 260: LiarsCock$Minus.with(II)I -/
def xp_260_0 : List (Nat × xm_O) := [
  (0, .inl (xe_iload 1 1)),
  (1, .inl (xe_iload 2 2)),
  (2, .inl (xe_ii (fun x y => x - y) 3)),
  (3, .inr (.inl xr_i))]
theorem xq_260_0 {G : xm_G} (hG : xm_W xk_B G) (hO : xm_Og G) : ∀ q ∈ xp_260_0, xm_op xk_B G xd xk_N "LiarsCock$Minus" "with" prog_14_method_2_code 3 (some (FieldType.int)) q.1 q.2 :=
  xw_cons (xw_E xn_iload (xo_iload_n dX20_with_0 rfl)) <|
  xw_cons (xw_E xn_iload (xo_iload_n dX20_with_1 rfl)) <|
  xw_cons (xw_E xn_ii (xo_isub dX20_with_2)) <|
  xw_cons (xw_R (xt_i dX20_with_3)) <|
  xw_nil _
def xp_260 : List (Nat × xm_O) := xp_260_0
theorem xq_260 {G : xm_G} (hG : xm_W xk_B G) (hO : xm_Og G) : ∀ q ∈ xp_260, xm_op xk_B G xd xk_N "LiarsCock$Minus" "with" prog_14_method_2_code 3 (some (FieldType.int)) q.1 q.2 := xq_260_0 hG hO
/- 261: LiarsCock$Less.<init>(LLiarsCock$Expression;)V -/
def xp_261_0 : List (Nat × xm_O) := [
  (0, .inl (xe_aload 0 1)),
  (1, .inl (xe_aload 1 2)),
  (2, .inr (.inr (.inl (xc_I 253 [2])))),
  (5, .inr (.inl xr_v))]
theorem xq_261_0 {G : xm_G} (hG : xm_W xk_B G) (hO : xm_Og G) : ∀ q ∈ xp_261_0, xm_op xk_B G xd xk_N "LiarsCock$Less" "<init>" prog_9_method_1_code 2 none q.1 q.2 :=
  xw_cons (xw_E xn_aload (xo_aload_n dX21_init_0 rfl)) <|
  xw_cons (xw_E xn_aload (xo_aload_n dX21_init_1 rfl)) <|
  xw_cons (xl_s_8_1 hG dX21_init_2) <|
  xw_cons (xw_R (xt_v dX21_init_5)) <|
  xw_nil _
def xp_261 : List (Nat × xm_O) := xp_261_0
theorem xq_261 {G : xm_G} (hG : xm_W xk_B G) (hO : xm_Og G) : ∀ q ∈ xp_261, xm_op xk_B G xd xk_N "LiarsCock$Less" "<init>" prog_9_method_1_code 2 none q.1 q.2 := xq_261_0 hG hO
/- 262: LiarsCock$Less.with(II)I -/
def xp_262_0 : List (Nat × xm_O) := [
  (0, .inl (xe_iload 1 1)),
  (1, .inl (xe_iload 2 2)),
  (2, .inl (xe_icmp (fun x y => decide (y ≤ x)) 9 5)),
  (5, .inl (xe_push (.int 1) 6)),
  (6, .inl (xe_goto 10)),
  (9, .inl (xe_push (.int 0) 10)),
  (10, .inr (.inl xr_i))]
theorem xq_262_0 {G : xm_G} (hG : xm_W xk_B G) (hO : xm_Og G) : ∀ q ∈ xp_262_0, xm_op xk_B G xd xk_N "LiarsCock$Less" "with" prog_9_method_2_code 3 (some (FieldType.int)) q.1 q.2 :=
  xw_cons (xw_E xn_iload (xo_iload_n dX21_with_0 rfl)) <|
  xw_cons (xw_E xn_iload (xo_iload_n dX21_with_1 rfl)) <|
  xw_cons (xw_E xn_icmp (xo_icmp_ge dX21_with_2 (by decide))) <|
  xw_cons (xw_E xn_push (xo_iconst dX21_with_5 (by decide))) <|
  xw_cons (xw_E xn_goto (xo_goto dX21_with_6 (by decide))) <|
  xw_cons (xw_E xn_push (xo_iconst dX21_with_9 (by decide))) <|
  xw_cons (xw_R (xt_i dX21_with_10)) <|
  xw_nil _
def xp_262 : List (Nat × xm_O) := xp_262_0
theorem xq_262 {G : xm_G} (hG : xm_W xk_B G) (hO : xm_Og G) : ∀ q ∈ xp_262, xm_op xk_B G xd xk_N "LiarsCock$Less" "with" prog_9_method_2_code 3 (some (FieldType.int)) q.1 q.2 := xq_262_0 hG hO
/- 263: LiarsCock$Same.<init>(LLiarsCock$Expression;)V -/
def xp_263_0 : List (Nat × xm_O) := [
  (0, .inl (xe_aload 0 1)),
  (1, .inl (xe_aload 1 2)),
  (2, .inr (.inr (.inl (xc_I 253 [2])))),
  (5, .inr (.inl xr_v))]
theorem xq_263_0 {G : xm_G} (hG : xm_W xk_B G) (hO : xm_Og G) : ∀ q ∈ xp_263_0, xm_op xk_B G xd xk_N "LiarsCock$Same" "<init>" prog_22_method_1_code 2 none q.1 q.2 :=
  xw_cons (xw_E xn_aload (xo_aload_n dX22_init_0 rfl)) <|
  xw_cons (xw_E xn_aload (xo_aload_n dX22_init_1 rfl)) <|
  xw_cons (xl_s_21_1 hG dX22_init_2) <|
  xw_cons (xw_R (xt_v dX22_init_5)) <|
  xw_nil _
def xp_263 : List (Nat × xm_O) := xp_263_0
theorem xq_263 {G : xm_G} (hG : xm_W xk_B G) (hO : xm_Og G) : ∀ q ∈ xp_263, xm_op xk_B G xd xk_N "LiarsCock$Same" "<init>" prog_22_method_1_code 2 none q.1 q.2 := xq_263_0 hG hO
/- 264: LiarsCock$Same.with(II)I -/
def xp_264_0 : List (Nat × xm_O) := [
  (0, .inl (xe_iload 1 1)),
  (1, .inl (xe_iload 2 2)),
  (2, .inl (xe_icmp (fun x y => decide (¬ x = y)) 9 5)),
  (5, .inl (xe_push (.int 1) 6)),
  (6, .inl (xe_goto 10)),
  (9, .inl (xe_push (.int 0) 10)),
  (10, .inr (.inl xr_i))]
theorem xq_264_0 {G : xm_G} (hG : xm_W xk_B G) (hO : xm_Og G) : ∀ q ∈ xp_264_0, xm_op xk_B G xd xk_N "LiarsCock$Same" "with" prog_22_method_2_code 3 (some (FieldType.int)) q.1 q.2 :=
  xw_cons (xw_E xn_iload (xo_iload_n dX22_with_0 rfl)) <|
  xw_cons (xw_E xn_iload (xo_iload_n dX22_with_1 rfl)) <|
  xw_cons (xw_E xn_icmp (xo_icmp_ne dX22_with_2 (by decide))) <|
  xw_cons (xw_E xn_push (xo_iconst dX22_with_5 (by decide))) <|
  xw_cons (xw_E xn_goto (xo_goto dX22_with_6 (by decide))) <|
  xw_cons (xw_E xn_push (xo_iconst dX22_with_9 (by decide))) <|
  xw_cons (xw_R (xt_i dX22_with_10)) <|
  xw_nil _
def xp_264 : List (Nat × xm_O) := xp_264_0
theorem xq_264 {G : xm_G} (hG : xm_W xk_B G) (hO : xm_Og G) : ∀ q ∈ xp_264, xm_op xk_B G xd xk_N "LiarsCock$Same" "with" prog_22_method_2_code 3 (some (FieldType.int)) q.1 q.2 := xq_264_0 hG hO
/- 265: LiarsCock$And.<init>(LLiarsCock$Expression;)V -/
def xp_265_0 : List (Nat × xm_O) := [
  (0, .inl (xe_aload 0 1)),
  (1, .inl (xe_aload 1 2)),
  (2, .inr (.inr (.inl (xc_I 253 [2])))),
  (5, .inr (.inl xr_v))]
theorem xq_265_0 {G : xm_G} (hG : xm_W xk_B G) (hO : xm_Og G) : ∀ q ∈ xp_265_0, xm_op xk_B G xd xk_N "LiarsCock$And" "<init>" prog_2_method_1_code 2 none q.1 q.2 :=
  xw_cons (xw_E xn_aload (xo_aload_n dX23_init_0 rfl)) <|
  xw_cons (xw_E xn_aload (xo_aload_n dX23_init_1 rfl)) <|
  xw_cons (xl_s_1_1 hG dX23_init_2) <|
  xw_cons (xw_R (xt_v dX23_init_5)) <|
  xw_nil _
def xp_265 : List (Nat × xm_O) := xp_265_0
theorem xq_265 {G : xm_G} (hG : xm_W xk_B G) (hO : xm_Og G) : ∀ q ∈ xp_265, xm_op xk_B G xd xk_N "LiarsCock$And" "<init>" prog_2_method_1_code 2 none q.1 q.2 := xq_265_0 hG hO
/- 266: LiarsCock$And.with(II)I -/
def xp_266_0 : List (Nat × xm_O) := [
  (0, .inl (xe_iload 1 1)),
  (1, .inl (xe_if (fun x => decide (x = 0)) 12 4)),
  (4, .inl (xe_iload 2 5)),
  (5, .inl (xe_if (fun x => decide (x = 0)) 12 8)),
  (8, .inl (xe_push (.int 1) 9)),
  (9, .inl (xe_goto 13)),
  (12, .inl (xe_push (.int 0) 13)),
  (13, .inr (.inl xr_i))]
theorem xq_266_0 {G : xm_G} (hG : xm_W xk_B G) (hO : xm_Og G) : ∀ q ∈ xp_266_0, xm_op xk_B G xd xk_N "LiarsCock$And" "with" prog_2_method_2_code 3 (some (FieldType.int)) q.1 q.2 :=
  xw_cons (xw_E xn_iload (xo_iload_n dX23_with_0 rfl)) <|
  xw_cons (xw_E xn_if (xo_if_eq dX23_with_1 (by decide))) <|
  xw_cons (xw_E xn_iload (xo_iload_n dX23_with_4 rfl)) <|
  xw_cons (xw_E xn_if (xo_if_eq dX23_with_5 (by decide))) <|
  xw_cons (xw_E xn_push (xo_iconst dX23_with_8 (by decide))) <|
  xw_cons (xw_E xn_goto (xo_goto dX23_with_9 (by decide))) <|
  xw_cons (xw_E xn_push (xo_iconst dX23_with_12 (by decide))) <|
  xw_cons (xw_R (xt_i dX23_with_13)) <|
  xw_nil _
def xp_266 : List (Nat × xm_O) := xp_266_0
theorem xq_266 {G : xm_G} (hG : xm_W xk_B G) (hO : xm_Og G) : ∀ q ∈ xp_266, xm_op xk_B G xd xk_N "LiarsCock$And" "with" prog_2_method_2_code 3 (some (FieldType.int)) q.1 q.2 := xq_266_0 hG hO
/- 267: LiarsCock$Or.<init>(LLiarsCock$Expression;)V -/
def xp_267_0 : List (Nat × xm_O) := [
  (0, .inl (xe_aload 0 1)),
  (1, .inl (xe_aload 1 2)),
  (2, .inr (.inr (.inl (xc_I 253 [2])))),
  (5, .inr (.inl xr_v))]
theorem xq_267_0 {G : xm_G} (hG : xm_W xk_B G) (hO : xm_Og G) : ∀ q ∈ xp_267_0, xm_op xk_B G xd xk_N "LiarsCock$Or" "<init>" prog_16_method_1_code 2 none q.1 q.2 :=
  xw_cons (xw_E xn_aload (xo_aload_n dX24_init_0 rfl)) <|
  xw_cons (xw_E xn_aload (xo_aload_n dX24_init_1 rfl)) <|
  xw_cons (xl_s_15_1 hG dX24_init_2) <|
  xw_cons (xw_R (xt_v dX24_init_5)) <|
  xw_nil _
def xp_267 : List (Nat × xm_O) := xp_267_0
theorem xq_267 {G : xm_G} (hG : xm_W xk_B G) (hO : xm_Og G) : ∀ q ∈ xp_267, xm_op xk_B G xd xk_N "LiarsCock$Or" "<init>" prog_16_method_1_code 2 none q.1 q.2 := xq_267_0 hG hO
/- 268: LiarsCock$Or.with(II)I -/
def xp_268_0 : List (Nat × xm_O) := [
  (0, .inl (xe_iload 1 1)),
  (1, .inl (xe_if (fun x => decide (¬ x = 0)) 8 4)),
  (4, .inl (xe_iload 2 5)),
  (5, .inl (xe_if (fun x => decide (x = 0)) 12 8)),
  (8, .inl (xe_push (.int 1) 9)),
  (9, .inl (xe_goto 13)),
  (12, .inl (xe_push (.int 0) 13)),
  (13, .inr (.inl xr_i))]
theorem xq_268_0 {G : xm_G} (hG : xm_W xk_B G) (hO : xm_Og G) : ∀ q ∈ xp_268_0, xm_op xk_B G xd xk_N "LiarsCock$Or" "with" prog_16_method_2_code 3 (some (FieldType.int)) q.1 q.2 :=
  xw_cons (xw_E xn_iload (xo_iload_n dX24_with_0 rfl)) <|
  xw_cons (xw_E xn_if (xo_if_ne dX24_with_1 (by decide))) <|
  xw_cons (xw_E xn_iload (xo_iload_n dX24_with_4 rfl)) <|
  xw_cons (xw_E xn_if (xo_if_eq dX24_with_5 (by decide))) <|
  xw_cons (xw_E xn_push (xo_iconst dX24_with_8 (by decide))) <|
  xw_cons (xw_E xn_goto (xo_goto dX24_with_9 (by decide))) <|
  xw_cons (xw_E xn_push (xo_iconst dX24_with_12 (by decide))) <|
  xw_cons (xw_R (xt_i dX24_with_13)) <|
  xw_nil _
def xp_268 : List (Nat × xm_O) := xp_268_0
theorem xq_268 {G : xm_G} (hG : xm_W xk_B G) (hO : xm_Og G) : ∀ q ∈ xp_268, xm_op xk_B G xd xk_N "LiarsCock$Or" "with" prog_16_method_2_code 3 (some (FieldType.int)) q.1 q.2 := xq_268_0 hG hO
/- 269: LiarsCock$Saying.<init>(LLiarsCock$Parish;IILLiarsCock$Expression;)V -/
def xp_269_0 : List (Nat × xm_O) := [
  (0, .inl (xe_aload 0 1)),
  (1, .inl (xe_objInit 4)),
  (4, .inl (xe_aload 0 5)),
  (5, .inl (xe_push (.int 2) 6)),
  (6, .inl (xe_newa 1 (.long 0) 100000 8)),
  (8, .inl (xe_putf 300 2 (xj_1 22 3) 11)),
  (11, .inl (xe_aload 0 12)),
  (12, .inl (xe_iload 2 13)),
  (13, .inl (xe_putf 300 0 (xj_1 22 0) 16)),
  (16, .inl (xe_aload 0 17)),
  (17, .inl (xe_iload 3 18)),
  (18, .inl (xe_putf 300 0 (xj_1 22 1) 21)),
  (21, .inl (xe_aload 0 22)),
  (22, .inl (xe_aload 4 24)),
  (24, .inl (xe_null 27 31)),
  (27, .inl (xe_push (.long 0) 28)),
  (28, .inl (xe_goto 37)),
  (31, .inl (xe_aload 1 32)),
  (32, .inl (xe_aload 4 34)),
  (34, .inr (.inr (.inl (xc_V (xj_1 2 118) [2])))),
  (37, .inl (xe_putf 300 1 (xj_1 22 2) 40)),
  (40, .inl (xe_aload 4 42)),
  (42, .inl (xe_null 45 46)),
  (45, .inr (.inl xr_v)),
  (46, .inl (xe_aload 0 47)),
  (47, .inl (xe_getf (xj_1 22 3) 50)),
  (50, .inl (xe_push (.int 0) 51)),
  (51, .inl (xe_aload 1 52)),
  (52, .inl (xe_new 12 1 xk_f12 55)),
  (55, .inl (xe_dup 56)),
  (56, .inl (xe_push (.int 1) 57)),
  (57, .inr (.inr (.inl (xc_I 247 [0])))),
  (60, .inr (.inr (.inl (xc_V (xj_1 2 118) [2])))),
  (63, .inl (xe_aload 0 64)),
  (64, .inl (xe_getf (xj_1 22 2) 67)),
  (67, .inl (xe_push (.long (-1 : Int64)) 70)),
  (70, .inl (xe_ll (fun x y => x ^^^ y) 71)),
  (71, .inl (xe_ll (fun x y => x &&& y) 72)),
  (72, .inl (xe_ast 300 1 (xm_kd 1) 73)),
  (73, .inl (xe_aload 0 74)),
  (74, .inl (xe_getf (xj_1 22 3) 77)),
  (77, .inl (xe_push (.int 1) 78)),
  (78, .inl (xe_aload 1 79)),
  (79, .inl (xe_aload 0 80)),
  (80, .inl (xe_getf (xj_1 22 2) 83)),
  (83, .inl (xe_aload 1 84)),
  (84, .inl (xe_getf (xj_1 2 3) 87)),
  (87, .inl (xe_iload 2 88)),
  (88, .inr (.inr (.inl (xc_V (xj_1 25 281) [0])))),
  (91, .inl (xe_cast (fun ci => ([10] : List Nat).elem ci) 94))]
theorem xq_269_0 {G : xm_G} (hG : xm_W xk_B G) (hO : xm_Og G) : ∀ q ∈ xp_269_0, xm_op xk_B G xd xk_N "LiarsCock$Saying" "<init>" prog_23_method_1_code 5 none q.1 q.2 :=
  xw_cons (xw_E xn_aload (xo_aload_n dX25_init_0 rfl)) <|
  xw_cons (xw_E xn_objInit (xo_objInit hG q1136 q172 q173 dX25_init_1)) <|
  xw_cons (xw_E xn_aload (xo_aload_n dX25_init_4 rfl)) <|
  xw_cons (xw_E xn_push (xo_iconst dX25_init_5 (by decide))) <|
  xw_cons (xw_E xn_newa (xo_newa (at0 := .long) hG (by decide) rfl rfl (by decide) q227 dX25_init_6)) <|
  xw_cons (xw_E xn_putf (xo_putf hG rfl xu_22_7 dX25_init_8)) <|
  xw_cons (xw_E xn_aload (xo_aload_n dX25_init_11 rfl)) <|
  xw_cons (xw_E xn_iload (xo_iload_n dX25_init_12 rfl)) <|
  xw_cons (xw_E xn_putf (xo_putf hG rfl xu_22_13 dX25_init_13)) <|
  xw_cons (xw_E xn_aload (xo_aload_n dX25_init_16 rfl)) <|
  xw_cons (xw_E xn_iload (xo_iload_n dX25_init_17 rfl)) <|
  xw_cons (xw_E xn_putf (xo_putf hG rfl xu_22_17 dX25_init_18)) <|
  xw_cons (xw_E xn_aload (xo_aload_n dX25_init_21 rfl)) <|
  xw_cons (xw_E xn_aload (xo_aload dX25_init_22)) <|
  xw_cons (xw_E xn_null (xo_ifnonnull dX25_init_24 (by decide))) <|
  xw_cons (xw_E xn_push (xo_lconst dX25_init_27 (by decide))) <|
  xw_cons (xw_E xn_goto (xo_goto dX25_init_28 (by decide))) <|
  xw_cons (xw_E xn_aload (xo_aload_n dX25_init_31 rfl)) <|
  xw_cons (xw_E xn_aload (xo_aload dX25_init_32)) <|
  xw_cons (xl_v_22_20 hG dX25_init_34) <|
  xw_cons (xw_E xn_putf (xo_putf hG rfl xu_22_26 dX25_init_37)) <|
  xw_cons (xw_E xn_aload (xo_aload dX25_init_40)) <|
  xw_cons (xw_E xn_null (xo_ifnonnull dX25_init_42 (by decide))) <|
  xw_cons (xw_R (xt_v dX25_init_45)) <|
  xw_cons (xw_E xn_aload (xo_aload_n dX25_init_46 rfl)) <|
  xw_cons (xw_E xn_getf (xo_getf hG xg_22_7 dX25_init_47)) <|
  xw_cons (xw_E xn_push (xo_iconst dX25_init_50 (by decide))) <|
  xw_cons (xw_E xn_aload (xo_aload_n dX25_init_51 rfl)) <|
  xw_cons (xw_E xn_new (xo_new hG xnw_22_29 dX25_init_52)) <|
  xw_cons (xw_E xn_dup (xo_dup dX25_init_55)) <|
  xw_cons (xw_E xn_push (xo_iconst dX25_init_56 (by decide))) <|
  xw_cons (xl_s_22_31 hG dX25_init_57) <|
  xw_cons (xl_v_22_20 hG dX25_init_60) <|
  xw_cons (xw_E xn_aload (xo_aload_n dX25_init_63 rfl)) <|
  xw_cons (xw_E xn_getf (xo_getf hG xg_22_26 dX25_init_64)) <|
  xw_cons (xw_E xn_push (xo_ldc2 hG q1140 dX25_init_67)) <|
  xw_cons (xw_E xn_ll (xo_lxor dX25_init_70)) <|
  xw_cons (xw_E xn_ll (xo_land dX25_init_71)) <|
  xw_cons (xw_E xn_ast (xo_last hG xk_hB rfl dX25_init_72)) <|
  xw_cons (xw_E xn_aload (xo_aload_n dX25_init_73 rfl)) <|
  xw_cons (xw_E xn_getf (xo_getf hG xg_22_7 dX25_init_74)) <|
  xw_cons (xw_E xn_push (xo_iconst dX25_init_77 (by decide))) <|
  xw_cons (xw_E xn_aload (xo_aload_n dX25_init_78 rfl)) <|
  xw_cons (xw_E xn_aload (xo_aload_n dX25_init_79 rfl)) <|
  xw_cons (xw_E xn_getf (xo_getf hG xg_22_26 dX25_init_80)) <|
  xw_cons (xw_E xn_aload (xo_aload_n dX25_init_83 rfl)) <|
  xw_cons (xw_E xn_getf (xo_getf hG xg_22_36 dX25_init_84)) <|
  xw_cons (xw_E xn_iload (xo_iload_n dX25_init_87 rfl)) <|
  xw_cons (xl_v_22_40 hG dX25_init_88) <|
  xw_cons (xw_E xn_cast (xo_cast hG q1142 xca_22_46 dX25_init_91)) <|
  xw_nil _
def xp_269_1 : List (Nat × xm_O) := [
  (94, .inl (xe_getf (xj_1 10 1) 97)),
  (97, .inr (.inr (.inl (xc_V (xj_1 2 120) [0, 1])))),
  (100, .inl (xe_ast 300 1 (xm_kd 1) 101)),
  (101, .inr (.inl xr_v))]
theorem xq_269_1 {G : xm_G} (hG : xm_W xk_B G) (hO : xm_Og G) : ∀ q ∈ xp_269_1, xm_op xk_B G xd xk_N "LiarsCock$Saying" "<init>" prog_23_method_1_code 5 none q.1 q.2 :=
  xw_cons (xw_E xn_getf (xo_getf hG xg_22_48 dX25_init_94)) <|
  xw_cons (xl_v_22_51 hG dX25_init_97) <|
  xw_cons (xw_E xn_ast (xo_last hG xk_hB rfl dX25_init_100)) <|
  xw_cons (xw_R (xt_v dX25_init_101)) <|
  xw_nil _
def xp_269 : List (Nat × xm_O) := xp_269_0 ++ xp_269_1
theorem xq_269 {G : xm_G} (hG : xm_W xk_B G) (hO : xm_Og G) : ∀ q ∈ xp_269, xm_op xk_B G xd xk_N "LiarsCock$Saying" "<init>" prog_23_method_1_code 5 none q.1 q.2 := xw_app (xq_269_0 hG hO) (xq_269_1 hG hO)
/- 270: LiarsCock$Saying.isLie(II)Z -/
def xp_270_0 : List (Nat × xm_O) := [
  (0, .inl (xe_aload 0 1)),
  (1, .inl (xe_getf (xj_1 22 3) 4)),
  (4, .inl (xe_iload 1 5)),
  (5, .inl (xe_ald (fun t => t == 1) 6)),
  (6, .inl (xe_iload 2 7)),
  (7, .inr (.inr (.inl (xc_S 6 [0, 1])))),
  (10, .inr (.inl xr_z))]
theorem xq_270_0 {G : xm_G} (hG : xm_W xk_B G) (hO : xm_Og G) : ∀ q ∈ xp_270_0, xm_op xk_B G xd xk_N "LiarsCock$Saying" "isLie" prog_23_method_2_code 3 (some (FieldType.boolean)) q.1 q.2 :=
  xw_cons (xw_E xn_aload (xo_aload_n dX25_isLie_0 rfl)) <|
  xw_cons (xw_E xn_getf (xo_getf hG xg_22_7 dX25_isLie_1)) <|
  xw_cons (xw_E xn_iload (xo_iload_n dX25_isLie_4 rfl)) <|
  xw_cons (xw_E xn_ald (xo_lald xk_hB dX25_isLie_5)) <|
  xw_cons (xw_E xn_iload (xo_iload_n dX25_isLie_6 rfl)) <|
  xw_cons (xl_s_22_55 hG dX25_isLie_7) <|
  xw_cons (xw_R (xt_z dX25_isLie_10)) <|
  xw_nil _
def xp_270 : List (Nat × xm_O) := xp_270_0
theorem xq_270 {G : xm_G} (hG : xm_W xk_B G) (hO : xm_Og G) : ∀ q ∈ xp_270, xm_op xk_B G xd xk_N "LiarsCock$Saying" "isLie" prog_23_method_2_code 3 (some (FieldType.boolean)) q.1 q.2 := xq_270_0 hG hO
/- 271: LiarsCock$Look.<init>(IIII)V -/
def xp_271_0 : List (Nat × xm_O) := [
  (0, .inl (xe_aload 0 1)),
  (1, .inl (xe_objInit 4)),
  (4, .inl (xe_aload 0 5)),
  (5, .inl (xe_iload 1 6)),
  (6, .inl (xe_putf 300 0 (xj_1 23 0) 9)),
  (9, .inl (xe_aload 0 10)),
  (10, .inl (xe_iload 2 11)),
  (11, .inl (xe_putf 300 0 (xj_1 23 1) 14)),
  (14, .inl (xe_aload 0 15)),
  (15, .inl (xe_iload 3 16)),
  (16, .inl (xe_putf 300 0 (xj_1 23 2) 19)),
  (19, .inl (xe_aload 0 20)),
  (20, .inl (xe_iload 4 22)),
  (22, .inl (xe_putf 300 0 (xj_1 23 3) 25)),
  (25, .inr (.inl xr_v))]
theorem xq_271_0 {G : xm_G} (hG : xm_W xk_B G) (hO : xm_Og G) : ∀ q ∈ xp_271_0, xm_op xk_B G xd xk_N "LiarsCock$Look" "<init>" prog_11_method_1_code 5 none q.1 q.2 :=
  xw_cons (xw_E xn_aload (xo_aload_n dX26_init_0 rfl)) <|
  xw_cons (xw_E xn_objInit (xo_objInit hG q1217 q172 q173 dX26_init_1)) <|
  xw_cons (xw_E xn_aload (xo_aload_n dX26_init_4 rfl)) <|
  xw_cons (xw_E xn_iload (xo_iload_n dX26_init_5 rfl)) <|
  xw_cons (xw_E xn_putf (xo_putf hG rfl xu_10_7 dX26_init_6)) <|
  xw_cons (xw_E xn_aload (xo_aload_n dX26_init_9 rfl)) <|
  xw_cons (xw_E xn_iload (xo_iload_n dX26_init_10 rfl)) <|
  xw_cons (xw_E xn_putf (xo_putf hG rfl xu_10_13 dX26_init_11)) <|
  xw_cons (xw_E xn_aload (xo_aload_n dX26_init_14 rfl)) <|
  xw_cons (xw_E xn_iload (xo_iload_n dX26_init_15 rfl)) <|
  xw_cons (xw_E xn_putf (xo_putf hG rfl xu_10_16 dX26_init_16)) <|
  xw_cons (xw_E xn_aload (xo_aload_n dX26_init_19 rfl)) <|
  xw_cons (xw_E xn_iload (xo_iload dX26_init_20)) <|
  xw_cons (xw_E xn_putf (xo_putf hG rfl xu_10_19 dX26_init_22)) <|
  xw_cons (xw_R (xt_v dX26_init_25)) <|
  xw_nil _
def xp_271 : List (Nat × xm_O) := xp_271_0
theorem xq_271 {G : xm_G} (hG : xm_W xk_B G) (hO : xm_Og G) : ∀ q ∈ xp_271, xm_op xk_B G xd xk_N "LiarsCock$Look" "<init>" prog_11_method_1_code 5 none q.1 q.2 := xq_271_0 hG hO
/- 272: LiarsCock$Look.holds(I)Z -/
def xp_272_0 : List (Nat × xm_O) := [
  (0, .inl (xe_iload 1 1)),
  (1, .inl (xe_aload 0 2)),
  (2, .inl (xe_getf (xj_1 23 2) 5)),
  (5, .inl (xe_aload 0 6)),
  (6, .inl (xe_getf (xj_1 23 3) 9)),
  (9, .inr (.inr (.inl (xc_S 31 [0, 0, 0])))),
  (12, .inr (.inl xr_z))]
theorem xq_272_0 {G : xm_G} (hG : xm_W xk_B G) (hO : xm_Og G) : ∀ q ∈ xp_272_0, xm_op xk_B G xd xk_N "LiarsCock$Look" "holds" prog_11_method_2_code 2 (some (FieldType.boolean)) q.1 q.2 :=
  xw_cons (xw_E xn_iload (xo_iload_n dX26_holds_0 rfl)) <|
  xw_cons (xw_E xn_aload (xo_aload_n dX26_holds_1 rfl)) <|
  xw_cons (xw_E xn_getf (xo_getf hG xg_10_16 dX26_holds_2)) <|
  xw_cons (xw_E xn_aload (xo_aload_n dX26_holds_5 rfl)) <|
  xw_cons (xw_E xn_getf (xo_getf hG xg_10_19 dX26_holds_6)) <|
  xw_cons (xl_s_10_22 hG dX26_holds_9) <|
  xw_cons (xw_R (xt_z dX26_holds_12)) <|
  xw_nil _
def xp_272 : List (Nat × xm_O) := xp_272_0
theorem xq_272 {G : xm_G} (hG : xm_W xk_B G) (hO : xm_Og G) : ∀ q ∈ xp_272, xm_op xk_B G xd xk_N "LiarsCock$Look" "holds" prog_11_method_2_code 2 (some (FieldType.boolean)) q.1 q.2 := xq_272_0 hG hO
/- 273: LiarsCock$Mark.<init>(LLiarsCock;)V -/
def xp_273_0 : List (Nat × xm_O) := [
  (0, .inl (xe_aload 0 1)),
  (1, .inl (xe_objInit 4)),
  (4, .inl (xe_aload 0 5)),
  (5, .inl (xe_aload 1 6)),
  (6, .inl (xe_getf (xj_1 0 1) 9)),
  (9, .inl (xe_putf 300 2 (xj_1 24 0) 12)),
  (12, .inl (xe_aload 0 13)),
  (13, .inl (xe_aload 1 14)),
  (14, .inl (xe_getf (xj_1 0 2) 17)),
  (17, .inl (xe_putf 300 0 (xj_1 24 1) 20)),
  (20, .inl (xe_aload 0 21)),
  (21, .inl (xe_aload 1 22)),
  (22, .inl (xe_getf (xj_1 0 3) 25)),
  (25, .inr (.inr (.inl (xc_S 274 [2])))),
  (28, .inl (xe_putf 300 2 (xj_1 24 2) 31)),
  (31, .inl (xe_aload 0 32)),
  (32, .inl (xe_aload 1 33)),
  (33, .inl (xe_getf (xj_1 0 4) 36)),
  (36, .inr (.inr (.inl (xc_S 274 [2])))),
  (39, .inl (xe_putf 300 2 (xj_1 24 3) 42)),
  (42, .inl (xe_aload 0 43)),
  (43, .inl (xe_aload 1 44)),
  (44, .inl (xe_getf (xj_1 0 5) 47)),
  (47, .inr (.inr (.inl (xc_S 274 [2])))),
  (50, .inl (xe_putf 300 2 (xj_1 24 4) 53)),
  (53, .inl (xe_aload 0 54)),
  (54, .inl (xe_aload 1 55)),
  (55, .inl (xe_getf (xj_1 0 6) 58)),
  (58, .inr (.inr (.inl (xc_S 274 [2])))),
  (61, .inl (xe_putf 300 2 (xj_1 24 5) 64)),
  (64, .inr (.inl xr_v))]
theorem xq_273_0 {G : xm_G} (hG : xm_W xk_B G) (hO : xm_Og G) : ∀ q ∈ xp_273_0, xm_op xk_B G xd xk_N "LiarsCock$Mark" "<init>" prog_13_method_1_code 2 none q.1 q.2 :=
  xw_cons (xw_E xn_aload (xo_aload_n dX27_init_0 rfl)) <|
  xw_cons (xw_E xn_objInit (xo_objInit hG q1533 q172 q173 dX27_init_1)) <|
  xw_cons (xw_E xn_aload (xo_aload_n dX27_init_4 rfl)) <|
  xw_cons (xw_E xn_aload (xo_aload_n dX27_init_5 rfl)) <|
  xw_cons (xw_E xn_getf (xo_getf hG xg_12_7 dX27_init_6)) <|
  xw_cons (xw_E xn_putf (xo_putf hG rfl xu_12_13 dX27_init_9)) <|
  xw_cons (xw_E xn_aload (xo_aload_n dX27_init_12 rfl)) <|
  xw_cons (xw_E xn_aload (xo_aload_n dX27_init_13 rfl)) <|
  xw_cons (xw_E xn_getf (xo_getf hG xg_12_16 dX27_init_14)) <|
  xw_cons (xw_E xn_putf (xo_putf hG rfl xu_12_20 dX27_init_17)) <|
  xw_cons (xw_E xn_aload (xo_aload_n dX27_init_20 rfl)) <|
  xw_cons (xw_E xn_aload (xo_aload_n dX27_init_21 rfl)) <|
  xw_cons (xw_E xn_getf (xo_getf hG xg_12_21 dX27_init_22)) <|
  xw_cons (xl_s_12_25 hG dX27_init_25) <|
  xw_cons (xw_E xn_putf (xo_putf hG rfl xu_12_29 dX27_init_28)) <|
  xw_cons (xw_E xn_aload (xo_aload_n dX27_init_31 rfl)) <|
  xw_cons (xw_E xn_aload (xo_aload_n dX27_init_32 rfl)) <|
  xw_cons (xw_E xn_getf (xo_getf hG xg_12_30 dX27_init_33)) <|
  xw_cons (xl_s_12_25 hG dX27_init_36) <|
  xw_cons (xw_E xn_putf (xo_putf hG rfl xu_12_33 dX27_init_39)) <|
  xw_cons (xw_E xn_aload (xo_aload_n dX27_init_42 rfl)) <|
  xw_cons (xw_E xn_aload (xo_aload_n dX27_init_43 rfl)) <|
  xw_cons (xw_E xn_getf (xo_getf hG xg_12_34 dX27_init_44)) <|
  xw_cons (xl_s_12_25 hG dX27_init_47) <|
  xw_cons (xw_E xn_putf (xo_putf hG rfl xu_12_37 dX27_init_50)) <|
  xw_cons (xw_E xn_aload (xo_aload_n dX27_init_53 rfl)) <|
  xw_cons (xw_E xn_aload (xo_aload_n dX27_init_54 rfl)) <|
  xw_cons (xw_E xn_getf (xo_getf hG xg_12_38 dX27_init_55)) <|
  xw_cons (xl_s_12_25 hG dX27_init_58) <|
  xw_cons (xw_E xn_putf (xo_putf hG rfl xu_12_41 dX27_init_61)) <|
  xw_cons (xw_R (xt_v dX27_init_64)) <|
  xw_nil _
def xp_273 : List (Nat × xm_O) := xp_273_0
theorem xq_273 {G : xm_G} (hG : xm_W xk_B G) (hO : xm_Og G) : ∀ q ∈ xp_273, xm_op xk_B G xd xk_N "LiarsCock$Mark" "<init>" prog_13_method_1_code 2 none q.1 q.2 := xq_273_0 hG hO
/- 274: LiarsCock$Mark.copied(Ljava/util/ArrayList;)Ljava/util/ArrayList; -/
def xp_274_0 : List (Nat × xm_O) := [
  (0, .inl (xe_new 25 3 xk_f25 3)),
  (3, .inl (xe_dup 4)),
  (4, .inl (xe_aload 0 5)),
  (5, .inr (.inr (.inl (xc_V (xj_1 25 280) [])))),
  (8, .inr (.inr (.inl (xc_I 278 [0])))),
  (11, .inl (xe_astore 1 12)),
  (12, .inl (xe_push (.int 0) 13)),
  (13, .inl (xe_istore 2 14)),
  (14, .inl (xe_iload 2 15)),
  (15, .inl (xe_aload 0 16)),
  (16, .inr (.inr (.inl (xc_V (xj_1 25 280) [])))),
  (19, .inl (xe_icmp (fun x y => decide (y ≤ x)) 38 22)),
  (22, .inl (xe_aload 1 23)),
  (23, .inl (xe_aload 0 24)),
  (24, .inl (xe_iload 2 25)),
  (25, .inr (.inr (.inl (xc_V (xj_1 25 281) [0])))),
  (28, .inr (.inr (.inl (xc_V (xj_1 25 283) [2])))),
  (31, .inl (xe_pop 32)),
  (32, .inl (xe_iinc 2 1 35)),
  (35, .inl (xe_goto 14)),
  (38, .inl (xe_aload 1 39)),
  (39, .inr (.inl xr_a))]
theorem xq_274_0 {G : xm_G} (hG : xm_W xk_B G) (hO : xm_Og G) : ∀ q ∈ xp_274_0, xm_op xk_B G xd xk_N "LiarsCock$Mark" "copied" prog_13_method_2_code 3 (some ((FieldType.object "java/util/ArrayList"))) q.1 q.2 :=
  xw_cons (xw_E xn_new (xo_new hG xnw_12_42 dX27_copied_0)) <|
  xw_cons (xw_E xn_dup (xo_dup dX27_copied_3)) <|
  xw_cons (xw_E xn_aload (xo_aload_n dX27_copied_4 rfl)) <|
  xw_cons (xl_v_12_44 hG dX27_copied_5) <|
  xw_cons (xl_s_12_48 hG dX27_copied_8) <|
  xw_cons (xw_E xn_astore (xo_astore_n dX27_copied_11 rfl)) <|
  xw_cons (xw_E xn_push (xo_iconst dX27_copied_12 (by decide))) <|
  xw_cons (xw_E xn_istore (xo_istore_n dX27_copied_13 rfl)) <|
  xw_cons (xw_E xn_iload (xo_iload_n dX27_copied_14 rfl)) <|
  xw_cons (xw_E xn_aload (xo_aload_n dX27_copied_15 rfl)) <|
  xw_cons (xl_v_12_44 hG dX27_copied_16) <|
  xw_cons (xw_E xn_icmp (xo_icmp_ge dX27_copied_19 (by decide))) <|
  xw_cons (xw_E xn_aload (xo_aload_n dX27_copied_22 rfl)) <|
  xw_cons (xw_E xn_aload (xo_aload_n dX27_copied_23 rfl)) <|
  xw_cons (xw_E xn_iload (xo_iload_n dX27_copied_24 rfl)) <|
  xw_cons (xl_v_12_51 hG dX27_copied_25) <|
  xw_cons (xl_v_12_55 hG dX27_copied_28) <|
  xw_cons (xw_E xn_pop (xo_pop dX27_copied_31)) <|
  xw_cons (xw_E xn_iinc (xo_iinc dX27_copied_32 (by decide))) <|
  xw_cons (xw_E xn_goto (xo_goto dX27_copied_35 (by decide))) <|
  xw_cons (xw_E xn_aload (xo_aload_n dX27_copied_38 rfl)) <|
  xw_cons (xw_R (xt_a (Or.inl ⟨_, rfl⟩) dX27_copied_39)) <|
  xw_nil _
def xp_274 : List (Nat × xm_O) := xp_274_0
theorem xq_274 {G : xm_G} (hG : xm_W xk_B G) (hO : xm_Og G) : ∀ q ∈ xp_274, xm_op xk_B G xd xk_N "LiarsCock$Mark" "copied" prog_13_method_2_code 3 (some ((FieldType.object "java/util/ArrayList"))) q.1 q.2 := xq_274_0 hG hO
/- 275: LiarsCock$Mark.lay(Ljava/util/ArrayList;Ljava/util/ArrayList;)V -/
def xp_275_0 : List (Nat × xm_O) := [
  (0, .inl (xe_aload 1 1)),
  (1, .inr (.inr (.inl (xc_V (xj_1 25 287) [])))),
  (4, .inl (xe_push (.int 0) 5)),
  (5, .inl (xe_istore 2 6)),
  (6, .inl (xe_iload 2 7)),
  (7, .inl (xe_aload 0 8)),
  (8, .inr (.inr (.inl (xc_V (xj_1 25 280) [])))),
  (11, .inl (xe_icmp (fun x y => decide (y ≤ x)) 30 14)),
  (14, .inl (xe_aload 1 15)),
  (15, .inl (xe_aload 0 16)),
  (16, .inl (xe_iload 2 17)),
  (17, .inr (.inr (.inl (xc_V (xj_1 25 281) [0])))),
  (20, .inr (.inr (.inl (xc_V (xj_1 25 283) [2])))),
  (23, .inl (xe_pop 24)),
  (24, .inl (xe_iinc 2 1 27)),
  (27, .inl (xe_goto 6)),
  (30, .inr (.inl xr_v))]
theorem xq_275_0 {G : xm_G} (hG : xm_W xk_B G) (hO : xm_Og G) : ∀ q ∈ xp_275_0, xm_op xk_B G xd xk_N "LiarsCock$Mark" "lay" prog_13_method_3_code 3 none q.1 q.2 :=
  xw_cons (xw_E xn_aload (xo_aload_n dX27_lay_0 rfl)) <|
  xw_cons (xl_v_12_59 hG dX27_lay_1) <|
  xw_cons (xw_E xn_push (xo_iconst dX27_lay_4 (by decide))) <|
  xw_cons (xw_E xn_istore (xo_istore_n dX27_lay_5 rfl)) <|
  xw_cons (xw_E xn_iload (xo_iload_n dX27_lay_6 rfl)) <|
  xw_cons (xw_E xn_aload (xo_aload_n dX27_lay_7 rfl)) <|
  xw_cons (xl_v_12_44 hG dX27_lay_8) <|
  xw_cons (xw_E xn_icmp (xo_icmp_ge dX27_lay_11 (by decide))) <|
  xw_cons (xw_E xn_aload (xo_aload_n dX27_lay_14 rfl)) <|
  xw_cons (xw_E xn_aload (xo_aload_n dX27_lay_15 rfl)) <|
  xw_cons (xw_E xn_iload (xo_iload_n dX27_lay_16 rfl)) <|
  xw_cons (xl_v_12_51 hG dX27_lay_17) <|
  xw_cons (xl_v_12_55 hG dX27_lay_20) <|
  xw_cons (xw_E xn_pop (xo_pop dX27_lay_23)) <|
  xw_cons (xw_E xn_iinc (xo_iinc dX27_lay_24 (by decide))) <|
  xw_cons (xw_E xn_goto (xo_goto dX27_lay_27 (by decide))) <|
  xw_cons (xw_R (xt_v dX27_lay_30)) <|
  xw_nil _
def xp_275 : List (Nat × xm_O) := xp_275_0
theorem xq_275 {G : xm_G} (hG : xm_W xk_B G) (hO : xm_Og G) : ∀ q ∈ xp_275, xm_op xk_B G xd xk_N "LiarsCock$Mark" "lay" prog_13_method_3_code 3 none q.1 q.2 := xq_275_0 hG hO
/- 276: java/util/AbstractCollection.<init>()V -/
def xp_276_0 : List (Nat × xm_O) := [
  (0, .inl (xe_aload 0 1)),
  (1, .inl (xe_objInit 4)),
  (4, .inr (.inl xr_v))]
theorem xq_276_0 {G : xm_G} (hG : xm_W xk_B G) (hO : xm_Og G) : ∀ q ∈ xp_276_0, xm_op xk_B G xd xk_N "java/util/AbstractCollection" "<init>" prog_48_method_1_code 1 none q.1 q.2 :=
  xw_cons (xw_E xn_aload (xo_aload_n dJ0_init_0 rfl)) <|
  xw_cons (xw_E xn_objInit (xo_objInit hG q248 q172 q173 dJ0_init_1)) <|
  xw_cons (xw_R (xt_v dJ0_init_4)) <|
  xw_nil _
def xp_276 : List (Nat × xm_O) := xp_276_0
theorem xq_276 {G : xm_G} (hG : xm_W xk_B G) (hO : xm_Og G) : ∀ q ∈ xp_276, xm_op xk_B G xd xk_N "java/util/AbstractCollection" "<init>" prog_48_method_1_code 1 none q.1 q.2 := xq_276_0 hG hO
/- 277: java/util/AbstractList.<init>()V -/
def xp_277_0 : List (Nat × xm_O) := [
  (0, .inl (xe_aload 0 1)),
  (1, .inr (.inr (.inl (xc_I 276 [])))),
  (4, .inl (xe_aload 0 5)),
  (5, .inl (xe_push (.int 0) 6)),
  (6, .inl (xe_putf 300 0 (xj_1 25 0) 9)),
  (9, .inr (.inl xr_v))]
theorem xq_277_0 {G : xm_G} (hG : xm_W xk_B G) (hO : xm_Og G) : ∀ q ∈ xp_277_0, xm_op xk_B G xd xk_N "java/util/AbstractList" "<init>" prog_49_method_1_code 1 none q.1 q.2 :=
  xw_cons (xw_E xn_aload (xo_aload_n dJ1_init_0 rfl)) <|
  xw_cons (xl_s_34_1 hG dJ1_init_1) <|
  xw_cons (xw_E xn_aload (xo_aload_n dJ1_init_4 rfl)) <|
  xw_cons (xw_E xn_push (xo_iconst dJ1_init_5 (by decide))) <|
  xw_cons (xw_E xn_putf (xo_putf hG rfl xu_34_7 dJ1_init_6)) <|
  xw_cons (xw_R (xt_v dJ1_init_9)) <|
  xw_nil _
def xp_277 : List (Nat × xm_O) := xp_277_0
theorem xq_277 {G : xm_G} (hG : xm_W xk_B G) (hO : xm_Og G) : ∀ q ∈ xp_277, xm_op xk_B G xd xk_N "java/util/AbstractList" "<init>" prog_49_method_1_code 1 none q.1 q.2 := xq_277_0 hG hO
/- 278: java/util/ArrayList.<init>(I)V -/
def xp_278_0 : List (Nat × xm_O) := [
  (0, .inl (xe_aload 0 1)),
  (1, .inr (.inr (.inl (xc_I 277 [])))),
  (4, .inl (xe_iload 1 5)),
  (5, .inl (xe_if (fun x => decide (x ≤ 0)) 19 8)),
  (8, .inl (xe_aload 0 9)),
  (9, .inl (xe_iload 1 10)),
  (10, .inl (xe_newa 4 .null 100000 13)),
  (13, .inl (xe_putf 300 2 (xj_1 25 1) 16)),
  (16, .inl (xe_goto 60)),
  (19, .inl (xe_iload 1 20)),
  (20, .inl (xe_if (fun x => decide (¬ x = 0)) 33 23)),
  (23, .inl (xe_aload 0 24)),
  (24, .inl (xe_push (.ref 1) 27)),
  (27, .inl (xe_putf 300 2 (xj_1 25 1) 30)),
  (30, .inl (xe_goto 60)),
  (36, .inl (xe_dup 37)),
  (40, .inl (xe_dup 41)),
  (49, .inl (xe_iload 1 50)),
  (59, .inr (.inr (.inr ()))),
  (60, .inr (.inl xr_v))]
theorem xq_278_0 {G : xm_G} (hG : xm_W xk_B G) (hO : xm_Og G) : ∀ q ∈ xp_278_0, xm_op xk_B G xd xk_N "java/util/ArrayList" "<init>" prog_50_method_1_code 2 none q.1 q.2 :=
  xw_cons (xw_E xn_aload (xo_aload_n dJ2_init_0 rfl)) <|
  xw_cons (xl_s_35_1 hG dJ2_init_1) <|
  xw_cons (xw_E xn_iload (xo_iload_n dJ2_init_4 rfl)) <|
  xw_cons (xw_E xn_if (xo_if_le dJ2_init_5 (by decide))) <|
  xw_cons (xw_E xn_aload (xo_aload_n dJ2_init_8 rfl)) <|
  xw_cons (xw_E xn_iload (xo_iload_n dJ2_init_9 rfl)) <|
  xw_cons (xw_E xn_newa (xo_anewa hG (by decide) rfl (by decide) q249 q250 dJ2_init_10)) <|
  xw_cons (xw_E xn_putf (xo_putf hG rfl xu_35_9 dJ2_init_13)) <|
  xw_cons (xw_E xn_goto (xo_goto dJ2_init_16 (by decide))) <|
  xw_cons (xw_E xn_iload (xo_iload_n dJ2_init_19 rfl)) <|
  xw_cons (xw_E xn_if (xo_if_ne dJ2_init_20 (by decide))) <|
  xw_cons (xw_E xn_aload (xo_aload_n dJ2_init_23 rfl)) <|
  xw_cons (xw_E xn_push (xo_gets hG (xog_EMPTY_ELEMENTDATA hO) q251 dJ2_init_24)) <|
  xw_cons (xw_E xn_putf (xo_putf hG rfl xu_35_9 dJ2_init_27)) <|
  xw_cons (xw_E xn_goto (xo_goto dJ2_init_30 (by decide))) <|
  xw_cons (xw_E xn_dup (xo_dup dJ2_init_36)) <|
  xw_cons (xw_E xn_dup (xo_dup dJ2_init_40)) <|
  xw_cons (xw_E xn_iload (xo_iload_n dJ2_init_49 rfl)) <|
  xw_cons (xw_T dJ2_init_59) <|
  xw_cons (xw_R (xt_v dJ2_init_60)) <|
  xw_nil _
def xp_278 : List (Nat × xm_O) := xp_278_0
theorem xq_278 {G : xm_G} (hG : xm_W xk_B G) (hO : xm_Og G) : ∀ q ∈ xp_278, xm_op xk_B G xd xk_N "java/util/ArrayList" "<init>" prog_50_method_1_code 2 none q.1 q.2 := xq_278_0 hG hO
/- 279: java/util/ArrayList.<init>()V -/
def xp_279_0 : List (Nat × xm_O) := [
  (0, .inl (xe_aload 0 1)),
  (1, .inr (.inr (.inl (xc_I 277 [])))),
  (4, .inl (xe_aload 0 5)),
  (5, .inl (xe_push (.ref 2) 8)),
  (8, .inl (xe_putf 300 2 (xj_1 25 1) 11)),
  (11, .inr (.inl xr_v))]
theorem xq_279_0 {G : xm_G} (hG : xm_W xk_B G) (hO : xm_Og G) : ∀ q ∈ xp_279_0, xm_op xk_B G xd xk_N "java/util/ArrayList" "<init>" prog_50_method_2_code 1 none q.1 q.2 :=
  xw_cons (xw_E xn_aload (xo_aload_n dJ2_init_2_0 rfl)) <|
  xw_cons (xl_s_35_1 hG dJ2_init_2_1) <|
  xw_cons (xw_E xn_aload (xo_aload_n dJ2_init_2_4 rfl)) <|
  xw_cons (xw_E xn_push (xo_gets hG (xog_DEFAULTCAPACITY_EMPTY_ELEMENTDATA hO) q345 dJ2_init_2_5)) <|
  xw_cons (xw_E xn_putf (xo_putf hG rfl xu_35_9 dJ2_init_2_8)) <|
  xw_cons (xw_R (xt_v dJ2_init_2_11)) <|
  xw_nil _
def xp_279 : List (Nat × xm_O) := xp_279_0
theorem xq_279 {G : xm_G} (hG : xm_W xk_B G) (hO : xm_Og G) : ∀ q ∈ xp_279, xm_op xk_B G xd xk_N "java/util/ArrayList" "<init>" prog_50_method_2_code 1 none q.1 q.2 := xq_279_0 hG hO
/- 280: java/util/ArrayList.size()I -/
def xp_280_0 : List (Nat × xm_O) := [
  (0, .inl (xe_aload 0 1)),
  (1, .inl (xe_getf (xj_1 25 2) 4)),
  (4, .inr (.inl xr_i))]
theorem xq_280_0 {G : xm_G} (hG : xm_W xk_B G) (hO : xm_Og G) : ∀ q ∈ xp_280_0, xm_op xk_B G xd xk_N "java/util/ArrayList" "size" prog_50_method_8_code 1 (some (FieldType.int)) q.1 q.2 :=
  xw_cons (xw_E xn_aload (xo_aload_n dJ2_size_0 rfl)) <|
  xw_cons (xw_E xn_getf (xo_getf hG xg_35_48 dJ2_size_1)) <|
  xw_cons (xw_R (xt_i dJ2_size_4)) <|
  xw_nil _
def xp_280 : List (Nat × xm_O) := xp_280_0
theorem xq_280 {G : xm_G} (hG : xm_W xk_B G) (hO : xm_Og G) : ∀ q ∈ xp_280, xm_op xk_B G xd xk_N "java/util/ArrayList" "size" prog_50_method_8_code 1 (some (FieldType.int)) q.1 q.2 := xq_280_0 hG hO
/- 281: java/util/ArrayList.get(I)Ljava/lang/Object; -/
def xp_281_0 : List (Nat × xm_O) := [
  (0, .inl (xe_iload 1 1)),
  (1, .inl (xe_aload 0 2)),
  (2, .inl (xe_getf (xj_1 25 2) 5)),
  (5, .inr (.inr (.inl (xc_S 306 [0, 0])))),
  (8, .inl (xe_pop 9)),
  (9, .inl (xe_aload 0 10)),
  (10, .inl (xe_iload 1 11)),
  (11, .inr (.inr (.inl (xc_V (xj_1 25 282) [0])))),
  (14, .inr (.inl xr_a))]
theorem xq_281_0 {G : xm_G} (hG : xm_W xk_B G) (hO : xm_Og G) : ∀ q ∈ xp_281_0, xm_op xk_B G xd xk_N "java/util/ArrayList" "get" prog_50_method_20_code 2 (some ((FieldType.object "java/lang/Object"))) q.1 q.2 :=
  xw_cons (xw_E xn_iload (xo_iload_n dJ2_get_0 rfl)) <|
  xw_cons (xw_E xn_aload (xo_aload_n dJ2_get_1 rfl)) <|
  xw_cons (xw_E xn_getf (xo_getf hG xg_35_48 dJ2_get_2)) <|
  xw_cons (xl_s_35_118 hG dJ2_get_5) <|
  xw_cons (xw_E xn_pop (xo_pop dJ2_get_8)) <|
  xw_cons (xw_E xn_aload (xo_aload_n dJ2_get_9 rfl)) <|
  xw_cons (xw_E xn_iload (xo_iload_n dJ2_get_10 rfl)) <|
  xw_cons (xl_v_35_123 hG dJ2_get_11) <|
  xw_cons (xw_R (xt_a (Or.inl ⟨_, rfl⟩) dJ2_get_14)) <|
  xw_nil _
def xp_281 : List (Nat × xm_O) := xp_281_0
theorem xq_281 {G : xm_G} (hG : xm_W xk_B G) (hO : xm_Og G) : ∀ q ∈ xp_281, xm_op xk_B G xd xk_N "java/util/ArrayList" "get" prog_50_method_20_code 2 (some ((FieldType.object "java/lang/Object"))) q.1 q.2 := xq_281_0 hG hO
/- 282: java/util/ArrayList.elementData(I)Ljava/lang/Object; -/
def xp_282_0 : List (Nat × xm_O) := [
  (0, .inl (xe_aload 0 1)),
  (1, .inl (xe_getf (xj_1 25 1) 4)),
  (4, .inl (xe_iload 1 5)),
  (5, .inl (xe_ald (fun t => Nat.ble 4 t) 6)),
  (6, .inr (.inl xr_a))]
theorem xq_282_0 {G : xm_G} (hG : xm_W xk_B G) (hO : xm_Og G) : ∀ q ∈ xp_282_0, xm_op xk_B G xd xk_N "java/util/ArrayList" "elementData" prog_50_method_18_code 2 (some ((FieldType.object "java/lang/Object"))) q.1 q.2 :=
  xw_cons (xw_E xn_aload (xo_aload_n dJ2_elementData_0 rfl)) <|
  xw_cons (xw_E xn_getf (xo_getf hG xg_35_9 dJ2_elementData_1)) <|
  xw_cons (xw_E xn_iload (xo_iload_n dJ2_elementData_4 rfl)) <|
  xw_cons (xw_E xn_ald (xo_aald xk_hB dJ2_elementData_5)) <|
  xw_cons (xw_R (xt_a (Or.inl ⟨_, rfl⟩) dJ2_elementData_6)) <|
  xw_nil _
def xp_282 : List (Nat × xm_O) := xp_282_0
theorem xq_282 {G : xm_G} (hG : xm_W xk_B G) (hO : xm_Og G) : ∀ q ∈ xp_282, xm_op xk_B G xd xk_N "java/util/ArrayList" "elementData" prog_50_method_18_code 2 (some ((FieldType.object "java/lang/Object"))) q.1 q.2 := xq_282_0 hG hO
/- 283: java/util/ArrayList.add(Ljava/lang/Object;)Z -/
def xp_283_0 : List (Nat × xm_O) := [
  (0, .inl (xe_aload 0 1)),
  (1, .inl (xe_dup 2)),
  (2, .inl (xe_getf (xj_1 25 0) 5)),
  (5, .inl (xe_push (.int 1) 6)),
  (6, .inl (xe_ii (fun x y => x + y) 7)),
  (7, .inl (xe_putf 300 0 (xj_1 25 0) 10)),
  (10, .inl (xe_aload 0 11)),
  (11, .inl (xe_aload 1 12)),
  (12, .inl (xe_aload 0 13)),
  (13, .inl (xe_getf (xj_1 25 1) 16)),
  (16, .inl (xe_aload 0 17)),
  (17, .inl (xe_getf (xj_1 25 2) 20)),
  (20, .inr (.inr (.inl (xc_V (xj_1 25 284) [0, 2, 2])))),
  (23, .inl (xe_push (.int 1) 24)),
  (24, .inr (.inl xr_z))]
theorem xq_283_0 {G : xm_G} (hG : xm_W xk_B G) (hO : xm_Og G) : ∀ q ∈ xp_283_0, xm_op xk_B G xd xk_N "java/util/ArrayList" "add" prog_50_method_25_code 2 (some (FieldType.boolean)) q.1 q.2 :=
  xw_cons (xw_E xn_aload (xo_aload_n dJ2_add_0 rfl)) <|
  xw_cons (xw_E xn_dup (xo_dup dJ2_add_1)) <|
  xw_cons (xw_E xn_getf (xo_getf hG xg_35_63 dJ2_add_2)) <|
  xw_cons (xw_E xn_push (xo_iconst dJ2_add_5 (by decide))) <|
  xw_cons (xw_E xn_ii (xo_iadd dJ2_add_6)) <|
  xw_cons (xw_E xn_putf (xo_putf hG rfl xu_35_63 dJ2_add_7)) <|
  xw_cons (xw_E xn_aload (xo_aload_n dJ2_add_10 rfl)) <|
  xw_cons (xw_E xn_aload (xo_aload_n dJ2_add_11 rfl)) <|
  xw_cons (xw_E xn_aload (xo_aload_n dJ2_add_12 rfl)) <|
  xw_cons (xw_E xn_getf (xo_getf hG xg_35_9 dJ2_add_13)) <|
  xw_cons (xw_E xn_aload (xo_aload_n dJ2_add_16 rfl)) <|
  xw_cons (xw_E xn_getf (xo_getf hG xg_35_48 dJ2_add_17)) <|
  xw_cons (xl_v_35_131 hG dJ2_add_20) <|
  xw_cons (xw_E xn_push (xo_iconst dJ2_add_23 (by decide))) <|
  xw_cons (xw_R (xt_z dJ2_add_24)) <|
  xw_nil _
def xp_283 : List (Nat × xm_O) := xp_283_0
theorem xq_283 {G : xm_G} (hG : xm_W xk_B G) (hO : xm_Og G) : ∀ q ∈ xp_283, xm_op xk_B G xd xk_N "java/util/ArrayList" "add" prog_50_method_25_code 2 (some (FieldType.boolean)) q.1 q.2 := xq_283_0 hG hO
/- 284: java/util/ArrayList.add(Ljava/lang/Object;[Ljava/lang/Object;I)V -/
def xp_284_0 : List (Nat × xm_O) := [
  (0, .inl (xe_iload 3 1)),
  (1, .inl (xe_aload 2 2)),
  (2, .inl (xe_alen 3)),
  (3, .inl (xe_icmp (fun x y => decide (¬ x = y)) 11 6)),
  (6, .inl (xe_aload 0 7)),
  (7, .inr (.inr (.inl (xc_V (xj_1 25 285) [])))),
  (10, .inl (xe_astore 2 11)),
  (11, .inl (xe_aload 2 12)),
  (12, .inl (xe_iload 3 13)),
  (13, .inl (xe_aload 1 14)),
  (14, .inl (xe_aast 300 xk_as 15)),
  (15, .inl (xe_aload 0 16)),
  (16, .inl (xe_iload 3 17)),
  (17, .inl (xe_push (.int 1) 18)),
  (18, .inl (xe_ii (fun x y => x + y) 19)),
  (19, .inl (xe_putf 300 0 (xj_1 25 2) 22)),
  (22, .inr (.inl xr_v))]
theorem xq_284_0 {G : xm_G} (hG : xm_W xk_B G) (hO : xm_Og G) : ∀ q ∈ xp_284_0, xm_op xk_B G xd xk_N "java/util/ArrayList" "add" prog_50_method_24_code 4 none q.1 q.2 :=
  xw_cons (xw_E xn_iload (xo_iload_n dJ2_add_2_0 rfl)) <|
  xw_cons (xw_E xn_aload (xo_aload_n dJ2_add_2_1 rfl)) <|
  xw_cons (xw_E xn_alen (xo_alen dJ2_add_2_2)) <|
  xw_cons (xw_E xn_icmp (xo_icmp_ne dJ2_add_2_3 (by decide))) <|
  xw_cons (xw_E xn_aload (xo_aload_n dJ2_add_2_6 rfl)) <|
  xw_cons (xl_v_35_129 hG dJ2_add_2_7) <|
  xw_cons (xw_E xn_astore (xo_astore_n dJ2_add_2_10 rfl)) <|
  xw_cons (xw_E xn_aload (xo_aload_n dJ2_add_2_11 rfl)) <|
  xw_cons (xw_E xn_iload (xo_iload_n dJ2_add_2_12 rfl)) <|
  xw_cons (xw_E xn_aload (xo_aload_n dJ2_add_2_13 rfl)) <|
  xw_cons (xw_E xn_aast (xo_aast hG xk_hB rfl xk_as_ok dJ2_add_2_14)) <|
  xw_cons (xw_E xn_aload (xo_aload_n dJ2_add_2_15 rfl)) <|
  xw_cons (xw_E xn_iload (xo_iload_n dJ2_add_2_16 rfl)) <|
  xw_cons (xw_E xn_push (xo_iconst dJ2_add_2_17 (by decide))) <|
  xw_cons (xw_E xn_ii (xo_iadd dJ2_add_2_18)) <|
  xw_cons (xw_E xn_putf (xo_putf hG rfl xu_35_48 dJ2_add_2_19)) <|
  xw_cons (xw_R (xt_v dJ2_add_2_22)) <|
  xw_nil _
def xp_284 : List (Nat × xm_O) := xp_284_0
theorem xq_284 {G : xm_G} (hG : xm_W xk_B G) (hO : xm_Og G) : ∀ q ∈ xp_284, xm_op xk_B G xd xk_N "java/util/ArrayList" "add" prog_50_method_24_code 4 none q.1 q.2 := xq_284_0 hG hO
/- 285: java/util/ArrayList.grow()[Ljava/lang/Object; -/
def xp_285_0 : List (Nat × xm_O) := [
  (0, .inl (xe_aload 0 1)),
  (1, .inl (xe_aload 0 2)),
  (2, .inl (xe_getf (xj_1 25 2) 5)),
  (5, .inl (xe_push (.int 1) 6)),
  (6, .inl (xe_ii (fun x y => x + y) 7)),
  (7, .inr (.inr (.inl (xc_V (xj_1 25 286) [0])))),
  (10, .inr (.inl xr_a))]
theorem xq_285_0 {G : xm_G} (hG : xm_W xk_B G) (hO : xm_Og G) : ∀ q ∈ xp_285_0, xm_op xk_B G xd xk_N "java/util/ArrayList" "grow" prog_50_method_7_code 1 (some ((FieldType.array (FieldType.object "java/lang/Object")))) q.1 q.2 :=
  xw_cons (xw_E xn_aload (xo_aload_n dJ2_grow_0 rfl)) <|
  xw_cons (xw_E xn_aload (xo_aload_n dJ2_grow_1 rfl)) <|
  xw_cons (xw_E xn_getf (xo_getf hG xg_35_48 dJ2_grow_2)) <|
  xw_cons (xw_E xn_push (xo_iconst dJ2_grow_5 (by decide))) <|
  xw_cons (xw_E xn_ii (xo_iadd dJ2_grow_6)) <|
  xw_cons (xl_v_35_69 hG dJ2_grow_7) <|
  xw_cons (xw_R (xt_a (Or.inr ⟨_, rfl⟩) dJ2_grow_10)) <|
  xw_nil _
def xp_285 : List (Nat × xm_O) := xp_285_0
theorem xq_285 {G : xm_G} (hG : xm_W xk_B G) (hO : xm_Og G) : ∀ q ∈ xp_285, xm_op xk_B G xd xk_N "java/util/ArrayList" "grow" prog_50_method_7_code 1 (some ((FieldType.array (FieldType.object "java/lang/Object")))) q.1 q.2 := xq_285_0 hG hO
/- 286: java/util/ArrayList.grow(I)[Ljava/lang/Object; -/
def xp_286_0 : List (Nat × xm_O) := [
  (0, .inl (xe_aload 0 1)),
  (1, .inl (xe_getf (xj_1 25 1) 4)),
  (4, .inl (xe_alen 5)),
  (5, .inl (xe_istore 2 6)),
  (6, .inl (xe_iload 2 7)),
  (7, .inl (xe_if (fun x => decide (0 < x)) 20 10)),
  (10, .inl (xe_aload 0 11)),
  (11, .inl (xe_getf (xj_1 25 1) 14)),
  (14, .inl (xe_push (.ref 2) 17)),
  (20, .inl (xe_iload 2 21)),
  (21, .inl (xe_iload 1 22)),
  (22, .inl (xe_iload 2 23)),
  (23, .inl (xe_ii (fun x y => x - y) 24)),
  (24, .inl (xe_iload 2 25)),
  (25, .inl (xe_push (.int 1) 26)),
  (26, .inl (xe_ii (fun x y => x >>> (y &&& 31)) 27)),
  (27, .inr (.inr (.inl (xc_S 311 [0, 0, 0])))),
  (30, .inl (xe_istore 3 31)),
  (31, .inl (xe_aload 0 32)),
  (32, .inl (xe_aload 0 33)),
  (33, .inl (xe_getf (xj_1 25 1) 36)),
  (36, .inl (xe_iload 3 37)),
  (37, .inr (.inr (.inl (xc_S 312 [0, 2])))),
  (40, .inl (xe_dup_x1 41)),
  (41, .inl (xe_putf 300 2 (xj_1 25 1) 44)),
  (44, .inr (.inl xr_a)),
  (45, .inl (xe_aload 0 46)),
  (46, .inl (xe_push (.int 10) 48)),
  (48, .inl (xe_iload 1 49)),
  (49, .inr (.inr (.inl (xc_S 301 [0, 0])))),
  (52, .inl (xe_newa 4 .null 100000 55)),
  (55, .inl (xe_dup_x1 56)),
  (56, .inl (xe_putf 300 2 (xj_1 25 1) 59)),
  (59, .inr (.inl xr_a))]
theorem xq_286_0 {G : xm_G} (hG : xm_W xk_B G) (hO : xm_Og G) : ∀ q ∈ xp_286_0, xm_op xk_B G xd xk_N "java/util/ArrayList" "grow" prog_50_method_6_code 4 (some ((FieldType.array (FieldType.object "java/lang/Object")))) q.1 q.2 :=
  xw_cons (xw_E xn_aload (xo_aload_n dJ2_grow_2_0 rfl)) <|
  xw_cons (xw_E xn_getf (xo_getf hG xg_35_9 dJ2_grow_2_1)) <|
  xw_cons (xw_E xn_alen (xo_alen dJ2_grow_2_4)) <|
  xw_cons (xw_E xn_istore (xo_istore_n dJ2_grow_2_5 rfl)) <|
  xw_cons (xw_E xn_iload (xo_iload_n dJ2_grow_2_6 rfl)) <|
  xw_cons (xw_E xn_if (xo_if_gt dJ2_grow_2_7 (by decide))) <|
  xw_cons (xw_E xn_aload (xo_aload_n dJ2_grow_2_10 rfl)) <|
  xw_cons (xw_E xn_getf (xo_getf hG xg_35_9 dJ2_grow_2_11)) <|
  xw_cons (xw_E xn_push (xo_gets hG (xog_DEFAULTCAPACITY_EMPTY_ELEMENTDATA hO) q345 dJ2_grow_2_14)) <|
  xw_cons (xw_E xn_iload (xo_iload_n dJ2_grow_2_20 rfl)) <|
  xw_cons (xw_E xn_iload (xo_iload_n dJ2_grow_2_21 rfl)) <|
  xw_cons (xw_E xn_iload (xo_iload_n dJ2_grow_2_22 rfl)) <|
  xw_cons (xw_E xn_ii (xo_isub dJ2_grow_2_23)) <|
  xw_cons (xw_E xn_iload (xo_iload_n dJ2_grow_2_24 rfl)) <|
  xw_cons (xw_E xn_push (xo_iconst dJ2_grow_2_25 (by decide))) <|
  xw_cons (xw_E xn_ii (xo_ishr dJ2_grow_2_26)) <|
  xw_cons (xl_s_35_73 hG dJ2_grow_2_27) <|
  xw_cons (xw_E xn_istore (xo_istore_n dJ2_grow_2_30 rfl)) <|
  xw_cons (xw_E xn_aload (xo_aload_n dJ2_grow_2_31 rfl)) <|
  xw_cons (xw_E xn_aload (xo_aload_n dJ2_grow_2_32 rfl)) <|
  xw_cons (xw_E xn_getf (xo_getf hG xg_35_9 dJ2_grow_2_33)) <|
  xw_cons (xw_E xn_iload (xo_iload_n dJ2_grow_2_36 rfl)) <|
  xw_cons (xl_s_35_66 hG dJ2_grow_2_37) <|
  xw_cons (xw_E xn_dup_x1 (xo_dup_x1 dJ2_grow_2_40)) <|
  xw_cons (xw_E xn_putf (xo_putf hG rfl xu_35_9 dJ2_grow_2_41)) <|
  xw_cons (xw_R (xt_a (Or.inr ⟨_, rfl⟩) dJ2_grow_2_44)) <|
  xw_cons (xw_E xn_aload (xo_aload_n dJ2_grow_2_45 rfl)) <|
  xw_cons (xw_E xn_push (xo_bipush dJ2_grow_2_46 (by decide))) <|
  xw_cons (xw_E xn_iload (xo_iload_n dJ2_grow_2_48 rfl)) <|
  xw_cons (xl_s_35_79 hG dJ2_grow_2_49) <|
  xw_cons (xw_E xn_newa (xo_anewa hG (by decide) rfl (by decide) q249 q250 dJ2_grow_2_52)) <|
  xw_cons (xw_E xn_dup_x1 (xo_dup_x1 dJ2_grow_2_55)) <|
  xw_cons (xw_E xn_putf (xo_putf hG rfl xu_35_9 dJ2_grow_2_56)) <|
  xw_cons (xw_R (xt_a (Or.inr ⟨_, rfl⟩) dJ2_grow_2_59)) <|
  xw_nil _
def xp_286 : List (Nat × xm_O) := xp_286_0
theorem xq_286 {G : xm_G} (hG : xm_W xk_B G) (hO : xm_Og G) : ∀ q ∈ xp_286, xm_op xk_B G xd xk_N "java/util/ArrayList" "grow" prog_50_method_6_code 4 (some ((FieldType.array (FieldType.object "java/lang/Object")))) q.1 q.2 := xq_286_0 hG hO
/- 287: java/util/ArrayList.clear()V -/
def xp_287_0 : List (Nat × xm_O) := [
  (0, .inl (xe_aload 0 1)),
  (1, .inl (xe_dup 2)),
  (2, .inl (xe_getf (xj_1 25 0) 5)),
  (5, .inl (xe_push (.int 1) 6)),
  (6, .inl (xe_ii (fun x y => x + y) 7)),
  (7, .inl (xe_putf 300 0 (xj_1 25 0) 10)),
  (10, .inl (xe_aload 0 11)),
  (11, .inl (xe_getf (xj_1 25 1) 14)),
  (14, .inl (xe_astore 1 15)),
  (15, .inl (xe_aload 0 16)),
  (16, .inl (xe_getf (xj_1 25 2) 19)),
  (19, .inl (xe_istore 2 20)),
  (20, .inl (xe_aload 0 21)),
  (21, .inl (xe_push (.int 0) 22)),
  (22, .inl (xe_dup_x1 23)),
  (23, .inl (xe_putf 300 0 (xj_1 25 2) 26)),
  (26, .inl (xe_istore 3 27)),
  (27, .inl (xe_iload 3 28)),
  (28, .inl (xe_iload 2 29)),
  (29, .inl (xe_icmp (fun x y => decide (y ≤ x)) 42 32)),
  (32, .inl (xe_aload 1 33)),
  (33, .inl (xe_iload 3 34)),
  (34, .inl (xe_push .null 35)),
  (35, .inl (xe_aast 300 xk_as 36)),
  (36, .inl (xe_iinc 3 1 39)),
  (39, .inl (xe_goto 27)),
  (42, .inr (.inl xr_v))]
theorem xq_287_0 {G : xm_G} (hG : xm_W xk_B G) (hO : xm_Og G) : ∀ q ∈ xp_287_0, xm_op xk_B G xd xk_N "java/util/ArrayList" "clear" prog_50_method_40_code 4 none q.1 q.2 :=
  xw_cons (xw_E xn_aload (xo_aload_n dJ2_clear_0 rfl)) <|
  xw_cons (xw_E xn_dup (xo_dup dJ2_clear_1)) <|
  xw_cons (xw_E xn_getf (xo_getf hG xg_35_63 dJ2_clear_2)) <|
  xw_cons (xw_E xn_push (xo_iconst dJ2_clear_5 (by decide))) <|
  xw_cons (xw_E xn_ii (xo_iadd dJ2_clear_6)) <|
  xw_cons (xw_E xn_putf (xo_putf hG rfl xu_35_63 dJ2_clear_7)) <|
  xw_cons (xw_E xn_aload (xo_aload_n dJ2_clear_10 rfl)) <|
  xw_cons (xw_E xn_getf (xo_getf hG xg_35_9 dJ2_clear_11)) <|
  xw_cons (xw_E xn_astore (xo_astore_n dJ2_clear_14 rfl)) <|
  xw_cons (xw_E xn_aload (xo_aload_n dJ2_clear_15 rfl)) <|
  xw_cons (xw_E xn_getf (xo_getf hG xg_35_48 dJ2_clear_16)) <|
  xw_cons (xw_E xn_istore (xo_istore_n dJ2_clear_19 rfl)) <|
  xw_cons (xw_E xn_aload (xo_aload_n dJ2_clear_20 rfl)) <|
  xw_cons (xw_E xn_push (xo_iconst dJ2_clear_21 (by decide))) <|
  xw_cons (xw_E xn_dup_x1 (xo_dup_x1 dJ2_clear_22)) <|
  xw_cons (xw_E xn_putf (xo_putf hG rfl xu_35_48 dJ2_clear_23)) <|
  xw_cons (xw_E xn_istore (xo_istore_n dJ2_clear_26 rfl)) <|
  xw_cons (xw_E xn_iload (xo_iload_n dJ2_clear_27 rfl)) <|
  xw_cons (xw_E xn_iload (xo_iload_n dJ2_clear_28 rfl)) <|
  xw_cons (xw_E xn_icmp (xo_icmp_ge dJ2_clear_29 (by decide))) <|
  xw_cons (xw_E xn_aload (xo_aload_n dJ2_clear_32 rfl)) <|
  xw_cons (xw_E xn_iload (xo_iload_n dJ2_clear_33 rfl)) <|
  xw_cons (xw_E xn_push (xo_anull dJ2_clear_34)) <|
  xw_cons (xw_E xn_aast (xo_aast hG xk_hB rfl xk_as_ok dJ2_clear_35)) <|
  xw_cons (xw_E xn_iinc (xo_iinc dJ2_clear_36 (by decide))) <|
  xw_cons (xw_E xn_goto (xo_goto dJ2_clear_39 (by decide))) <|
  xw_cons (xw_R (xt_v dJ2_clear_42)) <|
  xw_nil _
def xp_287 : List (Nat × xm_O) := xp_287_0
theorem xq_287 {G : xm_G} (hG : xm_W xk_B G) (hO : xm_Og G) : ∀ q ∈ xp_287, xm_op xk_B G xd xk_N "java/util/ArrayList" "clear" prog_50_method_40_code 4 none q.1 q.2 := xq_287_0 hG hO
/- 288: java/util/ArrayList.isEmpty()Z -/
def xp_288_0 : List (Nat × xm_O) := [
  (0, .inl (xe_aload 0 1)),
  (1, .inl (xe_getf (xj_1 25 2) 4)),
  (4, .inl (xe_if (fun x => decide (¬ x = 0)) 11 7)),
  (7, .inl (xe_push (.int 1) 8)),
  (8, .inl (xe_goto 12)),
  (11, .inl (xe_push (.int 0) 12)),
  (12, .inr (.inl xr_z))]
theorem xq_288_0 {G : xm_G} (hG : xm_W xk_B G) (hO : xm_Og G) : ∀ q ∈ xp_288_0, xm_op xk_B G xd xk_N "java/util/ArrayList" "isEmpty" prog_50_method_9_code 1 (some (FieldType.boolean)) q.1 q.2 :=
  xw_cons (xw_E xn_aload (xo_aload_n dJ2_isEmpty_0 rfl)) <|
  xw_cons (xw_E xn_getf (xo_getf hG xg_35_48 dJ2_isEmpty_1)) <|
  xw_cons (xw_E xn_if (xo_if_ne dJ2_isEmpty_4 (by decide))) <|
  xw_cons (xw_E xn_push (xo_iconst dJ2_isEmpty_7 (by decide))) <|
  xw_cons (xw_E xn_goto (xo_goto dJ2_isEmpty_8 (by decide))) <|
  xw_cons (xw_E xn_push (xo_iconst dJ2_isEmpty_11 (by decide))) <|
  xw_cons (xw_R (xt_z dJ2_isEmpty_12)) <|
  xw_nil _
def xp_288 : List (Nat × xm_O) := xp_288_0
theorem xq_288 {G : xm_G} (hG : xm_W xk_B G) (hO : xm_Og G) : ∀ q ∈ xp_288, xm_op xk_B G xd xk_N "java/util/ArrayList" "isEmpty" prog_50_method_9_code 1 (some (FieldType.boolean)) q.1 q.2 := xq_288_0 hG hO
/- 289: java/lang/String.indexOf(I)I -/
def xp_289_0 : List (Nat × xm_O) := [
  (0, .inl (xe_aload 0 1)),
  (1, .inl (xe_iload 1 2)),
  (2, .inl (xe_push (.int 0) 3)),
  (3, .inr (.inr (.inl (xc_V (xj_1 27 290) [0, 0])))),
  (6, .inr (.inl xr_i))]
theorem xq_289_0 {G : xm_G} (hG : xm_W xk_B G) (hO : xm_Og G) : ∀ q ∈ xp_289_0, xm_op xk_B G xd xk_N "java/lang/String" "indexOf" prog_41_method_79_code 2 (some (FieldType.int)) q.1 q.2 :=
  xw_cons (xw_E xn_aload (xo_aload_n dJ3_indexOf_0 rfl)) <|
  xw_cons (xw_E xn_iload (xo_iload_n dJ3_indexOf_1 rfl)) <|
  xw_cons (xw_E xn_push (xo_iconst dJ3_indexOf_2 (by decide))) <|
  xw_cons (xl_v_31_633 hG dJ3_indexOf_3) <|
  xw_cons (xw_R (xt_i dJ3_indexOf_6)) <|
  xw_nil _
def xp_289 : List (Nat × xm_O) := xp_289_0
theorem xq_289 {G : xm_G} (hG : xm_W xk_B G) (hO : xm_Og G) : ∀ q ∈ xp_289, xm_op xk_B G xd xk_N "java/lang/String" "indexOf" prog_41_method_79_code 2 (some (FieldType.int)) q.1 q.2 := xq_289_0 hG hO
