/-! rows of methods, by program -/
set_option maxRecDepth 100000
/- 138: LiarsCockModel.<init>()V -/
def xp_138_0 : List (Nat × xm_O) := [
  (0, .inl (xe_aload 0 1)),
  (1, .inl (xe_objInit 4)),
  (4, .inl (xe_aload 0 5)),
  (5, .inl (xe_push (.int 1000) 8)),
  (8, .inl (xe_newa 0 (.int 0) 100000 10)),
  (10, .inl (xe_putf 300 2 (xj_1 8 2) 13)),
  (13, .inl (xe_aload 0 14)),
  (14, .inl (xe_push (.int 6) 16)),
  (16, .inl (xe_newa 0 (.int 0) 100000 18)),
  (18, .inl (xe_putf 300 2 (xj_1 8 10) 21)),
  (21, .inl (xe_aload 0 22)),
  (22, .inl (xe_push (.int 36) 24)),
  (24, .inl (xe_newa 1 (.long 0) 100000 26)),
  (26, .inl (xe_putf 300 2 (xj_1 8 11) 29)),
  (29, .inl (xe_aload 0 30)),
  (30, .inl (xe_push (.int 12) 32)),
  (32, .inl (xe_newa 0 (.int 0) 100000 34)),
  (34, .inl (xe_putf 300 2 (xj_1 8 12) 37)),
  (37, .inl (xe_aload 0 38)),
  (38, .inl (xe_push (.int 12) 40)),
  (40, .inl (xe_newa 0 (.int 0) 100000 42)),
  (42, .inl (xe_putf 300 2 (xj_1 8 13) 45)),
  (45, .inl (xe_aload 0 46)),
  (46, .inl (xe_push (.int 12) 48)),
  (48, .inl (xe_newa 0 (.int 0) 100000 50)),
  (50, .inl (xe_putf 300 2 (xj_1 8 14) 53)),
  (53, .inl (xe_aload 0 54)),
  (54, .inl (xe_push (.int 12) 56)),
  (56, .inl (xe_newa 0 (.int 0) 100000 58)),
  (58, .inl (xe_putf 300 2 (xj_1 8 15) 61)),
  (61, .inl (xe_aload 0 62)),
  (62, .inl (xe_push (.int 4) 63)),
  (63, .inl (xe_newa 0 (.int 0) 100000 65)),
  (65, .inl (xe_putf 300 2 (xj_1 8 16) 68)),
  (68, .inl (xe_aload 0 69)),
  (69, .inl (xe_push (.int 4) 70)),
  (70, .inl (xe_newa 0 (.int 0) 100000 72)),
  (72, .inl (xe_putf 300 2 (xj_1 8 17) 75)),
  (75, .inl (xe_aload 0 76)),
  (76, .inl (xe_push (.int 4) 77)),
  (77, .inl (xe_newa 2 (.int 0) 100000 79)),
  (79, .inl (xe_putf 300 2 (xj_1 8 18) 82)),
  (82, .inl (xe_aload 0 83)),
  (83, .inl (xe_push (.int 2) 84)),
  (84, .inl (xe_newa 1 (.long 0) 100000 86)),
  (86, .inl (xe_putf 300 2 (xj_1 8 19) 89)),
  (89, .inl (xe_aload 0 90)),
  (90, .inl (xe_push (.int 1000) 93)),
  (93, .inl (xe_newa 0 (.int 0) 100000 95)),
  (95, .inl (xe_putf 300 2 (xj_1 8 20) 98))]
theorem xq_138_0 {G : xm_G} (hG : xm_W xk_B G) (hO : xm_Og G) : ∀ q ∈ xp_138_0, xm_op xk_B G xd xk_N "LiarsCockModel" "<init>" prog_28_method_1_code 1 none q.1 q.2 :=
  xw_cons (xw_E xn_aload (xo_aload_n dX9_init_0 rfl)) <|
  xw_cons (xw_E xn_objInit (xo_objInit hG q1609 q172 q173 dX9_init_1)) <|
  xw_cons (xw_E xn_aload (xo_aload_n dX9_init_4 rfl)) <|
  xw_cons (xw_E xn_push (xo_sipush dX9_init_5 (by decide))) <|
  xw_cons (xw_E xn_newa (xo_newa (at0 := .int) hG (by decide) rfl rfl (by decide) q226 dX9_init_8)) <|
  xw_cons (xw_E xn_putf (xo_putf hG rfl xu_27_7 dX9_init_10)) <|
  xw_cons (xw_E xn_aload (xo_aload_n dX9_init_13 rfl)) <|
  xw_cons (xw_E xn_push (xo_bipush dX9_init_14 (by decide))) <|
  xw_cons (xw_E xn_newa (xo_newa (at0 := .int) hG (by decide) rfl rfl (by decide) q226 dX9_init_16)) <|
  xw_cons (xw_E xn_putf (xo_putf hG rfl xu_27_13 dX9_init_18)) <|
  xw_cons (xw_E xn_aload (xo_aload_n dX9_init_21 rfl)) <|
  xw_cons (xw_E xn_push (xo_bipush dX9_init_22 (by decide))) <|
  xw_cons (xw_E xn_newa (xo_newa (at0 := .long) hG (by decide) rfl rfl (by decide) q227 dX9_init_24)) <|
  xw_cons (xw_E xn_putf (xo_putf hG rfl xu_27_16 dX9_init_26)) <|
  xw_cons (xw_E xn_aload (xo_aload_n dX9_init_29 rfl)) <|
  xw_cons (xw_E xn_push (xo_bipush dX9_init_30 (by decide))) <|
  xw_cons (xw_E xn_newa (xo_newa (at0 := .int) hG (by decide) rfl rfl (by decide) q226 dX9_init_32)) <|
  xw_cons (xw_E xn_putf (xo_putf hG rfl xu_27_20 dX9_init_34)) <|
  xw_cons (xw_E xn_aload (xo_aload_n dX9_init_37 rfl)) <|
  xw_cons (xw_E xn_push (xo_bipush dX9_init_38 (by decide))) <|
  xw_cons (xw_E xn_newa (xo_newa (at0 := .int) hG (by decide) rfl rfl (by decide) q226 dX9_init_40)) <|
  xw_cons (xw_E xn_putf (xo_putf hG rfl xu_27_23 dX9_init_42)) <|
  xw_cons (xw_E xn_aload (xo_aload_n dX9_init_45 rfl)) <|
  xw_cons (xw_E xn_push (xo_bipush dX9_init_46 (by decide))) <|
  xw_cons (xw_E xn_newa (xo_newa (at0 := .int) hG (by decide) rfl rfl (by decide) q226 dX9_init_48)) <|
  xw_cons (xw_E xn_putf (xo_putf hG rfl xu_27_26 dX9_init_50)) <|
  xw_cons (xw_E xn_aload (xo_aload_n dX9_init_53 rfl)) <|
  xw_cons (xw_E xn_push (xo_bipush dX9_init_54 (by decide))) <|
  xw_cons (xw_E xn_newa (xo_newa (at0 := .int) hG (by decide) rfl rfl (by decide) q226 dX9_init_56)) <|
  xw_cons (xw_E xn_putf (xo_putf hG rfl xu_27_29 dX9_init_58)) <|
  xw_cons (xw_E xn_aload (xo_aload_n dX9_init_61 rfl)) <|
  xw_cons (xw_E xn_push (xo_iconst dX9_init_62 (by decide))) <|
  xw_cons (xw_E xn_newa (xo_newa (at0 := .int) hG (by decide) rfl rfl (by decide) q226 dX9_init_63)) <|
  xw_cons (xw_E xn_putf (xo_putf hG rfl xu_27_32 dX9_init_65)) <|
  xw_cons (xw_E xn_aload (xo_aload_n dX9_init_68 rfl)) <|
  xw_cons (xw_E xn_push (xo_iconst dX9_init_69 (by decide))) <|
  xw_cons (xw_E xn_newa (xo_newa (at0 := .int) hG (by decide) rfl rfl (by decide) q226 dX9_init_70)) <|
  xw_cons (xw_E xn_putf (xo_putf hG rfl xu_27_35 dX9_init_72)) <|
  xw_cons (xw_E xn_aload (xo_aload_n dX9_init_75 rfl)) <|
  xw_cons (xw_E xn_push (xo_iconst dX9_init_76 (by decide))) <|
  xw_cons (xw_E xn_newa (xo_newa (at0 := .boolean) hG (by decide) rfl rfl (by decide) q1822 dX9_init_77)) <|
  xw_cons (xw_E xn_putf (xo_putf hG rfl xu_27_38 dX9_init_79)) <|
  xw_cons (xw_E xn_aload (xo_aload_n dX9_init_82 rfl)) <|
  xw_cons (xw_E xn_push (xo_iconst dX9_init_83 (by decide))) <|
  xw_cons (xw_E xn_newa (xo_newa (at0 := .long) hG (by decide) rfl rfl (by decide) q227 dX9_init_84)) <|
  xw_cons (xw_E xn_putf (xo_putf hG rfl xu_27_42 dX9_init_86)) <|
  xw_cons (xw_E xn_aload (xo_aload_n dX9_init_89 rfl)) <|
  xw_cons (xw_E xn_push (xo_sipush dX9_init_90 (by decide))) <|
  xw_cons (xw_E xn_newa (xo_newa (at0 := .int) hG (by decide) rfl rfl (by decide) q226 dX9_init_93)) <|
  xw_cons (xw_E xn_putf (xo_putf hG rfl xu_27_45 dX9_init_95)) <|
  xw_nil _
def xp_138_1 : List (Nat × xm_O) := [
  (98, .inl (xe_aload 0 99)),
  (99, .inl (xe_push (.int 1) 100)),
  (100, .inl (xe_newa 0 (.int 0) 100000 102)),
  (102, .inl (xe_putf 300 2 (xj_1 8 21) 105)),
  (105, .inl (xe_aload 0 106)),
  (106, .inl (xe_push (.int 1) 107)),
  (107, .inl (xe_newa 0 (.int 0) 100000 109)),
  (109, .inl (xe_putf 300 2 (xj_1 8 22) 112)),
  (112, .inl (xe_aload 0 113)),
  (113, .inl (xe_push (.int 7) 115)),
  (115, .inl (xe_newa 0 (.int 0) 100000 117)),
  (117, .inl (xe_putf 300 2 (xj_1 8 24) 120)),
  (120, .inl (xe_aload 0 121)),
  (121, .inl (xe_push (.int 7) 123)),
  (123, .inl (xe_newa 2 (.int 0) 100000 125)),
  (125, .inl (xe_putf 300 2 (xj_1 8 25) 128)),
  (128, .inl (xe_aload 0 129)),
  (129, .inl (xe_push (.int 7) 131)),
  (131, .inl (xe_newa 0 (.int 0) 100000 133)),
  (133, .inl (xe_putf 300 2 (xj_1 8 26) 136)),
  (136, .inl (xe_aload 0 137)),
  (137, .inl (xe_push (.int 7) 139)),
  (139, .inl (xe_newa 0 (.int 0) 100000 141)),
  (141, .inl (xe_putf 300 2 (xj_1 8 27) 144)),
  (144, .inl (xe_aload 0 145)),
  (145, .inl (xe_push (.int 7) 147)),
  (147, .inl (xe_newa 0 (.int 0) 100000 149)),
  (149, .inl (xe_putf 300 2 (xj_1 8 28) 152)),
  (152, .inl (xe_aload 0 153)),
  (153, .inl (xe_push (.int 7) 155)),
  (155, .inl (xe_newa 0 (.int 0) 100000 157)),
  (157, .inl (xe_putf 300 2 (xj_1 8 29) 160)),
  (160, .inl (xe_aload 0 161)),
  (161, .inl (xe_push (.int 7) 163)),
  (163, .inl (xe_newa 0 (.int 0) 100000 165)),
  (165, .inl (xe_putf 300 2 (xj_1 8 30) 168)),
  (168, .inl (xe_aload 0 169)),
  (169, .inl (xe_push (.int 7) 171)),
  (171, .inl (xe_newa 0 (.int 0) 100000 173)),
  (173, .inl (xe_putf 300 2 (xj_1 8 31) 176)),
  (176, .inl (xe_aload 0 177)),
  (177, .inl (xe_push (.int 7) 179)),
  (179, .inl (xe_newa 0 (.int 0) 100000 181)),
  (181, .inl (xe_putf 300 2 (xj_1 8 32) 184)),
  (184, .inl (xe_aload 0 185)),
  (185, .inl (xe_push (.int 7) 187)),
  (187, .inl (xe_newa 0 (.int 0) 100000 189)),
  (189, .inl (xe_putf 300 2 (xj_1 8 33) 192)),
  (192, .inl (xe_aload 0 193)),
  (193, .inl (xe_push (.int 7) 195))]
theorem xq_138_1 {G : xm_G} (hG : xm_W xk_B G) (hO : xm_Og G) : ∀ q ∈ xp_138_1, xm_op xk_B G xd xk_N "LiarsCockModel" "<init>" prog_28_method_1_code 1 none q.1 q.2 :=
  xw_cons (xw_E xn_aload (xo_aload_n dX9_init_98 rfl)) <|
  xw_cons (xw_E xn_push (xo_iconst dX9_init_99 (by decide))) <|
  xw_cons (xw_E xn_newa (xo_newa (at0 := .int) hG (by decide) rfl rfl (by decide) q226 dX9_init_100)) <|
  xw_cons (xw_E xn_putf (xo_putf hG rfl xu_27_48 dX9_init_102)) <|
  xw_cons (xw_E xn_aload (xo_aload_n dX9_init_105 rfl)) <|
  xw_cons (xw_E xn_push (xo_iconst dX9_init_106 (by decide))) <|
  xw_cons (xw_E xn_newa (xo_newa (at0 := .int) hG (by decide) rfl rfl (by decide) q226 dX9_init_107)) <|
  xw_cons (xw_E xn_putf (xo_putf hG rfl xu_27_51 dX9_init_109)) <|
  xw_cons (xw_E xn_aload (xo_aload_n dX9_init_112 rfl)) <|
  xw_cons (xw_E xn_push (xo_bipush dX9_init_113 (by decide))) <|
  xw_cons (xw_E xn_newa (xo_newa (at0 := .int) hG (by decide) rfl rfl (by decide) q226 dX9_init_115)) <|
  xw_cons (xw_E xn_putf (xo_putf hG rfl xu_27_54 dX9_init_117)) <|
  xw_cons (xw_E xn_aload (xo_aload_n dX9_init_120 rfl)) <|
  xw_cons (xw_E xn_push (xo_bipush dX9_init_121 (by decide))) <|
  xw_cons (xw_E xn_newa (xo_newa (at0 := .boolean) hG (by decide) rfl rfl (by decide) q1822 dX9_init_123)) <|
  xw_cons (xw_E xn_putf (xo_putf hG rfl xu_27_57 dX9_init_125)) <|
  xw_cons (xw_E xn_aload (xo_aload_n dX9_init_128 rfl)) <|
  xw_cons (xw_E xn_push (xo_bipush dX9_init_129 (by decide))) <|
  xw_cons (xw_E xn_newa (xo_newa (at0 := .int) hG (by decide) rfl rfl (by decide) q226 dX9_init_131)) <|
  xw_cons (xw_E xn_putf (xo_putf hG rfl xu_27_60 dX9_init_133)) <|
  xw_cons (xw_E xn_aload (xo_aload_n dX9_init_136 rfl)) <|
  xw_cons (xw_E xn_push (xo_bipush dX9_init_137 (by decide))) <|
  xw_cons (xw_E xn_newa (xo_newa (at0 := .int) hG (by decide) rfl rfl (by decide) q226 dX9_init_139)) <|
  xw_cons (xw_E xn_putf (xo_putf hG rfl xu_27_63 dX9_init_141)) <|
  xw_cons (xw_E xn_aload (xo_aload_n dX9_init_144 rfl)) <|
  xw_cons (xw_E xn_push (xo_bipush dX9_init_145 (by decide))) <|
  xw_cons (xw_E xn_newa (xo_newa (at0 := .int) hG (by decide) rfl rfl (by decide) q226 dX9_init_147)) <|
  xw_cons (xw_E xn_putf (xo_putf hG rfl xu_27_66 dX9_init_149)) <|
  xw_cons (xw_E xn_aload (xo_aload_n dX9_init_152 rfl)) <|
  xw_cons (xw_E xn_push (xo_bipush dX9_init_153 (by decide))) <|
  xw_cons (xw_E xn_newa (xo_newa (at0 := .int) hG (by decide) rfl rfl (by decide) q226 dX9_init_155)) <|
  xw_cons (xw_E xn_putf (xo_putf hG rfl xu_27_69 dX9_init_157)) <|
  xw_cons (xw_E xn_aload (xo_aload_n dX9_init_160 rfl)) <|
  xw_cons (xw_E xn_push (xo_bipush dX9_init_161 (by decide))) <|
  xw_cons (xw_E xn_newa (xo_newa (at0 := .int) hG (by decide) rfl rfl (by decide) q226 dX9_init_163)) <|
  xw_cons (xw_E xn_putf (xo_putf hG rfl xu_27_72 dX9_init_165)) <|
  xw_cons (xw_E xn_aload (xo_aload_n dX9_init_168 rfl)) <|
  xw_cons (xw_E xn_push (xo_bipush dX9_init_169 (by decide))) <|
  xw_cons (xw_E xn_newa (xo_newa (at0 := .int) hG (by decide) rfl rfl (by decide) q226 dX9_init_171)) <|
  xw_cons (xw_E xn_putf (xo_putf hG rfl xu_27_75 dX9_init_173)) <|
  xw_cons (xw_E xn_aload (xo_aload_n dX9_init_176 rfl)) <|
  xw_cons (xw_E xn_push (xo_bipush dX9_init_177 (by decide))) <|
  xw_cons (xw_E xn_newa (xo_newa (at0 := .int) hG (by decide) rfl rfl (by decide) q226 dX9_init_179)) <|
  xw_cons (xw_E xn_putf (xo_putf hG rfl xu_27_78 dX9_init_181)) <|
  xw_cons (xw_E xn_aload (xo_aload_n dX9_init_184 rfl)) <|
  xw_cons (xw_E xn_push (xo_bipush dX9_init_185 (by decide))) <|
  xw_cons (xw_E xn_newa (xo_newa (at0 := .int) hG (by decide) rfl rfl (by decide) q226 dX9_init_187)) <|
  xw_cons (xw_E xn_putf (xo_putf hG rfl xu_27_81 dX9_init_189)) <|
  xw_cons (xw_E xn_aload (xo_aload_n dX9_init_192 rfl)) <|
  xw_cons (xw_E xn_push (xo_bipush dX9_init_193 (by decide))) <|
  xw_nil _
def xp_138_2 : List (Nat × xm_O) := [
  (195, .inl (xe_newa 0 (.int 0) 100000 197)),
  (197, .inl (xe_putf 300 2 (xj_1 8 34) 200)),
  (200, .inl (xe_aload 0 201)),
  (201, .inl (xe_push (.int 20) 203)),
  (203, .inl (xe_newa 0 (.int 0) 100000 205)),
  (205, .inl (xe_putf 300 2 (xj_1 8 35) 208)),
  (208, .inl (xe_aload 0 209)),
  (209, .inl (xe_push (.int 2) 210)),
  (210, .inl (xe_newa 2 (.int 0) 100000 212)),
  (212, .inl (xe_putf 300 2 (xj_1 8 36) 215)),
  (215, .inl (xe_aload 0 216)),
  (216, .inl (xe_push (.int 4) 217)),
  (217, .inl (xe_newa 1 (.long 0) 100000 219)),
  (219, .inl (xe_putf 300 2 (xj_1 8 39) 222)),
  (222, .inl (xe_aload 0 223)),
  (223, .inl (xe_push (.int 31) 225)),
  (225, .inl (xe_newa 0 (.int 0) 100000 227)),
  (227, .inl (xe_putf 300 2 (xj_1 8 45) 230)),
  (230, .inl (xe_aload 0 231)),
  (231, .inl (xe_push (.int 31) 233)),
  (233, .inl (xe_newa 0 (.int 0) 100000 235)),
  (235, .inl (xe_putf 300 2 (xj_1 8 46) 238)),
  (238, .inl (xe_aload 0 239)),
  (239, .inl (xe_push (.int 31) 241)),
  (241, .inl (xe_newa 1 (.long 0) 100000 243)),
  (243, .inl (xe_putf 300 2 (xj_1 8 47) 246)),
  (246, .inl (xe_aload 0 247)),
  (247, .inl (xe_push (.int 31) 249)),
  (249, .inl (xe_newa 2 (.int 0) 100000 251)),
  (251, .inl (xe_putf 300 2 (xj_1 8 48) 254)),
  (254, .inl (xe_aload 0 255)),
  (255, .inl (xe_push (.int 31) 257)),
  (257, .inl (xe_newa 0 (.int 0) 100000 259)),
  (259, .inl (xe_putf 300 2 (xj_1 8 49) 262)),
  (262, .inl (xe_aload 0 263)),
  (263, .inl (xe_push (.int 62) 265)),
  (265, .inl (xe_newa 1 (.long 0) 100000 267)),
  (267, .inl (xe_putf 300 2 (xj_1 8 51) 270)),
  (270, .inl (xe_aload 0 271)),
  (271, .inl (xe_push (.int 12) 273)),
  (273, .inl (xe_newa 0 (.int 0) 100000 275)),
  (275, .inl (xe_putf 300 2 (xj_1 8 52) 278)),
  (278, .inl (xe_aload 0 279)),
  (279, .inl (xe_push (.int 12) 281)),
  (281, .inl (xe_newa 0 (.int 0) 100000 283)),
  (283, .inl (xe_putf 300 2 (xj_1 8 53) 286)),
  (286, .inl (xe_aload 0 287)),
  (287, .inl (xe_push (.int 12) 289)),
  (289, .inl (xe_newa 0 (.int 0) 100000 291)),
  (291, .inl (xe_putf 300 2 (xj_1 8 54) 294))]
theorem xq_138_2 {G : xm_G} (hG : xm_W xk_B G) (hO : xm_Og G) : ∀ q ∈ xp_138_2, xm_op xk_B G xd xk_N "LiarsCockModel" "<init>" prog_28_method_1_code 1 none q.1 q.2 :=
  xw_cons (xw_E xn_newa (xo_newa (at0 := .int) hG (by decide) rfl rfl (by decide) q226 dX9_init_195)) <|
  xw_cons (xw_E xn_putf (xo_putf hG rfl xu_27_84 dX9_init_197)) <|
  xw_cons (xw_E xn_aload (xo_aload_n dX9_init_200 rfl)) <|
  xw_cons (xw_E xn_push (xo_bipush dX9_init_201 (by decide))) <|
  xw_cons (xw_E xn_newa (xo_newa (at0 := .int) hG (by decide) rfl rfl (by decide) q226 dX9_init_203)) <|
  xw_cons (xw_E xn_putf (xo_putf hG rfl xu_27_87 dX9_init_205)) <|
  xw_cons (xw_E xn_aload (xo_aload_n dX9_init_208 rfl)) <|
  xw_cons (xw_E xn_push (xo_iconst dX9_init_209 (by decide))) <|
  xw_cons (xw_E xn_newa (xo_newa (at0 := .boolean) hG (by decide) rfl rfl (by decide) q1822 dX9_init_210)) <|
  xw_cons (xw_E xn_putf (xo_putf hG rfl xu_27_90 dX9_init_212)) <|
  xw_cons (xw_E xn_aload (xo_aload_n dX9_init_215 rfl)) <|
  xw_cons (xw_E xn_push (xo_iconst dX9_init_216 (by decide))) <|
  xw_cons (xw_E xn_newa (xo_newa (at0 := .long) hG (by decide) rfl rfl (by decide) q227 dX9_init_217)) <|
  xw_cons (xw_E xn_putf (xo_putf hG rfl xu_27_93 dX9_init_219)) <|
  xw_cons (xw_E xn_aload (xo_aload_n dX9_init_222 rfl)) <|
  xw_cons (xw_E xn_push (xo_bipush dX9_init_223 (by decide))) <|
  xw_cons (xw_E xn_newa (xo_newa (at0 := .int) hG (by decide) rfl rfl (by decide) q226 dX9_init_225)) <|
  xw_cons (xw_E xn_putf (xo_putf hG rfl xu_27_96 dX9_init_227)) <|
  xw_cons (xw_E xn_aload (xo_aload_n dX9_init_230 rfl)) <|
  xw_cons (xw_E xn_push (xo_bipush dX9_init_231 (by decide))) <|
  xw_cons (xw_E xn_newa (xo_newa (at0 := .int) hG (by decide) rfl rfl (by decide) q226 dX9_init_233)) <|
  xw_cons (xw_E xn_putf (xo_putf hG rfl xu_27_99 dX9_init_235)) <|
  xw_cons (xw_E xn_aload (xo_aload_n dX9_init_238 rfl)) <|
  xw_cons (xw_E xn_push (xo_bipush dX9_init_239 (by decide))) <|
  xw_cons (xw_E xn_newa (xo_newa (at0 := .long) hG (by decide) rfl rfl (by decide) q227 dX9_init_241)) <|
  xw_cons (xw_E xn_putf (xo_putf hG rfl xu_27_102 dX9_init_243)) <|
  xw_cons (xw_E xn_aload (xo_aload_n dX9_init_246 rfl)) <|
  xw_cons (xw_E xn_push (xo_bipush dX9_init_247 (by decide))) <|
  xw_cons (xw_E xn_newa (xo_newa (at0 := .boolean) hG (by decide) rfl rfl (by decide) q1822 dX9_init_249)) <|
  xw_cons (xw_E xn_putf (xo_putf hG rfl xu_27_105 dX9_init_251)) <|
  xw_cons (xw_E xn_aload (xo_aload_n dX9_init_254 rfl)) <|
  xw_cons (xw_E xn_push (xo_bipush dX9_init_255 (by decide))) <|
  xw_cons (xw_E xn_newa (xo_newa (at0 := .int) hG (by decide) rfl rfl (by decide) q226 dX9_init_257)) <|
  xw_cons (xw_E xn_putf (xo_putf hG rfl xu_27_108 dX9_init_259)) <|
  xw_cons (xw_E xn_aload (xo_aload_n dX9_init_262 rfl)) <|
  xw_cons (xw_E xn_push (xo_bipush dX9_init_263 (by decide))) <|
  xw_cons (xw_E xn_newa (xo_newa (at0 := .long) hG (by decide) rfl rfl (by decide) q227 dX9_init_265)) <|
  xw_cons (xw_E xn_putf (xo_putf hG rfl xu_27_111 dX9_init_267)) <|
  xw_cons (xw_E xn_aload (xo_aload_n dX9_init_270 rfl)) <|
  xw_cons (xw_E xn_push (xo_bipush dX9_init_271 (by decide))) <|
  xw_cons (xw_E xn_newa (xo_newa (at0 := .int) hG (by decide) rfl rfl (by decide) q226 dX9_init_273)) <|
  xw_cons (xw_E xn_putf (xo_putf hG rfl xu_27_114 dX9_init_275)) <|
  xw_cons (xw_E xn_aload (xo_aload_n dX9_init_278 rfl)) <|
  xw_cons (xw_E xn_push (xo_bipush dX9_init_279 (by decide))) <|
  xw_cons (xw_E xn_newa (xo_newa (at0 := .int) hG (by decide) rfl rfl (by decide) q226 dX9_init_281)) <|
  xw_cons (xw_E xn_putf (xo_putf hG rfl xu_27_117 dX9_init_283)) <|
  xw_cons (xw_E xn_aload (xo_aload_n dX9_init_286 rfl)) <|
  xw_cons (xw_E xn_push (xo_bipush dX9_init_287 (by decide))) <|
  xw_cons (xw_E xn_newa (xo_newa (at0 := .int) hG (by decide) rfl rfl (by decide) q226 dX9_init_289)) <|
  xw_cons (xw_E xn_putf (xo_putf hG rfl xu_27_120 dX9_init_291)) <|
  xw_nil _
def xp_138_3 : List (Nat × xm_O) := [
  (294, .inl (xe_aload 0 295)),
  (295, .inl (xe_push (.int 12) 297)),
  (297, .inl (xe_newa 0 (.int 0) 100000 299)),
  (299, .inl (xe_putf 300 2 (xj_1 8 55) 302)),
  (302, .inl (xe_aload 0 303)),
  (303, .inl (xe_push (.int 12) 305)),
  (305, .inl (xe_newa 1 (.long 0) 100000 307)),
  (307, .inl (xe_putf 300 2 (xj_1 8 56) 310)),
  (310, .inl (xe_aload 0 311)),
  (311, .inl (xe_push (.int 360) 314)),
  (314, .inl (xe_newa 0 (.int 0) 100000 316)),
  (316, .inl (xe_putf 300 2 (xj_1 8 57) 319)),
  (319, .inl (xe_aload 0 320)),
  (320, .inl (xe_push (.int 360) 323)),
  (323, .inl (xe_newa 0 (.int 0) 100000 325)),
  (325, .inl (xe_putf 300 2 (xj_1 8 58) 328)),
  (328, .inl (xe_aload 0 329)),
  (329, .inl (xe_push (.int 4) 330)),
  (330, .inl (xe_newa 0 (.int 0) 100000 332)),
  (332, .inl (xe_putf 300 2 (xj_1 8 59) 335)),
  (335, .inl (xe_aload 0 336)),
  (336, .inl (xe_push (.int 4) 337)),
  (337, .inl (xe_newa 0 (.int 0) 100000 339)),
  (339, .inl (xe_putf 300 2 (xj_1 8 60) 342)),
  (342, .inl (xe_aload 0 343)),
  (343, .inl (xe_push (.int 24) 345)),
  (345, .inl (xe_newa 0 (.int 0) 100000 347)),
  (347, .inl (xe_putf 300 2 (xj_1 8 62) 350)),
  (350, .inl (xe_aload 0 351)),
  (351, .inl (xe_push (.int 1536) 354)),
  (354, .inl (xe_newa 0 (.int 0) 100000 356)),
  (356, .inl (xe_putf 300 2 (xj_1 8 63) 359)),
  (359, .inl (xe_aload 0 360)),
  (360, .inl (xe_push (.int 3) 361)),
  (361, .inl (xe_newa 0 (.int 0) 100000 363)),
  (363, .inl (xe_putf 300 2 (xj_1 8 64) 366)),
  (366, .inl (xe_aload 0 367)),
  (367, .inl (xe_push (.int 4) 368)),
  (368, .inl (xe_newa 2 (.int 0) 100000 370)),
  (370, .inl (xe_putf 300 2 (xj_1 8 65) 373)),
  (373, .inl (xe_aload 0 374)),
  (374, .inl (xe_push (.int 1200) 377)),
  (377, .inl (xe_newa 0 (.int 0) 100000 379)),
  (379, .inl (xe_putf 300 2 (xj_1 8 66) 382)),
  (382, .inl (xe_aload 0 383)),
  (383, .inl (xe_push (.int 400) 386)),
  (386, .inl (xe_newa 1 (.long 0) 100000 388)),
  (388, .inl (xe_putf 300 2 (xj_1 8 67) 391)),
  (391, .inl (xe_aload 0 392)),
  (392, .inr (.inr (.inl (xc_V (xj_1 8 139) []))))]
theorem xq_138_3 {G : xm_G} (hG : xm_W xk_B G) (hO : xm_Og G) : ∀ q ∈ xp_138_3, xm_op xk_B G xd xk_N "LiarsCockModel" "<init>" prog_28_method_1_code 1 none q.1 q.2 :=
  xw_cons (xw_E xn_aload (xo_aload_n dX9_init_294 rfl)) <|
  xw_cons (xw_E xn_push (xo_bipush dX9_init_295 (by decide))) <|
  xw_cons (xw_E xn_newa (xo_newa (at0 := .int) hG (by decide) rfl rfl (by decide) q226 dX9_init_297)) <|
  xw_cons (xw_E xn_putf (xo_putf hG rfl xu_27_123 dX9_init_299)) <|
  xw_cons (xw_E xn_aload (xo_aload_n dX9_init_302 rfl)) <|
  xw_cons (xw_E xn_push (xo_bipush dX9_init_303 (by decide))) <|
  xw_cons (xw_E xn_newa (xo_newa (at0 := .long) hG (by decide) rfl rfl (by decide) q227 dX9_init_305)) <|
  xw_cons (xw_E xn_putf (xo_putf hG rfl xu_27_126 dX9_init_307)) <|
  xw_cons (xw_E xn_aload (xo_aload_n dX9_init_310 rfl)) <|
  xw_cons (xw_E xn_push (xo_sipush dX9_init_311 (by decide))) <|
  xw_cons (xw_E xn_newa (xo_newa (at0 := .int) hG (by decide) rfl rfl (by decide) q226 dX9_init_314)) <|
  xw_cons (xw_E xn_putf (xo_putf hG rfl xu_27_129 dX9_init_316)) <|
  xw_cons (xw_E xn_aload (xo_aload_n dX9_init_319 rfl)) <|
  xw_cons (xw_E xn_push (xo_sipush dX9_init_320 (by decide))) <|
  xw_cons (xw_E xn_newa (xo_newa (at0 := .int) hG (by decide) rfl rfl (by decide) q226 dX9_init_323)) <|
  xw_cons (xw_E xn_putf (xo_putf hG rfl xu_27_132 dX9_init_325)) <|
  xw_cons (xw_E xn_aload (xo_aload_n dX9_init_328 rfl)) <|
  xw_cons (xw_E xn_push (xo_iconst dX9_init_329 (by decide))) <|
  xw_cons (xw_E xn_newa (xo_newa (at0 := .int) hG (by decide) rfl rfl (by decide) q226 dX9_init_330)) <|
  xw_cons (xw_E xn_putf (xo_putf hG rfl xu_27_135 dX9_init_332)) <|
  xw_cons (xw_E xn_aload (xo_aload_n dX9_init_335 rfl)) <|
  xw_cons (xw_E xn_push (xo_iconst dX9_init_336 (by decide))) <|
  xw_cons (xw_E xn_newa (xo_newa (at0 := .int) hG (by decide) rfl rfl (by decide) q226 dX9_init_337)) <|
  xw_cons (xw_E xn_putf (xo_putf hG rfl xu_27_138 dX9_init_339)) <|
  xw_cons (xw_E xn_aload (xo_aload_n dX9_init_342 rfl)) <|
  xw_cons (xw_E xn_push (xo_bipush dX9_init_343 (by decide))) <|
  xw_cons (xw_E xn_newa (xo_newa (at0 := .int) hG (by decide) rfl rfl (by decide) q226 dX9_init_345)) <|
  xw_cons (xw_E xn_putf (xo_putf hG rfl xu_27_141 dX9_init_347)) <|
  xw_cons (xw_E xn_aload (xo_aload_n dX9_init_350 rfl)) <|
  xw_cons (xw_E xn_push (xo_sipush dX9_init_351 (by decide))) <|
  xw_cons (xw_E xn_newa (xo_newa (at0 := .int) hG (by decide) rfl rfl (by decide) q226 dX9_init_354)) <|
  xw_cons (xw_E xn_putf (xo_putf hG rfl xu_27_144 dX9_init_356)) <|
  xw_cons (xw_E xn_aload (xo_aload_n dX9_init_359 rfl)) <|
  xw_cons (xw_E xn_push (xo_iconst dX9_init_360 (by decide))) <|
  xw_cons (xw_E xn_newa (xo_newa (at0 := .int) hG (by decide) rfl rfl (by decide) q226 dX9_init_361)) <|
  xw_cons (xw_E xn_putf (xo_putf hG rfl xu_27_147 dX9_init_363)) <|
  xw_cons (xw_E xn_aload (xo_aload_n dX9_init_366 rfl)) <|
  xw_cons (xw_E xn_push (xo_iconst dX9_init_367 (by decide))) <|
  xw_cons (xw_E xn_newa (xo_newa (at0 := .boolean) hG (by decide) rfl rfl (by decide) q1822 dX9_init_368)) <|
  xw_cons (xw_E xn_putf (xo_putf hG rfl xu_27_150 dX9_init_370)) <|
  xw_cons (xw_E xn_aload (xo_aload_n dX9_init_373 rfl)) <|
  xw_cons (xw_E xn_push (xo_sipush dX9_init_374 (by decide))) <|
  xw_cons (xw_E xn_newa (xo_newa (at0 := .int) hG (by decide) rfl rfl (by decide) q226 dX9_init_377)) <|
  xw_cons (xw_E xn_putf (xo_putf hG rfl xu_27_153 dX9_init_379)) <|
  xw_cons (xw_E xn_aload (xo_aload_n dX9_init_382 rfl)) <|
  xw_cons (xw_E xn_push (xo_sipush dX9_init_383 (by decide))) <|
  xw_cons (xw_E xn_newa (xo_newa (at0 := .long) hG (by decide) rfl rfl (by decide) q227 dX9_init_386)) <|
  xw_cons (xw_E xn_putf (xo_putf hG rfl xu_27_156 dX9_init_388)) <|
  xw_cons (xw_E xn_aload (xo_aload_n dX9_init_391 rfl)) <|
  xw_cons (xl_v_27_159 hG dX9_init_392) <|
  xw_nil _
def xp_138_4 : List (Nat × xm_O) := [
  (395, .inr (.inl xr_v))]
theorem xq_138_4 {G : xm_G} (hG : xm_W xk_B G) (hO : xm_Og G) : ∀ q ∈ xp_138_4, xm_op xk_B G xd xk_N "LiarsCockModel" "<init>" prog_28_method_1_code 1 none q.1 q.2 :=
  xw_cons (xw_R (xt_v dX9_init_395)) <|
  xw_nil _
def xp_138 : List (Nat × xm_O) := xp_138_0 ++ xp_138_1 ++ xp_138_2 ++ xp_138_3 ++ xp_138_4
theorem xq_138 {G : xm_G} (hG : xm_W xk_B G) (hO : xm_Og G) : ∀ q ∈ xp_138, xm_op xk_B G xd xk_N "LiarsCockModel" "<init>" prog_28_method_1_code 1 none q.1 q.2 := xw_app (xw_app (xw_app (xw_app (xq_138_0 hG hO) (xq_138_1 hG hO)) (xq_138_2 hG hO)) (xq_138_3 hG hO)) (xq_138_4 hG hO)
/- 139: LiarsCockModel.forgets()V -/
def xp_139_0 : List (Nat × xm_O) := [
  (0, .inl (xe_push (.int 0) 1)),
  (1, .inl (xe_istore 1 2)),
  (2, .inl (xe_iload 1 3)),
  (3, .inl (xe_push (.int 3) 4)),
  (4, .inl (xe_icmp (fun x y => decide (y ≤ x)) 20 7)),
  (7, .inl (xe_aload 0 8)),
  (8, .inl (xe_getf (xj_1 8 10) 11)),
  (11, .inl (xe_iload 1 12)),
  (12, .inl (xe_push (.int 0) 13)),
  (13, .inl (xe_ast 300 0 (xm_kd 0) 14)),
  (14, .inl (xe_iinc 1 1 17)),
  (17, .inl (xe_goto 2)),
  (20, .inl (xe_aload 0 21)),
  (21, .inl (xe_getf (xj_1 8 18) 24)),
  (24, .inl (xe_push (.int 0) 25)),
  (25, .inl (xe_push (.int 1) 26)),
  (26, .inl (xe_ast 300 2 xm_bit 27)),
  (27, .inl (xe_aload 0 28)),
  (28, .inl (xe_getf (xj_1 8 19) 31)),
  (31, .inl (xe_push (.int 0) 32)),
  (32, .inl (xe_push (.long 1) 33)),
  (33, .inl (xe_ast 300 1 (xm_kd 1) 34)),
  (34, .inr (.inl xr_v))]
theorem xq_139_0 {G : xm_G} (hG : xm_W xk_B G) (hO : xm_Og G) : ∀ q ∈ xp_139_0, xm_op xk_B G xd xk_N "LiarsCockModel" "forgets" prog_28_method_34_code 2 none q.1 q.2 :=
  xw_cons (xw_E xn_push (xo_iconst dX9_forgets_0 (by decide))) <|
  xw_cons (xw_E xn_istore (xo_istore_n dX9_forgets_1 rfl)) <|
  xw_cons (xw_E xn_iload (xo_iload_n dX9_forgets_2 rfl)) <|
  xw_cons (xw_E xn_push (xo_iconst dX9_forgets_3 (by decide))) <|
  xw_cons (xw_E xn_icmp (xo_icmp_ge dX9_forgets_4 (by decide))) <|
  xw_cons (xw_E xn_aload (xo_aload_n dX9_forgets_7 rfl)) <|
  xw_cons (xw_E xn_getf (xo_getf hG xg_27_13 dX9_forgets_8)) <|
  xw_cons (xw_E xn_iload (xo_iload_n dX9_forgets_11 rfl)) <|
  xw_cons (xw_E xn_push (xo_iconst dX9_forgets_12 (by decide))) <|
  xw_cons (xw_E xn_ast (xo_iast hG xk_hB rfl dX9_forgets_13)) <|
  xw_cons (xw_E xn_iinc (xo_iinc dX9_forgets_14 (by decide))) <|
  xw_cons (xw_E xn_goto (xo_goto dX9_forgets_17 (by decide))) <|
  xw_cons (xw_E xn_aload (xo_aload_n dX9_forgets_20 rfl)) <|
  xw_cons (xw_E xn_getf (xo_getf hG xg_27_38 dX9_forgets_21)) <|
  xw_cons (xw_E xn_push (xo_iconst dX9_forgets_24 (by decide))) <|
  xw_cons (xw_E xn_push (xo_iconst dX9_forgets_25 (by decide))) <|
  xw_cons (xw_E xn_ast (xo_zast hG xk_hB rfl dX9_forgets_26)) <|
  xw_cons (xw_E xn_aload (xo_aload_n dX9_forgets_27 rfl)) <|
  xw_cons (xw_E xn_getf (xo_getf hG xg_27_42 dX9_forgets_28)) <|
  xw_cons (xw_E xn_push (xo_iconst dX9_forgets_31 (by decide))) <|
  xw_cons (xw_E xn_push (xo_lconst dX9_forgets_32 (by decide))) <|
  xw_cons (xw_E xn_ast (xo_last hG xk_hB rfl dX9_forgets_33)) <|
  xw_cons (xw_R (xt_v dX9_forgets_34)) <|
  xw_nil _
def xp_139 : List (Nat × xm_O) := xp_139_0
theorem xq_139 {G : xm_G} (hG : xm_W xk_B G) (hO : xm_Og G) : ∀ q ∈ xp_139, xm_op xk_B G xd xk_N "LiarsCockModel" "forgets" prog_28_method_34_code 2 none q.1 q.2 := xq_139_0 hG hO
/- 140: LiarsCockModel.thrown()I -/
def xp_140_0 : List (Nat × xm_O) := [
  (0, .inl (xe_aload 0 1)),
  (1, .inl (xe_getf (xj_1 8 0) 4)),
  (4, .inr (.inl xr_i))]
theorem xq_140_0 {G : xm_G} (hG : xm_W xk_B G) (hO : xm_Og G) : ∀ q ∈ xp_140_0, xm_op xk_B G xd xk_N "LiarsCockModel" "thrown" prog_28_method_2_code 1 (some (FieldType.int)) q.1 q.2 :=
  xw_cons (xw_E xn_aload (xo_aload_n dX9_thrown_0 rfl)) <|
  xw_cons (xw_E xn_getf (xo_getf hG xg_27_162 dX9_thrown_1)) <|
  xw_cons (xw_R (xt_i dX9_thrown_4)) <|
  xw_nil _
def xp_140 : List (Nat × xm_O) := xp_140_0
theorem xq_140 {G : xm_G} (hG : xm_W xk_B G) (hO : xm_Og G) : ∀ q ∈ xp_140, xm_op xk_B G xd xk_N "LiarsCockModel" "thrown" prog_28_method_2_code 1 (some (FieldType.int)) q.1 q.2 := xq_140_0 hG hO
/- 141: LiarsCockModel.feed(JJJ)I -/
def xp_141_0 : List (Nat × xm_O) := [
  (0, .inl (xe_aload 0 1)),
  (1, .inl (xe_push (.int 0) 2)),
  (2, .inl (xe_putf 300 0 (xj_1 8 0) 5)),
  (5, .inl (xe_push (.int 0) 6)),
  (6, .inl (xe_istore 7 8)),
  (8, .inl (xe_iload 7 10)),
  (10, .inl (xe_push (.int 24) 12)),
  (12, .inl (xe_icmp (fun x y => decide (y ≤ x)) 120 15)),
  (15, .inl (xe_iload 7 17)),
  (17, .inl (xe_push (.int 8) 19)),
  (19, .inl (xe_icmp (fun x y => decide (y ≤ x)) 26 22)),
  (22, .inl (xe_lload 1 23)),
  (23, .inl (xe_goto 39)),
  (26, .inl (xe_iload 7 28)),
  (28, .inl (xe_push (.int 16) 30)),
  (30, .inl (xe_icmp (fun x y => decide (y ≤ x)) 37 33)),
  (33, .inl (xe_lload 3 34)),
  (34, .inl (xe_goto 39)),
  (37, .inl (xe_lload 5 39)),
  (39, .inl (xe_lstore 8 41)),
  (41, .inl (xe_lload 8 43)),
  (43, .inl (xe_push (.int 56) 45)),
  (45, .inl (xe_push (.int 8) 47)),
  (47, .inl (xe_iload 7 49)),
  (49, .inl (xe_push (.int 7) 51)),
  (51, .inl (xe_ii (fun x y => x &&& y) 52)),
  (52, .inl (xe_ii (fun x y => x * y) 53)),
  (53, .inl (xe_ii (fun x y => x - y) 54)),
  (54, .inl (xe_li (fun x y => (x.toUInt64 >>> (y.toInt64.toUInt64 &&& Int64.toUInt64 63)).toInt64) 55)),
  (55, .inl (xe_push (.long (255 : Int64)) 58)),
  (58, .inl (xe_ll (fun x y => x &&& y) 59)),
  (59, .inl (xe_l2i 60)),
  (60, .inl (xe_istore 10 62)),
  (62, .inl (xe_aload 0 63)),
  (63, .inl (xe_getf (xj_1 8 1) 66)),
  (66, .inl (xe_push (.int 1000) 69)),
  (69, .inl (xe_icmp (fun x y => decide (y ≤ x)) 114 72)),
  (72, .inl (xe_iload 10 74)),
  (74, .inl (xe_push (.int 10) 76)),
  (76, .inl (xe_icmp (fun x y => decide (x = y)) 93 79)),
  (79, .inl (xe_iload 10 81)),
  (81, .inl (xe_push (.int 32) 83)),
  (83, .inl (xe_icmp (fun x y => decide (x < y)) 114 86)),
  (86, .inl (xe_iload 10 88)),
  (88, .inl (xe_push (.int 126) 90)),
  (90, .inl (xe_icmp (fun x y => decide (y < x)) 114 93)),
  (93, .inl (xe_aload 0 94)),
  (94, .inl (xe_getf (xj_1 8 2) 97)),
  (97, .inl (xe_aload 0 98)),
  (98, .inl (xe_getf (xj_1 8 1) 101))]
theorem xq_141_0 {G : xm_G} (hG : xm_W xk_B G) (hO : xm_Og G) : ∀ q ∈ xp_141_0, xm_op xk_B G xd xk_N "LiarsCockModel" "feed" prog_28_method_7_code 11 (some (FieldType.int)) q.1 q.2 :=
  xw_cons (xw_E xn_aload (xo_aload_n dX9_feed_0 rfl)) <|
  xw_cons (xw_E xn_push (xo_iconst dX9_feed_1 (by decide))) <|
  xw_cons (xw_E xn_putf (xo_putf hG rfl xu_27_162 dX9_feed_2)) <|
  xw_cons (xw_E xn_push (xo_iconst dX9_feed_5 (by decide))) <|
  xw_cons (xw_E xn_istore (xo_istore dX9_feed_6)) <|
  xw_cons (xw_E xn_iload (xo_iload dX9_feed_8)) <|
  xw_cons (xw_E xn_push (xo_bipush dX9_feed_10 (by decide))) <|
  xw_cons (xw_E xn_icmp (xo_icmp_ge dX9_feed_12 (by decide))) <|
  xw_cons (xw_E xn_iload (xo_iload dX9_feed_15)) <|
  xw_cons (xw_E xn_push (xo_bipush dX9_feed_17 (by decide))) <|
  xw_cons (xw_E xn_icmp (xo_icmp_ge dX9_feed_19 (by decide))) <|
  xw_cons (xw_E xn_lload (xo_lload_n dX9_feed_22 rfl)) <|
  xw_cons (xw_E xn_goto (xo_goto dX9_feed_23 (by decide))) <|
  xw_cons (xw_E xn_iload (xo_iload dX9_feed_26)) <|
  xw_cons (xw_E xn_push (xo_bipush dX9_feed_28 (by decide))) <|
  xw_cons (xw_E xn_icmp (xo_icmp_ge dX9_feed_30 (by decide))) <|
  xw_cons (xw_E xn_lload (xo_lload_n dX9_feed_33 rfl)) <|
  xw_cons (xw_E xn_goto (xo_goto dX9_feed_34 (by decide))) <|
  xw_cons (xw_E xn_lload (xo_lload dX9_feed_37)) <|
  xw_cons (xw_E xn_lstore (xo_lstore dX9_feed_39)) <|
  xw_cons (xw_E xn_lload (xo_lload dX9_feed_41)) <|
  xw_cons (xw_E xn_push (xo_bipush dX9_feed_43 (by decide))) <|
  xw_cons (xw_E xn_push (xo_bipush dX9_feed_45 (by decide))) <|
  xw_cons (xw_E xn_iload (xo_iload dX9_feed_47)) <|
  xw_cons (xw_E xn_push (xo_bipush dX9_feed_49 (by decide))) <|
  xw_cons (xw_E xn_ii (xo_iand dX9_feed_51)) <|
  xw_cons (xw_E xn_ii (xo_imul dX9_feed_52)) <|
  xw_cons (xw_E xn_ii (xo_isub dX9_feed_53)) <|
  xw_cons (xw_E xn_li (xo_lushr dX9_feed_54)) <|
  xw_cons (xw_E xn_push (xo_ldc2 hG q1831 dX9_feed_55)) <|
  xw_cons (xw_E xn_ll (xo_land dX9_feed_58)) <|
  xw_cons (xw_E xn_l2i (xo_l2i dX9_feed_59)) <|
  xw_cons (xw_E xn_istore (xo_istore dX9_feed_60)) <|
  xw_cons (xw_E xn_aload (xo_aload_n dX9_feed_62 rfl)) <|
  xw_cons (xw_E xn_getf (xo_getf hG xg_27_168 dX9_feed_63)) <|
  xw_cons (xw_E xn_push (xo_sipush dX9_feed_66 (by decide))) <|
  xw_cons (xw_E xn_icmp (xo_icmp_ge dX9_feed_69 (by decide))) <|
  xw_cons (xw_E xn_iload (xo_iload dX9_feed_72)) <|
  xw_cons (xw_E xn_push (xo_bipush dX9_feed_74 (by decide))) <|
  xw_cons (xw_E xn_icmp (xo_icmp_eq dX9_feed_76 (by decide))) <|
  xw_cons (xw_E xn_iload (xo_iload dX9_feed_79)) <|
  xw_cons (xw_E xn_push (xo_bipush dX9_feed_81 (by decide))) <|
  xw_cons (xw_E xn_icmp (xo_icmp_lt dX9_feed_83 (by decide))) <|
  xw_cons (xw_E xn_iload (xo_iload dX9_feed_86)) <|
  xw_cons (xw_E xn_push (xo_bipush dX9_feed_88 (by decide))) <|
  xw_cons (xw_E xn_icmp (xo_icmp_gt dX9_feed_90 (by decide))) <|
  xw_cons (xw_E xn_aload (xo_aload_n dX9_feed_93 rfl)) <|
  xw_cons (xw_E xn_getf (xo_getf hG xg_27_7 dX9_feed_94)) <|
  xw_cons (xw_E xn_aload (xo_aload_n dX9_feed_97 rfl)) <|
  xw_cons (xw_E xn_getf (xo_getf hG xg_27_168 dX9_feed_98)) <|
  xw_nil _
def xp_141_1 : List (Nat × xm_O) := [
  (101, .inl (xe_iload 10 103)),
  (103, .inl (xe_ast 300 0 (xm_kd 0) 104)),
  (104, .inl (xe_aload 0 105)),
  (105, .inl (xe_dup 106)),
  (106, .inl (xe_getf (xj_1 8 1) 109)),
  (109, .inl (xe_push (.int 1) 110)),
  (110, .inl (xe_ii (fun x y => x + y) 111)),
  (111, .inl (xe_putf 300 0 (xj_1 8 1) 114)),
  (114, .inl (xe_iinc 7 1 117)),
  (117, .inl (xe_goto 8)),
  (120, .inl (xe_aload 0 121)),
  (121, .inl (xe_getf (xj_1 8 1) 124)),
  (124, .inr (.inl xr_i))]
theorem xq_141_1 {G : xm_G} (hG : xm_W xk_B G) (hO : xm_Og G) : ∀ q ∈ xp_141_1, xm_op xk_B G xd xk_N "LiarsCockModel" "feed" prog_28_method_7_code 11 (some (FieldType.int)) q.1 q.2 :=
  xw_cons (xw_E xn_iload (xo_iload dX9_feed_101)) <|
  xw_cons (xw_E xn_ast (xo_iast hG xk_hB rfl dX9_feed_103)) <|
  xw_cons (xw_E xn_aload (xo_aload_n dX9_feed_104 rfl)) <|
  xw_cons (xw_E xn_dup (xo_dup dX9_feed_105)) <|
  xw_cons (xw_E xn_getf (xo_getf hG xg_27_168 dX9_feed_106)) <|
  xw_cons (xw_E xn_push (xo_iconst dX9_feed_109 (by decide))) <|
  xw_cons (xw_E xn_ii (xo_iadd dX9_feed_110)) <|
  xw_cons (xw_E xn_putf (xo_putf hG rfl xu_27_168 dX9_feed_111)) <|
  xw_cons (xw_E xn_iinc (xo_iinc dX9_feed_114 (by decide))) <|
  xw_cons (xw_E xn_goto (xo_goto dX9_feed_117 (by decide))) <|
  xw_cons (xw_E xn_aload (xo_aload_n dX9_feed_120 rfl)) <|
  xw_cons (xw_E xn_getf (xo_getf hG xg_27_168 dX9_feed_121)) <|
  xw_cons (xw_R (xt_i dX9_feed_124)) <|
  xw_nil _
def xp_141 : List (Nat × xm_O) := xp_141_0 ++ xp_141_1
theorem xq_141 {G : xm_G} (hG : xm_W xk_B G) (hO : xm_Og G) : ∀ q ∈ xp_141, xm_op xk_B G xd xk_N "LiarsCockModel" "feed" prog_28_method_7_code 11 (some (FieldType.int)) q.1 q.2 := xw_app (xq_141_0 hG hO) (xq_141_1 hG hO)
/- 142: LiarsCockModel.parish()I -/
def xp_142_0 : List (Nat × xm_O) := [
  (0, .inl (xe_aload 0 1)),
  (1, .inl (xe_push (.int 0) 2)),
  (2, .inl (xe_putf 300 0 (xj_1 8 0) 5)),
  (5, .inl (xe_aload 0 6)),
  (6, .inr (.inr (.inl (xc_V (xj_1 8 143) [])))),
  (9, .inl (xe_aload 0 10)),
  (10, .inr (.inr (.inl (xc_V (xj_1 8 146) [])))),
  (13, .inl (xe_if (fun x => decide (¬ x = 0)) 21 16)),
  (16, .inl (xe_aload 0 17)),
  (17, .inl (xe_getf (xj_1 8 9) 20)),
  (20, .inr (.inl xr_i)),
  (21, .inl (xe_push (.int 0) 22)),
  (22, .inl (xe_istore 1 23)),
  (23, .inl (xe_iload 1 24)),
  (24, .inl (xe_push (.int 3) 25)),
  (25, .inl (xe_icmp (fun x y => decide (y ≤ x)) 48 28)),
  (28, .inl (xe_aload 0 29)),
  (29, .inl (xe_getf (xj_1 8 10) 32)),
  (32, .inl (xe_iload 1 33)),
  (33, .inl (xe_aload 0 34)),
  (34, .inl (xe_getf (xj_1 8 10) 37)),
  (37, .inl (xe_push (.int 3) 38)),
  (38, .inl (xe_iload 1 39)),
  (39, .inl (xe_ii (fun x y => x + y) 40)),
  (40, .inl (xe_ald (fun t => t == 0) 41)),
  (41, .inl (xe_ast 300 0 (xm_kd 0) 42)),
  (42, .inl (xe_iinc 1 1 45)),
  (45, .inl (xe_goto 23)),
  (48, .inl (xe_push (.int 0) 49)),
  (49, .inl (xe_istore 1 50)),
  (50, .inl (xe_iload 1 51)),
  (51, .inl (xe_push (.int 18) 53)),
  (53, .inl (xe_icmp (fun x y => decide (y ≤ x)) 77 56)),
  (56, .inl (xe_aload 0 57)),
  (57, .inl (xe_getf (xj_1 8 11) 60)),
  (60, .inl (xe_iload 1 61)),
  (61, .inl (xe_aload 0 62)),
  (62, .inl (xe_getf (xj_1 8 11) 65)),
  (65, .inl (xe_push (.int 18) 67)),
  (67, .inl (xe_iload 1 68)),
  (68, .inl (xe_ii (fun x y => x + y) 69)),
  (69, .inl (xe_ald (fun t => t == 1) 70)),
  (70, .inl (xe_ast 300 1 (xm_kd 1) 71)),
  (71, .inl (xe_iinc 1 1 74)),
  (74, .inl (xe_goto 50)),
  (77, .inl (xe_push (.int 0) 78)),
  (78, .inl (xe_istore 1 79)),
  (79, .inl (xe_iload 1 80)),
  (80, .inl (xe_push (.int 6) 82)),
  (82, .inl (xe_icmp (fun x y => decide (y ≤ x)) 151 85))]
theorem xq_142_0 {G : xm_G} (hG : xm_W xk_B G) (hO : xm_Og G) : ∀ q ∈ xp_142_0, xm_op xk_B G xd xk_N "LiarsCockModel" "parish" prog_28_method_35_code 2 (some (FieldType.int)) q.1 q.2 :=
  xw_cons (xw_E xn_aload (xo_aload_n dX9_parish_0 rfl)) <|
  xw_cons (xw_E xn_push (xo_iconst dX9_parish_1 (by decide))) <|
  xw_cons (xw_E xn_putf (xo_putf hG rfl xu_27_162 dX9_parish_2)) <|
  xw_cons (xw_E xn_aload (xo_aload_n dX9_parish_5 rfl)) <|
  xw_cons (xl_v_27_309 hG dX9_parish_6) <|
  xw_cons (xw_E xn_aload (xo_aload_n dX9_parish_9 rfl)) <|
  xw_cons (xl_v_27_312 hG dX9_parish_10) <|
  xw_cons (xw_E xn_if (xo_if_ne dX9_parish_13 (by decide))) <|
  xw_cons (xw_E xn_aload (xo_aload_n dX9_parish_16 rfl)) <|
  xw_cons (xw_E xn_getf (xo_getf hG xg_27_198 dX9_parish_17)) <|
  xw_cons (xw_R (xt_i dX9_parish_20)) <|
  xw_cons (xw_E xn_push (xo_iconst dX9_parish_21 (by decide))) <|
  xw_cons (xw_E xn_istore (xo_istore_n dX9_parish_22 rfl)) <|
  xw_cons (xw_E xn_iload (xo_iload_n dX9_parish_23 rfl)) <|
  xw_cons (xw_E xn_push (xo_iconst dX9_parish_24 (by decide))) <|
  xw_cons (xw_E xn_icmp (xo_icmp_ge dX9_parish_25 (by decide))) <|
  xw_cons (xw_E xn_aload (xo_aload_n dX9_parish_28 rfl)) <|
  xw_cons (xw_E xn_getf (xo_getf hG xg_27_13 dX9_parish_29)) <|
  xw_cons (xw_E xn_iload (xo_iload_n dX9_parish_32 rfl)) <|
  xw_cons (xw_E xn_aload (xo_aload_n dX9_parish_33 rfl)) <|
  xw_cons (xw_E xn_getf (xo_getf hG xg_27_13 dX9_parish_34)) <|
  xw_cons (xw_E xn_push (xo_iconst dX9_parish_37 (by decide))) <|
  xw_cons (xw_E xn_iload (xo_iload_n dX9_parish_38 rfl)) <|
  xw_cons (xw_E xn_ii (xo_iadd dX9_parish_39)) <|
  xw_cons (xw_E xn_ald (xo_iald xk_hB dX9_parish_40)) <|
  xw_cons (xw_E xn_ast (xo_iast hG xk_hB rfl dX9_parish_41)) <|
  xw_cons (xw_E xn_iinc (xo_iinc dX9_parish_42 (by decide))) <|
  xw_cons (xw_E xn_goto (xo_goto dX9_parish_45 (by decide))) <|
  xw_cons (xw_E xn_push (xo_iconst dX9_parish_48 (by decide))) <|
  xw_cons (xw_E xn_istore (xo_istore_n dX9_parish_49 rfl)) <|
  xw_cons (xw_E xn_iload (xo_iload_n dX9_parish_50 rfl)) <|
  xw_cons (xw_E xn_push (xo_bipush dX9_parish_51 (by decide))) <|
  xw_cons (xw_E xn_icmp (xo_icmp_ge dX9_parish_53 (by decide))) <|
  xw_cons (xw_E xn_aload (xo_aload_n dX9_parish_56 rfl)) <|
  xw_cons (xw_E xn_getf (xo_getf hG xg_27_16 dX9_parish_57)) <|
  xw_cons (xw_E xn_iload (xo_iload_n dX9_parish_60 rfl)) <|
  xw_cons (xw_E xn_aload (xo_aload_n dX9_parish_61 rfl)) <|
  xw_cons (xw_E xn_getf (xo_getf hG xg_27_16 dX9_parish_62)) <|
  xw_cons (xw_E xn_push (xo_bipush dX9_parish_65 (by decide))) <|
  xw_cons (xw_E xn_iload (xo_iload_n dX9_parish_67 rfl)) <|
  xw_cons (xw_E xn_ii (xo_iadd dX9_parish_68)) <|
  xw_cons (xw_E xn_ald (xo_lald xk_hB dX9_parish_69)) <|
  xw_cons (xw_E xn_ast (xo_last hG xk_hB rfl dX9_parish_70)) <|
  xw_cons (xw_E xn_iinc (xo_iinc dX9_parish_71 (by decide))) <|
  xw_cons (xw_E xn_goto (xo_goto dX9_parish_74 (by decide))) <|
  xw_cons (xw_E xn_push (xo_iconst dX9_parish_77 (by decide))) <|
  xw_cons (xw_E xn_istore (xo_istore_n dX9_parish_78 rfl)) <|
  xw_cons (xw_E xn_iload (xo_iload_n dX9_parish_79 rfl)) <|
  xw_cons (xw_E xn_push (xo_bipush dX9_parish_80 (by decide))) <|
  xw_cons (xw_E xn_icmp (xo_icmp_ge dX9_parish_82 (by decide))) <|
  xw_nil _
def xp_142_1 : List (Nat × xm_O) := [
  (85, .inl (xe_aload 0 86)),
  (86, .inl (xe_getf (xj_1 8 12) 89)),
  (89, .inl (xe_iload 1 90)),
  (90, .inl (xe_aload 0 91)),
  (91, .inl (xe_getf (xj_1 8 12) 94)),
  (94, .inl (xe_push (.int 6) 96)),
  (96, .inl (xe_iload 1 97)),
  (97, .inl (xe_ii (fun x y => x + y) 98)),
  (98, .inl (xe_ald (fun t => t == 0) 99)),
  (99, .inl (xe_ast 300 0 (xm_kd 0) 100)),
  (100, .inl (xe_aload 0 101)),
  (101, .inl (xe_getf (xj_1 8 13) 104)),
  (104, .inl (xe_iload 1 105)),
  (105, .inl (xe_aload 0 106)),
  (106, .inl (xe_getf (xj_1 8 13) 109)),
  (109, .inl (xe_push (.int 6) 111)),
  (111, .inl (xe_iload 1 112)),
  (112, .inl (xe_ii (fun x y => x + y) 113)),
  (113, .inl (xe_ald (fun t => t == 0) 114)),
  (114, .inl (xe_ast 300 0 (xm_kd 0) 115)),
  (115, .inl (xe_aload 0 116)),
  (116, .inl (xe_getf (xj_1 8 14) 119)),
  (119, .inl (xe_iload 1 120)),
  (120, .inl (xe_aload 0 121)),
  (121, .inl (xe_getf (xj_1 8 14) 124)),
  (124, .inl (xe_push (.int 6) 126)),
  (126, .inl (xe_iload 1 127)),
  (127, .inl (xe_ii (fun x y => x + y) 128)),
  (128, .inl (xe_ald (fun t => t == 0) 129)),
  (129, .inl (xe_ast 300 0 (xm_kd 0) 130)),
  (130, .inl (xe_aload 0 131)),
  (131, .inl (xe_getf (xj_1 8 15) 134)),
  (134, .inl (xe_iload 1 135)),
  (135, .inl (xe_aload 0 136)),
  (136, .inl (xe_getf (xj_1 8 15) 139)),
  (139, .inl (xe_push (.int 6) 141)),
  (141, .inl (xe_iload 1 142)),
  (142, .inl (xe_ii (fun x y => x + y) 143)),
  (143, .inl (xe_ald (fun t => t == 0) 144)),
  (144, .inl (xe_ast 300 0 (xm_kd 0) 145)),
  (145, .inl (xe_iinc 1 1 148)),
  (148, .inl (xe_goto 79)),
  (151, .inl (xe_push (.int 0) 152)),
  (152, .inl (xe_istore 1 153)),
  (153, .inl (xe_iload 1 154)),
  (154, .inl (xe_push (.int 2) 155)),
  (155, .inl (xe_icmp (fun x y => decide (y ≤ x)) 206 158)),
  (158, .inl (xe_aload 0 159)),
  (159, .inl (xe_getf (xj_1 8 16) 162)),
  (162, .inl (xe_iload 1 163))]
theorem xq_142_1 {G : xm_G} (hG : xm_W xk_B G) (hO : xm_Og G) : ∀ q ∈ xp_142_1, xm_op xk_B G xd xk_N "LiarsCockModel" "parish" prog_28_method_35_code 2 (some (FieldType.int)) q.1 q.2 :=
  xw_cons (xw_E xn_aload (xo_aload_n dX9_parish_85 rfl)) <|
  xw_cons (xw_E xn_getf (xo_getf hG xg_27_20 dX9_parish_86)) <|
  xw_cons (xw_E xn_iload (xo_iload_n dX9_parish_89 rfl)) <|
  xw_cons (xw_E xn_aload (xo_aload_n dX9_parish_90 rfl)) <|
  xw_cons (xw_E xn_getf (xo_getf hG xg_27_20 dX9_parish_91)) <|
  xw_cons (xw_E xn_push (xo_bipush dX9_parish_94 (by decide))) <|
  xw_cons (xw_E xn_iload (xo_iload_n dX9_parish_96 rfl)) <|
  xw_cons (xw_E xn_ii (xo_iadd dX9_parish_97)) <|
  xw_cons (xw_E xn_ald (xo_iald xk_hB dX9_parish_98)) <|
  xw_cons (xw_E xn_ast (xo_iast hG xk_hB rfl dX9_parish_99)) <|
  xw_cons (xw_E xn_aload (xo_aload_n dX9_parish_100 rfl)) <|
  xw_cons (xw_E xn_getf (xo_getf hG xg_27_23 dX9_parish_101)) <|
  xw_cons (xw_E xn_iload (xo_iload_n dX9_parish_104 rfl)) <|
  xw_cons (xw_E xn_aload (xo_aload_n dX9_parish_105 rfl)) <|
  xw_cons (xw_E xn_getf (xo_getf hG xg_27_23 dX9_parish_106)) <|
  xw_cons (xw_E xn_push (xo_bipush dX9_parish_109 (by decide))) <|
  xw_cons (xw_E xn_iload (xo_iload_n dX9_parish_111 rfl)) <|
  xw_cons (xw_E xn_ii (xo_iadd dX9_parish_112)) <|
  xw_cons (xw_E xn_ald (xo_iald xk_hB dX9_parish_113)) <|
  xw_cons (xw_E xn_ast (xo_iast hG xk_hB rfl dX9_parish_114)) <|
  xw_cons (xw_E xn_aload (xo_aload_n dX9_parish_115 rfl)) <|
  xw_cons (xw_E xn_getf (xo_getf hG xg_27_26 dX9_parish_116)) <|
  xw_cons (xw_E xn_iload (xo_iload_n dX9_parish_119 rfl)) <|
  xw_cons (xw_E xn_aload (xo_aload_n dX9_parish_120 rfl)) <|
  xw_cons (xw_E xn_getf (xo_getf hG xg_27_26 dX9_parish_121)) <|
  xw_cons (xw_E xn_push (xo_bipush dX9_parish_124 (by decide))) <|
  xw_cons (xw_E xn_iload (xo_iload_n dX9_parish_126 rfl)) <|
  xw_cons (xw_E xn_ii (xo_iadd dX9_parish_127)) <|
  xw_cons (xw_E xn_ald (xo_iald xk_hB dX9_parish_128)) <|
  xw_cons (xw_E xn_ast (xo_iast hG xk_hB rfl dX9_parish_129)) <|
  xw_cons (xw_E xn_aload (xo_aload_n dX9_parish_130 rfl)) <|
  xw_cons (xw_E xn_getf (xo_getf hG xg_27_29 dX9_parish_131)) <|
  xw_cons (xw_E xn_iload (xo_iload_n dX9_parish_134 rfl)) <|
  xw_cons (xw_E xn_aload (xo_aload_n dX9_parish_135 rfl)) <|
  xw_cons (xw_E xn_getf (xo_getf hG xg_27_29 dX9_parish_136)) <|
  xw_cons (xw_E xn_push (xo_bipush dX9_parish_139 (by decide))) <|
  xw_cons (xw_E xn_iload (xo_iload_n dX9_parish_141 rfl)) <|
  xw_cons (xw_E xn_ii (xo_iadd dX9_parish_142)) <|
  xw_cons (xw_E xn_ald (xo_iald xk_hB dX9_parish_143)) <|
  xw_cons (xw_E xn_ast (xo_iast hG xk_hB rfl dX9_parish_144)) <|
  xw_cons (xw_E xn_iinc (xo_iinc dX9_parish_145 (by decide))) <|
  xw_cons (xw_E xn_goto (xo_goto dX9_parish_148 (by decide))) <|
  xw_cons (xw_E xn_push (xo_iconst dX9_parish_151 (by decide))) <|
  xw_cons (xw_E xn_istore (xo_istore_n dX9_parish_152 rfl)) <|
  xw_cons (xw_E xn_iload (xo_iload_n dX9_parish_153 rfl)) <|
  xw_cons (xw_E xn_push (xo_iconst dX9_parish_154 (by decide))) <|
  xw_cons (xw_E xn_icmp (xo_icmp_ge dX9_parish_155 (by decide))) <|
  xw_cons (xw_E xn_aload (xo_aload_n dX9_parish_158 rfl)) <|
  xw_cons (xw_E xn_getf (xo_getf hG xg_27_32 dX9_parish_159)) <|
  xw_cons (xw_E xn_iload (xo_iload_n dX9_parish_162 rfl)) <|
  xw_nil _
def xp_142_2 : List (Nat × xm_O) := [
  (163, .inl (xe_aload 0 164)),
  (164, .inl (xe_getf (xj_1 8 16) 167)),
  (167, .inl (xe_push (.int 2) 168)),
  (168, .inl (xe_iload 1 169)),
  (169, .inl (xe_ii (fun x y => x + y) 170)),
  (170, .inl (xe_ald (fun t => t == 0) 171)),
  (171, .inl (xe_ast 300 0 (xm_kd 0) 172)),
  (172, .inl (xe_aload 0 173)),
  (173, .inl (xe_getf (xj_1 8 17) 176)),
  (176, .inl (xe_iload 1 177)),
  (177, .inl (xe_aload 0 178)),
  (178, .inl (xe_getf (xj_1 8 17) 181)),
  (181, .inl (xe_push (.int 2) 182)),
  (182, .inl (xe_iload 1 183)),
  (183, .inl (xe_ii (fun x y => x + y) 184)),
  (184, .inl (xe_ald (fun t => t == 0) 185)),
  (185, .inl (xe_ast 300 0 (xm_kd 0) 186)),
  (186, .inl (xe_aload 0 187)),
  (187, .inl (xe_getf (xj_1 8 18) 190)),
  (190, .inl (xe_iload 1 191)),
  (191, .inl (xe_aload 0 192)),
  (192, .inl (xe_getf (xj_1 8 18) 195)),
  (195, .inl (xe_push (.int 2) 196)),
  (196, .inl (xe_iload 1 197)),
  (197, .inl (xe_ii (fun x y => x + y) 198)),
  (198, .inl (xe_ald (fun t => t == 2 || t == 3) 199)),
  (199, .inl (xe_ast 300 2 xm_bit 200)),
  (200, .inl (xe_iinc 1 1 203)),
  (203, .inl (xe_goto 153)),
  (206, .inl (xe_aload 0 207)),
  (207, .inl (xe_aload 0 208)),
  (208, .inl (xe_getf (xj_1 8 38) 211)),
  (211, .inl (xe_putf 300 0 (xj_1 8 37) 214)),
  (214, .inl (xe_aload 0 215)),
  (215, .inl (xe_getf (xj_1 8 19) 218)),
  (218, .inl (xe_push (.int 0) 219)),
  (219, .inl (xe_aload 0 220)),
  (220, .inr (.inr (.inl (xc_V (xj_1 8 168) [])))),
  (223, .inl (xe_ast 300 1 (xm_kd 1) 224)),
  (224, .inl (xe_push (.int 0) 225)),
  (225, .inl (xe_istore 1 226)),
  (226, .inl (xe_iload 1 227)),
  (227, .inl (xe_aload 0 228)),
  (228, .inl (xe_getf (xj_1 8 37) 231)),
  (231, .inl (xe_icmp (fun x y => decide (y ≤ x)) 255 234)),
  (234, .inl (xe_aload 0 235)),
  (235, .inl (xe_getf (xj_1 8 19) 238)),
  (238, .inl (xe_push (.int 0) 239)),
  (239, .inl (xe_dup2 240)),
  (240, .inl (xe_ald (fun t => t == 1) 241))]
theorem xq_142_2 {G : xm_G} (hG : xm_W xk_B G) (hO : xm_Og G) : ∀ q ∈ xp_142_2, xm_op xk_B G xd xk_N "LiarsCockModel" "parish" prog_28_method_35_code 2 (some (FieldType.int)) q.1 q.2 :=
  xw_cons (xw_E xn_aload (xo_aload_n dX9_parish_163 rfl)) <|
  xw_cons (xw_E xn_getf (xo_getf hG xg_27_32 dX9_parish_164)) <|
  xw_cons (xw_E xn_push (xo_iconst dX9_parish_167 (by decide))) <|
  xw_cons (xw_E xn_iload (xo_iload_n dX9_parish_168 rfl)) <|
  xw_cons (xw_E xn_ii (xo_iadd dX9_parish_169)) <|
  xw_cons (xw_E xn_ald (xo_iald xk_hB dX9_parish_170)) <|
  xw_cons (xw_E xn_ast (xo_iast hG xk_hB rfl dX9_parish_171)) <|
  xw_cons (xw_E xn_aload (xo_aload_n dX9_parish_172 rfl)) <|
  xw_cons (xw_E xn_getf (xo_getf hG xg_27_35 dX9_parish_173)) <|
  xw_cons (xw_E xn_iload (xo_iload_n dX9_parish_176 rfl)) <|
  xw_cons (xw_E xn_aload (xo_aload_n dX9_parish_177 rfl)) <|
  xw_cons (xw_E xn_getf (xo_getf hG xg_27_35 dX9_parish_178)) <|
  xw_cons (xw_E xn_push (xo_iconst dX9_parish_181 (by decide))) <|
  xw_cons (xw_E xn_iload (xo_iload_n dX9_parish_182 rfl)) <|
  xw_cons (xw_E xn_ii (xo_iadd dX9_parish_183)) <|
  xw_cons (xw_E xn_ald (xo_iald xk_hB dX9_parish_184)) <|
  xw_cons (xw_E xn_ast (xo_iast hG xk_hB rfl dX9_parish_185)) <|
  xw_cons (xw_E xn_aload (xo_aload_n dX9_parish_186 rfl)) <|
  xw_cons (xw_E xn_getf (xo_getf hG xg_27_38 dX9_parish_187)) <|
  xw_cons (xw_E xn_iload (xo_iload_n dX9_parish_190 rfl)) <|
  xw_cons (xw_E xn_aload (xo_aload_n dX9_parish_191 rfl)) <|
  xw_cons (xw_E xn_getf (xo_getf hG xg_27_38 dX9_parish_192)) <|
  xw_cons (xw_E xn_push (xo_iconst dX9_parish_195 (by decide))) <|
  xw_cons (xw_E xn_iload (xo_iload_n dX9_parish_196 rfl)) <|
  xw_cons (xw_E xn_ii (xo_iadd dX9_parish_197)) <|
  xw_cons (xw_E xn_ald (xo_bald xk_hB dX9_parish_198)) <|
  xw_cons (xw_E xn_ast (xo_zast hG xk_hB rfl dX9_parish_199)) <|
  xw_cons (xw_E xn_iinc (xo_iinc dX9_parish_200 (by decide))) <|
  xw_cons (xw_E xn_goto (xo_goto dX9_parish_203 (by decide))) <|
  xw_cons (xw_E xn_aload (xo_aload_n dX9_parish_206 rfl)) <|
  xw_cons (xw_E xn_aload (xo_aload_n dX9_parish_207 rfl)) <|
  xw_cons (xw_E xn_getf (xo_getf hG xg_27_281 dX9_parish_208)) <|
  xw_cons (xw_E xn_putf (xo_putf hG rfl xu_27_315 dX9_parish_211)) <|
  xw_cons (xw_E xn_aload (xo_aload_n dX9_parish_214 rfl)) <|
  xw_cons (xw_E xn_getf (xo_getf hG xg_27_42 dX9_parish_215)) <|
  xw_cons (xw_E xn_push (xo_iconst dX9_parish_218 (by decide))) <|
  xw_cons (xw_E xn_aload (xo_aload_n dX9_parish_219 rfl)) <|
  xw_cons (xl_v_27_318 hG dX9_parish_220) <|
  xw_cons (xw_E xn_ast (xo_last hG xk_hB rfl dX9_parish_223)) <|
  xw_cons (xw_E xn_push (xo_iconst dX9_parish_224 (by decide))) <|
  xw_cons (xw_E xn_istore (xo_istore_n dX9_parish_225 rfl)) <|
  xw_cons (xw_E xn_iload (xo_iload_n dX9_parish_226 rfl)) <|
  xw_cons (xw_E xn_aload (xo_aload_n dX9_parish_227 rfl)) <|
  xw_cons (xw_E xn_getf (xo_getf hG xg_27_315 dX9_parish_228)) <|
  xw_cons (xw_E xn_icmp (xo_icmp_ge dX9_parish_231 (by decide))) <|
  xw_cons (xw_E xn_aload (xo_aload_n dX9_parish_234 rfl)) <|
  xw_cons (xw_E xn_getf (xo_getf hG xg_27_42 dX9_parish_235)) <|
  xw_cons (xw_E xn_push (xo_iconst dX9_parish_238 (by decide))) <|
  xw_cons (xw_E xn_dup2 (xo_dup2 dX9_parish_239)) <|
  xw_cons (xw_E xn_ald (xo_lald xk_hB dX9_parish_240)) <|
  xw_nil _
def xp_142_3 : List (Nat × xm_O) := [
  (241, .inl (xe_aload 0 242)),
  (242, .inl (xe_getf (xj_1 8 39) 245)),
  (245, .inl (xe_iload 1 246)),
  (246, .inl (xe_ald (fun t => t == 1) 247)),
  (247, .inl (xe_ll (fun x y => x &&& y) 248)),
  (248, .inl (xe_ast 300 1 (xm_kd 1) 249)),
  (249, .inl (xe_iinc 1 1 252)),
  (252, .inl (xe_goto 226)),
  (255, .inl (xe_aload 0 256)),
  (256, .inl (xe_push (.int 0) 257)),
  (257, .inl (xe_putf 300 0 (xj_1 8 40) 260)),
  (260, .inl (xe_aload 0 261)),
  (261, .inl (xe_push (.int 0) 262)),
  (262, .inl (xe_putf 300 0 (xj_1 8 41) 265)),
  (265, .inl (xe_aload 0 266)),
  (266, .inl (xe_push (.int 0) 267)),
  (267, .inl (xe_putf 300 0 (xj_1 8 42) 270)),
  (270, .inl (xe_aload 0 271)),
  (271, .inl (xe_push (.int 0) 272)),
  (272, .inl (xe_putf 300 0 (xj_1 8 43) 275)),
  (275, .inl (xe_aload 0 276)),
  (276, .inl (xe_push (.int 0) 277)),
  (277, .inl (xe_putf 300 0 (xj_1 8 44) 280)),
  (280, .inl (xe_push (.int 0) 281)),
  (281, .inr (.inl xr_i))]
theorem xq_142_3 {G : xm_G} (hG : xm_W xk_B G) (hO : xm_Og G) : ∀ q ∈ xp_142_3, xm_op xk_B G xd xk_N "LiarsCockModel" "parish" prog_28_method_35_code 2 (some (FieldType.int)) q.1 q.2 :=
  xw_cons (xw_E xn_aload (xo_aload_n dX9_parish_241 rfl)) <|
  xw_cons (xw_E xn_getf (xo_getf hG xg_27_93 dX9_parish_242)) <|
  xw_cons (xw_E xn_iload (xo_iload_n dX9_parish_245 rfl)) <|
  xw_cons (xw_E xn_ald (xo_lald xk_hB dX9_parish_246)) <|
  xw_cons (xw_E xn_ll (xo_land dX9_parish_247)) <|
  xw_cons (xw_E xn_ast (xo_last hG xk_hB rfl dX9_parish_248)) <|
  xw_cons (xw_E xn_iinc (xo_iinc dX9_parish_249 (by decide))) <|
  xw_cons (xw_E xn_goto (xo_goto dX9_parish_252 (by decide))) <|
  xw_cons (xw_E xn_aload (xo_aload_n dX9_parish_255 rfl)) <|
  xw_cons (xw_E xn_push (xo_iconst dX9_parish_256 (by decide))) <|
  xw_cons (xw_E xn_putf (xo_putf hG rfl xu_27_322 dX9_parish_257)) <|
  xw_cons (xw_E xn_aload (xo_aload_n dX9_parish_260 rfl)) <|
  xw_cons (xw_E xn_push (xo_iconst dX9_parish_261 (by decide))) <|
  xw_cons (xw_E xn_putf (xo_putf hG rfl xu_27_325 dX9_parish_262)) <|
  xw_cons (xw_E xn_aload (xo_aload_n dX9_parish_265 rfl)) <|
  xw_cons (xw_E xn_push (xo_iconst dX9_parish_266 (by decide))) <|
  xw_cons (xw_E xn_putf (xo_putf hG rfl xu_27_328 dX9_parish_267)) <|
  xw_cons (xw_E xn_aload (xo_aload_n dX9_parish_270 rfl)) <|
  xw_cons (xw_E xn_push (xo_iconst dX9_parish_271 (by decide))) <|
  xw_cons (xw_E xn_putf (xo_putf hG rfl xu_27_331 dX9_parish_272)) <|
  xw_cons (xw_E xn_aload (xo_aload_n dX9_parish_275 rfl)) <|
  xw_cons (xw_E xn_push (xo_iconst dX9_parish_276 (by decide))) <|
  xw_cons (xw_E xn_putf (xo_putf hG rfl xu_27_334 dX9_parish_277)) <|
  xw_cons (xw_E xn_push (xo_iconst dX9_parish_280 (by decide))) <|
  xw_cons (xw_R (xt_i dX9_parish_281)) <|
  xw_nil _
def xp_142 : List (Nat × xm_O) := xp_142_0 ++ xp_142_1 ++ xp_142_2 ++ xp_142_3
theorem xq_142 {G : xm_G} (hG : xm_W xk_B G) (hO : xm_Og G) : ∀ q ∈ xp_142, xm_op xk_B G xd xk_N "LiarsCockModel" "parish" prog_28_method_35_code 2 (some (FieldType.int)) q.1 q.2 := xw_app (xw_app (xw_app (xq_142_0 hG hO) (xq_142_1 hG hO)) (xq_142_2 hG hO)) (xq_142_3 hG hO)
/- 143: LiarsCockModel.starts()V -/
def xp_143_0 : List (Nat × xm_O) := [
  (0, .inl (xe_aload 0 1)),
  (1, .inl (xe_aload 0 2)),
  (2, .inl (xe_getf (xj_1 8 1) 5)),
  (5, .inl (xe_putf 300 0 (xj_1 8 3) 8)),
  (8, .inl (xe_aload 0 9)),
  (9, .inl (xe_push (.int 0) 10)),
  (10, .inl (xe_putf 300 0 (xj_1 8 1) 13)),
  (13, .inl (xe_aload 0 14)),
  (14, .inl (xe_push (.int 0) 15)),
  (15, .inl (xe_putf 300 0 (xj_1 8 4) 18)),
  (18, .inl (xe_aload 0 19)),
  (19, .inr (.inr (.inl (xc_V (xj_1 8 144) [])))),
  (22, .inr (.inl xr_v))]
theorem xq_143_0 {G : xm_G} (hG : xm_W xk_B G) (hO : xm_Og G) : ∀ q ∈ xp_143_0, xm_op xk_B G xd xk_N "LiarsCockModel" "starts" prog_28_method_32_code 1 none q.1 q.2 :=
  xw_cons (xw_E xn_aload (xo_aload_n dX9_starts_0 rfl)) <|
  xw_cons (xw_E xn_aload (xo_aload_n dX9_starts_1 rfl)) <|
  xw_cons (xw_E xn_getf (xo_getf hG xg_27_168 dX9_starts_2)) <|
  xw_cons (xw_E xn_putf (xo_putf hG rfl xu_27_171 dX9_starts_5)) <|
  xw_cons (xw_E xn_aload (xo_aload_n dX9_starts_8 rfl)) <|
  xw_cons (xw_E xn_push (xo_iconst dX9_starts_9 (by decide))) <|
  xw_cons (xw_E xn_putf (xo_putf hG rfl xu_27_168 dX9_starts_10)) <|
  xw_cons (xw_E xn_aload (xo_aload_n dX9_starts_13 rfl)) <|
  xw_cons (xw_E xn_push (xo_iconst dX9_starts_14 (by decide))) <|
  xw_cons (xw_E xn_putf (xo_putf hG rfl xu_27_174 dX9_starts_15)) <|
  xw_cons (xw_E xn_aload (xo_aload_n dX9_starts_18 rfl)) <|
  xw_cons (xl_v_27_254 hG dX9_starts_19) <|
  xw_cons (xw_R (xt_v dX9_starts_22)) <|
  xw_nil _
def xp_143 : List (Nat × xm_O) := xp_143_0
theorem xq_143 {G : xm_G} (hG : xm_W xk_B G) (hO : xm_Og G) : ∀ q ∈ xp_143, xm_op xk_B G xd xk_N "LiarsCockModel" "starts" prog_28_method_32_code 1 none q.1 q.2 := xq_143_0 hG hO
/- 144: LiarsCockModel.nextToken()V -/
def xp_144_0 : List (Nat × xm_O) := [
  (0, .inl (xe_aload 0 1)),
  (1, .inl (xe_getf (xj_1 8 4) 4)),
  (4, .inl (xe_aload 0 5)),
  (5, .inl (xe_getf (xj_1 8 3) 8)),
  (8, .inl (xe_icmp (fun x y => decide (y ≤ x)) 52 11)),
  (11, .inl (xe_aload 0 12)),
  (12, .inl (xe_getf (xj_1 8 2) 15)),
  (15, .inl (xe_aload 0 16)),
  (16, .inl (xe_getf (xj_1 8 4) 19)),
  (19, .inl (xe_ald (fun t => t == 0) 20)),
  (20, .inl (xe_push (.int 32) 22)),
  (22, .inl (xe_icmp (fun x y => decide (x = y)) 39 25)),
  (25, .inl (xe_aload 0 26)),
  (26, .inl (xe_getf (xj_1 8 2) 29)),
  (29, .inl (xe_aload 0 30)),
  (30, .inl (xe_getf (xj_1 8 4) 33)),
  (33, .inl (xe_ald (fun t => t == 0) 34)),
  (34, .inl (xe_push (.int 10) 36)),
  (36, .inl (xe_icmp (fun x y => decide (¬ x = y)) 52 39)),
  (39, .inl (xe_aload 0 40)),
  (40, .inl (xe_dup 41)),
  (41, .inl (xe_getf (xj_1 8 4) 44)),
  (44, .inl (xe_push (.int 1) 45)),
  (45, .inl (xe_ii (fun x y => x + y) 46)),
  (46, .inl (xe_putf 300 0 (xj_1 8 4) 49)),
  (49, .inl (xe_goto 0)),
  (52, .inl (xe_aload 0 53)),
  (53, .inl (xe_aload 0 54)),
  (54, .inl (xe_getf (xj_1 8 4) 57)),
  (57, .inl (xe_putf 300 0 (xj_1 8 5) 60)),
  (60, .inl (xe_aload 0 61)),
  (61, .inl (xe_push (.long 0) 62)),
  (62, .inl (xe_putf 300 1 (xj_1 8 7) 65)),
  (65, .inl (xe_aload 0 66)),
  (66, .inl (xe_push (.int 0) 67)),
  (67, .inl (xe_putf 300 0 (xj_1 8 8) 70)),
  (70, .inl (xe_aload 0 71)),
  (71, .inl (xe_getf (xj_1 8 4) 74)),
  (74, .inl (xe_aload 0 75)),
  (75, .inl (xe_getf (xj_1 8 3) 78)),
  (78, .inl (xe_icmp (fun x y => decide (¬ x = y)) 87 81)),
  (81, .inl (xe_aload 0 82)),
  (82, .inl (xe_push (.int 0) 83)),
  (83, .inl (xe_putf 300 0 (xj_1 8 6) 86)),
  (86, .inr (.inl xr_v)),
  (87, .inl (xe_aload 0 88)),
  (88, .inl (xe_getf (xj_1 8 2) 91)),
  (91, .inl (xe_aload 0 92)),
  (92, .inl (xe_getf (xj_1 8 4) 95)),
  (95, .inl (xe_ald (fun t => t == 0) 96))]
theorem xq_144_0 {G : xm_G} (hG : xm_W xk_B G) (hO : xm_Og G) : ∀ q ∈ xp_144_0, xm_op xk_B G xd xk_N "LiarsCockModel" "nextToken" prog_28_method_9_code 2 none q.1 q.2 :=
  xw_cons (xw_E xn_aload (xo_aload_n dX9_nextToken_0 rfl)) <|
  xw_cons (xw_E xn_getf (xo_getf hG xg_27_174 dX9_nextToken_1)) <|
  xw_cons (xw_E xn_aload (xo_aload_n dX9_nextToken_4 rfl)) <|
  xw_cons (xw_E xn_getf (xo_getf hG xg_27_171 dX9_nextToken_5)) <|
  xw_cons (xw_E xn_icmp (xo_icmp_ge dX9_nextToken_8 (by decide))) <|
  xw_cons (xw_E xn_aload (xo_aload_n dX9_nextToken_11 rfl)) <|
  xw_cons (xw_E xn_getf (xo_getf hG xg_27_7 dX9_nextToken_12)) <|
  xw_cons (xw_E xn_aload (xo_aload_n dX9_nextToken_15 rfl)) <|
  xw_cons (xw_E xn_getf (xo_getf hG xg_27_174 dX9_nextToken_16)) <|
  xw_cons (xw_E xn_ald (xo_iald xk_hB dX9_nextToken_19)) <|
  xw_cons (xw_E xn_push (xo_bipush dX9_nextToken_20 (by decide))) <|
  xw_cons (xw_E xn_icmp (xo_icmp_eq dX9_nextToken_22 (by decide))) <|
  xw_cons (xw_E xn_aload (xo_aload_n dX9_nextToken_25 rfl)) <|
  xw_cons (xw_E xn_getf (xo_getf hG xg_27_7 dX9_nextToken_26)) <|
  xw_cons (xw_E xn_aload (xo_aload_n dX9_nextToken_29 rfl)) <|
  xw_cons (xw_E xn_getf (xo_getf hG xg_27_174 dX9_nextToken_30)) <|
  xw_cons (xw_E xn_ald (xo_iald xk_hB dX9_nextToken_33)) <|
  xw_cons (xw_E xn_push (xo_bipush dX9_nextToken_34 (by decide))) <|
  xw_cons (xw_E xn_icmp (xo_icmp_ne dX9_nextToken_36 (by decide))) <|
  xw_cons (xw_E xn_aload (xo_aload_n dX9_nextToken_39 rfl)) <|
  xw_cons (xw_E xn_dup (xo_dup dX9_nextToken_40)) <|
  xw_cons (xw_E xn_getf (xo_getf hG xg_27_174 dX9_nextToken_41)) <|
  xw_cons (xw_E xn_push (xo_iconst dX9_nextToken_44 (by decide))) <|
  xw_cons (xw_E xn_ii (xo_iadd dX9_nextToken_45)) <|
  xw_cons (xw_E xn_putf (xo_putf hG rfl xu_27_174 dX9_nextToken_46)) <|
  xw_cons (xw_E xn_goto (xo_goto dX9_nextToken_49 (by decide))) <|
  xw_cons (xw_E xn_aload (xo_aload_n dX9_nextToken_52 rfl)) <|
  xw_cons (xw_E xn_aload (xo_aload_n dX9_nextToken_53 rfl)) <|
  xw_cons (xw_E xn_getf (xo_getf hG xg_27_174 dX9_nextToken_54)) <|
  xw_cons (xw_E xn_putf (xo_putf hG rfl xu_27_177 dX9_nextToken_57)) <|
  xw_cons (xw_E xn_aload (xo_aload_n dX9_nextToken_60 rfl)) <|
  xw_cons (xw_E xn_push (xo_lconst dX9_nextToken_61 (by decide))) <|
  xw_cons (xw_E xn_putf (xo_putf hG rfl xu_27_180 dX9_nextToken_62)) <|
  xw_cons (xw_E xn_aload (xo_aload_n dX9_nextToken_65 rfl)) <|
  xw_cons (xw_E xn_push (xo_iconst dX9_nextToken_66 (by decide))) <|
  xw_cons (xw_E xn_putf (xo_putf hG rfl xu_27_184 dX9_nextToken_67)) <|
  xw_cons (xw_E xn_aload (xo_aload_n dX9_nextToken_70 rfl)) <|
  xw_cons (xw_E xn_getf (xo_getf hG xg_27_174 dX9_nextToken_71)) <|
  xw_cons (xw_E xn_aload (xo_aload_n dX9_nextToken_74 rfl)) <|
  xw_cons (xw_E xn_getf (xo_getf hG xg_27_171 dX9_nextToken_75)) <|
  xw_cons (xw_E xn_icmp (xo_icmp_ne dX9_nextToken_78 (by decide))) <|
  xw_cons (xw_E xn_aload (xo_aload_n dX9_nextToken_81 rfl)) <|
  xw_cons (xw_E xn_push (xo_iconst dX9_nextToken_82 (by decide))) <|
  xw_cons (xw_E xn_putf (xo_putf hG rfl xu_27_187 dX9_nextToken_83)) <|
  xw_cons (xw_R (xt_v dX9_nextToken_86)) <|
  xw_cons (xw_E xn_aload (xo_aload_n dX9_nextToken_87 rfl)) <|
  xw_cons (xw_E xn_getf (xo_getf hG xg_27_7 dX9_nextToken_88)) <|
  xw_cons (xw_E xn_aload (xo_aload_n dX9_nextToken_91 rfl)) <|
  xw_cons (xw_E xn_getf (xo_getf hG xg_27_174 dX9_nextToken_92)) <|
  xw_cons (xw_E xn_ald (xo_iald xk_hB dX9_nextToken_95)) <|
  xw_nil _
def xp_144_1 : List (Nat × xm_O) := [
  (96, .inl (xe_istore 1 97)),
  (97, .inl (xe_iload 1 98)),
  (98, .inl (xe_push (.int 97) 100)),
  (100, .inl (xe_icmp (fun x y => decide (x < y)) 212 103)),
  (103, .inl (xe_iload 1 104)),
  (104, .inl (xe_push (.int 122) 106)),
  (106, .inl (xe_icmp (fun x y => decide (y < x)) 212 109)),
  (109, .inl (xe_aload 0 110)),
  (110, .inl (xe_aload 0 111)),
  (111, .inl (xe_getf (xj_1 8 4) 114)),
  (114, .inr (.inr (.inl (xc_V (xj_1 8 145) [0])))),
  (117, .inl (xe_push (.int 97) 119)),
  (119, .inl (xe_icmp (fun x y => decide (x < y)) 188 122)),
  (122, .inl (xe_aload 0 123)),
  (123, .inl (xe_aload 0 124)),
  (124, .inl (xe_getf (xj_1 8 4) 127)),
  (127, .inr (.inr (.inl (xc_V (xj_1 8 145) [0])))),
  (130, .inl (xe_push (.int 122) 132)),
  (132, .inl (xe_icmp (fun x y => decide (y < x)) 188 135)),
  (135, .inl (xe_aload 0 136)),
  (136, .inl (xe_getf (xj_1 8 4) 139)),
  (139, .inl (xe_aload 0 140)),
  (140, .inl (xe_getf (xj_1 8 5) 143)),
  (143, .inl (xe_ii (fun x y => x - y) 144)),
  (144, .inl (xe_push (.int 8) 146)),
  (146, .inl (xe_icmp (fun x y => decide (y ≤ x)) 175 149)),
  (149, .inl (xe_aload 0 150)),
  (150, .inl (xe_aload 0 151)),
  (151, .inl (xe_getf (xj_1 8 7) 154)),
  (154, .inl (xe_push (.long (27 : Int64)) 157)),
  (157, .inl (xe_ll (fun x y => x * y) 158)),
  (158, .inl (xe_aload 0 159)),
  (159, .inl (xe_aload 0 160)),
  (160, .inl (xe_getf (xj_1 8 4) 163)),
  (163, .inr (.inr (.inl (xc_V (xj_1 8 145) [0])))),
  (166, .inl (xe_i2l 167)),
  (167, .inl (xe_ll (fun x y => x + y) 168)),
  (168, .inl (xe_push (.long (96 : Int64)) 171)),
  (171, .inl (xe_ll (fun x y => x - y) 172)),
  (172, .inl (xe_putf 300 1 (xj_1 8 7) 175)),
  (175, .inl (xe_aload 0 176)),
  (176, .inl (xe_dup 177)),
  (177, .inl (xe_getf (xj_1 8 4) 180)),
  (180, .inl (xe_push (.int 1) 181)),
  (181, .inl (xe_ii (fun x y => x + y) 182)),
  (182, .inl (xe_putf 300 0 (xj_1 8 4) 185)),
  (185, .inl (xe_goto 109)),
  (188, .inl (xe_aload 0 189)),
  (189, .inl (xe_aload 0 190)),
  (190, .inl (xe_getf (xj_1 8 4) 193))]
theorem xq_144_1 {G : xm_G} (hG : xm_W xk_B G) (hO : xm_Og G) : ∀ q ∈ xp_144_1, xm_op xk_B G xd xk_N "LiarsCockModel" "nextToken" prog_28_method_9_code 2 none q.1 q.2 :=
  xw_cons (xw_E xn_istore (xo_istore_n dX9_nextToken_96 rfl)) <|
  xw_cons (xw_E xn_iload (xo_iload_n dX9_nextToken_97 rfl)) <|
  xw_cons (xw_E xn_push (xo_bipush dX9_nextToken_98 (by decide))) <|
  xw_cons (xw_E xn_icmp (xo_icmp_lt dX9_nextToken_100 (by decide))) <|
  xw_cons (xw_E xn_iload (xo_iload_n dX9_nextToken_103 rfl)) <|
  xw_cons (xw_E xn_push (xo_bipush dX9_nextToken_104 (by decide))) <|
  xw_cons (xw_E xn_icmp (xo_icmp_gt dX9_nextToken_106 (by decide))) <|
  xw_cons (xw_E xn_aload (xo_aload_n dX9_nextToken_109 rfl)) <|
  xw_cons (xw_E xn_aload (xo_aload_n dX9_nextToken_110 rfl)) <|
  xw_cons (xw_E xn_getf (xo_getf hG xg_27_174 dX9_nextToken_111)) <|
  xw_cons (xl_v_27_190 hG dX9_nextToken_114) <|
  xw_cons (xw_E xn_push (xo_bipush dX9_nextToken_117 (by decide))) <|
  xw_cons (xw_E xn_icmp (xo_icmp_lt dX9_nextToken_119 (by decide))) <|
  xw_cons (xw_E xn_aload (xo_aload_n dX9_nextToken_122 rfl)) <|
  xw_cons (xw_E xn_aload (xo_aload_n dX9_nextToken_123 rfl)) <|
  xw_cons (xw_E xn_getf (xo_getf hG xg_27_174 dX9_nextToken_124)) <|
  xw_cons (xl_v_27_190 hG dX9_nextToken_127) <|
  xw_cons (xw_E xn_push (xo_bipush dX9_nextToken_130 (by decide))) <|
  xw_cons (xw_E xn_icmp (xo_icmp_gt dX9_nextToken_132 (by decide))) <|
  xw_cons (xw_E xn_aload (xo_aload_n dX9_nextToken_135 rfl)) <|
  xw_cons (xw_E xn_getf (xo_getf hG xg_27_174 dX9_nextToken_136)) <|
  xw_cons (xw_E xn_aload (xo_aload_n dX9_nextToken_139 rfl)) <|
  xw_cons (xw_E xn_getf (xo_getf hG xg_27_177 dX9_nextToken_140)) <|
  xw_cons (xw_E xn_ii (xo_isub dX9_nextToken_143)) <|
  xw_cons (xw_E xn_push (xo_bipush dX9_nextToken_144 (by decide))) <|
  xw_cons (xw_E xn_icmp (xo_icmp_ge dX9_nextToken_146 (by decide))) <|
  xw_cons (xw_E xn_aload (xo_aload_n dX9_nextToken_149 rfl)) <|
  xw_cons (xw_E xn_aload (xo_aload_n dX9_nextToken_150 rfl)) <|
  xw_cons (xw_E xn_getf (xo_getf hG xg_27_180 dX9_nextToken_151)) <|
  xw_cons (xw_E xn_push (xo_ldc2 hG q1848 dX9_nextToken_154)) <|
  xw_cons (xw_E xn_ll (xo_lmul dX9_nextToken_157)) <|
  xw_cons (xw_E xn_aload (xo_aload_n dX9_nextToken_158 rfl)) <|
  xw_cons (xw_E xn_aload (xo_aload_n dX9_nextToken_159 rfl)) <|
  xw_cons (xw_E xn_getf (xo_getf hG xg_27_174 dX9_nextToken_160)) <|
  xw_cons (xl_v_27_190 hG dX9_nextToken_163) <|
  xw_cons (xw_E xn_i2l (xo_i2l dX9_nextToken_166)) <|
  xw_cons (xw_E xn_ll (xo_ladd dX9_nextToken_167)) <|
  xw_cons (xw_E xn_push (xo_ldc2 hG q1849 dX9_nextToken_168)) <|
  xw_cons (xw_E xn_ll (xo_lsub dX9_nextToken_171)) <|
  xw_cons (xw_E xn_putf (xo_putf hG rfl xu_27_180 dX9_nextToken_172)) <|
  xw_cons (xw_E xn_aload (xo_aload_n dX9_nextToken_175 rfl)) <|
  xw_cons (xw_E xn_dup (xo_dup dX9_nextToken_176)) <|
  xw_cons (xw_E xn_getf (xo_getf hG xg_27_174 dX9_nextToken_177)) <|
  xw_cons (xw_E xn_push (xo_iconst dX9_nextToken_180 (by decide))) <|
  xw_cons (xw_E xn_ii (xo_iadd dX9_nextToken_181)) <|
  xw_cons (xw_E xn_putf (xo_putf hG rfl xu_27_174 dX9_nextToken_182)) <|
  xw_cons (xw_E xn_goto (xo_goto dX9_nextToken_185 (by decide))) <|
  xw_cons (xw_E xn_aload (xo_aload_n dX9_nextToken_188 rfl)) <|
  xw_cons (xw_E xn_aload (xo_aload_n dX9_nextToken_189 rfl)) <|
  xw_cons (xw_E xn_getf (xo_getf hG xg_27_174 dX9_nextToken_190)) <|
  xw_nil _
def xp_144_2 : List (Nat × xm_O) := [
  (193, .inl (xe_aload 0 194)),
  (194, .inl (xe_getf (xj_1 8 5) 197)),
  (197, .inl (xe_ii (fun x y => x - y) 198)),
  (198, .inl (xe_push (.int 8) 200)),
  (200, .inl (xe_icmp (fun x y => decide (x ≤ y)) 207 203)),
  (203, .inl (xe_push (.int 4) 204)),
  (204, .inl (xe_goto 208)),
  (207, .inl (xe_push (.int 1) 208)),
  (208, .inl (xe_putf 300 0 (xj_1 8 6) 211)),
  (211, .inr (.inl xr_v)),
  (212, .inl (xe_iload 1 213)),
  (213, .inl (xe_push (.int 48) 215)),
  (215, .inl (xe_icmp (fun x y => decide (x < y)) 322 218)),
  (218, .inl (xe_iload 1 219)),
  (219, .inl (xe_push (.int 57) 221)),
  (221, .inl (xe_icmp (fun x y => decide (y < x)) 322 224)),
  (224, .inl (xe_aload 0 225)),
  (225, .inl (xe_aload 0 226)),
  (226, .inl (xe_getf (xj_1 8 4) 229)),
  (229, .inr (.inr (.inl (xc_V (xj_1 8 145) [0])))),
  (232, .inl (xe_push (.int 48) 234)),
  (234, .inl (xe_icmp (fun x y => decide (x < y)) 299 237)),
  (237, .inl (xe_aload 0 238)),
  (238, .inl (xe_aload 0 239)),
  (239, .inl (xe_getf (xj_1 8 4) 242)),
  (242, .inr (.inr (.inl (xc_V (xj_1 8 145) [0])))),
  (245, .inl (xe_push (.int 57) 247)),
  (247, .inl (xe_icmp (fun x y => decide (y < x)) 299 250)),
  (250, .inl (xe_aload 0 251)),
  (251, .inl (xe_getf (xj_1 8 4) 254)),
  (254, .inl (xe_aload 0 255)),
  (255, .inl (xe_getf (xj_1 8 5) 258)),
  (258, .inl (xe_ii (fun x y => x - y) 259)),
  (259, .inl (xe_push (.int 4) 260)),
  (260, .inl (xe_icmp (fun x y => decide (y ≤ x)) 286 263)),
  (263, .inl (xe_aload 0 264)),
  (264, .inl (xe_aload 0 265)),
  (265, .inl (xe_getf (xj_1 8 8) 268)),
  (268, .inl (xe_push (.int 10) 270)),
  (270, .inl (xe_ii (fun x y => x * y) 271)),
  (271, .inl (xe_aload 0 272)),
  (272, .inl (xe_aload 0 273)),
  (273, .inl (xe_getf (xj_1 8 4) 276)),
  (276, .inr (.inr (.inl (xc_V (xj_1 8 145) [0])))),
  (279, .inl (xe_ii (fun x y => x + y) 280)),
  (280, .inl (xe_push (.int 48) 282)),
  (282, .inl (xe_ii (fun x y => x - y) 283)),
  (283, .inl (xe_putf 300 0 (xj_1 8 8) 286)),
  (286, .inl (xe_aload 0 287)),
  (287, .inl (xe_dup 288))]
theorem xq_144_2 {G : xm_G} (hG : xm_W xk_B G) (hO : xm_Og G) : ∀ q ∈ xp_144_2, xm_op xk_B G xd xk_N "LiarsCockModel" "nextToken" prog_28_method_9_code 2 none q.1 q.2 :=
  xw_cons (xw_E xn_aload (xo_aload_n dX9_nextToken_193 rfl)) <|
  xw_cons (xw_E xn_getf (xo_getf hG xg_27_177 dX9_nextToken_194)) <|
  xw_cons (xw_E xn_ii (xo_isub dX9_nextToken_197)) <|
  xw_cons (xw_E xn_push (xo_bipush dX9_nextToken_198 (by decide))) <|
  xw_cons (xw_E xn_icmp (xo_icmp_le dX9_nextToken_200 (by decide))) <|
  xw_cons (xw_E xn_push (xo_iconst dX9_nextToken_203 (by decide))) <|
  xw_cons (xw_E xn_goto (xo_goto dX9_nextToken_204 (by decide))) <|
  xw_cons (xw_E xn_push (xo_iconst dX9_nextToken_207 (by decide))) <|
  xw_cons (xw_E xn_putf (xo_putf hG rfl xu_27_187 dX9_nextToken_208)) <|
  xw_cons (xw_R (xt_v dX9_nextToken_211)) <|
  xw_cons (xw_E xn_iload (xo_iload_n dX9_nextToken_212 rfl)) <|
  xw_cons (xw_E xn_push (xo_bipush dX9_nextToken_213 (by decide))) <|
  xw_cons (xw_E xn_icmp (xo_icmp_lt dX9_nextToken_215 (by decide))) <|
  xw_cons (xw_E xn_iload (xo_iload_n dX9_nextToken_218 rfl)) <|
  xw_cons (xw_E xn_push (xo_bipush dX9_nextToken_219 (by decide))) <|
  xw_cons (xw_E xn_icmp (xo_icmp_gt dX9_nextToken_221 (by decide))) <|
  xw_cons (xw_E xn_aload (xo_aload_n dX9_nextToken_224 rfl)) <|
  xw_cons (xw_E xn_aload (xo_aload_n dX9_nextToken_225 rfl)) <|
  xw_cons (xw_E xn_getf (xo_getf hG xg_27_174 dX9_nextToken_226)) <|
  xw_cons (xl_v_27_190 hG dX9_nextToken_229) <|
  xw_cons (xw_E xn_push (xo_bipush dX9_nextToken_232 (by decide))) <|
  xw_cons (xw_E xn_icmp (xo_icmp_lt dX9_nextToken_234 (by decide))) <|
  xw_cons (xw_E xn_aload (xo_aload_n dX9_nextToken_237 rfl)) <|
  xw_cons (xw_E xn_aload (xo_aload_n dX9_nextToken_238 rfl)) <|
  xw_cons (xw_E xn_getf (xo_getf hG xg_27_174 dX9_nextToken_239)) <|
  xw_cons (xl_v_27_190 hG dX9_nextToken_242) <|
  xw_cons (xw_E xn_push (xo_bipush dX9_nextToken_245 (by decide))) <|
  xw_cons (xw_E xn_icmp (xo_icmp_gt dX9_nextToken_247 (by decide))) <|
  xw_cons (xw_E xn_aload (xo_aload_n dX9_nextToken_250 rfl)) <|
  xw_cons (xw_E xn_getf (xo_getf hG xg_27_174 dX9_nextToken_251)) <|
  xw_cons (xw_E xn_aload (xo_aload_n dX9_nextToken_254 rfl)) <|
  xw_cons (xw_E xn_getf (xo_getf hG xg_27_177 dX9_nextToken_255)) <|
  xw_cons (xw_E xn_ii (xo_isub dX9_nextToken_258)) <|
  xw_cons (xw_E xn_push (xo_iconst dX9_nextToken_259 (by decide))) <|
  xw_cons (xw_E xn_icmp (xo_icmp_ge dX9_nextToken_260 (by decide))) <|
  xw_cons (xw_E xn_aload (xo_aload_n dX9_nextToken_263 rfl)) <|
  xw_cons (xw_E xn_aload (xo_aload_n dX9_nextToken_264 rfl)) <|
  xw_cons (xw_E xn_getf (xo_getf hG xg_27_184 dX9_nextToken_265)) <|
  xw_cons (xw_E xn_push (xo_bipush dX9_nextToken_268 (by decide))) <|
  xw_cons (xw_E xn_ii (xo_imul dX9_nextToken_270)) <|
  xw_cons (xw_E xn_aload (xo_aload_n dX9_nextToken_271 rfl)) <|
  xw_cons (xw_E xn_aload (xo_aload_n dX9_nextToken_272 rfl)) <|
  xw_cons (xw_E xn_getf (xo_getf hG xg_27_174 dX9_nextToken_273)) <|
  xw_cons (xl_v_27_190 hG dX9_nextToken_276) <|
  xw_cons (xw_E xn_ii (xo_iadd dX9_nextToken_279)) <|
  xw_cons (xw_E xn_push (xo_bipush dX9_nextToken_280 (by decide))) <|
  xw_cons (xw_E xn_ii (xo_isub dX9_nextToken_282)) <|
  xw_cons (xw_E xn_putf (xo_putf hG rfl xu_27_184 dX9_nextToken_283)) <|
  xw_cons (xw_E xn_aload (xo_aload_n dX9_nextToken_286 rfl)) <|
  xw_cons (xw_E xn_dup (xo_dup dX9_nextToken_287)) <|
  xw_nil _
def xp_144_3 : List (Nat × xm_O) := [
  (288, .inl (xe_getf (xj_1 8 4) 291)),
  (291, .inl (xe_push (.int 1) 292)),
  (292, .inl (xe_ii (fun x y => x + y) 293)),
  (293, .inl (xe_putf 300 0 (xj_1 8 4) 296)),
  (296, .inl (xe_goto 224)),
  (299, .inl (xe_aload 0 300)),
  (300, .inl (xe_aload 0 301)),
  (301, .inl (xe_getf (xj_1 8 4) 304)),
  (304, .inl (xe_aload 0 305)),
  (305, .inl (xe_getf (xj_1 8 5) 308)),
  (308, .inl (xe_ii (fun x y => x - y) 309)),
  (309, .inl (xe_push (.int 4) 310)),
  (310, .inl (xe_icmp (fun x y => decide (x ≤ y)) 317 313)),
  (313, .inl (xe_push (.int 4) 314)),
  (314, .inl (xe_goto 318)),
  (317, .inl (xe_push (.int 2) 318)),
  (318, .inl (xe_putf 300 0 (xj_1 8 6) 321)),
  (321, .inr (.inl xr_v)),
  (322, .inl (xe_aload 0 323)),
  (323, .inl (xe_dup 324)),
  (324, .inl (xe_getf (xj_1 8 4) 327)),
  (327, .inl (xe_push (.int 1) 328)),
  (328, .inl (xe_ii (fun x y => x + y) 329)),
  (329, .inl (xe_putf 300 0 (xj_1 8 4) 332)),
  (332, .inl (xe_aload 0 333)),
  (333, .inl (xe_iload 1 334)),
  (334, .inl (xe_push (.int 40) 336)),
  (336, .inl (xe_icmp (fun x y => decide (x < y)) 345 339)),
  (339, .inl (xe_iload 1 340)),
  (340, .inl (xe_push (.int 43) 342)),
  (342, .inl (xe_icmp (fun x y => decide (x ≤ y)) 363 345)),
  (345, .inl (xe_iload 1 346)),
  (346, .inl (xe_push (.int 45) 348)),
  (348, .inl (xe_icmp (fun x y => decide (x = y)) 363 351)),
  (351, .inl (xe_iload 1 352)),
  (352, .inl (xe_push (.int 59) 354)),
  (354, .inl (xe_icmp (fun x y => decide (x < y)) 367 357)),
  (357, .inl (xe_iload 1 358)),
  (358, .inl (xe_push (.int 61) 360)),
  (360, .inl (xe_icmp (fun x y => decide (y < x)) 367 363)),
  (363, .inl (xe_push (.int 3) 364)),
  (364, .inl (xe_goto 368)),
  (367, .inl (xe_push (.int 4) 368)),
  (368, .inl (xe_putf 300 0 (xj_1 8 6) 371)),
  (371, .inr (.inl xr_v))]
theorem xq_144_3 {G : xm_G} (hG : xm_W xk_B G) (hO : xm_Og G) : ∀ q ∈ xp_144_3, xm_op xk_B G xd xk_N "LiarsCockModel" "nextToken" prog_28_method_9_code 2 none q.1 q.2 :=
  xw_cons (xw_E xn_getf (xo_getf hG xg_27_174 dX9_nextToken_288)) <|
  xw_cons (xw_E xn_push (xo_iconst dX9_nextToken_291 (by decide))) <|
  xw_cons (xw_E xn_ii (xo_iadd dX9_nextToken_292)) <|
  xw_cons (xw_E xn_putf (xo_putf hG rfl xu_27_174 dX9_nextToken_293)) <|
  xw_cons (xw_E xn_goto (xo_goto dX9_nextToken_296 (by decide))) <|
  xw_cons (xw_E xn_aload (xo_aload_n dX9_nextToken_299 rfl)) <|
  xw_cons (xw_E xn_aload (xo_aload_n dX9_nextToken_300 rfl)) <|
  xw_cons (xw_E xn_getf (xo_getf hG xg_27_174 dX9_nextToken_301)) <|
  xw_cons (xw_E xn_aload (xo_aload_n dX9_nextToken_304 rfl)) <|
  xw_cons (xw_E xn_getf (xo_getf hG xg_27_177 dX9_nextToken_305)) <|
  xw_cons (xw_E xn_ii (xo_isub dX9_nextToken_308)) <|
  xw_cons (xw_E xn_push (xo_iconst dX9_nextToken_309 (by decide))) <|
  xw_cons (xw_E xn_icmp (xo_icmp_le dX9_nextToken_310 (by decide))) <|
  xw_cons (xw_E xn_push (xo_iconst dX9_nextToken_313 (by decide))) <|
  xw_cons (xw_E xn_goto (xo_goto dX9_nextToken_314 (by decide))) <|
  xw_cons (xw_E xn_push (xo_iconst dX9_nextToken_317 (by decide))) <|
  xw_cons (xw_E xn_putf (xo_putf hG rfl xu_27_187 dX9_nextToken_318)) <|
  xw_cons (xw_R (xt_v dX9_nextToken_321)) <|
  xw_cons (xw_E xn_aload (xo_aload_n dX9_nextToken_322 rfl)) <|
  xw_cons (xw_E xn_dup (xo_dup dX9_nextToken_323)) <|
  xw_cons (xw_E xn_getf (xo_getf hG xg_27_174 dX9_nextToken_324)) <|
  xw_cons (xw_E xn_push (xo_iconst dX9_nextToken_327 (by decide))) <|
  xw_cons (xw_E xn_ii (xo_iadd dX9_nextToken_328)) <|
  xw_cons (xw_E xn_putf (xo_putf hG rfl xu_27_174 dX9_nextToken_329)) <|
  xw_cons (xw_E xn_aload (xo_aload_n dX9_nextToken_332 rfl)) <|
  xw_cons (xw_E xn_iload (xo_iload_n dX9_nextToken_333 rfl)) <|
  xw_cons (xw_E xn_push (xo_bipush dX9_nextToken_334 (by decide))) <|
  xw_cons (xw_E xn_icmp (xo_icmp_lt dX9_nextToken_336 (by decide))) <|
  xw_cons (xw_E xn_iload (xo_iload_n dX9_nextToken_339 rfl)) <|
  xw_cons (xw_E xn_push (xo_bipush dX9_nextToken_340 (by decide))) <|
  xw_cons (xw_E xn_icmp (xo_icmp_le dX9_nextToken_342 (by decide))) <|
  xw_cons (xw_E xn_iload (xo_iload_n dX9_nextToken_345 rfl)) <|
  xw_cons (xw_E xn_push (xo_bipush dX9_nextToken_346 (by decide))) <|
  xw_cons (xw_E xn_icmp (xo_icmp_eq dX9_nextToken_348 (by decide))) <|
  xw_cons (xw_E xn_iload (xo_iload_n dX9_nextToken_351 rfl)) <|
  xw_cons (xw_E xn_push (xo_bipush dX9_nextToken_352 (by decide))) <|
  xw_cons (xw_E xn_icmp (xo_icmp_lt dX9_nextToken_354 (by decide))) <|
  xw_cons (xw_E xn_iload (xo_iload_n dX9_nextToken_357 rfl)) <|
  xw_cons (xw_E xn_push (xo_bipush dX9_nextToken_358 (by decide))) <|
  xw_cons (xw_E xn_icmp (xo_icmp_gt dX9_nextToken_360 (by decide))) <|
  xw_cons (xw_E xn_push (xo_iconst dX9_nextToken_363 (by decide))) <|
  xw_cons (xw_E xn_goto (xo_goto dX9_nextToken_364 (by decide))) <|
  xw_cons (xw_E xn_push (xo_iconst dX9_nextToken_367 (by decide))) <|
  xw_cons (xw_E xn_putf (xo_putf hG rfl xu_27_187 dX9_nextToken_368)) <|
  xw_cons (xw_R (xt_v dX9_nextToken_371)) <|
  xw_nil _
def xp_144 : List (Nat × xm_O) := xp_144_0 ++ xp_144_1 ++ xp_144_2 ++ xp_144_3
theorem xq_144 {G : xm_G} (hG : xm_W xk_B G) (hO : xm_Og G) : ∀ q ∈ xp_144, xm_op xk_B G xd xk_N "LiarsCockModel" "nextToken" prog_28_method_9_code 2 none q.1 q.2 := xw_app (xw_app (xw_app (xq_144_0 hG hO) (xq_144_1 hG hO)) (xq_144_2 hG hO)) (xq_144_3 hG hO)
/- 145: LiarsCockModel.signAt(I)I -/
def xp_145_0 : List (Nat × xm_O) := [
  (0, .inl (xe_iload 1 1)),
  (1, .inl (xe_aload 0 2)),
  (2, .inl (xe_getf (xj_1 8 3) 5)),
  (5, .inl (xe_icmp (fun x y => decide (y ≤ x)) 17 8)),
  (8, .inl (xe_aload 0 9)),
  (9, .inl (xe_getf (xj_1 8 2) 12)),
  (12, .inl (xe_iload 1 13)),
  (13, .inl (xe_ald (fun t => t == 0) 14)),
  (14, .inl (xe_goto 18)),
  (17, .inl (xe_push (.int 0) 18)),
  (18, .inr (.inl xr_i))]
theorem xq_145_0 {G : xm_G} (hG : xm_W xk_B G) (hO : xm_Og G) : ∀ q ∈ xp_145_0, xm_op xk_B G xd xk_N "LiarsCockModel" "signAt" prog_28_method_8_code 2 (some (FieldType.int)) q.1 q.2 :=
  xw_cons (xw_E xn_iload (xo_iload_n dX9_signAt_0 rfl)) <|
  xw_cons (xw_E xn_aload (xo_aload_n dX9_signAt_1 rfl)) <|
  xw_cons (xw_E xn_getf (xo_getf hG xg_27_171 dX9_signAt_2)) <|
  xw_cons (xw_E xn_icmp (xo_icmp_ge dX9_signAt_5 (by decide))) <|
  xw_cons (xw_E xn_aload (xo_aload_n dX9_signAt_8 rfl)) <|
  xw_cons (xw_E xn_getf (xo_getf hG xg_27_7 dX9_signAt_9)) <|
  xw_cons (xw_E xn_iload (xo_iload_n dX9_signAt_12 rfl)) <|
  xw_cons (xw_E xn_ald (xo_iald xk_hB dX9_signAt_13)) <|
  xw_cons (xw_E xn_goto (xo_goto dX9_signAt_14 (by decide))) <|
  xw_cons (xw_E xn_push (xo_iconst dX9_signAt_17 (by decide))) <|
  xw_cons (xw_R (xt_i dX9_signAt_18)) <|
  xw_nil _
def xp_145 : List (Nat × xm_O) := xp_145_0
theorem xq_145 {G : xm_G} (hG : xm_W xk_B G) (hO : xm_Og G) : ∀ q ∈ xp_145, xm_op xk_B G xd xk_N "LiarsCockModel" "signAt" prog_28_method_8_code 2 (some (FieldType.int)) q.1 q.2 := xq_145_0 hG hO
/- 146: LiarsCockModel.readsParish()Z -/
def xp_146_0 : List (Nat × xm_O) := [
  (0, .inl (xe_push (.int 3) 1)),
  (1, .inl (xe_istore 1 2)),
  (2, .inl (xe_iload 1 3)),
  (3, .inl (xe_push (.int 6) 5)),
  (5, .inl (xe_icmp (fun x y => decide (y ≤ x)) 21 8)),
  (8, .inl (xe_aload 0 9)),
  (9, .inl (xe_getf (xj_1 8 10) 12)),
  (12, .inl (xe_iload 1 13)),
  (13, .inl (xe_push (.int 0) 14)),
  (14, .inl (xe_ast 300 0 (xm_kd 0) 15)),
  (15, .inl (xe_iinc 1 1 18)),
  (18, .inl (xe_goto 2)),
  (21, .inl (xe_aload 0 22)),
  (22, .inl (xe_push (.int 0) 23)),
  (23, .inl (xe_putf 300 0 (xj_1 8 38) 26)),
  (26, .inl (xe_push (.int 0) 27)),
  (27, .inl (xe_istore 1 28)),
  (28, .inl (xe_iload 1 29)),
  (29, .inl (xe_push (.int 2) 30)),
  (30, .inl (xe_icmp (fun x y => decide (y ≤ x)) 81 33)),
  (33, .inl (xe_aload 0 34)),
  (34, .inl (xe_getf (xj_1 8 16) 37)),
  (37, .inl (xe_push (.int 2) 38)),
  (38, .inl (xe_iload 1 39)),
  (39, .inl (xe_ii (fun x y => x + y) 40)),
  (40, .inl (xe_push (.int 0) 41)),
  (41, .inl (xe_ast 300 0 (xm_kd 0) 42)),
  (42, .inl (xe_aload 0 43)),
  (43, .inl (xe_getf (xj_1 8 17) 46)),
  (46, .inl (xe_push (.int 2) 47)),
  (47, .inl (xe_iload 1 48)),
  (48, .inl (xe_ii (fun x y => x + y) 49)),
  (49, .inl (xe_push (.int 0) 50)),
  (50, .inl (xe_ast 300 0 (xm_kd 0) 51)),
  (51, .inl (xe_aload 0 52)),
  (52, .inl (xe_getf (xj_1 8 18) 55)),
  (55, .inl (xe_push (.int 2) 56)),
  (56, .inl (xe_iload 1 57)),
  (57, .inl (xe_ii (fun x y => x + y) 58)),
  (58, .inl (xe_iload 1 59)),
  (59, .inl (xe_if (fun x => decide (¬ x = 0)) 66 62)),
  (62, .inl (xe_push (.int 1) 63)),
  (63, .inl (xe_goto 67)),
  (66, .inl (xe_push (.int 0) 67)),
  (67, .inl (xe_ast 300 2 xm_bit 68)),
  (68, .inl (xe_aload 0 69)),
  (69, .inl (xe_getf (xj_1 8 36) 72)),
  (72, .inl (xe_iload 1 73)),
  (73, .inl (xe_push (.int 0) 74)),
  (74, .inl (xe_ast 300 2 xm_bit 75))]
theorem xq_146_0 {G : xm_G} (hG : xm_W xk_B G) (hO : xm_Og G) : ∀ q ∈ xp_146_0, xm_op xk_B G xd xk_N "LiarsCockModel" "readsParish" prog_28_method_31_code 2 (some (FieldType.boolean)) q.1 q.2 :=
  xw_cons (xw_E xn_push (xo_iconst dX9_readsParish_0 (by decide))) <|
  xw_cons (xw_E xn_istore (xo_istore_n dX9_readsParish_1 rfl)) <|
  xw_cons (xw_E xn_iload (xo_iload_n dX9_readsParish_2 rfl)) <|
  xw_cons (xw_E xn_push (xo_bipush dX9_readsParish_3 (by decide))) <|
  xw_cons (xw_E xn_icmp (xo_icmp_ge dX9_readsParish_5 (by decide))) <|
  xw_cons (xw_E xn_aload (xo_aload_n dX9_readsParish_8 rfl)) <|
  xw_cons (xw_E xn_getf (xo_getf hG xg_27_13 dX9_readsParish_9)) <|
  xw_cons (xw_E xn_iload (xo_iload_n dX9_readsParish_12 rfl)) <|
  xw_cons (xw_E xn_push (xo_iconst dX9_readsParish_13 (by decide))) <|
  xw_cons (xw_E xn_ast (xo_iast hG xk_hB rfl dX9_readsParish_14)) <|
  xw_cons (xw_E xn_iinc (xo_iinc dX9_readsParish_15 (by decide))) <|
  xw_cons (xw_E xn_goto (xo_goto dX9_readsParish_18 (by decide))) <|
  xw_cons (xw_E xn_aload (xo_aload_n dX9_readsParish_21 rfl)) <|
  xw_cons (xw_E xn_push (xo_iconst dX9_readsParish_22 (by decide))) <|
  xw_cons (xw_E xn_putf (xo_putf hG rfl xu_27_281 dX9_readsParish_23)) <|
  xw_cons (xw_E xn_push (xo_iconst dX9_readsParish_26 (by decide))) <|
  xw_cons (xw_E xn_istore (xo_istore_n dX9_readsParish_27 rfl)) <|
  xw_cons (xw_E xn_iload (xo_iload_n dX9_readsParish_28 rfl)) <|
  xw_cons (xw_E xn_push (xo_iconst dX9_readsParish_29 (by decide))) <|
  xw_cons (xw_E xn_icmp (xo_icmp_ge dX9_readsParish_30 (by decide))) <|
  xw_cons (xw_E xn_aload (xo_aload_n dX9_readsParish_33 rfl)) <|
  xw_cons (xw_E xn_getf (xo_getf hG xg_27_32 dX9_readsParish_34)) <|
  xw_cons (xw_E xn_push (xo_iconst dX9_readsParish_37 (by decide))) <|
  xw_cons (xw_E xn_iload (xo_iload_n dX9_readsParish_38 rfl)) <|
  xw_cons (xw_E xn_ii (xo_iadd dX9_readsParish_39)) <|
  xw_cons (xw_E xn_push (xo_iconst dX9_readsParish_40 (by decide))) <|
  xw_cons (xw_E xn_ast (xo_iast hG xk_hB rfl dX9_readsParish_41)) <|
  xw_cons (xw_E xn_aload (xo_aload_n dX9_readsParish_42 rfl)) <|
  xw_cons (xw_E xn_getf (xo_getf hG xg_27_35 dX9_readsParish_43)) <|
  xw_cons (xw_E xn_push (xo_iconst dX9_readsParish_46 (by decide))) <|
  xw_cons (xw_E xn_iload (xo_iload_n dX9_readsParish_47 rfl)) <|
  xw_cons (xw_E xn_ii (xo_iadd dX9_readsParish_48)) <|
  xw_cons (xw_E xn_push (xo_iconst dX9_readsParish_49 (by decide))) <|
  xw_cons (xw_E xn_ast (xo_iast hG xk_hB rfl dX9_readsParish_50)) <|
  xw_cons (xw_E xn_aload (xo_aload_n dX9_readsParish_51 rfl)) <|
  xw_cons (xw_E xn_getf (xo_getf hG xg_27_38 dX9_readsParish_52)) <|
  xw_cons (xw_E xn_push (xo_iconst dX9_readsParish_55 (by decide))) <|
  xw_cons (xw_E xn_iload (xo_iload_n dX9_readsParish_56 rfl)) <|
  xw_cons (xw_E xn_ii (xo_iadd dX9_readsParish_57)) <|
  xw_cons (xw_E xn_iload (xo_iload_n dX9_readsParish_58 rfl)) <|
  xw_cons (xw_E xn_if (xo_if_ne dX9_readsParish_59 (by decide))) <|
  xw_cons (xw_E xn_push (xo_iconst dX9_readsParish_62 (by decide))) <|
  xw_cons (xw_E xn_goto (xo_goto dX9_readsParish_63 (by decide))) <|
  xw_cons (xw_E xn_push (xo_iconst dX9_readsParish_66 (by decide))) <|
  xw_cons (xw_E xn_ast (xo_zast hG xk_hB rfl dX9_readsParish_67)) <|
  xw_cons (xw_E xn_aload (xo_aload_n dX9_readsParish_68 rfl)) <|
  xw_cons (xw_E xn_getf (xo_getf hG xg_27_90 dX9_readsParish_69)) <|
  xw_cons (xw_E xn_iload (xo_iload_n dX9_readsParish_72 rfl)) <|
  xw_cons (xw_E xn_push (xo_iconst dX9_readsParish_73 (by decide))) <|
  xw_cons (xw_E xn_ast (xo_zast hG xk_hB rfl dX9_readsParish_74)) <|
  xw_nil _
def xp_146_1 : List (Nat × xm_O) := [
  (75, .inl (xe_iinc 1 1 78)),
  (78, .inl (xe_goto 28)),
  (81, .inl (xe_aload 0 82)),
  (82, .inl (xe_getf (xj_1 8 6) 85)),
  (85, .inl (xe_if (fun x => decide (x = 0)) 188 88)),
  (88, .inl (xe_aload 0 89)),
  (89, .inl (xe_push (.long (118928 : Int64)) 92)),
  (92, .inr (.inr (.inl (xc_V (xj_1 8 147) [1])))),
  (95, .inl (xe_if (fun x => decide (x = 0)) 105 98)),
  (98, .inl (xe_aload 0 99)),
  (99, .inr (.inr (.inl (xc_V (xj_1 8 148) [])))),
  (102, .inl (xe_goto 178)),
  (105, .inl (xe_aload 0 106)),
  (106, .inl (xe_push (.long (8740067 : Int64)) 109)),
  (109, .inr (.inr (.inl (xc_V (xj_1 8 147) [1])))),
  (112, .inl (xe_if (fun x => decide (x = 0)) 122 115)),
  (115, .inl (xe_aload 0 116)),
  (116, .inr (.inr (.inl (xc_V (xj_1 8 156) [])))),
  (119, .inl (xe_goto 178)),
  (122, .inl (xe_aload 0 123)),
  (123, .inl (xe_push (.long (232608281 : Int64)) 126)),
  (126, .inr (.inr (.inl (xc_V (xj_1 8 147) [1])))),
  (129, .inl (xe_if (fun x => decide (x = 0)) 139 132)),
  (132, .inl (xe_aload 0 133)),
  (133, .inr (.inr (.inl (xc_V (xj_1 8 158) [])))),
  (136, .inl (xe_goto 178)),
  (139, .inl (xe_aload 0 140)),
  (140, .inl (xe_push (.long (70076 : Int64)) 143)),
  (143, .inr (.inr (.inl (xc_V (xj_1 8 147) [1])))),
  (146, .inl (xe_if (fun x => decide (x = 0)) 156 149)),
  (149, .inl (xe_aload 0 150)),
  (150, .inr (.inr (.inl (xc_V (xj_1 8 159) [])))),
  (153, .inl (xe_goto 178)),
  (156, .inl (xe_aload 0 157)),
  (157, .inl (xe_push (.long (51284111 : Int64)) 160)),
  (160, .inr (.inr (.inl (xc_V (xj_1 8 147) [1])))),
  (163, .inl (xe_if (fun x => decide (x = 0)) 173 166)),
  (166, .inl (xe_aload 0 167)),
  (167, .inr (.inr (.inl (xc_V (xj_1 8 160) [])))),
  (170, .inl (xe_goto 178)),
  (173, .inl (xe_aload 0 174)),
  (174, .inl (xe_push (.int 1) 175)),
  (175, .inr (.inr (.inl (xc_V (xj_1 8 149) [0])))),
  (178, .inl (xe_istore 1 179)),
  (179, .inl (xe_iload 1 180)),
  (180, .inl (xe_if (fun x => decide (¬ x = 0)) 185 183)),
  (183, .inl (xe_push (.int 0) 184)),
  (184, .inr (.inl xr_z)),
  (185, .inl (xe_goto 81)),
  (188, .inl (xe_push (.int 1) 189))]
theorem xq_146_1 {G : xm_G} (hG : xm_W xk_B G) (hO : xm_Og G) : ∀ q ∈ xp_146_1, xm_op xk_B G xd xk_N "LiarsCockModel" "readsParish" prog_28_method_31_code 2 (some (FieldType.boolean)) q.1 q.2 :=
  xw_cons (xw_E xn_iinc (xo_iinc dX9_readsParish_75 (by decide))) <|
  xw_cons (xw_E xn_goto (xo_goto dX9_readsParish_78 (by decide))) <|
  xw_cons (xw_E xn_aload (xo_aload_n dX9_readsParish_81 rfl)) <|
  xw_cons (xw_E xn_getf (xo_getf hG xg_27_187 dX9_readsParish_82)) <|
  xw_cons (xw_E xn_if (xo_if_eq dX9_readsParish_85 (by decide))) <|
  xw_cons (xw_E xn_aload (xo_aload_n dX9_readsParish_88 rfl)) <|
  xw_cons (xw_E xn_push (xo_ldc2 hG q1854 dX9_readsParish_89)) <|
  xw_cons (xl_v_27_239 hG dX9_readsParish_92) <|
  xw_cons (xw_E xn_if (xo_if_eq dX9_readsParish_95 (by decide))) <|
  xw_cons (xw_E xn_aload (xo_aload_n dX9_readsParish_98 rfl)) <|
  xw_cons (xl_v_27_292 hG dX9_readsParish_99) <|
  xw_cons (xw_E xn_goto (xo_goto dX9_readsParish_102 (by decide))) <|
  xw_cons (xw_E xn_aload (xo_aload_n dX9_readsParish_105 rfl)) <|
  xw_cons (xw_E xn_push (xo_ldc2 hG q1876 dX9_readsParish_106)) <|
  xw_cons (xl_v_27_239 hG dX9_readsParish_109) <|
  xw_cons (xw_E xn_if (xo_if_eq dX9_readsParish_112 (by decide))) <|
  xw_cons (xw_E xn_aload (xo_aload_n dX9_readsParish_115 rfl)) <|
  xw_cons (xl_v_27_295 hG dX9_readsParish_116) <|
  xw_cons (xw_E xn_goto (xo_goto dX9_readsParish_119 (by decide))) <|
  xw_cons (xw_E xn_aload (xo_aload_n dX9_readsParish_122 rfl)) <|
  xw_cons (xw_E xn_push (xo_ldc2 hG q1878 dX9_readsParish_123)) <|
  xw_cons (xl_v_27_239 hG dX9_readsParish_126) <|
  xw_cons (xw_E xn_if (xo_if_eq dX9_readsParish_129 (by decide))) <|
  xw_cons (xw_E xn_aload (xo_aload_n dX9_readsParish_132 rfl)) <|
  xw_cons (xl_v_27_298 hG dX9_readsParish_133) <|
  xw_cons (xw_E xn_goto (xo_goto dX9_readsParish_136 (by decide))) <|
  xw_cons (xw_E xn_aload (xo_aload_n dX9_readsParish_139 rfl)) <|
  xw_cons (xw_E xn_push (xo_ldc2 hG q1882 dX9_readsParish_140)) <|
  xw_cons (xl_v_27_239 hG dX9_readsParish_143) <|
  xw_cons (xw_E xn_if (xo_if_eq dX9_readsParish_146 (by decide))) <|
  xw_cons (xw_E xn_aload (xo_aload_n dX9_readsParish_149 rfl)) <|
  xw_cons (xl_v_27_301 hG dX9_readsParish_150) <|
  xw_cons (xw_E xn_goto (xo_goto dX9_readsParish_153 (by decide))) <|
  xw_cons (xw_E xn_aload (xo_aload_n dX9_readsParish_156 rfl)) <|
  xw_cons (xw_E xn_push (xo_ldc2 hG q1881 dX9_readsParish_157)) <|
  xw_cons (xl_v_27_239 hG dX9_readsParish_160) <|
  xw_cons (xw_E xn_if (xo_if_eq dX9_readsParish_163 (by decide))) <|
  xw_cons (xw_E xn_aload (xo_aload_n dX9_readsParish_166 rfl)) <|
  xw_cons (xl_v_27_304 hG dX9_readsParish_167) <|
  xw_cons (xw_E xn_goto (xo_goto dX9_readsParish_170 (by decide))) <|
  xw_cons (xw_E xn_aload (xo_aload_n dX9_readsParish_173 rfl)) <|
  xw_cons (xw_E xn_push (xo_iconst dX9_readsParish_174 (by decide))) <|
  xw_cons (xl_v_27_247 hG dX9_readsParish_175) <|
  xw_cons (xw_E xn_istore (xo_istore_n dX9_readsParish_178 rfl)) <|
  xw_cons (xw_E xn_iload (xo_iload_n dX9_readsParish_179 rfl)) <|
  xw_cons (xw_E xn_if (xo_if_ne dX9_readsParish_180 (by decide))) <|
  xw_cons (xw_E xn_push (xo_iconst dX9_readsParish_183 (by decide))) <|
  xw_cons (xw_R (xt_z dX9_readsParish_184)) <|
  xw_cons (xw_E xn_goto (xo_goto dX9_readsParish_185 (by decide))) <|
  xw_cons (xw_E xn_push (xo_iconst dX9_readsParish_188 (by decide))) <|
  xw_nil _
def xp_146_2 : List (Nat × xm_O) := [
  (189, .inr (.inl xr_z))]
theorem xq_146_2 {G : xm_G} (hG : xm_W xk_B G) (hO : xm_Og G) : ∀ q ∈ xp_146_2, xm_op xk_B G xd xk_N "LiarsCockModel" "readsParish" prog_28_method_31_code 2 (some (FieldType.boolean)) q.1 q.2 :=
  xw_cons (xw_R (xt_z dX9_readsParish_189)) <|
  xw_nil _
def xp_146 : List (Nat × xm_O) := xp_146_0 ++ xp_146_1 ++ xp_146_2
theorem xq_146 {G : xm_G} (hG : xm_W xk_B G) (hO : xm_Og G) : ∀ q ∈ xp_146, xm_op xk_B G xd xk_N "LiarsCockModel" "readsParish" prog_28_method_31_code 2 (some (FieldType.boolean)) q.1 q.2 := xw_app (xw_app (xq_146_0 hG hO) (xq_146_1 hG hO)) (xq_146_2 hG hO)
/- 147: LiarsCockModel.isWord(J)Z -/
def xp_147_0 : List (Nat × xm_O) := [
  (0, .inl (xe_aload 0 1)),
  (1, .inl (xe_getf (xj_1 8 6) 4)),
  (4, .inl (xe_push (.int 1) 5)),
  (5, .inl (xe_icmp (fun x y => decide (¬ x = y)) 21 8)),
  (8, .inl (xe_aload 0 9)),
  (9, .inl (xe_getf (xj_1 8 7) 12)),
  (12, .inl (xe_lload 1 13)),
  (13, .inl (xe_lcmp 14)),
  (14, .inl (xe_if (fun x => decide (¬ x = 0)) 21 17)),
  (17, .inl (xe_push (.int 1) 18)),
  (18, .inl (xe_goto 22)),
  (21, .inl (xe_push (.int 0) 22)),
  (22, .inr (.inl xr_z))]
theorem xq_147_0 {G : xm_G} (hG : xm_W xk_B G) (hO : xm_Og G) : ∀ q ∈ xp_147_0, xm_op xk_B G xd xk_N "LiarsCockModel" "isWord" prog_28_method_10_code 3 (some (FieldType.boolean)) q.1 q.2 :=
  xw_cons (xw_E xn_aload (xo_aload_n dX9_isWord_0 rfl)) <|
  xw_cons (xw_E xn_getf (xo_getf hG xg_27_187 dX9_isWord_1)) <|
  xw_cons (xw_E xn_push (xo_iconst dX9_isWord_4 (by decide))) <|
  xw_cons (xw_E xn_icmp (xo_icmp_ne dX9_isWord_5 (by decide))) <|
  xw_cons (xw_E xn_aload (xo_aload_n dX9_isWord_8 rfl)) <|
  xw_cons (xw_E xn_getf (xo_getf hG xg_27_180 dX9_isWord_9)) <|
  xw_cons (xw_E xn_lload (xo_lload_n dX9_isWord_12 rfl)) <|
  xw_cons (xw_E xn_lcmp (xo_lcmp dX9_isWord_13)) <|
  xw_cons (xw_E xn_if (xo_if_ne dX9_isWord_14 (by decide))) <|
  xw_cons (xw_E xn_push (xo_iconst dX9_isWord_17 (by decide))) <|
  xw_cons (xw_E xn_goto (xo_goto dX9_isWord_18 (by decide))) <|
  xw_cons (xw_E xn_push (xo_iconst dX9_isWord_21 (by decide))) <|
  xw_cons (xw_R (xt_z dX9_isWord_22)) <|
  xw_nil _
def xp_147 : List (Nat × xm_O) := xp_147_0
theorem xq_147 {G : xm_G} (hG : xm_W xk_B G) (hO : xm_Og G) : ∀ q ∈ xp_147, xm_op xk_B G xd xk_N "LiarsCockModel" "isWord" prog_28_method_10_code 3 (some (FieldType.boolean)) q.1 q.2 := xq_147_0 hG hO
/- 148: LiarsCockModel.readsFact()Z -/
def xp_148_0 : List (Nat × xm_O) := [
  (0, .inl (xe_aload 0 1)),
  (1, .inl (xe_getf (xj_1 8 10) 4)),
  (4, .inl (xe_push (.int 3) 5)),
  (5, .inl (xe_ald (fun t => t == 0) 6)),
  (6, .inl (xe_push (.int 6) 8)),
  (8, .inl (xe_icmp (fun x y => decide (¬ x = y)) 17 11)),
  (11, .inl (xe_aload 0 12)),
  (12, .inl (xe_push (.int 5) 13)),
  (13, .inr (.inr (.inl (xc_V (xj_1 8 149) [0])))),
  (16, .inr (.inl xr_z)),
  (17, .inl (xe_aload 0 18)),
  (18, .inr (.inr (.inl (xc_V (xj_1 8 144) [])))),
  (21, .inl (xe_aload 0 22)),
  (22, .inl (xe_push (.int 0) 23)),
  (23, .inr (.inr (.inl (xc_V (xj_1 8 150) [0])))),
  (26, .inl (xe_if (fun x => decide (¬ x = 0)) 31 29)),
  (29, .inl (xe_push (.int 0) 30)),
  (30, .inr (.inl xr_z)),
  (31, .inl (xe_push (.int 6) 33)),
  (33, .inl (xe_aload 0 34)),
  (34, .inl (xe_getf (xj_1 8 10) 37)),
  (37, .inl (xe_push (.int 3) 38)),
  (38, .inl (xe_ald (fun t => t == 0) 39)),
  (39, .inl (xe_ii (fun x y => x + y) 40)),
  (40, .inl (xe_istore 1 41)),
  (41, .inl (xe_aload 0 42)),
  (42, .inl (xe_getf (xj_1 8 12) 45)),
  (45, .inl (xe_iload 1 46)),
  (46, .inl (xe_push (.int 5) 47)),
  (47, .inl (xe_ast 300 0 (xm_kd 0) 48)),
  (48, .inl (xe_aload 0 49)),
  (49, .inl (xe_push (.long (47328224 : Int64)) 52)),
  (52, .inr (.inr (.inl (xc_V (xj_1 8 147) [1])))),
  (55, .inl (xe_if (fun x => decide (x = 0)) 87 58)),
  (58, .inl (xe_aload 0 59)),
  (59, .inr (.inr (.inl (xc_V (xj_1 8 144) [])))),
  (62, .inl (xe_aload 0 63)),
  (63, .inl (xe_push (.int 10) 65)),
  (65, .inr (.inr (.inl (xc_V (xj_1 8 153) [0])))),
  (68, .inl (xe_if (fun x => decide (¬ x = 0)) 73 71)),
  (71, .inl (xe_push (.int 0) 72)),
  (72, .inr (.inl xr_z)),
  (73, .inl (xe_aload 0 74)),
  (74, .inl (xe_getf (xj_1 8 12) 77)),
  (77, .inl (xe_iload 1 78)),
  (78, .inl (xe_aload 0 79)),
  (79, .inl (xe_getf (xj_1 8 8) 82)),
  (82, .inl (xe_ast 300 0 (xm_kd 0) 83)),
  (83, .inl (xe_aload 0 84)),
  (84, .inr (.inr (.inl (xc_V (xj_1 8 144) []))))]
theorem xq_148_0 {G : xm_G} (hG : xm_W xk_B G) (hO : xm_Og G) : ∀ q ∈ xp_148_0, xm_op xk_B G xd xk_N "LiarsCockModel" "readsFact" prog_28_method_26_code 2 (some (FieldType.boolean)) q.1 q.2 :=
  xw_cons (xw_E xn_aload (xo_aload_n dX9_readsFact_0 rfl)) <|
  xw_cons (xw_E xn_getf (xo_getf hG xg_27_13 dX9_readsFact_1)) <|
  xw_cons (xw_E xn_push (xo_iconst dX9_readsFact_4 (by decide))) <|
  xw_cons (xw_E xn_ald (xo_iald xk_hB dX9_readsFact_5)) <|
  xw_cons (xw_E xn_push (xo_bipush dX9_readsFact_6 (by decide))) <|
  xw_cons (xw_E xn_icmp (xo_icmp_ne dX9_readsFact_8 (by decide))) <|
  xw_cons (xw_E xn_aload (xo_aload_n dX9_readsFact_11 rfl)) <|
  xw_cons (xw_E xn_push (xo_iconst dX9_readsFact_12 (by decide))) <|
  xw_cons (xl_v_27_247 hG dX9_readsFact_13) <|
  xw_cons (xw_R (xt_z dX9_readsFact_16)) <|
  xw_cons (xw_E xn_aload (xo_aload_n dX9_readsFact_17 rfl)) <|
  xw_cons (xl_v_27_254 hG dX9_readsFact_18) <|
  xw_cons (xw_E xn_aload (xo_aload_n dX9_readsFact_21 rfl)) <|
  xw_cons (xw_E xn_push (xo_iconst dX9_readsFact_22 (by decide))) <|
  xw_cons (xl_v_27_269 hG dX9_readsFact_23) <|
  xw_cons (xw_E xn_if (xo_if_ne dX9_readsFact_26 (by decide))) <|
  xw_cons (xw_E xn_push (xo_iconst dX9_readsFact_29 (by decide))) <|
  xw_cons (xw_R (xt_z dX9_readsFact_30)) <|
  xw_cons (xw_E xn_push (xo_bipush dX9_readsFact_31 (by decide))) <|
  xw_cons (xw_E xn_aload (xo_aload_n dX9_readsFact_33 rfl)) <|
  xw_cons (xw_E xn_getf (xo_getf hG xg_27_13 dX9_readsFact_34)) <|
  xw_cons (xw_E xn_push (xo_iconst dX9_readsFact_37 (by decide))) <|
  xw_cons (xw_E xn_ald (xo_iald xk_hB dX9_readsFact_38)) <|
  xw_cons (xw_E xn_ii (xo_iadd dX9_readsFact_39)) <|
  xw_cons (xw_E xn_istore (xo_istore_n dX9_readsFact_40 rfl)) <|
  xw_cons (xw_E xn_aload (xo_aload_n dX9_readsFact_41 rfl)) <|
  xw_cons (xw_E xn_getf (xo_getf hG xg_27_20 dX9_readsFact_42)) <|
  xw_cons (xw_E xn_iload (xo_iload_n dX9_readsFact_45 rfl)) <|
  xw_cons (xw_E xn_push (xo_iconst dX9_readsFact_46 (by decide))) <|
  xw_cons (xw_E xn_ast (xo_iast hG xk_hB rfl dX9_readsFact_47)) <|
  xw_cons (xw_E xn_aload (xo_aload_n dX9_readsFact_48 rfl)) <|
  xw_cons (xw_E xn_push (xo_ldc2 hG q1875 dX9_readsFact_49)) <|
  xw_cons (xl_v_27_239 hG dX9_readsFact_52) <|
  xw_cons (xw_E xn_if (xo_if_eq dX9_readsFact_55 (by decide))) <|
  xw_cons (xw_E xn_aload (xo_aload_n dX9_readsFact_58 rfl)) <|
  xw_cons (xl_v_27_254 hG dX9_readsFact_59) <|
  xw_cons (xw_E xn_aload (xo_aload_n dX9_readsFact_62 rfl)) <|
  xw_cons (xw_E xn_push (xo_bipush dX9_readsFact_63 (by decide))) <|
  xw_cons (xl_v_27_272 hG dX9_readsFact_65) <|
  xw_cons (xw_E xn_if (xo_if_ne dX9_readsFact_68 (by decide))) <|
  xw_cons (xw_E xn_push (xo_iconst dX9_readsFact_71 (by decide))) <|
  xw_cons (xw_R (xt_z dX9_readsFact_72)) <|
  xw_cons (xw_E xn_aload (xo_aload_n dX9_readsFact_73 rfl)) <|
  xw_cons (xw_E xn_getf (xo_getf hG xg_27_20 dX9_readsFact_74)) <|
  xw_cons (xw_E xn_iload (xo_iload_n dX9_readsFact_77 rfl)) <|
  xw_cons (xw_E xn_aload (xo_aload_n dX9_readsFact_78 rfl)) <|
  xw_cons (xw_E xn_getf (xo_getf hG xg_27_184 dX9_readsFact_79)) <|
  xw_cons (xw_E xn_ast (xo_iast hG xk_hB rfl dX9_readsFact_82)) <|
  xw_cons (xw_E xn_aload (xo_aload_n dX9_readsFact_83 rfl)) <|
  xw_cons (xl_v_27_254 hG dX9_readsFact_84) <|
  xw_nil _
def xp_148_1 : List (Nat × xm_O) := [
  (87, .inl (xe_aload 0 88)),
  (88, .inl (xe_getf (xj_1 8 10) 91)),
  (91, .inl (xe_push (.int 3) 92)),
  (92, .inl (xe_dup2 93)),
  (93, .inl (xe_ald (fun t => t == 0) 94)),
  (94, .inl (xe_push (.int 1) 95)),
  (95, .inl (xe_ii (fun x y => x + y) 96)),
  (96, .inl (xe_ast 300 0 (xm_kd 0) 97)),
  (97, .inl (xe_aload 0 98)),
  (98, .inr (.inr (.inl (xc_V (xj_1 8 154) [])))),
  (101, .inr (.inl xr_z))]
theorem xq_148_1 {G : xm_G} (hG : xm_W xk_B G) (hO : xm_Og G) : ∀ q ∈ xp_148_1, xm_op xk_B G xd xk_N "LiarsCockModel" "readsFact" prog_28_method_26_code 2 (some (FieldType.boolean)) q.1 q.2 :=
  xw_cons (xw_E xn_aload (xo_aload_n dX9_readsFact_87 rfl)) <|
  xw_cons (xw_E xn_getf (xo_getf hG xg_27_13 dX9_readsFact_88)) <|
  xw_cons (xw_E xn_push (xo_iconst dX9_readsFact_91 (by decide))) <|
  xw_cons (xw_E xn_dup2 (xo_dup2 dX9_readsFact_92)) <|
  xw_cons (xw_E xn_ald (xo_iald xk_hB dX9_readsFact_93)) <|
  xw_cons (xw_E xn_push (xo_iconst dX9_readsFact_94 (by decide))) <|
  xw_cons (xw_E xn_ii (xo_iadd dX9_readsFact_95)) <|
  xw_cons (xw_E xn_ast (xo_iast hG xk_hB rfl dX9_readsFact_96)) <|
  xw_cons (xw_E xn_aload (xo_aload_n dX9_readsFact_97 rfl)) <|
  xw_cons (xl_v_27_275 hG dX9_readsFact_98) <|
  xw_cons (xw_R (xt_z dX9_readsFact_101)) <|
  xw_nil _
def xp_148 : List (Nat × xm_O) := xp_148_0 ++ xp_148_1
theorem xq_148 {G : xm_G} (hG : xm_W xk_B G) (hO : xm_Og G) : ∀ q ∈ xp_148, xm_op xk_B G xd xk_N "LiarsCockModel" "readsFact" prog_28_method_26_code 2 (some (FieldType.boolean)) q.1 q.2 := xw_app (xq_148_0 hG hO) (xq_148_1 hG hO)
/- 149: LiarsCockModel.fails(I)Z -/
def xp_149_0 : List (Nat × xm_O) := [
  (0, .inl (xe_aload 0 1)),
  (1, .inl (xe_iload 1 2)),
  (2, .inl (xe_push (.int 16) 4)),
  (4, .inl (xe_aload 0 5)),
  (5, .inl (xe_getf (xj_1 8 5) 8)),
  (8, .inl (xe_ii (fun x y => x * y) 9)),
  (9, .inl (xe_ii (fun x y => x + y) 10)),
  (10, .inl (xe_putf 300 0 (xj_1 8 9) 13)),
  (13, .inl (xe_push (.int 0) 14)),
  (14, .inr (.inl xr_z))]
theorem xq_149_0 {G : xm_G} (hG : xm_W xk_B G) (hO : xm_Og G) : ∀ q ∈ xp_149_0, xm_op xk_B G xd xk_N "LiarsCockModel" "fails" prog_28_method_12_code 2 (some (FieldType.boolean)) q.1 q.2 :=
  xw_cons (xw_E xn_aload (xo_aload_n dX9_fails_0 rfl)) <|
  xw_cons (xw_E xn_iload (xo_iload_n dX9_fails_1 rfl)) <|
  xw_cons (xw_E xn_push (xo_bipush dX9_fails_2 (by decide))) <|
  xw_cons (xw_E xn_aload (xo_aload_n dX9_fails_4 rfl)) <|
  xw_cons (xw_E xn_getf (xo_getf hG xg_27_177 dX9_fails_5)) <|
  xw_cons (xw_E xn_ii (xo_imul dX9_fails_8)) <|
  xw_cons (xw_E xn_ii (xo_iadd dX9_fails_9)) <|
  xw_cons (xw_E xn_putf (xo_putf hG rfl xu_27_198 dX9_fails_10)) <|
  xw_cons (xw_E xn_push (xo_iconst dX9_fails_13 (by decide))) <|
  xw_cons (xw_R (xt_z dX9_fails_14)) <|
  xw_nil _
def xp_149 : List (Nat × xm_O) := xp_149_0
theorem xq_149 {G : xm_G} (hG : xm_W xk_B G) (hO : xm_Og G) : ∀ q ∈ xp_149, xm_op xk_B G xd xk_N "LiarsCockModel" "fails" prog_28_method_12_code 2 (some (FieldType.boolean)) q.1 q.2 := xq_149_0 hG hO
