/-! rows of methods, by program -/
set_option maxRecDepth 100000
/- 209: LiarsCockModel.classes(IIJZ)I -/
def xp_209_0 : List (Nat × xm_O) := [
  (0, .inl (xe_push (.int 0) 1)),
  (1, .inl (xe_istore 6 3)),
  (3, .inl (xe_iload 6 5)),
  (5, .inl (xe_push (.int 360) 8)),
  (8, .inl (xe_icmp (fun x y => decide (y ≤ x)) 25 11)),
  (11, .inl (xe_aload 0 12)),
  (12, .inl (xe_getf (xj_1 8 57) 15)),
  (15, .inl (xe_iload 6 17)),
  (17, .inl (xe_push (.int 0) 18)),
  (18, .inl (xe_ast 300 0 (xm_kd 0) 19)),
  (19, .inl (xe_iinc 6 1 22)),
  (22, .inl (xe_goto 3)),
  (25, .inl (xe_push (.int 0) 26)),
  (26, .inl (xe_istore 6 28)),
  (28, .inl (xe_push (.int 0) 29)),
  (29, .inl (xe_istore 7 31)),
  (31, .inl (xe_push (.int 0) 32)),
  (32, .inl (xe_istore 8 34)),
  (34, .inl (xe_iload 8 36)),
  (36, .inl (xe_push (.int 1) 37)),
  (37, .inl (xe_aload 0 38)),
  (38, .inl (xe_getf (xj_1 8 10) 41)),
  (41, .inl (xe_push (.int 0) 42)),
  (42, .inl (xe_ald (fun t => t == 0) 43)),
  (43, .inl (xe_ii (fun x y => x <<< (y &&& 31)) 44)),
  (44, .inl (xe_icmp (fun x y => decide (y ≤ x)) 121 47)),
  (47, .inl (xe_lload 3 48)),
  (48, .inl (xe_iload 8 50)),
  (50, .inr (.inr (.inl (xc_S 177 [0, 1])))),
  (53, .inl (xe_if (fun x => decide (¬ x = 0)) 59 56)),
  (56, .inl (xe_goto 115)),
  (59, .inl (xe_aload 0 60)),
  (60, .inl (xe_iload 1 61)),
  (61, .inl (xe_iload 2 62)),
  (62, .inl (xe_iload 8 64)),
  (64, .inr (.inr (.inl (xc_V (xj_1 8 190) [0, 0, 0])))),
  (67, .inl (xe_istore 9 69)),
  (69, .inl (xe_aload 0 70)),
  (70, .inl (xe_getf (xj_1 8 57) 73)),
  (73, .inl (xe_iload 9 75)),
  (75, .inl (xe_dup2 76)),
  (76, .inl (xe_ald (fun t => t == 0) 77)),
  (77, .inl (xe_push (.int 1) 78)),
  (78, .inl (xe_ii (fun x y => x + y) 79)),
  (79, .inl (xe_ast 300 0 (xm_kd 0) 80)),
  (80, .inl (xe_iload 7 82)),
  (82, .inl (xe_aload 0 83)),
  (83, .inl (xe_getf (xj_1 8 57) 86)),
  (86, .inl (xe_iload 9 88)),
  (88, .inl (xe_ald (fun t => t == 0) 89))]
theorem xq_209_0 {G : xm_G} (hG : xm_W xk_B G) (hO : xm_Og G) : ∀ q ∈ xp_209_0, xm_op xk_B G xd xk_N "LiarsCockModel" "classes" prog_28_method_69_code 10 (some (FieldType.int)) q.1 q.2 :=
  xw_cons (xw_E xn_push (xo_iconst dX9_classes_0 (by decide))) <|
  xw_cons (xw_E xn_istore (xo_istore dX9_classes_1)) <|
  xw_cons (xw_E xn_iload (xo_iload dX9_classes_3)) <|
  xw_cons (xw_E xn_push (xo_sipush dX9_classes_5 (by decide))) <|
  xw_cons (xw_E xn_icmp (xo_icmp_ge dX9_classes_8 (by decide))) <|
  xw_cons (xw_E xn_aload (xo_aload_n dX9_classes_11 rfl)) <|
  xw_cons (xw_E xn_getf (xo_getf hG xg_27_129 dX9_classes_12)) <|
  xw_cons (xw_E xn_iload (xo_iload dX9_classes_15)) <|
  xw_cons (xw_E xn_push (xo_iconst dX9_classes_17 (by decide))) <|
  xw_cons (xw_E xn_ast (xo_iast hG xk_hB rfl dX9_classes_18)) <|
  xw_cons (xw_E xn_iinc (xo_iinc dX9_classes_19 (by decide))) <|
  xw_cons (xw_E xn_goto (xo_goto dX9_classes_22 (by decide))) <|
  xw_cons (xw_E xn_push (xo_iconst dX9_classes_25 (by decide))) <|
  xw_cons (xw_E xn_istore (xo_istore dX9_classes_26)) <|
  xw_cons (xw_E xn_push (xo_iconst dX9_classes_28 (by decide))) <|
  xw_cons (xw_E xn_istore (xo_istore dX9_classes_29)) <|
  xw_cons (xw_E xn_push (xo_iconst dX9_classes_31 (by decide))) <|
  xw_cons (xw_E xn_istore (xo_istore dX9_classes_32)) <|
  xw_cons (xw_E xn_iload (xo_iload dX9_classes_34)) <|
  xw_cons (xw_E xn_push (xo_iconst dX9_classes_36 (by decide))) <|
  xw_cons (xw_E xn_aload (xo_aload_n dX9_classes_37 rfl)) <|
  xw_cons (xw_E xn_getf (xo_getf hG xg_27_13 dX9_classes_38)) <|
  xw_cons (xw_E xn_push (xo_iconst dX9_classes_41 (by decide))) <|
  xw_cons (xw_E xn_ald (xo_iald xk_hB dX9_classes_42)) <|
  xw_cons (xw_E xn_ii (xo_ishl dX9_classes_43)) <|
  xw_cons (xw_E xn_icmp (xo_icmp_ge dX9_classes_44 (by decide))) <|
  xw_cons (xw_E xn_lload (xo_lload_n dX9_classes_47 rfl)) <|
  xw_cons (xw_E xn_iload (xo_iload dX9_classes_48)) <|
  xw_cons (xl_s_27_350 hG dX9_classes_50) <|
  xw_cons (xw_E xn_if (xo_if_ne dX9_classes_53 (by decide))) <|
  xw_cons (xw_E xn_goto (xo_goto dX9_classes_56 (by decide))) <|
  xw_cons (xw_E xn_aload (xo_aload_n dX9_classes_59 rfl)) <|
  xw_cons (xw_E xn_iload (xo_iload_n dX9_classes_60 rfl)) <|
  xw_cons (xw_E xn_iload (xo_iload_n dX9_classes_61 rfl)) <|
  xw_cons (xw_E xn_iload (xo_iload dX9_classes_62)) <|
  xw_cons (xl_v_27_380 hG dX9_classes_64) <|
  xw_cons (xw_E xn_istore (xo_istore dX9_classes_67)) <|
  xw_cons (xw_E xn_aload (xo_aload_n dX9_classes_69 rfl)) <|
  xw_cons (xw_E xn_getf (xo_getf hG xg_27_129 dX9_classes_70)) <|
  xw_cons (xw_E xn_iload (xo_iload dX9_classes_73)) <|
  xw_cons (xw_E xn_dup2 (xo_dup2 dX9_classes_75)) <|
  xw_cons (xw_E xn_ald (xo_iald xk_hB dX9_classes_76)) <|
  xw_cons (xw_E xn_push (xo_iconst dX9_classes_77 (by decide))) <|
  xw_cons (xw_E xn_ii (xo_iadd dX9_classes_78)) <|
  xw_cons (xw_E xn_ast (xo_iast hG xk_hB rfl dX9_classes_79)) <|
  xw_cons (xw_E xn_iload (xo_iload dX9_classes_80)) <|
  xw_cons (xw_E xn_aload (xo_aload_n dX9_classes_82 rfl)) <|
  xw_cons (xw_E xn_getf (xo_getf hG xg_27_129 dX9_classes_83)) <|
  xw_cons (xw_E xn_iload (xo_iload dX9_classes_86)) <|
  xw_cons (xw_E xn_ald (xo_iald xk_hB dX9_classes_88)) <|
  xw_nil _
def xp_209_1 : List (Nat × xm_O) := [
  (89, .inl (xe_push (.int 1) 90)),
  (90, .inl (xe_icmp (fun x y => decide (¬ x = y)) 97 93)),
  (93, .inl (xe_push (.int 1) 94)),
  (94, .inl (xe_goto 98)),
  (97, .inl (xe_push (.int 0) 98)),
  (98, .inl (xe_ii (fun x y => x + y) 99)),
  (99, .inl (xe_istore 7 101)),
  (101, .inl (xe_iload 6 103)),
  (103, .inl (xe_aload 0 104)),
  (104, .inl (xe_getf (xj_1 8 57) 107)),
  (107, .inl (xe_iload 9 109)),
  (109, .inl (xe_ald (fun t => t == 0) 110)),
  (110, .inr (.inr (.inl (xc_S 301 [0, 0])))),
  (113, .inl (xe_istore 6 115)),
  (115, .inl (xe_iinc 8 1 118)),
  (118, .inl (xe_goto 34)),
  (121, .inl (xe_iload 5 123)),
  (123, .inl (xe_if (fun x => decide (x = 0)) 131 126)),
  (126, .inl (xe_iload 6 128)),
  (128, .inl (xe_goto 133)),
  (131, .inl (xe_iload 7 133)),
  (133, .inr (.inl xr_i))]
theorem xq_209_1 {G : xm_G} (hG : xm_W xk_B G) (hO : xm_Og G) : ∀ q ∈ xp_209_1, xm_op xk_B G xd xk_N "LiarsCockModel" "classes" prog_28_method_69_code 10 (some (FieldType.int)) q.1 q.2 :=
  xw_cons (xw_E xn_push (xo_iconst dX9_classes_89 (by decide))) <|
  xw_cons (xw_E xn_icmp (xo_icmp_ne dX9_classes_90 (by decide))) <|
  xw_cons (xw_E xn_push (xo_iconst dX9_classes_93 (by decide))) <|
  xw_cons (xw_E xn_goto (xo_goto dX9_classes_94 (by decide))) <|
  xw_cons (xw_E xn_push (xo_iconst dX9_classes_97 (by decide))) <|
  xw_cons (xw_E xn_ii (xo_iadd dX9_classes_98)) <|
  xw_cons (xw_E xn_istore (xo_istore dX9_classes_99)) <|
  xw_cons (xw_E xn_iload (xo_iload dX9_classes_101)) <|
  xw_cons (xw_E xn_aload (xo_aload_n dX9_classes_103 rfl)) <|
  xw_cons (xw_E xn_getf (xo_getf hG xg_27_129 dX9_classes_104)) <|
  xw_cons (xw_E xn_iload (xo_iload dX9_classes_107)) <|
  xw_cons (xw_E xn_ald (xo_iald xk_hB dX9_classes_109)) <|
  xw_cons (xl_s_27_420 hG dX9_classes_110) <|
  xw_cons (xw_E xn_istore (xo_istore dX9_classes_113)) <|
  xw_cons (xw_E xn_iinc (xo_iinc dX9_classes_115 (by decide))) <|
  xw_cons (xw_E xn_goto (xo_goto dX9_classes_118 (by decide))) <|
  xw_cons (xw_E xn_iload (xo_iload dX9_classes_121)) <|
  xw_cons (xw_E xn_if (xo_if_eq dX9_classes_123 (by decide))) <|
  xw_cons (xw_E xn_iload (xo_iload dX9_classes_126)) <|
  xw_cons (xw_E xn_goto (xo_goto dX9_classes_128 (by decide))) <|
  xw_cons (xw_E xn_iload (xo_iload dX9_classes_131)) <|
  xw_cons (xw_R (xt_i dX9_classes_133)) <|
  xw_nil _
def xp_209 : List (Nat × xm_O) := xp_209_0 ++ xp_209_1
theorem xq_209 {G : xm_G} (hG : xm_W xk_B G) (hO : xm_Og G) : ∀ q ∈ xp_209, xm_op xk_B G xd xk_N "LiarsCockModel" "classes" prog_28_method_69_code 10 (some (FieldType.int)) q.1 q.2 := xw_app (xq_209_0 hG hO) (xq_209_1 hG hO)
/- 210: LiarsCockModel.fog(IIII)I -/
def xp_210_0 : List (Nat × xm_O) := [
  (0, .inl (xe_aload 0 1)),
  (1, .inl (xe_push (.int 0) 2)),
  (2, .inl (xe_putf 300 0 (xj_1 8 0) 5)),
  (5, .inl (xe_aload 0 6)),
  (6, .inl (xe_iload 1 7)),
  (7, .inl (xe_iload 2 8)),
  (8, .inl (xe_iload 3 9)),
  (9, .inr (.inr (.inl (xc_V (xj_1 8 207) [0, 0, 0])))),
  (12, .inl (xe_if (fun x => decide (x = 0)) 25 15)),
  (15, .inl (xe_iload 4 17)),
  (17, .inl (xe_push (.int 0) 18)),
  (18, .inl (xe_push (.int 1) 19)),
  (19, .inr (.inr (.inl (xc_S 200 [0, 0, 0])))),
  (22, .inl (xe_if (fun x => decide (¬ x = 0)) 27 25)),
  (25, .inl (xe_push (.int (-1)) 26)),
  (26, .inr (.inl xr_i)),
  (27, .inl (xe_aload 0 28)),
  (28, .inr (.inr (.inl (xc_V (xj_1 8 188) [])))),
  (31, .inl (xe_lstore 5 33)),
  (33, .inl (xe_lload 5 35)),
  (35, .inl (xe_push (.long 0) 36)),
  (36, .inl (xe_lcmp 37)),
  (37, .inl (xe_if (fun x => decide (¬ x = 0)) 42 40)),
  (40, .inl (xe_push (.int (-1)) 41)),
  (41, .inr (.inl xr_i)),
  (42, .inl (xe_push (.int (-1)) 43)),
  (43, .inl (xe_istore 7 45)),
  (45, .inl (xe_push (.int 0) 46)),
  (46, .inl (xe_istore 8 48)),
  (48, .inl (xe_iload 2 49)),
  (49, .inl (xe_istore 9 51)),
  (51, .inl (xe_iload 9 53)),
  (53, .inl (xe_iload 3 54)),
  (54, .inl (xe_icmp (fun x y => decide (y < x)) 107 57)),
  (57, .inl (xe_aload 0 58)),
  (58, .inl (xe_iload 1 59)),
  (59, .inl (xe_iload 9 61)),
  (61, .inl (xe_iload 2 62)),
  (62, .inr (.inr (.inl (xc_V (xj_1 8 208) [0, 0, 0])))),
  (65, .inl (xe_if (fun x => decide (x = 0)) 71 68)),
  (68, .inl (xe_goto 101)),
  (71, .inl (xe_aload 0 72)),
  (72, .inl (xe_iload 1 73)),
  (73, .inl (xe_iload 9 75)),
  (75, .inl (xe_lload 5 77)),
  (77, .inl (xe_push (.int 0) 78)),
  (78, .inr (.inr (.inl (xc_V (xj_1 8 209) [0, 1, 0, 0])))),
  (81, .inl (xe_istore 10 83)),
  (83, .inl (xe_iload 10 85)),
  (85, .inl (xe_iload 8 87))]
theorem xq_210_0 {G : xm_G} (hG : xm_W xk_B G) (hO : xm_Og G) : ∀ q ∈ xp_210_0, xm_op xk_B G xd xk_N "LiarsCockModel" "fog" prog_28_method_73_code 11 (some (FieldType.int)) q.1 q.2 :=
  xw_cons (xw_E xn_aload (xo_aload_n dX9_fog_0 rfl)) <|
  xw_cons (xw_E xn_push (xo_iconst dX9_fog_1 (by decide))) <|
  xw_cons (xw_E xn_putf (xo_putf hG rfl xu_27_162 dX9_fog_2)) <|
  xw_cons (xw_E xn_aload (xo_aload_n dX9_fog_5 rfl)) <|
  xw_cons (xw_E xn_iload (xo_iload_n dX9_fog_6 rfl)) <|
  xw_cons (xw_E xn_iload (xo_iload_n dX9_fog_7 rfl)) <|
  xw_cons (xw_E xn_iload (xo_iload_n dX9_fog_8 rfl)) <|
  xw_cons (xl_v_27_426 hG dX9_fog_9) <|
  xw_cons (xw_E xn_if (xo_if_eq dX9_fog_12 (by decide))) <|
  xw_cons (xw_E xn_iload (xo_iload dX9_fog_15)) <|
  xw_cons (xw_E xn_push (xo_iconst dX9_fog_17 (by decide))) <|
  xw_cons (xw_E xn_push (xo_iconst dX9_fog_18 (by decide))) <|
  xw_cons (xl_s_27_407 hG dX9_fog_19) <|
  xw_cons (xw_E xn_if (xo_if_ne dX9_fog_22 (by decide))) <|
  xw_cons (xw_E xn_push (xo_iconst dX9_fog_25 (by decide))) <|
  xw_cons (xw_R (xt_i dX9_fog_26)) <|
  xw_cons (xw_E xn_aload (xo_aload_n dX9_fog_27 rfl)) <|
  xw_cons (xl_v_27_390 hG dX9_fog_28) <|
  xw_cons (xw_E xn_lstore (xo_lstore dX9_fog_31)) <|
  xw_cons (xw_E xn_lload (xo_lload dX9_fog_33)) <|
  xw_cons (xw_E xn_push (xo_lconst dX9_fog_35 (by decide))) <|
  xw_cons (xw_E xn_lcmp (xo_lcmp dX9_fog_36)) <|
  xw_cons (xw_E xn_if (xo_if_ne dX9_fog_37 (by decide))) <|
  xw_cons (xw_E xn_push (xo_iconst dX9_fog_40 (by decide))) <|
  xw_cons (xw_R (xt_i dX9_fog_41)) <|
  xw_cons (xw_E xn_push (xo_iconst dX9_fog_42 (by decide))) <|
  xw_cons (xw_E xn_istore (xo_istore dX9_fog_43)) <|
  xw_cons (xw_E xn_push (xo_iconst dX9_fog_45 (by decide))) <|
  xw_cons (xw_E xn_istore (xo_istore dX9_fog_46)) <|
  xw_cons (xw_E xn_iload (xo_iload_n dX9_fog_48 rfl)) <|
  xw_cons (xw_E xn_istore (xo_istore dX9_fog_49)) <|
  xw_cons (xw_E xn_iload (xo_iload dX9_fog_51)) <|
  xw_cons (xw_E xn_iload (xo_iload_n dX9_fog_53 rfl)) <|
  xw_cons (xw_E xn_icmp (xo_icmp_gt dX9_fog_54 (by decide))) <|
  xw_cons (xw_E xn_aload (xo_aload_n dX9_fog_57 rfl)) <|
  xw_cons (xw_E xn_iload (xo_iload_n dX9_fog_58 rfl)) <|
  xw_cons (xw_E xn_iload (xo_iload dX9_fog_59)) <|
  xw_cons (xw_E xn_iload (xo_iload_n dX9_fog_61 rfl)) <|
  xw_cons (xl_v_27_429 hG dX9_fog_62) <|
  xw_cons (xw_E xn_if (xo_if_eq dX9_fog_65 (by decide))) <|
  xw_cons (xw_E xn_goto (xo_goto dX9_fog_68 (by decide))) <|
  xw_cons (xw_E xn_aload (xo_aload_n dX9_fog_71 rfl)) <|
  xw_cons (xw_E xn_iload (xo_iload_n dX9_fog_72 rfl)) <|
  xw_cons (xw_E xn_iload (xo_iload dX9_fog_73)) <|
  xw_cons (xw_E xn_lload (xo_lload dX9_fog_75)) <|
  xw_cons (xw_E xn_push (xo_iconst dX9_fog_77 (by decide))) <|
  xw_cons (xl_v_27_432 hG dX9_fog_78) <|
  xw_cons (xw_E xn_istore (xo_istore dX9_fog_81)) <|
  xw_cons (xw_E xn_iload (xo_iload dX9_fog_83)) <|
  xw_cons (xw_E xn_iload (xo_iload dX9_fog_85)) <|
  xw_nil _
def xp_210_1 : List (Nat × xm_O) := [
  (87, .inl (xe_icmp (fun x y => decide (y < x)) 93 90)),
  (90, .inl (xe_goto 101)),
  (93, .inl (xe_iload 10 95)),
  (95, .inl (xe_istore 8 97)),
  (97, .inl (xe_iload 9 99)),
  (99, .inl (xe_istore 7 101)),
  (101, .inl (xe_iinc 9 1 104)),
  (104, .inl (xe_goto 51)),
  (107, .inl (xe_iload 4 109)),
  (109, .inl (xe_if (fun x => decide (¬ x = 0)) 117 112)),
  (112, .inl (xe_iload 7 114)),
  (114, .inl (xe_goto 119)),
  (117, .inl (xe_iload 8 119)),
  (119, .inr (.inl xr_i))]
theorem xq_210_1 {G : xm_G} (hG : xm_W xk_B G) (hO : xm_Og G) : ∀ q ∈ xp_210_1, xm_op xk_B G xd xk_N "LiarsCockModel" "fog" prog_28_method_73_code 11 (some (FieldType.int)) q.1 q.2 :=
  xw_cons (xw_E xn_icmp (xo_icmp_gt dX9_fog_87 (by decide))) <|
  xw_cons (xw_E xn_goto (xo_goto dX9_fog_90 (by decide))) <|
  xw_cons (xw_E xn_iload (xo_iload dX9_fog_93)) <|
  xw_cons (xw_E xn_istore (xo_istore dX9_fog_95)) <|
  xw_cons (xw_E xn_iload (xo_iload dX9_fog_97)) <|
  xw_cons (xw_E xn_istore (xo_istore dX9_fog_99)) <|
  xw_cons (xw_E xn_iinc (xo_iinc dX9_fog_101 (by decide))) <|
  xw_cons (xw_E xn_goto (xo_goto dX9_fog_104 (by decide))) <|
  xw_cons (xw_E xn_iload (xo_iload dX9_fog_107)) <|
  xw_cons (xw_E xn_if (xo_if_ne dX9_fog_109 (by decide))) <|
  xw_cons (xw_E xn_iload (xo_iload dX9_fog_112)) <|
  xw_cons (xw_E xn_goto (xo_goto dX9_fog_114 (by decide))) <|
  xw_cons (xw_E xn_iload (xo_iload dX9_fog_117)) <|
  xw_cons (xw_R (xt_i dX9_fog_119)) <|
  xw_nil _
def xp_210 : List (Nat × xm_O) := xp_210_0 ++ xp_210_1
theorem xq_210 {G : xm_G} (hG : xm_W xk_B G) (hO : xm_Og G) : ∀ q ∈ xp_210, xm_op xk_B G xd xk_N "LiarsCockModel" "fog" prog_28_method_73_code 11 (some (FieldType.int)) q.1 q.2 := xw_app (xq_210_0 hG hO) (xq_210_1 hG hO)
/- 211: LiarsCockModel.learns(IIZII)I -/
def xp_211_0 : List (Nat × xm_O) := [
  (0, .inl (xe_aload 0 1)),
  (1, .inl (xe_push (.int 0) 2)),
  (2, .inl (xe_putf 300 0 (xj_1 8 0) 5)),
  (5, .inl (xe_aload 0 6)),
  (6, .inl (xe_iload 1 7)),
  (7, .inr (.inr (.inl (xc_V (xj_1 8 170) [0])))),
  (10, .inl (xe_if (fun x => decide (x = 0)) 77 13)),
  (13, .inl (xe_aload 0 14)),
  (14, .inl (xe_iload 2 15)),
  (15, .inr (.inr (.inl (xc_V (xj_1 8 193) [0])))),
  (18, .inl (xe_if (fun x => decide (x = 0)) 77 21)),
  (21, .inl (xe_iload 4 23)),
  (23, .inr (.inr (.inl (xc_S 171 [0])))),
  (26, .inl (xe_if (fun x => decide (x = 0)) 77 29)),
  (29, .inl (xe_aload 0 30)),
  (30, .inl (xe_iload 5 32)),
  (32, .inr (.inr (.inl (xc_V (xj_1 8 181) [0])))),
  (35, .inl (xe_if (fun x => decide (x = 0)) 77 38)),
  (38, .inl (xe_iload 4 40)),
  (40, .inl (xe_aload 0 41)),
  (41, .inl (xe_getf (xj_1 8 17) 44)),
  (44, .inl (xe_iload 5 46)),
  (46, .inl (xe_ald (fun t => t == 0) 47)),
  (47, .inl (xe_ii (fun x y => x + y) 48)),
  (48, .inl (xe_push (.int 1439) 51)),
  (51, .inl (xe_icmp (fun x y => decide (y < x)) 77 54)),
  (54, .inl (xe_aload 0 55)),
  (55, .inl (xe_getf (xj_1 8 40) 58)),
  (58, .inl (xe_if (fun x => decide (x ≤ 0)) 79 61)),
  (61, .inl (xe_iload 4 63)),
  (63, .inl (xe_aload 0 64)),
  (64, .inl (xe_getf (xj_1 8 46) 67)),
  (67, .inl (xe_aload 0 68)),
  (68, .inl (xe_getf (xj_1 8 40) 71)),
  (71, .inl (xe_push (.int 1) 72)),
  (72, .inl (xe_ii (fun x y => x - y) 73)),
  (73, .inl (xe_ald (fun t => t == 0) 74)),
  (74, .inl (xe_icmp (fun x y => decide (y ≤ x)) 79 77)),
  (77, .inl (xe_push (.int (-1)) 78)),
  (78, .inr (.inl xr_i)),
  (79, .inl (xe_aload 0 80)),
  (80, .inr (.inr (.inl (xc_V (xj_1 8 188) [])))),
  (83, .inl (xe_aload 0 84)),
  (84, .inl (xe_aload 0 85)),
  (85, .inl (xe_getf (xj_1 8 15) 88)),
  (88, .inl (xe_iload 1 89)),
  (89, .inl (xe_ald (fun t => t == 0) 90)),
  (90, .inl (xe_aload 0 91)),
  (91, .inl (xe_getf (xj_1 8 44) 94)),
  (94, .inr (.inr (.inl (xc_V (xj_1 8 179) [0, 0]))))]
theorem xq_211_0 {G : xm_G} (hG : xm_W xk_B G) (hO : xm_Og G) : ∀ q ∈ xp_211_0, xm_op xk_B G xd xk_N "LiarsCockModel" "learns" prog_28_method_74_code 11 (some (FieldType.int)) q.1 q.2 :=
  xw_cons (xw_E xn_aload (xo_aload_n dX9_learns_0 rfl)) <|
  xw_cons (xw_E xn_push (xo_iconst dX9_learns_1 (by decide))) <|
  xw_cons (xw_E xn_putf (xo_putf hG rfl xu_27_162 dX9_learns_2)) <|
  xw_cons (xw_E xn_aload (xo_aload_n dX9_learns_5 rfl)) <|
  xw_cons (xw_E xn_iload (xo_iload_n dX9_learns_6 rfl)) <|
  xw_cons (xl_v_27_337 hG dX9_learns_7) <|
  xw_cons (xw_E xn_if (xo_if_eq dX9_learns_10 (by decide))) <|
  xw_cons (xw_E xn_aload (xo_aload_n dX9_learns_13 rfl)) <|
  xw_cons (xw_E xn_iload (xo_iload_n dX9_learns_14 rfl)) <|
  xw_cons (xl_v_27_393 hG dX9_learns_15) <|
  xw_cons (xw_E xn_if (xo_if_eq dX9_learns_18 (by decide))) <|
  xw_cons (xw_E xn_iload (xo_iload dX9_learns_21)) <|
  xw_cons (xl_s_27_340 hG dX9_learns_23) <|
  xw_cons (xw_E xn_if (xo_if_eq dX9_learns_26 (by decide))) <|
  xw_cons (xw_E xn_aload (xo_aload_n dX9_learns_29 rfl)) <|
  xw_cons (xw_E xn_iload (xo_iload dX9_learns_30)) <|
  xw_cons (xl_v_27_371 hG dX9_learns_32) <|
  xw_cons (xw_E xn_if (xo_if_eq dX9_learns_35 (by decide))) <|
  xw_cons (xw_E xn_iload (xo_iload dX9_learns_38)) <|
  xw_cons (xw_E xn_aload (xo_aload_n dX9_learns_40 rfl)) <|
  xw_cons (xw_E xn_getf (xo_getf hG xg_27_35 dX9_learns_41)) <|
  xw_cons (xw_E xn_iload (xo_iload dX9_learns_44)) <|
  xw_cons (xw_E xn_ald (xo_iald xk_hB dX9_learns_46)) <|
  xw_cons (xw_E xn_ii (xo_iadd dX9_learns_47)) <|
  xw_cons (xw_E xn_push (xo_sipush dX9_learns_48 (by decide))) <|
  xw_cons (xw_E xn_icmp (xo_icmp_gt dX9_learns_51 (by decide))) <|
  xw_cons (xw_E xn_aload (xo_aload_n dX9_learns_54 rfl)) <|
  xw_cons (xw_E xn_getf (xo_getf hG xg_27_322 dX9_learns_55)) <|
  xw_cons (xw_E xn_if (xo_if_le dX9_learns_58 (by decide))) <|
  xw_cons (xw_E xn_iload (xo_iload dX9_learns_61)) <|
  xw_cons (xw_E xn_aload (xo_aload_n dX9_learns_63 rfl)) <|
  xw_cons (xw_E xn_getf (xo_getf hG xg_27_99 dX9_learns_64)) <|
  xw_cons (xw_E xn_aload (xo_aload_n dX9_learns_67 rfl)) <|
  xw_cons (xw_E xn_getf (xo_getf hG xg_27_322 dX9_learns_68)) <|
  xw_cons (xw_E xn_push (xo_iconst dX9_learns_71 (by decide))) <|
  xw_cons (xw_E xn_ii (xo_isub dX9_learns_72)) <|
  xw_cons (xw_E xn_ald (xo_iald xk_hB dX9_learns_73)) <|
  xw_cons (xw_E xn_icmp (xo_icmp_ge dX9_learns_74 (by decide))) <|
  xw_cons (xw_E xn_push (xo_iconst dX9_learns_77 (by decide))) <|
  xw_cons (xw_R (xt_i dX9_learns_78)) <|
  xw_cons (xw_E xn_aload (xo_aload_n dX9_learns_79 rfl)) <|
  xw_cons (xl_v_27_390 hG dX9_learns_80) <|
  xw_cons (xw_E xn_aload (xo_aload_n dX9_learns_83 rfl)) <|
  xw_cons (xw_E xn_aload (xo_aload_n dX9_learns_84 rfl)) <|
  xw_cons (xw_E xn_getf (xo_getf hG xg_27_29 dX9_learns_85)) <|
  xw_cons (xw_E xn_iload (xo_iload_n dX9_learns_88 rfl)) <|
  xw_cons (xw_E xn_ald (xo_iald xk_hB dX9_learns_89)) <|
  xw_cons (xw_E xn_aload (xo_aload_n dX9_learns_90 rfl)) <|
  xw_cons (xw_E xn_getf (xo_getf hG xg_27_334 dX9_learns_91)) <|
  xw_cons (xl_v_27_354 hG dX9_learns_94) <|
  xw_nil _
def xp_211_1 : List (Nat × xm_O) := [
  (97, .inl (xe_ll (fun x y => x &&& y) 98)),
  (98, .inl (xe_lstore 6 100)),
  (100, .inl (xe_lload 6 102)),
  (102, .inl (xe_push (.long 0) 103)),
  (103, .inl (xe_lcmp 104)),
  (104, .inl (xe_if (fun x => decide (¬ x = 0)) 109 107)),
  (107, .inl (xe_push (.int (-1)) 108)),
  (108, .inr (.inl xr_i)),
  (109, .inl (xe_aload 0 110)),
  (110, .inl (xe_getf (xj_1 8 45) 113)),
  (113, .inl (xe_push (.int 30) 115)),
  (115, .inl (xe_iload 1 116)),
  (116, .inl (xe_ast 300 0 (xm_kd 0) 117)),
  (117, .inl (xe_aload 0 118)),
  (118, .inl (xe_getf (xj_1 8 46) 121)),
  (121, .inl (xe_push (.int 30) 123)),
  (123, .inl (xe_iload 4 125)),
  (125, .inl (xe_ast 300 0 (xm_kd 0) 126)),
  (126, .inl (xe_aload 0 127)),
  (127, .inl (xe_getf (xj_1 8 48) 130)),
  (130, .inl (xe_push (.int 30) 132)),
  (132, .inl (xe_push (.int 0) 133)),
  (133, .inl (xe_ast 300 2 xm_bit 134)),
  (134, .inl (xe_aload 0 135)),
  (135, .inl (xe_getf (xj_1 8 47) 138)),
  (138, .inl (xe_push (.int 30) 140)),
  (140, .inl (xe_iload 3 141)),
  (141, .inl (xe_if (fun x => decide (x = 0)) 152 144)),
  (144, .inl (xe_aload 0 145)),
  (145, .inl (xe_iload 2 146)),
  (146, .inr (.inr (.inl (xc_V (xj_1 8 194) [0])))),
  (149, .inl (xe_goto 166)),
  (152, .inl (xe_aload 0 153)),
  (153, .inr (.inr (.inl (xc_V (xj_1 8 168) [])))),
  (156, .inl (xe_aload 0 157)),
  (157, .inl (xe_iload 2 158)),
  (158, .inr (.inr (.inl (xc_V (xj_1 8 194) [0])))),
  (161, .inl (xe_push (.long (-1 : Int64)) 164)),
  (164, .inl (xe_ll (fun x y => x ^^^ y) 165)),
  (165, .inl (xe_ll (fun x y => x &&& y) 166)),
  (166, .inl (xe_ast 300 1 (xm_kd 1) 167)),
  (167, .inl (xe_aload 0 168)),
  (168, .inl (xe_getf (xj_1 8 49) 171)),
  (171, .inl (xe_aload 0 172)),
  (172, .inl (xe_getf (xj_1 8 50) 175)),
  (175, .inl (xe_push (.int 30) 177)),
  (177, .inl (xe_ast 300 0 (xm_kd 0) 178)),
  (178, .inl (xe_aload 0 179)),
  (179, .inl (xe_dup 180)),
  (180, .inl (xe_getf (xj_1 8 50) 183))]
theorem xq_211_1 {G : xm_G} (hG : xm_W xk_B G) (hO : xm_Og G) : ∀ q ∈ xp_211_1, xm_op xk_B G xd xk_N "LiarsCockModel" "learns" prog_28_method_74_code 11 (some (FieldType.int)) q.1 q.2 :=
  xw_cons (xw_E xn_ll (xo_land dX9_learns_97)) <|
  xw_cons (xw_E xn_lstore (xo_lstore dX9_learns_98)) <|
  xw_cons (xw_E xn_lload (xo_lload dX9_learns_100)) <|
  xw_cons (xw_E xn_push (xo_lconst dX9_learns_102 (by decide))) <|
  xw_cons (xw_E xn_lcmp (xo_lcmp dX9_learns_103)) <|
  xw_cons (xw_E xn_if (xo_if_ne dX9_learns_104 (by decide))) <|
  xw_cons (xw_E xn_push (xo_iconst dX9_learns_107 (by decide))) <|
  xw_cons (xw_R (xt_i dX9_learns_108)) <|
  xw_cons (xw_E xn_aload (xo_aload_n dX9_learns_109 rfl)) <|
  xw_cons (xw_E xn_getf (xo_getf hG xg_27_96 dX9_learns_110)) <|
  xw_cons (xw_E xn_push (xo_bipush dX9_learns_113 (by decide))) <|
  xw_cons (xw_E xn_iload (xo_iload_n dX9_learns_115 rfl)) <|
  xw_cons (xw_E xn_ast (xo_iast hG xk_hB rfl dX9_learns_116)) <|
  xw_cons (xw_E xn_aload (xo_aload_n dX9_learns_117 rfl)) <|
  xw_cons (xw_E xn_getf (xo_getf hG xg_27_99 dX9_learns_118)) <|
  xw_cons (xw_E xn_push (xo_bipush dX9_learns_121 (by decide))) <|
  xw_cons (xw_E xn_iload (xo_iload dX9_learns_123)) <|
  xw_cons (xw_E xn_ast (xo_iast hG xk_hB rfl dX9_learns_125)) <|
  xw_cons (xw_E xn_aload (xo_aload_n dX9_learns_126 rfl)) <|
  xw_cons (xw_E xn_getf (xo_getf hG xg_27_105 dX9_learns_127)) <|
  xw_cons (xw_E xn_push (xo_bipush dX9_learns_130 (by decide))) <|
  xw_cons (xw_E xn_push (xo_iconst dX9_learns_132 (by decide))) <|
  xw_cons (xw_E xn_ast (xo_zast hG xk_hB rfl dX9_learns_133)) <|
  xw_cons (xw_E xn_aload (xo_aload_n dX9_learns_134 rfl)) <|
  xw_cons (xw_E xn_getf (xo_getf hG xg_27_102 dX9_learns_135)) <|
  xw_cons (xw_E xn_push (xo_bipush dX9_learns_138 (by decide))) <|
  xw_cons (xw_E xn_iload (xo_iload_n dX9_learns_140 rfl)) <|
  xw_cons (xw_E xn_if (xo_if_eq dX9_learns_141 (by decide))) <|
  xw_cons (xw_E xn_aload (xo_aload_n dX9_learns_144 rfl)) <|
  xw_cons (xw_E xn_iload (xo_iload_n dX9_learns_145 rfl)) <|
  xw_cons (xl_v_27_396 hG dX9_learns_146) <|
  xw_cons (xw_E xn_goto (xo_goto dX9_learns_149 (by decide))) <|
  xw_cons (xw_E xn_aload (xo_aload_n dX9_learns_152 rfl)) <|
  xw_cons (xl_v_27_318 hG dX9_learns_153) <|
  xw_cons (xw_E xn_aload (xo_aload_n dX9_learns_156 rfl)) <|
  xw_cons (xw_E xn_iload (xo_iload_n dX9_learns_157 rfl)) <|
  xw_cons (xl_v_27_396 hG dX9_learns_158) <|
  xw_cons (xw_E xn_push (xo_ldc2 hG q1956 dX9_learns_161)) <|
  xw_cons (xw_E xn_ll (xo_lxor dX9_learns_164)) <|
  xw_cons (xw_E xn_ll (xo_land dX9_learns_165)) <|
  xw_cons (xw_E xn_ast (xo_last hG xk_hB rfl dX9_learns_166)) <|
  xw_cons (xw_E xn_aload (xo_aload_n dX9_learns_167 rfl)) <|
  xw_cons (xw_E xn_getf (xo_getf hG xg_27_108 dX9_learns_168)) <|
  xw_cons (xw_E xn_aload (xo_aload_n dX9_learns_171 rfl)) <|
  xw_cons (xw_E xn_getf (xo_getf hG xg_27_362 dX9_learns_172)) <|
  xw_cons (xw_E xn_push (xo_bipush dX9_learns_175 (by decide))) <|
  xw_cons (xw_E xn_ast (xo_iast hG xk_hB rfl dX9_learns_177)) <|
  xw_cons (xw_E xn_aload (xo_aload_n dX9_learns_178 rfl)) <|
  xw_cons (xw_E xn_dup (xo_dup dX9_learns_179)) <|
  xw_cons (xw_E xn_getf (xo_getf hG xg_27_362 dX9_learns_180)) <|
  xw_nil _
def xp_211_2 : List (Nat × xm_O) := [
  (183, .inl (xe_push (.int 1) 184)),
  (184, .inl (xe_ii (fun x y => x + y) 185)),
  (185, .inl (xe_putf 300 0 (xj_1 8 50) 188)),
  (188, .inl (xe_aload 0 189)),
  (189, .inl (xe_push (.int 30) 191)),
  (191, .inr (.inr (.inl (xc_V (xj_1 8 183) [0])))),
  (194, .inl (xe_push (.int 0) 195)),
  (195, .inl (xe_istore 8 197)),
  (197, .inl (xe_iload 8 199)),
  (199, .inl (xe_push (.int 360) 202)),
  (202, .inl (xe_icmp (fun x y => decide (y ≤ x)) 219 205)),
  (205, .inl (xe_aload 0 206)),
  (206, .inl (xe_getf (xj_1 8 58) 209)),
  (209, .inl (xe_iload 8 211)),
  (211, .inl (xe_push (.int 0) 212)),
  (212, .inl (xe_ast 300 0 (xm_kd 0) 213)),
  (213, .inl (xe_iinc 8 1 216)),
  (216, .inl (xe_goto 197)),
  (219, .inl (xe_push (.int 1) 220)),
  (220, .inl (xe_istore 8 222)),
  (222, .inl (xe_push (.int 0) 223)),
  (223, .inl (xe_istore 9 225)),
  (225, .inl (xe_iload 9 227)),
  (227, .inl (xe_push (.int 1) 228)),
  (228, .inl (xe_aload 0 229)),
  (229, .inl (xe_getf (xj_1 8 10) 232)),
  (232, .inl (xe_push (.int 0) 233)),
  (233, .inl (xe_ald (fun t => t == 0) 234)),
  (234, .inl (xe_ii (fun x y => x <<< (y &&& 31)) 235)),
  (235, .inl (xe_icmp (fun x y => decide (y ≤ x)) 325 238)),
  (238, .inl (xe_lload 6 240)),
  (240, .inl (xe_iload 9 242)),
  (242, .inr (.inr (.inl (xc_S 177 [0, 1])))),
  (245, .inl (xe_if (fun x => decide (¬ x = 0)) 251 248)),
  (248, .inl (xe_goto 319)),
  (251, .inl (xe_aload 0 252)),
  (252, .inl (xe_iload 5 254)),
  (254, .inl (xe_iload 4 256)),
  (256, .inl (xe_aload 0 257)),
  (257, .inl (xe_getf (xj_1 8 17) 260)),
  (260, .inl (xe_iload 5 262)),
  (262, .inl (xe_ald (fun t => t == 0) 263)),
  (263, .inl (xe_ii (fun x y => x + y) 264)),
  (264, .inl (xe_iload 9 266)),
  (266, .inr (.inr (.inl (xc_V (xj_1 8 190) [0, 0, 0])))),
  (269, .inl (xe_istore 10 271)),
  (271, .inl (xe_aload 0 272)),
  (272, .inl (xe_getf (xj_1 8 58) 275)),
  (275, .inl (xe_iload 10 277)),
  (277, .inl (xe_dup2 278))]
theorem xq_211_2 {G : xm_G} (hG : xm_W xk_B G) (hO : xm_Og G) : ∀ q ∈ xp_211_2, xm_op xk_B G xd xk_N "LiarsCockModel" "learns" prog_28_method_74_code 11 (some (FieldType.int)) q.1 q.2 :=
  xw_cons (xw_E xn_push (xo_iconst dX9_learns_183 (by decide))) <|
  xw_cons (xw_E xn_ii (xo_iadd dX9_learns_184)) <|
  xw_cons (xw_E xn_putf (xo_putf hG rfl xu_27_362 dX9_learns_185)) <|
  xw_cons (xw_E xn_aload (xo_aload_n dX9_learns_188 rfl)) <|
  xw_cons (xw_E xn_push (xo_bipush dX9_learns_189 (by decide))) <|
  xw_cons (xl_v_27_365 hG dX9_learns_191) <|
  xw_cons (xw_E xn_push (xo_iconst dX9_learns_194 (by decide))) <|
  xw_cons (xw_E xn_istore (xo_istore dX9_learns_195)) <|
  xw_cons (xw_E xn_iload (xo_iload dX9_learns_197)) <|
  xw_cons (xw_E xn_push (xo_sipush dX9_learns_199 (by decide))) <|
  xw_cons (xw_E xn_icmp (xo_icmp_ge dX9_learns_202 (by decide))) <|
  xw_cons (xw_E xn_aload (xo_aload_n dX9_learns_205 rfl)) <|
  xw_cons (xw_E xn_getf (xo_getf hG xg_27_132 dX9_learns_206)) <|
  xw_cons (xw_E xn_iload (xo_iload dX9_learns_209)) <|
  xw_cons (xw_E xn_push (xo_iconst dX9_learns_211 (by decide))) <|
  xw_cons (xw_E xn_ast (xo_iast hG xk_hB rfl dX9_learns_212)) <|
  xw_cons (xw_E xn_iinc (xo_iinc dX9_learns_213 (by decide))) <|
  xw_cons (xw_E xn_goto (xo_goto dX9_learns_216 (by decide))) <|
  xw_cons (xw_E xn_push (xo_iconst dX9_learns_219 (by decide))) <|
  xw_cons (xw_E xn_istore (xo_istore dX9_learns_220)) <|
  xw_cons (xw_E xn_push (xo_iconst dX9_learns_222 (by decide))) <|
  xw_cons (xw_E xn_istore (xo_istore dX9_learns_223)) <|
  xw_cons (xw_E xn_iload (xo_iload dX9_learns_225)) <|
  xw_cons (xw_E xn_push (xo_iconst dX9_learns_227 (by decide))) <|
  xw_cons (xw_E xn_aload (xo_aload_n dX9_learns_228 rfl)) <|
  xw_cons (xw_E xn_getf (xo_getf hG xg_27_13 dX9_learns_229)) <|
  xw_cons (xw_E xn_push (xo_iconst dX9_learns_232 (by decide))) <|
  xw_cons (xw_E xn_ald (xo_iald xk_hB dX9_learns_233)) <|
  xw_cons (xw_E xn_ii (xo_ishl dX9_learns_234)) <|
  xw_cons (xw_E xn_icmp (xo_icmp_ge dX9_learns_235 (by decide))) <|
  xw_cons (xw_E xn_lload (xo_lload dX9_learns_238)) <|
  xw_cons (xw_E xn_iload (xo_iload dX9_learns_240)) <|
  xw_cons (xl_s_27_350 hG dX9_learns_242) <|
  xw_cons (xw_E xn_if (xo_if_ne dX9_learns_245 (by decide))) <|
  xw_cons (xw_E xn_goto (xo_goto dX9_learns_248 (by decide))) <|
  xw_cons (xw_E xn_aload (xo_aload_n dX9_learns_251 rfl)) <|
  xw_cons (xw_E xn_iload (xo_iload dX9_learns_252)) <|
  xw_cons (xw_E xn_iload (xo_iload dX9_learns_254)) <|
  xw_cons (xw_E xn_aload (xo_aload_n dX9_learns_256 rfl)) <|
  xw_cons (xw_E xn_getf (xo_getf hG xg_27_35 dX9_learns_257)) <|
  xw_cons (xw_E xn_iload (xo_iload dX9_learns_260)) <|
  xw_cons (xw_E xn_ald (xo_iald xk_hB dX9_learns_262)) <|
  xw_cons (xw_E xn_ii (xo_iadd dX9_learns_263)) <|
  xw_cons (xw_E xn_iload (xo_iload dX9_learns_264)) <|
  xw_cons (xl_v_27_380 hG dX9_learns_266) <|
  xw_cons (xw_E xn_istore (xo_istore dX9_learns_269)) <|
  xw_cons (xw_E xn_aload (xo_aload_n dX9_learns_271 rfl)) <|
  xw_cons (xw_E xn_getf (xo_getf hG xg_27_132 dX9_learns_272)) <|
  xw_cons (xw_E xn_iload (xo_iload dX9_learns_275)) <|
  xw_cons (xw_E xn_dup2 (xo_dup2 dX9_learns_277)) <|
  xw_nil _
def xp_211_3 : List (Nat × xm_O) := [
  (278, .inl (xe_ald (fun t => t == 0) 279)),
  (279, .inl (xe_iload 9 281)),
  (281, .inl (xe_iload 2 282)),
  (282, .inl (xe_ii (fun x y => x >>> (y &&& 31)) 283)),
  (283, .inl (xe_push (.int 1) 284)),
  (284, .inl (xe_ii (fun x y => x &&& y) 285)),
  (285, .inl (xe_push (.int 1) 286)),
  (286, .inl (xe_icmp (fun x y => decide (¬ x = y)) 293 289)),
  (289, .inl (xe_push (.int 1) 290)),
  (290, .inl (xe_goto 294)),
  (293, .inl (xe_push (.int 2) 294)),
  (294, .inl (xe_ii (fun x y => x ||| y) 295)),
  (295, .inl (xe_ast 300 0 (xm_kd 0) 296)),
  (296, .inl (xe_iload 8 298)),
  (298, .inl (xe_if (fun x => decide (x = 0)) 316 301)),
  (301, .inl (xe_aload 0 302)),
  (302, .inl (xe_getf (xj_1 8 58) 305)),
  (305, .inl (xe_iload 10 307)),
  (307, .inl (xe_ald (fun t => t == 0) 308)),
  (308, .inl (xe_push (.int 3) 309)),
  (309, .inl (xe_icmp (fun x y => decide (y ≤ x)) 316 312)),
  (312, .inl (xe_push (.int 1) 313)),
  (313, .inl (xe_goto 317)),
  (316, .inl (xe_push (.int 0) 317)),
  (317, .inl (xe_istore 8 319)),
  (319, .inl (xe_iinc 9 1 322)),
  (322, .inl (xe_goto 225)),
  (325, .inl (xe_iload 8 327)),
  (327, .inl (xe_if (fun x => decide (x = 0)) 334 330)),
  (330, .inl (xe_push (.int 1) 331)),
  (331, .inl (xe_goto 335)),
  (334, .inl (xe_push (.int 0) 335)),
  (335, .inr (.inl xr_i))]
theorem xq_211_3 {G : xm_G} (hG : xm_W xk_B G) (hO : xm_Og G) : ∀ q ∈ xp_211_3, xm_op xk_B G xd xk_N "LiarsCockModel" "learns" prog_28_method_74_code 11 (some (FieldType.int)) q.1 q.2 :=
  xw_cons (xw_E xn_ald (xo_iald xk_hB dX9_learns_278)) <|
  xw_cons (xw_E xn_iload (xo_iload dX9_learns_279)) <|
  xw_cons (xw_E xn_iload (xo_iload_n dX9_learns_281 rfl)) <|
  xw_cons (xw_E xn_ii (xo_ishr dX9_learns_282)) <|
  xw_cons (xw_E xn_push (xo_iconst dX9_learns_283 (by decide))) <|
  xw_cons (xw_E xn_ii (xo_iand dX9_learns_284)) <|
  xw_cons (xw_E xn_push (xo_iconst dX9_learns_285 (by decide))) <|
  xw_cons (xw_E xn_icmp (xo_icmp_ne dX9_learns_286 (by decide))) <|
  xw_cons (xw_E xn_push (xo_iconst dX9_learns_289 (by decide))) <|
  xw_cons (xw_E xn_goto (xo_goto dX9_learns_290 (by decide))) <|
  xw_cons (xw_E xn_push (xo_iconst dX9_learns_293 (by decide))) <|
  xw_cons (xw_E xn_ii (xo_ior dX9_learns_294)) <|
  xw_cons (xw_E xn_ast (xo_iast hG xk_hB rfl dX9_learns_295)) <|
  xw_cons (xw_E xn_iload (xo_iload dX9_learns_296)) <|
  xw_cons (xw_E xn_if (xo_if_eq dX9_learns_298 (by decide))) <|
  xw_cons (xw_E xn_aload (xo_aload_n dX9_learns_301 rfl)) <|
  xw_cons (xw_E xn_getf (xo_getf hG xg_27_132 dX9_learns_302)) <|
  xw_cons (xw_E xn_iload (xo_iload dX9_learns_305)) <|
  xw_cons (xw_E xn_ald (xo_iald xk_hB dX9_learns_307)) <|
  xw_cons (xw_E xn_push (xo_iconst dX9_learns_308 (by decide))) <|
  xw_cons (xw_E xn_icmp (xo_icmp_ge dX9_learns_309 (by decide))) <|
  xw_cons (xw_E xn_push (xo_iconst dX9_learns_312 (by decide))) <|
  xw_cons (xw_E xn_goto (xo_goto dX9_learns_313 (by decide))) <|
  xw_cons (xw_E xn_push (xo_iconst dX9_learns_316 (by decide))) <|
  xw_cons (xw_E xn_istore (xo_istore dX9_learns_317)) <|
  xw_cons (xw_E xn_iinc (xo_iinc dX9_learns_319 (by decide))) <|
  xw_cons (xw_E xn_goto (xo_goto dX9_learns_322 (by decide))) <|
  xw_cons (xw_E xn_iload (xo_iload dX9_learns_325)) <|
  xw_cons (xw_E xn_if (xo_if_eq dX9_learns_327 (by decide))) <|
  xw_cons (xw_E xn_push (xo_iconst dX9_learns_330 (by decide))) <|
  xw_cons (xw_E xn_goto (xo_goto dX9_learns_331 (by decide))) <|
  xw_cons (xw_E xn_push (xo_iconst dX9_learns_334 (by decide))) <|
  xw_cons (xw_R (xt_i dX9_learns_335)) <|
  xw_nil _
def xp_211 : List (Nat × xm_O) := xp_211_0 ++ xp_211_1 ++ xp_211_2 ++ xp_211_3
theorem xq_211 {G : xm_G} (hG : xm_W xk_B G) (hO : xm_Og G) : ∀ q ∈ xp_211, xm_op xk_B G xd xk_N "LiarsCockModel" "learns" prog_28_method_74_code 11 (some (FieldType.int)) q.1 q.2 := xw_app (xw_app (xw_app (xq_211_0 hG hO) (xq_211_1 hG hO)) (xq_211_2 hG hO)) (xq_211_3 hG hO)
/- 212: LiarsCockModel.judged()I -/
def xp_212_0 : List (Nat × xm_O) := [
  (0, .inl (xe_aload 0 1)),
  (1, .inl (xe_push (.int 0) 2)),
  (2, .inl (xe_putf 300 0 (xj_1 8 0) 5)),
  (5, .inl (xe_aload 0 6)),
  (6, .inl (xe_push (.int 0) 7)),
  (7, .inr (.inr (.inl (xc_V (xj_1 8 182) [0])))),
  (10, .inl (xe_push (.int 0) 11)),
  (11, .inl (xe_istore 1 12)),
  (12, .inl (xe_iload 1 13)),
  (13, .inl (xe_aload 0 14)),
  (14, .inl (xe_getf (xj_1 8 42) 17)),
  (17, .inl (xe_icmp (fun x y => decide (y ≤ x)) 40 20)),
  (20, .inl (xe_aload 0 21)),
  (21, .inl (xe_iload 1 22)),
  (22, .inl (xe_aload 0 23)),
  (23, .inl (xe_getf (xj_1 8 44) 26)),
  (26, .inr (.inr (.inl (xc_V (xj_1 8 189) [0, 0])))),
  (29, .inl (xe_if (fun x => decide (¬ x = 0)) 34 32)),
  (32, .inl (xe_iload 1 33)),
  (33, .inr (.inl xr_i)),
  (34, .inl (xe_iinc 1 1 37)),
  (37, .inl (xe_goto 12)),
  (40, .inl (xe_push (.int (-1)) 41)),
  (41, .inr (.inl xr_i))]
theorem xq_212_0 {G : xm_G} (hG : xm_W xk_B G) (hO : xm_Og G) : ∀ q ∈ xp_212_0, xm_op xk_B G xd xk_N "LiarsCockModel" "judged" prog_28_method_75_code 2 (some (FieldType.int)) q.1 q.2 :=
  xw_cons (xw_E xn_aload (xo_aload_n dX9_judged_0 rfl)) <|
  xw_cons (xw_E xn_push (xo_iconst dX9_judged_1 (by decide))) <|
  xw_cons (xw_E xn_putf (xo_putf hG rfl xu_27_162 dX9_judged_2)) <|
  xw_cons (xw_E xn_aload (xo_aload_n dX9_judged_5 rfl)) <|
  xw_cons (xw_E xn_push (xo_iconst dX9_judged_6 (by decide))) <|
  xw_cons (xl_v_27_374 hG dX9_judged_7) <|
  xw_cons (xw_E xn_push (xo_iconst dX9_judged_10 (by decide))) <|
  xw_cons (xw_E xn_istore (xo_istore_n dX9_judged_11 rfl)) <|
  xw_cons (xw_E xn_iload (xo_iload_n dX9_judged_12 rfl)) <|
  xw_cons (xw_E xn_aload (xo_aload_n dX9_judged_13 rfl)) <|
  xw_cons (xw_E xn_getf (xo_getf hG xg_27_328 dX9_judged_14)) <|
  xw_cons (xw_E xn_icmp (xo_icmp_ge dX9_judged_17 (by decide))) <|
  xw_cons (xw_E xn_aload (xo_aload_n dX9_judged_20 rfl)) <|
  xw_cons (xw_E xn_iload (xo_iload_n dX9_judged_21 rfl)) <|
  xw_cons (xw_E xn_aload (xo_aload_n dX9_judged_22 rfl)) <|
  xw_cons (xw_E xn_getf (xo_getf hG xg_27_334 dX9_judged_23)) <|
  xw_cons (xl_v_27_386 hG dX9_judged_26) <|
  xw_cons (xw_E xn_if (xo_if_ne dX9_judged_29 (by decide))) <|
  xw_cons (xw_E xn_iload (xo_iload_n dX9_judged_32 rfl)) <|
  xw_cons (xw_R (xt_i dX9_judged_33)) <|
  xw_cons (xw_E xn_iinc (xo_iinc dX9_judged_34 (by decide))) <|
  xw_cons (xw_E xn_goto (xo_goto dX9_judged_37 (by decide))) <|
  xw_cons (xw_E xn_push (xo_iconst dX9_judged_40 (by decide))) <|
  xw_cons (xw_R (xt_i dX9_judged_41)) <|
  xw_nil _
def xp_212 : List (Nat × xm_O) := xp_212_0
theorem xq_212 {G : xm_G} (hG : xm_W xk_B G) (hO : xm_Og G) : ∀ q ∈ xp_212, xm_op xk_B G xd xk_N "LiarsCockModel" "judged" prog_28_method_75_code 2 (some (FieldType.int)) q.1 q.2 := xq_212_0 hG hO
/- 213: LiarsCockModel.turned(II)I -/
def xp_213_0 : List (Nat × xm_O) := [
  (0, .inl (xe_aload 0 1)),
  (1, .inl (xe_push (.int 0) 2)),
  (2, .inl (xe_putf 300 0 (xj_1 8 0) 5)),
  (5, .inl (xe_aload 0 6)),
  (6, .inl (xe_iload 1 7)),
  (7, .inr (.inr (.inl (xc_V (xj_1 8 181) [0])))),
  (10, .inl (xe_if (fun x => decide (x = 0)) 20 13)),
  (13, .inl (xe_iload 2 14)),
  (14, .inr (.inr (.inl (xc_S 171 [0])))),
  (17, .inl (xe_if (fun x => decide (¬ x = 0)) 22 20)),
  (20, .inl (xe_push (.int (-1)) 21)),
  (21, .inr (.inl xr_i)),
  (22, .inl (xe_aload 0 23)),
  (23, .inl (xe_push (.int 0) 24)),
  (24, .inr (.inr (.inl (xc_V (xj_1 8 182) [0])))),
  (27, .inl (xe_push (.int 0) 28)),
  (28, .inl (xe_istore 3 29)),
  (29, .inl (xe_push (.int (-1)) 30)),
  (30, .inl (xe_istore 4 32)),
  (32, .inl (xe_push (.int 0) 33)),
  (33, .inl (xe_istore 5 35)),
  (35, .inl (xe_iload 5 37)),
  (37, .inl (xe_iload 2 38)),
  (38, .inl (xe_icmp (fun x y => decide (y < x)) 79 41)),
  (41, .inl (xe_aload 0 42)),
  (42, .inl (xe_iload 1 43)),
  (43, .inl (xe_iload 5 45)),
  (45, .inl (xe_aload 0 46)),
  (46, .inl (xe_getf (xj_1 8 44) 49)),
  (49, .inr (.inr (.inl (xc_V (xj_1 8 184) [0, 0, 0])))),
  (52, .inl (xe_istore 6 54)),
  (54, .inl (xe_iload 3 55)),
  (55, .inl (xe_iload 6 57)),
  (57, .inl (xe_iload 4 59)),
  (59, .inl (xe_icmp (fun x y => decide (x = y)) 66 62)),
  (62, .inl (xe_push (.int 1) 63)),
  (63, .inl (xe_goto 67)),
  (66, .inl (xe_push (.int 0) 67)),
  (67, .inl (xe_ii (fun x y => x + y) 68)),
  (68, .inl (xe_istore 3 69)),
  (69, .inl (xe_iload 6 71)),
  (71, .inl (xe_istore 4 73)),
  (73, .inl (xe_iinc 5 1 76)),
  (76, .inl (xe_goto 35)),
  (79, .inl (xe_iload 3 80)),
  (80, .inr (.inl xr_i))]
theorem xq_213_0 {G : xm_G} (hG : xm_W xk_B G) (hO : xm_Og G) : ∀ q ∈ xp_213_0, xm_op xk_B G xd xk_N "LiarsCockModel" "turned" prog_28_method_76_code 7 (some (FieldType.int)) q.1 q.2 :=
  xw_cons (xw_E xn_aload (xo_aload_n dX9_turned_0 rfl)) <|
  xw_cons (xw_E xn_push (xo_iconst dX9_turned_1 (by decide))) <|
  xw_cons (xw_E xn_putf (xo_putf hG rfl xu_27_162 dX9_turned_2)) <|
  xw_cons (xw_E xn_aload (xo_aload_n dX9_turned_5 rfl)) <|
  xw_cons (xw_E xn_iload (xo_iload_n dX9_turned_6 rfl)) <|
  xw_cons (xl_v_27_371 hG dX9_turned_7) <|
  xw_cons (xw_E xn_if (xo_if_eq dX9_turned_10 (by decide))) <|
  xw_cons (xw_E xn_iload (xo_iload_n dX9_turned_13 rfl)) <|
  xw_cons (xl_s_27_340 hG dX9_turned_14) <|
  xw_cons (xw_E xn_if (xo_if_ne dX9_turned_17 (by decide))) <|
  xw_cons (xw_E xn_push (xo_iconst dX9_turned_20 (by decide))) <|
  xw_cons (xw_R (xt_i dX9_turned_21)) <|
  xw_cons (xw_E xn_aload (xo_aload_n dX9_turned_22 rfl)) <|
  xw_cons (xw_E xn_push (xo_iconst dX9_turned_23 (by decide))) <|
  xw_cons (xl_v_27_374 hG dX9_turned_24) <|
  xw_cons (xw_E xn_push (xo_iconst dX9_turned_27 (by decide))) <|
  xw_cons (xw_E xn_istore (xo_istore_n dX9_turned_28 rfl)) <|
  xw_cons (xw_E xn_push (xo_iconst dX9_turned_29 (by decide))) <|
  xw_cons (xw_E xn_istore (xo_istore dX9_turned_30)) <|
  xw_cons (xw_E xn_push (xo_iconst dX9_turned_32 (by decide))) <|
  xw_cons (xw_E xn_istore (xo_istore dX9_turned_33)) <|
  xw_cons (xw_E xn_iload (xo_iload dX9_turned_35)) <|
  xw_cons (xw_E xn_iload (xo_iload_n dX9_turned_37 rfl)) <|
  xw_cons (xw_E xn_icmp (xo_icmp_gt dX9_turned_38 (by decide))) <|
  xw_cons (xw_E xn_aload (xo_aload_n dX9_turned_41 rfl)) <|
  xw_cons (xw_E xn_iload (xo_iload_n dX9_turned_42 rfl)) <|
  xw_cons (xw_E xn_iload (xo_iload dX9_turned_43)) <|
  xw_cons (xw_E xn_aload (xo_aload_n dX9_turned_45 rfl)) <|
  xw_cons (xw_E xn_getf (xo_getf hG xg_27_334 dX9_turned_46)) <|
  xw_cons (xl_v_27_368 hG dX9_turned_49) <|
  xw_cons (xw_E xn_istore (xo_istore dX9_turned_52)) <|
  xw_cons (xw_E xn_iload (xo_iload_n dX9_turned_54 rfl)) <|
  xw_cons (xw_E xn_iload (xo_iload dX9_turned_55)) <|
  xw_cons (xw_E xn_iload (xo_iload dX9_turned_57)) <|
  xw_cons (xw_E xn_icmp (xo_icmp_eq dX9_turned_59 (by decide))) <|
  xw_cons (xw_E xn_push (xo_iconst dX9_turned_62 (by decide))) <|
  xw_cons (xw_E xn_goto (xo_goto dX9_turned_63 (by decide))) <|
  xw_cons (xw_E xn_push (xo_iconst dX9_turned_66 (by decide))) <|
  xw_cons (xw_E xn_ii (xo_iadd dX9_turned_67)) <|
  xw_cons (xw_E xn_istore (xo_istore_n dX9_turned_68 rfl)) <|
  xw_cons (xw_E xn_iload (xo_iload dX9_turned_69)) <|
  xw_cons (xw_E xn_istore (xo_istore dX9_turned_71)) <|
  xw_cons (xw_E xn_iinc (xo_iinc dX9_turned_73 (by decide))) <|
  xw_cons (xw_E xn_goto (xo_goto dX9_turned_76 (by decide))) <|
  xw_cons (xw_E xn_iload (xo_iload_n dX9_turned_79 rfl)) <|
  xw_cons (xw_R (xt_i dX9_turned_80)) <|
  xw_nil _
def xp_213 : List (Nat × xm_O) := xp_213_0
theorem xq_213 {G : xm_G} (hG : xm_W xk_B G) (hO : xm_Og G) : ∀ q ∈ xp_213, xm_op xk_B G xd xk_N "LiarsCockModel" "turned" prog_28_method_76_code 7 (some (FieldType.int)) q.1 q.2 := xq_213_0 hG hO
/- 214: LiarsCockModel.pointed(IIII)I -/
def xp_214_0 : List (Nat × xm_O) := [
  (0, .inl (xe_aload 0 1)),
  (1, .inl (xe_push (.int 0) 2)),
  (2, .inl (xe_putf 300 0 (xj_1 8 0) 5)),
  (5, .inl (xe_aload 0 6)),
  (6, .inl (xe_iload 1 7)),
  (7, .inl (xe_iload 3 8)),
  (8, .inl (xe_iload 4 10)),
  (10, .inr (.inr (.inl (xc_V (xj_1 8 207) [0, 0, 0])))),
  (13, .inl (xe_if (fun x => decide (x = 0)) 29 16)),
  (16, .inl (xe_iload 2 17)),
  (17, .inl (xe_push (.int (-1)) 18)),
  (18, .inl (xe_icmp (fun x y => decide (x = y)) 31 21)),
  (21, .inl (xe_aload 0 22)),
  (22, .inl (xe_iload 2 23)),
  (23, .inr (.inr (.inl (xc_V (xj_1 8 170) [0])))),
  (26, .inl (xe_if (fun x => decide (¬ x = 0)) 31 29)),
  (29, .inl (xe_push (.int (-1)) 30)),
  (30, .inr (.inl xr_i)),
  (31, .inl (xe_aload 0 32)),
  (32, .inl (xe_push (.int 0) 33)),
  (33, .inr (.inr (.inl (xc_V (xj_1 8 182) [0])))),
  (36, .inl (xe_push (.int 0) 37)),
  (37, .inl (xe_istore 5 39)),
  (39, .inl (xe_iload 3 40)),
  (40, .inl (xe_istore 6 42)),
  (42, .inl (xe_iload 6 44)),
  (44, .inl (xe_iload 4 46)),
  (46, .inl (xe_icmp (fun x y => decide (y < x)) 80 49)),
  (49, .inl (xe_iload 5 51)),
  (51, .inl (xe_aload 0 52)),
  (52, .inl (xe_iload 1 53)),
  (53, .inl (xe_iload 6 55)),
  (55, .inl (xe_aload 0 56)),
  (56, .inl (xe_getf (xj_1 8 44) 59)),
  (59, .inr (.inr (.inl (xc_V (xj_1 8 184) [0, 0, 0])))),
  (62, .inl (xe_iload 2 63)),
  (63, .inl (xe_icmp (fun x y => decide (¬ x = y)) 70 66)),
  (66, .inl (xe_push (.int 1) 67)),
  (67, .inl (xe_goto 71)),
  (70, .inl (xe_push (.int 0) 71)),
  (71, .inl (xe_ii (fun x y => x + y) 72)),
  (72, .inl (xe_istore 5 74)),
  (74, .inl (xe_iinc 6 1 77)),
  (77, .inl (xe_goto 42)),
  (80, .inl (xe_iload 5 82)),
  (82, .inr (.inl xr_i))]
theorem xq_214_0 {G : xm_G} (hG : xm_W xk_B G) (hO : xm_Og G) : ∀ q ∈ xp_214_0, xm_op xk_B G xd xk_N "LiarsCockModel" "pointed" prog_28_method_77_code 7 (some (FieldType.int)) q.1 q.2 :=
  xw_cons (xw_E xn_aload (xo_aload_n dX9_pointed_0 rfl)) <|
  xw_cons (xw_E xn_push (xo_iconst dX9_pointed_1 (by decide))) <|
  xw_cons (xw_E xn_putf (xo_putf hG rfl xu_27_162 dX9_pointed_2)) <|
  xw_cons (xw_E xn_aload (xo_aload_n dX9_pointed_5 rfl)) <|
  xw_cons (xw_E xn_iload (xo_iload_n dX9_pointed_6 rfl)) <|
  xw_cons (xw_E xn_iload (xo_iload_n dX9_pointed_7 rfl)) <|
  xw_cons (xw_E xn_iload (xo_iload dX9_pointed_8)) <|
  xw_cons (xl_v_27_426 hG dX9_pointed_10) <|
  xw_cons (xw_E xn_if (xo_if_eq dX9_pointed_13 (by decide))) <|
  xw_cons (xw_E xn_iload (xo_iload_n dX9_pointed_16 rfl)) <|
  xw_cons (xw_E xn_push (xo_iconst dX9_pointed_17 (by decide))) <|
  xw_cons (xw_E xn_icmp (xo_icmp_eq dX9_pointed_18 (by decide))) <|
  xw_cons (xw_E xn_aload (xo_aload_n dX9_pointed_21 rfl)) <|
  xw_cons (xw_E xn_iload (xo_iload_n dX9_pointed_22 rfl)) <|
  xw_cons (xl_v_27_337 hG dX9_pointed_23) <|
  xw_cons (xw_E xn_if (xo_if_ne dX9_pointed_26 (by decide))) <|
  xw_cons (xw_E xn_push (xo_iconst dX9_pointed_29 (by decide))) <|
  xw_cons (xw_R (xt_i dX9_pointed_30)) <|
  xw_cons (xw_E xn_aload (xo_aload_n dX9_pointed_31 rfl)) <|
  xw_cons (xw_E xn_push (xo_iconst dX9_pointed_32 (by decide))) <|
  xw_cons (xl_v_27_374 hG dX9_pointed_33) <|
  xw_cons (xw_E xn_push (xo_iconst dX9_pointed_36 (by decide))) <|
  xw_cons (xw_E xn_istore (xo_istore dX9_pointed_37)) <|
  xw_cons (xw_E xn_iload (xo_iload_n dX9_pointed_39 rfl)) <|
  xw_cons (xw_E xn_istore (xo_istore dX9_pointed_40)) <|
  xw_cons (xw_E xn_iload (xo_iload dX9_pointed_42)) <|
  xw_cons (xw_E xn_iload (xo_iload dX9_pointed_44)) <|
  xw_cons (xw_E xn_icmp (xo_icmp_gt dX9_pointed_46 (by decide))) <|
  xw_cons (xw_E xn_iload (xo_iload dX9_pointed_49)) <|
  xw_cons (xw_E xn_aload (xo_aload_n dX9_pointed_51 rfl)) <|
  xw_cons (xw_E xn_iload (xo_iload_n dX9_pointed_52 rfl)) <|
  xw_cons (xw_E xn_iload (xo_iload dX9_pointed_53)) <|
  xw_cons (xw_E xn_aload (xo_aload_n dX9_pointed_55 rfl)) <|
  xw_cons (xw_E xn_getf (xo_getf hG xg_27_334 dX9_pointed_56)) <|
  xw_cons (xl_v_27_368 hG dX9_pointed_59) <|
  xw_cons (xw_E xn_iload (xo_iload_n dX9_pointed_62 rfl)) <|
  xw_cons (xw_E xn_icmp (xo_icmp_ne dX9_pointed_63 (by decide))) <|
  xw_cons (xw_E xn_push (xo_iconst dX9_pointed_66 (by decide))) <|
  xw_cons (xw_E xn_goto (xo_goto dX9_pointed_67 (by decide))) <|
  xw_cons (xw_E xn_push (xo_iconst dX9_pointed_70 (by decide))) <|
  xw_cons (xw_E xn_ii (xo_iadd dX9_pointed_71)) <|
  xw_cons (xw_E xn_istore (xo_istore dX9_pointed_72)) <|
  xw_cons (xw_E xn_iinc (xo_iinc dX9_pointed_74 (by decide))) <|
  xw_cons (xw_E xn_goto (xo_goto dX9_pointed_77 (by decide))) <|
  xw_cons (xw_E xn_iload (xo_iload dX9_pointed_80)) <|
  xw_cons (xw_R (xt_i dX9_pointed_82)) <|
  xw_nil _
def xp_214 : List (Nat × xm_O) := xp_214_0
theorem xq_214 {G : xm_G} (hG : xm_W xk_B G) (hO : xm_Og G) : ∀ q ∈ xp_214, xm_op xk_B G xd xk_N "LiarsCockModel" "pointed" prog_28_method_77_code 7 (some (FieldType.int)) q.1 q.2 := xq_214_0 hG hO
/- 215: LiarsCockModel.round(II)I -/
def xp_215_0 : List (Nat × xm_O) := [
  (0, .inl (xe_aload 0 1)),
  (1, .inl (xe_push (.int 0) 2)),
  (2, .inl (xe_putf 300 0 (xj_1 8 0) 5)),
  (5, .inl (xe_aload 0 6)),
  (6, .inl (xe_iload 1 7)),
  (7, .inr (.inr (.inl (xc_V (xj_1 8 181) [0])))),
  (10, .inl (xe_if (fun x => decide (x = 0)) 20 13)),
  (13, .inl (xe_iload 2 14)),
  (14, .inr (.inr (.inl (xc_S 171 [0])))),
  (17, .inl (xe_if (fun x => decide (¬ x = 0)) 22 20)),
  (20, .inl (xe_push (.int (-1)) 21)),
  (21, .inr (.inl xr_i)),
  (22, .inl (xe_aload 0 23)),
  (23, .inl (xe_push (.int 0) 24)),
  (24, .inr (.inr (.inl (xc_V (xj_1 8 182) [0])))),
  (27, .inl (xe_push (.int 0) 28)),
  (28, .inl (xe_istore 3 29)),
  (29, .inl (xe_push (.int 0) 30)),
  (30, .inl (xe_istore 4 32)),
  (32, .inl (xe_push (.int 0) 33)),
  (33, .inl (xe_istore 5 35)),
  (35, .inl (xe_iload 5 37)),
  (37, .inl (xe_iload 2 38)),
  (38, .inl (xe_icmp (fun x y => decide (y < x)) 74 41)),
  (41, .inl (xe_aload 0 42)),
  (42, .inl (xe_iload 1 43)),
  (43, .inl (xe_iload 5 45)),
  (45, .inl (xe_aload 0 46)),
  (46, .inl (xe_getf (xj_1 8 44) 49)),
  (49, .inr (.inr (.inl (xc_V (xj_1 8 190) [0, 0, 0])))),
  (52, .inl (xe_istore 6 54)),
  (54, .inl (xe_iload 3 55)),
  (55, .inl (xe_iload 6 57)),
  (57, .inl (xe_iload 4 59)),
  (59, .inr (.inr (.inl (xc_S 216 [0, 0])))),
  (62, .inl (xe_ii (fun x y => x + y) 63)),
  (63, .inl (xe_istore 3 64)),
  (64, .inl (xe_iload 6 66)),
  (66, .inl (xe_istore 4 68)),
  (68, .inl (xe_iinc 5 1 71)),
  (71, .inl (xe_goto 35)),
  (74, .inl (xe_iload 3 75)),
  (75, .inr (.inl xr_i))]
theorem xq_215_0 {G : xm_G} (hG : xm_W xk_B G) (hO : xm_Og G) : ∀ q ∈ xp_215_0, xm_op xk_B G xd xk_N "LiarsCockModel" "round" prog_28_method_79_code 7 (some (FieldType.int)) q.1 q.2 :=
  xw_cons (xw_E xn_aload (xo_aload_n dX9_round_0 rfl)) <|
  xw_cons (xw_E xn_push (xo_iconst dX9_round_1 (by decide))) <|
  xw_cons (xw_E xn_putf (xo_putf hG rfl xu_27_162 dX9_round_2)) <|
  xw_cons (xw_E xn_aload (xo_aload_n dX9_round_5 rfl)) <|
  xw_cons (xw_E xn_iload (xo_iload_n dX9_round_6 rfl)) <|
  xw_cons (xl_v_27_371 hG dX9_round_7) <|
  xw_cons (xw_E xn_if (xo_if_eq dX9_round_10 (by decide))) <|
  xw_cons (xw_E xn_iload (xo_iload_n dX9_round_13 rfl)) <|
  xw_cons (xl_s_27_340 hG dX9_round_14) <|
  xw_cons (xw_E xn_if (xo_if_ne dX9_round_17 (by decide))) <|
  xw_cons (xw_E xn_push (xo_iconst dX9_round_20 (by decide))) <|
  xw_cons (xw_R (xt_i dX9_round_21)) <|
  xw_cons (xw_E xn_aload (xo_aload_n dX9_round_22 rfl)) <|
  xw_cons (xw_E xn_push (xo_iconst dX9_round_23 (by decide))) <|
  xw_cons (xl_v_27_374 hG dX9_round_24) <|
  xw_cons (xw_E xn_push (xo_iconst dX9_round_27 (by decide))) <|
  xw_cons (xw_E xn_istore (xo_istore_n dX9_round_28 rfl)) <|
  xw_cons (xw_E xn_push (xo_iconst dX9_round_29 (by decide))) <|
  xw_cons (xw_E xn_istore (xo_istore dX9_round_30)) <|
  xw_cons (xw_E xn_push (xo_iconst dX9_round_32 (by decide))) <|
  xw_cons (xw_E xn_istore (xo_istore dX9_round_33)) <|
  xw_cons (xw_E xn_iload (xo_iload dX9_round_35)) <|
  xw_cons (xw_E xn_iload (xo_iload_n dX9_round_37 rfl)) <|
  xw_cons (xw_E xn_icmp (xo_icmp_gt dX9_round_38 (by decide))) <|
  xw_cons (xw_E xn_aload (xo_aload_n dX9_round_41 rfl)) <|
  xw_cons (xw_E xn_iload (xo_iload_n dX9_round_42 rfl)) <|
  xw_cons (xw_E xn_iload (xo_iload dX9_round_43)) <|
  xw_cons (xw_E xn_aload (xo_aload_n dX9_round_45 rfl)) <|
  xw_cons (xw_E xn_getf (xo_getf hG xg_27_334 dX9_round_46)) <|
  xw_cons (xl_v_27_380 hG dX9_round_49) <|
  xw_cons (xw_E xn_istore (xo_istore dX9_round_52)) <|
  xw_cons (xw_E xn_iload (xo_iload_n dX9_round_54 rfl)) <|
  xw_cons (xw_E xn_iload (xo_iload dX9_round_55)) <|
  xw_cons (xw_E xn_iload (xo_iload dX9_round_57)) <|
  xw_cons (xl_s_27_439 hG dX9_round_59) <|
  xw_cons (xw_E xn_ii (xo_iadd dX9_round_62)) <|
  xw_cons (xw_E xn_istore (xo_istore_n dX9_round_63 rfl)) <|
  xw_cons (xw_E xn_iload (xo_iload dX9_round_64)) <|
  xw_cons (xw_E xn_istore (xo_istore dX9_round_66)) <|
  xw_cons (xw_E xn_iinc (xo_iinc dX9_round_68 (by decide))) <|
  xw_cons (xw_E xn_goto (xo_goto dX9_round_71 (by decide))) <|
  xw_cons (xw_E xn_iload (xo_iload_n dX9_round_74 rfl)) <|
  xw_cons (xw_R (xt_i dX9_round_75)) <|
  xw_nil _
def xp_215 : List (Nat × xm_O) := xp_215_0
theorem xq_215 {G : xm_G} (hG : xm_W xk_B G) (hO : xm_Og G) : ∀ q ∈ xp_215, xm_op xk_B G xd xk_N "LiarsCockModel" "round" prog_28_method_79_code 7 (some (FieldType.int)) q.1 q.2 := xq_215_0 hG hO
/- 216: LiarsCockModel.apart(II)I -/
def xp_216_0 : List (Nat × xm_O) := [
  (0, .inl (xe_iload 0 1)),
  (1, .inl (xe_iload 1 2)),
  (2, .inl (xe_icmp (fun x y => decide (y ≤ x)) 11 5)),
  (5, .inl (xe_iload 1 6)),
  (6, .inl (xe_iload 0 7)),
  (7, .inl (xe_ii (fun x y => x - y) 8)),
  (8, .inl (xe_goto 14)),
  (11, .inl (xe_iload 0 12)),
  (12, .inl (xe_iload 1 13)),
  (13, .inl (xe_ii (fun x y => x - y) 14)),
  (14, .inl (xe_istore 2 15)),
  (15, .inl (xe_iload 2 16)),
  (16, .inl (xe_push (.int 360) 19)),
  (19, .inl (xe_iload 2 20)),
  (20, .inl (xe_ii (fun x y => x - y) 21)),
  (21, .inr (.inr (.inl (xc_S 302 [0, 0])))),
  (24, .inr (.inl xr_i))]
theorem xq_216_0 {G : xm_G} (hG : xm_W xk_B G) (hO : xm_Og G) : ∀ q ∈ xp_216_0, xm_op xk_B G xd xk_N "LiarsCockModel" "apart" prog_28_method_78_code 3 (some (FieldType.int)) q.1 q.2 :=
  xw_cons (xw_E xn_iload (xo_iload_n dX9_apart_0 rfl)) <|
  xw_cons (xw_E xn_iload (xo_iload_n dX9_apart_1 rfl)) <|
  xw_cons (xw_E xn_icmp (xo_icmp_ge dX9_apart_2 (by decide))) <|
  xw_cons (xw_E xn_iload (xo_iload_n dX9_apart_5 rfl)) <|
  xw_cons (xw_E xn_iload (xo_iload_n dX9_apart_6 rfl)) <|
  xw_cons (xw_E xn_ii (xo_isub dX9_apart_7)) <|
  xw_cons (xw_E xn_goto (xo_goto dX9_apart_8 (by decide))) <|
  xw_cons (xw_E xn_iload (xo_iload_n dX9_apart_11 rfl)) <|
  xw_cons (xw_E xn_iload (xo_iload_n dX9_apart_12 rfl)) <|
  xw_cons (xw_E xn_ii (xo_isub dX9_apart_13)) <|
  xw_cons (xw_E xn_istore (xo_istore_n dX9_apart_14 rfl)) <|
  xw_cons (xw_E xn_iload (xo_iload_n dX9_apart_15 rfl)) <|
  xw_cons (xw_E xn_push (xo_sipush dX9_apart_16 (by decide))) <|
  xw_cons (xw_E xn_iload (xo_iload_n dX9_apart_19 rfl)) <|
  xw_cons (xw_E xn_ii (xo_isub dX9_apart_20)) <|
  xw_cons (xl_s_27_436 hG dX9_apart_21) <|
  xw_cons (xw_R (xt_i dX9_apart_24)) <|
  xw_nil _
def xp_216 : List (Nat × xm_O) := xp_216_0
theorem xq_216 {G : xm_G} (hG : xm_W xk_B G) (hO : xm_Og G) : ∀ q ∈ xp_216, xm_op xk_B G xd xk_N "LiarsCockModel" "apart" prog_28_method_78_code 3 (some (FieldType.int)) q.1 q.2 := xq_216_0 hG hO
/- 217: LiarsCockModel.watch(II)I -/
def xp_217_0 : List (Nat × xm_O) := [
  (0, .inl (xe_aload 0 1)),
  (1, .inl (xe_push (.int 0) 2)),
  (2, .inl (xe_putf 300 0 (xj_1 8 0) 5)),
  (5, .inl (xe_aload 0 6)),
  (6, .inl (xe_iload 1 7)),
  (7, .inr (.inr (.inl (xc_V (xj_1 8 181) [0])))),
  (10, .inl (xe_if (fun x => decide (x = 0)) 28 13)),
  (13, .inl (xe_iload 2 14)),
  (14, .inr (.inr (.inl (xc_S 171 [0])))),
  (17, .inl (xe_if (fun x => decide (x = 0)) 28 20)),
  (20, .inl (xe_aload 0 21)),
  (21, .inl (xe_getf (xj_1 8 43) 24)),
  (24, .inl (xe_push (.int 4) 25)),
  (25, .inl (xe_icmp (fun x y => decide (¬ x = y)) 30 28)),
  (28, .inl (xe_push (.int (-1)) 29)),
  (29, .inr (.inl xr_i)),
  (30, .inl (xe_aload 0 31)),
  (31, .inl (xe_getf (xj_1 8 59) 34)),
  (34, .inl (xe_aload 0 35)),
  (35, .inl (xe_getf (xj_1 8 43) 38)),
  (38, .inl (xe_iload 1 39)),
  (39, .inl (xe_ast 300 0 (xm_kd 0) 40)),
  (40, .inl (xe_aload 0 41)),
  (41, .inl (xe_getf (xj_1 8 60) 44)),
  (44, .inl (xe_aload 0 45)),
  (45, .inl (xe_getf (xj_1 8 43) 48)),
  (48, .inl (xe_iload 2 49)),
  (49, .inl (xe_ast 300 0 (xm_kd 0) 50)),
  (50, .inl (xe_aload 0 51)),
  (51, .inl (xe_dup 52)),
  (52, .inl (xe_getf (xj_1 8 43) 55)),
  (55, .inl (xe_push (.int 1) 56)),
  (56, .inl (xe_ii (fun x y => x + y) 57)),
  (57, .inl (xe_putf 300 0 (xj_1 8 43) 60)),
  (60, .inl (xe_aload 0 61)),
  (61, .inl (xe_getf (xj_1 8 43) 64)),
  (64, .inl (xe_push (.int 1) 65)),
  (65, .inl (xe_ii (fun x y => x - y) 66)),
  (66, .inr (.inl xr_i))]
theorem xq_217_0 {G : xm_G} (hG : xm_W xk_B G) (hO : xm_Og G) : ∀ q ∈ xp_217_0, xm_op xk_B G xd xk_N "LiarsCockModel" "watch" prog_28_method_80_code 3 (some (FieldType.int)) q.1 q.2 :=
  xw_cons (xw_E xn_aload (xo_aload_n dX9_watch_0 rfl)) <|
  xw_cons (xw_E xn_push (xo_iconst dX9_watch_1 (by decide))) <|
  xw_cons (xw_E xn_putf (xo_putf hG rfl xu_27_162 dX9_watch_2)) <|
  xw_cons (xw_E xn_aload (xo_aload_n dX9_watch_5 rfl)) <|
  xw_cons (xw_E xn_iload (xo_iload_n dX9_watch_6 rfl)) <|
  xw_cons (xl_v_27_371 hG dX9_watch_7) <|
  xw_cons (xw_E xn_if (xo_if_eq dX9_watch_10 (by decide))) <|
  xw_cons (xw_E xn_iload (xo_iload_n dX9_watch_13 rfl)) <|
  xw_cons (xl_s_27_340 hG dX9_watch_14) <|
  xw_cons (xw_E xn_if (xo_if_eq dX9_watch_17 (by decide))) <|
  xw_cons (xw_E xn_aload (xo_aload_n dX9_watch_20 rfl)) <|
  xw_cons (xw_E xn_getf (xo_getf hG xg_27_331 dX9_watch_21)) <|
  xw_cons (xw_E xn_push (xo_iconst dX9_watch_24 (by decide))) <|
  xw_cons (xw_E xn_icmp (xo_icmp_ne dX9_watch_25 (by decide))) <|
  xw_cons (xw_E xn_push (xo_iconst dX9_watch_28 (by decide))) <|
  xw_cons (xw_R (xt_i dX9_watch_29)) <|
  xw_cons (xw_E xn_aload (xo_aload_n dX9_watch_30 rfl)) <|
  xw_cons (xw_E xn_getf (xo_getf hG xg_27_135 dX9_watch_31)) <|
  xw_cons (xw_E xn_aload (xo_aload_n dX9_watch_34 rfl)) <|
  xw_cons (xw_E xn_getf (xo_getf hG xg_27_331 dX9_watch_35)) <|
  xw_cons (xw_E xn_iload (xo_iload_n dX9_watch_38 rfl)) <|
  xw_cons (xw_E xn_ast (xo_iast hG xk_hB rfl dX9_watch_39)) <|
  xw_cons (xw_E xn_aload (xo_aload_n dX9_watch_40 rfl)) <|
  xw_cons (xw_E xn_getf (xo_getf hG xg_27_138 dX9_watch_41)) <|
  xw_cons (xw_E xn_aload (xo_aload_n dX9_watch_44 rfl)) <|
  xw_cons (xw_E xn_getf (xo_getf hG xg_27_331 dX9_watch_45)) <|
  xw_cons (xw_E xn_iload (xo_iload_n dX9_watch_48 rfl)) <|
  xw_cons (xw_E xn_ast (xo_iast hG xk_hB rfl dX9_watch_49)) <|
  xw_cons (xw_E xn_aload (xo_aload_n dX9_watch_50 rfl)) <|
  xw_cons (xw_E xn_dup (xo_dup dX9_watch_51)) <|
  xw_cons (xw_E xn_getf (xo_getf hG xg_27_331 dX9_watch_52)) <|
  xw_cons (xw_E xn_push (xo_iconst dX9_watch_55 (by decide))) <|
  xw_cons (xw_E xn_ii (xo_iadd dX9_watch_56)) <|
  xw_cons (xw_E xn_putf (xo_putf hG rfl xu_27_331 dX9_watch_57)) <|
  xw_cons (xw_E xn_aload (xo_aload_n dX9_watch_60 rfl)) <|
  xw_cons (xw_E xn_getf (xo_getf hG xg_27_331 dX9_watch_61)) <|
  xw_cons (xw_E xn_push (xo_iconst dX9_watch_64 (by decide))) <|
  xw_cons (xw_E xn_ii (xo_isub dX9_watch_65)) <|
  xw_cons (xw_R (xt_i dX9_watch_66)) <|
  xw_nil _
def xp_217 : List (Nat × xm_O) := xp_217_0
theorem xq_217 {G : xm_G} (hG : xm_W xk_B G) (hO : xm_Og G) : ∀ q ∈ xp_217, xm_op xk_B G xd xk_N "LiarsCockModel" "watch" prog_28_method_80_code 3 (some (FieldType.int)) q.1 q.2 := xq_217_0 hG hO
/- 218: LiarsCockModel.hidden(II)I -/
def xp_218_0 : List (Nat × xm_O) := [
  (0, .inl (xe_aload 0 1)),
  (1, .inl (xe_push (.int 0) 2)),
  (2, .inl (xe_putf 300 0 (xj_1 8 0) 5)),
  (5, .inl (xe_aload 0 6)),
  (6, .inl (xe_iload 1 7)),
  (7, .inl (xe_aload 0 8)),
  (8, .inl (xe_getf (xj_1 8 16) 11)),
  (11, .inl (xe_push (.int 0) 12)),
  (12, .inl (xe_ald (fun t => t == 0) 13)),
  (13, .inr (.inr (.inl (xc_V (xj_1 8 219) [0, 0])))),
  (16, .inl (xe_if (fun x => decide (x = 0)) 33 19)),
  (19, .inl (xe_iload 2 20)),
  (20, .inl (xe_if (fun x => decide (x < 0)) 33 23)),
  (23, .inl (xe_iload 2 24)),
  (24, .inl (xe_push (.int 1) 25)),
  (25, .inl (xe_aload 0 26)),
  (26, .inl (xe_getf (xj_1 8 41) 29)),
  (29, .inl (xe_ii (fun x y => x <<< (y &&& 31)) 30)),
  (30, .inl (xe_icmp (fun x y => decide (x < y)) 35 33)),
  (33, .inl (xe_push (.int (-1)) 34)),
  (34, .inr (.inl xr_i)),
  (35, .inl (xe_aload 0 36)),
  (36, .inl (xe_iload 1 37)),
  (37, .inl (xe_iload 2 38)),
  (38, .inr (.inr (.inl (xc_V (xj_1 8 220) [0, 0])))),
  (41, .inl (xe_if (fun x => decide (x = 0)) 48 44)),
  (44, .inl (xe_push (.int 1) 45)),
  (45, .inl (xe_goto 49)),
  (48, .inl (xe_push (.int 0) 49)),
  (49, .inr (.inl xr_i))]
theorem xq_218_0 {G : xm_G} (hG : xm_W xk_B G) (hO : xm_Og G) : ∀ q ∈ xp_218_0, xm_op xk_B G xd xk_N "LiarsCockModel" "hidden" prog_28_method_83_code 3 (some (FieldType.int)) q.1 q.2 :=
  xw_cons (xw_E xn_aload (xo_aload_n dX9_hidden_0 rfl)) <|
  xw_cons (xw_E xn_push (xo_iconst dX9_hidden_1 (by decide))) <|
  xw_cons (xw_E xn_putf (xo_putf hG rfl xu_27_162 dX9_hidden_2)) <|
  xw_cons (xw_E xn_aload (xo_aload_n dX9_hidden_5 rfl)) <|
  xw_cons (xw_E xn_iload (xo_iload_n dX9_hidden_6 rfl)) <|
  xw_cons (xw_E xn_aload (xo_aload_n dX9_hidden_7 rfl)) <|
  xw_cons (xw_E xn_getf (xo_getf hG xg_27_32 dX9_hidden_8)) <|
  xw_cons (xw_E xn_push (xo_iconst dX9_hidden_11 (by decide))) <|
  xw_cons (xw_E xn_ald (xo_iald xk_hB dX9_hidden_12)) <|
  xw_cons (xl_v_27_442 hG dX9_hidden_13) <|
  xw_cons (xw_E xn_if (xo_if_eq dX9_hidden_16 (by decide))) <|
  xw_cons (xw_E xn_iload (xo_iload_n dX9_hidden_19 rfl)) <|
  xw_cons (xw_E xn_if (xo_if_lt dX9_hidden_20 (by decide))) <|
  xw_cons (xw_E xn_iload (xo_iload_n dX9_hidden_23 rfl)) <|
  xw_cons (xw_E xn_push (xo_iconst dX9_hidden_24 (by decide))) <|
  xw_cons (xw_E xn_aload (xo_aload_n dX9_hidden_25 rfl)) <|
  xw_cons (xw_E xn_getf (xo_getf hG xg_27_325 dX9_hidden_26)) <|
  xw_cons (xw_E xn_ii (xo_ishl dX9_hidden_29)) <|
  xw_cons (xw_E xn_icmp (xo_icmp_lt dX9_hidden_30 (by decide))) <|
  xw_cons (xw_E xn_push (xo_iconst dX9_hidden_33 (by decide))) <|
  xw_cons (xw_R (xt_i dX9_hidden_34)) <|
  xw_cons (xw_E xn_aload (xo_aload_n dX9_hidden_35 rfl)) <|
  xw_cons (xw_E xn_iload (xo_iload_n dX9_hidden_36 rfl)) <|
  xw_cons (xw_E xn_iload (xo_iload_n dX9_hidden_37 rfl)) <|
  xw_cons (xl_v_27_445 hG dX9_hidden_38) <|
  xw_cons (xw_E xn_if (xo_if_eq dX9_hidden_41 (by decide))) <|
  xw_cons (xw_E xn_push (xo_iconst dX9_hidden_44 (by decide))) <|
  xw_cons (xw_E xn_goto (xo_goto dX9_hidden_45 (by decide))) <|
  xw_cons (xw_E xn_push (xo_iconst dX9_hidden_48 (by decide))) <|
  xw_cons (xw_R (xt_i dX9_hidden_49)) <|
  xw_nil _
def xp_218 : List (Nat × xm_O) := xp_218_0
theorem xq_218 {G : xm_G} (hG : xm_W xk_B G) (hO : xm_Og G) : ∀ q ∈ xp_218, xm_op xk_B G xd xk_N "LiarsCockModel" "hidden" prog_28_method_83_code 3 (some (FieldType.int)) q.1 q.2 := xq_218_0 hG hO
/- 219: LiarsCockModel.isToldLie(II)Z -/
def xp_219_0 : List (Nat × xm_O) := [
  (0, .inl (xe_iload 1 1)),
  (1, .inl (xe_if (fun x => decide (x < 0)) 29 4)),
  (4, .inl (xe_iload 1 5)),
  (5, .inl (xe_aload 0 6)),
  (6, .inl (xe_getf (xj_1 8 40) 9)),
  (9, .inl (xe_icmp (fun x y => decide (y ≤ x)) 29 12)),
  (12, .inl (xe_aload 0 13)),
  (13, .inl (xe_iload 1 14)),
  (14, .inl (xe_iload 2 15)),
  (15, .inl (xe_aload 0 16)),
  (16, .inl (xe_getf (xj_1 8 44) 19)),
  (19, .inr (.inr (.inl (xc_V (xj_1 8 178) [0, 0, 0])))),
  (22, .inl (xe_if (fun x => decide (x = 0)) 29 25)),
  (25, .inl (xe_push (.int 1) 26)),
  (26, .inl (xe_goto 30)),
  (29, .inl (xe_push (.int 0) 30)),
  (30, .inr (.inl xr_z))]
theorem xq_219_0 {G : xm_G} (hG : xm_W xk_B G) (hO : xm_Og G) : ∀ q ∈ xp_219_0, xm_op xk_B G xd xk_N "LiarsCockModel" "isToldLie" prog_28_method_82_code 3 (some (FieldType.boolean)) q.1 q.2 :=
  xw_cons (xw_E xn_iload (xo_iload_n dX9_isToldLie_0 rfl)) <|
  xw_cons (xw_E xn_if (xo_if_lt dX9_isToldLie_1 (by decide))) <|
  xw_cons (xw_E xn_iload (xo_iload_n dX9_isToldLie_4 rfl)) <|
  xw_cons (xw_E xn_aload (xo_aload_n dX9_isToldLie_5 rfl)) <|
  xw_cons (xw_E xn_getf (xo_getf hG xg_27_322 dX9_isToldLie_6)) <|
  xw_cons (xw_E xn_icmp (xo_icmp_ge dX9_isToldLie_9 (by decide))) <|
  xw_cons (xw_E xn_aload (xo_aload_n dX9_isToldLie_12 rfl)) <|
  xw_cons (xw_E xn_iload (xo_iload_n dX9_isToldLie_13 rfl)) <|
  xw_cons (xw_E xn_iload (xo_iload_n dX9_isToldLie_14 rfl)) <|
  xw_cons (xw_E xn_aload (xo_aload_n dX9_isToldLie_15 rfl)) <|
  xw_cons (xw_E xn_getf (xo_getf hG xg_27_334 dX9_isToldLie_16)) <|
  xw_cons (xl_v_27_358 hG dX9_isToldLie_19) <|
  xw_cons (xw_E xn_if (xo_if_eq dX9_isToldLie_22 (by decide))) <|
  xw_cons (xw_E xn_push (xo_iconst dX9_isToldLie_25 (by decide))) <|
  xw_cons (xw_E xn_goto (xo_goto dX9_isToldLie_26 (by decide))) <|
  xw_cons (xw_E xn_push (xo_iconst dX9_isToldLie_29 (by decide))) <|
  xw_cons (xw_R (xt_z dX9_isToldLie_30)) <|
  xw_nil _
def xp_219 : List (Nat × xm_O) := xp_219_0
theorem xq_219 {G : xm_G} (hG : xm_W xk_B G) (hO : xm_Og G) : ∀ q ∈ xp_219, xm_op xk_B G xd xk_N "LiarsCockModel" "isToldLie" prog_28_method_82_code 3 (some (FieldType.boolean)) q.1 q.2 := xq_219_0 hG hO
/- 220: LiarsCockModel.isHidden(II)Z -/
def xp_220_0 : List (Nat × xm_O) := [
  (0, .inl (xe_aload 0 1)),
  (1, .inl (xe_iload 2 2)),
  (2, .inr (.inr (.inl (xc_V (xj_1 8 182) [0])))),
  (5, .inl (xe_push (.int 0) 6)),
  (6, .inl (xe_istore 3 7)),
  (7, .inl (xe_push (.int 0) 8)),
  (8, .inl (xe_istore 4 10)),
  (10, .inl (xe_iload 4 12)),
  (12, .inl (xe_push (.int 1) 13)),
  (13, .inl (xe_aload 0 14)),
  (14, .inl (xe_getf (xj_1 8 10) 17)),
  (17, .inl (xe_push (.int 0) 18)),
  (18, .inl (xe_ald (fun t => t == 0) 19)),
  (19, .inl (xe_ii (fun x y => x <<< (y &&& 31)) 20)),
  (20, .inl (xe_icmp (fun x y => decide (y ≤ x)) 143 23)),
  (23, .inl (xe_aload 0 24)),
  (24, .inl (xe_getf (xj_1 8 19) 27)),
  (27, .inl (xe_push (.int 0) 28)),
  (28, .inl (xe_ald (fun t => t == 1) 29)),
  (29, .inl (xe_iload 4 31)),
  (31, .inr (.inr (.inl (xc_S 177 [0, 1])))),
  (34, .inl (xe_istore 5 36)),
  (36, .inl (xe_push (.int 0) 37)),
  (37, .inl (xe_istore 6 39)),
  (39, .inl (xe_iload 6 41)),
  (41, .inl (xe_aload 0 42)),
  (42, .inl (xe_getf (xj_1 8 43) 45)),
  (45, .inl (xe_icmp (fun x y => decide (y ≤ x)) 111 48)),
  (48, .inl (xe_iload 5 50)),
  (50, .inl (xe_if (fun x => decide (x = 0)) 111 53)),
  (53, .inl (xe_aload 0 54)),
  (54, .inl (xe_aload 0 55)),
  (55, .inl (xe_getf (xj_1 8 59) 58)),
  (58, .inl (xe_iload 6 60)),
  (60, .inl (xe_ald (fun t => t == 0) 61)),
  (61, .inl (xe_aload 0 62)),
  (62, .inl (xe_getf (xj_1 8 60) 65)),
  (65, .inl (xe_iload 6 67)),
  (67, .inl (xe_ald (fun t => t == 0) 68)),
  (68, .inl (xe_iload 4 70)),
  (70, .inr (.inr (.inl (xc_V (xj_1 8 190) [0, 0, 0])))),
  (73, .inl (xe_aload 0 74)),
  (74, .inl (xe_aload 0 75)),
  (75, .inl (xe_getf (xj_1 8 59) 78)),
  (78, .inl (xe_iload 6 80)),
  (80, .inl (xe_ald (fun t => t == 0) 81)),
  (81, .inl (xe_aload 0 82)),
  (82, .inl (xe_getf (xj_1 8 60) 85)),
  (85, .inl (xe_iload 6 87)),
  (87, .inl (xe_ald (fun t => t == 0) 88))]
theorem xq_220_0 {G : xm_G} (hG : xm_W xk_B G) (hO : xm_Og G) : ∀ q ∈ xp_220_0, xm_op xk_B G xd xk_N "LiarsCockModel" "isHidden" prog_28_method_81_code 7 (some (FieldType.boolean)) q.1 q.2 :=
  xw_cons (xw_E xn_aload (xo_aload_n dX9_isHidden_0 rfl)) <|
  xw_cons (xw_E xn_iload (xo_iload_n dX9_isHidden_1 rfl)) <|
  xw_cons (xl_v_27_374 hG dX9_isHidden_2) <|
  xw_cons (xw_E xn_push (xo_iconst dX9_isHidden_5 (by decide))) <|
  xw_cons (xw_E xn_istore (xo_istore_n dX9_isHidden_6 rfl)) <|
  xw_cons (xw_E xn_push (xo_iconst dX9_isHidden_7 (by decide))) <|
  xw_cons (xw_E xn_istore (xo_istore dX9_isHidden_8)) <|
  xw_cons (xw_E xn_iload (xo_iload dX9_isHidden_10)) <|
  xw_cons (xw_E xn_push (xo_iconst dX9_isHidden_12 (by decide))) <|
  xw_cons (xw_E xn_aload (xo_aload_n dX9_isHidden_13 rfl)) <|
  xw_cons (xw_E xn_getf (xo_getf hG xg_27_13 dX9_isHidden_14)) <|
  xw_cons (xw_E xn_push (xo_iconst dX9_isHidden_17 (by decide))) <|
  xw_cons (xw_E xn_ald (xo_iald xk_hB dX9_isHidden_18)) <|
  xw_cons (xw_E xn_ii (xo_ishl dX9_isHidden_19)) <|
  xw_cons (xw_E xn_icmp (xo_icmp_ge dX9_isHidden_20 (by decide))) <|
  xw_cons (xw_E xn_aload (xo_aload_n dX9_isHidden_23 rfl)) <|
  xw_cons (xw_E xn_getf (xo_getf hG xg_27_42 dX9_isHidden_24)) <|
  xw_cons (xw_E xn_push (xo_iconst dX9_isHidden_27 (by decide))) <|
  xw_cons (xw_E xn_ald (xo_lald xk_hB dX9_isHidden_28)) <|
  xw_cons (xw_E xn_iload (xo_iload dX9_isHidden_29)) <|
  xw_cons (xl_s_27_350 hG dX9_isHidden_31) <|
  xw_cons (xw_E xn_istore (xo_istore dX9_isHidden_34)) <|
  xw_cons (xw_E xn_push (xo_iconst dX9_isHidden_36 (by decide))) <|
  xw_cons (xw_E xn_istore (xo_istore dX9_isHidden_37)) <|
  xw_cons (xw_E xn_iload (xo_iload dX9_isHidden_39)) <|
  xw_cons (xw_E xn_aload (xo_aload_n dX9_isHidden_41 rfl)) <|
  xw_cons (xw_E xn_getf (xo_getf hG xg_27_331 dX9_isHidden_42)) <|
  xw_cons (xw_E xn_icmp (xo_icmp_ge dX9_isHidden_45 (by decide))) <|
  xw_cons (xw_E xn_iload (xo_iload dX9_isHidden_48)) <|
  xw_cons (xw_E xn_if (xo_if_eq dX9_isHidden_50 (by decide))) <|
  xw_cons (xw_E xn_aload (xo_aload_n dX9_isHidden_53 rfl)) <|
  xw_cons (xw_E xn_aload (xo_aload_n dX9_isHidden_54 rfl)) <|
  xw_cons (xw_E xn_getf (xo_getf hG xg_27_135 dX9_isHidden_55)) <|
  xw_cons (xw_E xn_iload (xo_iload dX9_isHidden_58)) <|
  xw_cons (xw_E xn_ald (xo_iald xk_hB dX9_isHidden_60)) <|
  xw_cons (xw_E xn_aload (xo_aload_n dX9_isHidden_61 rfl)) <|
  xw_cons (xw_E xn_getf (xo_getf hG xg_27_138 dX9_isHidden_62)) <|
  xw_cons (xw_E xn_iload (xo_iload dX9_isHidden_65)) <|
  xw_cons (xw_E xn_ald (xo_iald xk_hB dX9_isHidden_67)) <|
  xw_cons (xw_E xn_iload (xo_iload dX9_isHidden_68)) <|
  xw_cons (xl_v_27_380 hG dX9_isHidden_70) <|
  xw_cons (xw_E xn_aload (xo_aload_n dX9_isHidden_73 rfl)) <|
  xw_cons (xw_E xn_aload (xo_aload_n dX9_isHidden_74 rfl)) <|
  xw_cons (xw_E xn_getf (xo_getf hG xg_27_135 dX9_isHidden_75)) <|
  xw_cons (xw_E xn_iload (xo_iload dX9_isHidden_78)) <|
  xw_cons (xw_E xn_ald (xo_iald xk_hB dX9_isHidden_80)) <|
  xw_cons (xw_E xn_aload (xo_aload_n dX9_isHidden_81 rfl)) <|
  xw_cons (xw_E xn_getf (xo_getf hG xg_27_138 dX9_isHidden_82)) <|
  xw_cons (xw_E xn_iload (xo_iload dX9_isHidden_85)) <|
  xw_cons (xw_E xn_ald (xo_iald xk_hB dX9_isHidden_87)) <|
  xw_nil _
def xp_220_1 : List (Nat × xm_O) := [
  (88, .inl (xe_aload 0 89)),
  (89, .inl (xe_getf (xj_1 8 44) 92)),
  (92, .inr (.inr (.inl (xc_V (xj_1 8 190) [0, 0, 0])))),
  (95, .inl (xe_icmp (fun x y => decide (¬ x = y)) 102 98)),
  (98, .inl (xe_push (.int 1) 99)),
  (99, .inl (xe_goto 103)),
  (102, .inl (xe_push (.int 0) 103)),
  (103, .inl (xe_istore 5 105)),
  (105, .inl (xe_iinc 6 1 108)),
  (108, .inl (xe_goto 39)),
  (111, .inl (xe_iload 5 113)),
  (113, .inl (xe_if (fun x => decide (¬ x = 0)) 119 116)),
  (116, .inl (xe_goto 137)),
  (119, .inl (xe_aload 0 120)),
  (120, .inl (xe_getf (xj_1 8 47) 123)),
  (123, .inl (xe_iload 1 124)),
  (124, .inl (xe_ald (fun t => t == 1) 125)),
  (125, .inl (xe_iload 4 127)),
  (127, .inr (.inr (.inl (xc_S 177 [0, 1])))),
  (130, .inl (xe_if (fun x => decide (x = 0)) 135 133)),
  (133, .inl (xe_push (.int 1) 134)),
  (134, .inr (.inl xr_z)),
  (135, .inl (xe_push (.int 1) 136)),
  (136, .inl (xe_istore 3 137)),
  (137, .inl (xe_iinc 4 1 140)),
  (140, .inl (xe_goto 10)),
  (143, .inl (xe_iload 3 144)),
  (144, .inl (xe_if (fun x => decide (¬ x = 0)) 151 147)),
  (147, .inl (xe_push (.int 1) 148)),
  (148, .inl (xe_goto 152)),
  (151, .inl (xe_push (.int 0) 152)),
  (152, .inr (.inl xr_z))]
theorem xq_220_1 {G : xm_G} (hG : xm_W xk_B G) (hO : xm_Og G) : ∀ q ∈ xp_220_1, xm_op xk_B G xd xk_N "LiarsCockModel" "isHidden" prog_28_method_81_code 7 (some (FieldType.boolean)) q.1 q.2 :=
  xw_cons (xw_E xn_aload (xo_aload_n dX9_isHidden_88 rfl)) <|
  xw_cons (xw_E xn_getf (xo_getf hG xg_27_334 dX9_isHidden_89)) <|
  xw_cons (xl_v_27_380 hG dX9_isHidden_92) <|
  xw_cons (xw_E xn_icmp (xo_icmp_ne dX9_isHidden_95 (by decide))) <|
  xw_cons (xw_E xn_push (xo_iconst dX9_isHidden_98 (by decide))) <|
  xw_cons (xw_E xn_goto (xo_goto dX9_isHidden_99 (by decide))) <|
  xw_cons (xw_E xn_push (xo_iconst dX9_isHidden_102 (by decide))) <|
  xw_cons (xw_E xn_istore (xo_istore dX9_isHidden_103)) <|
  xw_cons (xw_E xn_iinc (xo_iinc dX9_isHidden_105 (by decide))) <|
  xw_cons (xw_E xn_goto (xo_goto dX9_isHidden_108 (by decide))) <|
  xw_cons (xw_E xn_iload (xo_iload dX9_isHidden_111)) <|
  xw_cons (xw_E xn_if (xo_if_ne dX9_isHidden_113 (by decide))) <|
  xw_cons (xw_E xn_goto (xo_goto dX9_isHidden_116 (by decide))) <|
  xw_cons (xw_E xn_aload (xo_aload_n dX9_isHidden_119 rfl)) <|
  xw_cons (xw_E xn_getf (xo_getf hG xg_27_102 dX9_isHidden_120)) <|
  xw_cons (xw_E xn_iload (xo_iload_n dX9_isHidden_123 rfl)) <|
  xw_cons (xw_E xn_ald (xo_lald xk_hB dX9_isHidden_124)) <|
  xw_cons (xw_E xn_iload (xo_iload dX9_isHidden_125)) <|
  xw_cons (xl_s_27_350 hG dX9_isHidden_127) <|
  xw_cons (xw_E xn_if (xo_if_eq dX9_isHidden_130 (by decide))) <|
  xw_cons (xw_E xn_push (xo_iconst dX9_isHidden_133 (by decide))) <|
  xw_cons (xw_R (xt_z dX9_isHidden_134)) <|
  xw_cons (xw_E xn_push (xo_iconst dX9_isHidden_135 (by decide))) <|
  xw_cons (xw_E xn_istore (xo_istore_n dX9_isHidden_136 rfl)) <|
  xw_cons (xw_E xn_iinc (xo_iinc dX9_isHidden_137 (by decide))) <|
  xw_cons (xw_E xn_goto (xo_goto dX9_isHidden_140 (by decide))) <|
  xw_cons (xw_E xn_iload (xo_iload_n dX9_isHidden_143 rfl)) <|
  xw_cons (xw_E xn_if (xo_if_ne dX9_isHidden_144 (by decide))) <|
  xw_cons (xw_E xn_push (xo_iconst dX9_isHidden_147 (by decide))) <|
  xw_cons (xw_E xn_goto (xo_goto dX9_isHidden_148 (by decide))) <|
  xw_cons (xw_E xn_push (xo_iconst dX9_isHidden_151 (by decide))) <|
  xw_cons (xw_R (xt_z dX9_isHidden_152)) <|
  xw_nil _
def xp_220 : List (Nat × xm_O) := xp_220_0 ++ xp_220_1
theorem xq_220 {G : xm_G} (hG : xm_W xk_B G) (hO : xm_Og G) : ∀ q ∈ xp_220, xm_op xk_B G xd xk_N "LiarsCockModel" "isHidden" prog_28_method_81_code 7 (some (FieldType.boolean)) q.1 q.2 := xw_app (xq_220_0 hG hO) (xq_220_1 hG hO)
/- 221: LiarsCockModel.hide(II)I -/
def xp_221_0 : List (Nat × xm_O) := [
  (0, .inl (xe_aload 0 1)),
  (1, .inl (xe_push (.int 0) 2)),
  (2, .inl (xe_putf 300 0 (xj_1 8 0) 5)),
  (5, .inl (xe_aload 0 6)),
  (6, .inl (xe_iload 1 7)),
  (7, .inl (xe_aload 0 8)),
  (8, .inl (xe_getf (xj_1 8 16) 11)),
  (11, .inl (xe_push (.int 0) 12)),
  (12, .inl (xe_ald (fun t => t == 0) 13)),
  (13, .inr (.inr (.inl (xc_V (xj_1 8 219) [0, 0])))),
  (16, .inl (xe_if (fun x => decide (x = 0)) 28 19)),
  (19, .inl (xe_iload 2 20)),
  (20, .inl (xe_push (.int 0) 21)),
  (21, .inl (xe_push (.int 1) 22)),
  (22, .inr (.inr (.inl (xc_S 200 [0, 0, 0])))),
  (25, .inl (xe_if (fun x => decide (¬ x = 0)) 30 28)),
  (28, .inl (xe_push (.int (-1)) 29)),
  (29, .inr (.inl xr_i)),
  (30, .inl (xe_push (.int (-1)) 31)),
  (31, .inl (xe_istore 3 32)),
  (32, .inl (xe_push (.int 0) 33)),
  (33, .inl (xe_istore 4 35)),
  (35, .inl (xe_iload 4 37)),
  (37, .inl (xe_push (.int 1) 38)),
  (38, .inl (xe_aload 0 39)),
  (39, .inl (xe_getf (xj_1 8 41) 42)),
  (42, .inl (xe_ii (fun x y => x <<< (y &&& 31)) 43)),
  (43, .inl (xe_icmp (fun x y => decide (y ≤ x)) 83 46)),
  (46, .inl (xe_iload 3 47)),
  (47, .inl (xe_if (fun x => decide (x < 0)) 64 50)),
  (50, .inl (xe_iload 4 52)),
  (52, .inl (xe_i2l 53)),
  (53, .inr (.inr (.inl (xc_S 195 [1])))),
  (56, .inl (xe_iload 3 57)),
  (57, .inl (xe_i2l 58)),
  (58, .inr (.inr (.inl (xc_S 195 [1])))),
  (61, .inl (xe_icmp (fun x y => decide (y ≤ x)) 77 64)),
  (64, .inl (xe_aload 0 65)),
  (65, .inl (xe_iload 1 66)),
  (66, .inl (xe_iload 4 68)),
  (68, .inr (.inr (.inl (xc_V (xj_1 8 220) [0, 0])))),
  (71, .inl (xe_if (fun x => decide (x = 0)) 77 74)),
  (74, .inl (xe_iload 4 76)),
  (76, .inl (xe_istore 3 77)),
  (77, .inl (xe_iinc 4 1 80)),
  (80, .inl (xe_goto 35)),
  (83, .inl (xe_iload 3 84)),
  (84, .inl (xe_if (fun x => decide (0 ≤ x)) 91 87)),
  (87, .inl (xe_push (.int (-1)) 88)),
  (88, .inl (xe_goto 104))]
theorem xq_221_0 {G : xm_G} (hG : xm_W xk_B G) (hO : xm_Og G) : ∀ q ∈ xp_221_0, xm_op xk_B G xd xk_N "LiarsCockModel" "hide" prog_28_method_84_code 5 (some (FieldType.int)) q.1 q.2 :=
  xw_cons (xw_E xn_aload (xo_aload_n dX9_hide_0 rfl)) <|
  xw_cons (xw_E xn_push (xo_iconst dX9_hide_1 (by decide))) <|
  xw_cons (xw_E xn_putf (xo_putf hG rfl xu_27_162 dX9_hide_2)) <|
  xw_cons (xw_E xn_aload (xo_aload_n dX9_hide_5 rfl)) <|
  xw_cons (xw_E xn_iload (xo_iload_n dX9_hide_6 rfl)) <|
  xw_cons (xw_E xn_aload (xo_aload_n dX9_hide_7 rfl)) <|
  xw_cons (xw_E xn_getf (xo_getf hG xg_27_32 dX9_hide_8)) <|
  xw_cons (xw_E xn_push (xo_iconst dX9_hide_11 (by decide))) <|
  xw_cons (xw_E xn_ald (xo_iald xk_hB dX9_hide_12)) <|
  xw_cons (xl_v_27_442 hG dX9_hide_13) <|
  xw_cons (xw_E xn_if (xo_if_eq dX9_hide_16 (by decide))) <|
  xw_cons (xw_E xn_iload (xo_iload_n dX9_hide_19 rfl)) <|
  xw_cons (xw_E xn_push (xo_iconst dX9_hide_20 (by decide))) <|
  xw_cons (xw_E xn_push (xo_iconst dX9_hide_21 (by decide))) <|
  xw_cons (xl_s_27_407 hG dX9_hide_22) <|
  xw_cons (xw_E xn_if (xo_if_ne dX9_hide_25 (by decide))) <|
  xw_cons (xw_E xn_push (xo_iconst dX9_hide_28 (by decide))) <|
  xw_cons (xw_R (xt_i dX9_hide_29)) <|
  xw_cons (xw_E xn_push (xo_iconst dX9_hide_30 (by decide))) <|
  xw_cons (xw_E xn_istore (xo_istore_n dX9_hide_31 rfl)) <|
  xw_cons (xw_E xn_push (xo_iconst dX9_hide_32 (by decide))) <|
  xw_cons (xw_E xn_istore (xo_istore dX9_hide_33)) <|
  xw_cons (xw_E xn_iload (xo_iload dX9_hide_35)) <|
  xw_cons (xw_E xn_push (xo_iconst dX9_hide_37 (by decide))) <|
  xw_cons (xw_E xn_aload (xo_aload_n dX9_hide_38 rfl)) <|
  xw_cons (xw_E xn_getf (xo_getf hG xg_27_325 dX9_hide_39)) <|
  xw_cons (xw_E xn_ii (xo_ishl dX9_hide_42)) <|
  xw_cons (xw_E xn_icmp (xo_icmp_ge dX9_hide_43 (by decide))) <|
  xw_cons (xw_E xn_iload (xo_iload_n dX9_hide_46 rfl)) <|
  xw_cons (xw_E xn_if (xo_if_lt dX9_hide_47 (by decide))) <|
  xw_cons (xw_E xn_iload (xo_iload dX9_hide_50)) <|
  xw_cons (xw_E xn_i2l (xo_i2l dX9_hide_52)) <|
  xw_cons (xl_s_27_399 hG dX9_hide_53) <|
  xw_cons (xw_E xn_iload (xo_iload_n dX9_hide_56 rfl)) <|
  xw_cons (xw_E xn_i2l (xo_i2l dX9_hide_57)) <|
  xw_cons (xl_s_27_399 hG dX9_hide_58) <|
  xw_cons (xw_E xn_icmp (xo_icmp_ge dX9_hide_61 (by decide))) <|
  xw_cons (xw_E xn_aload (xo_aload_n dX9_hide_64 rfl)) <|
  xw_cons (xw_E xn_iload (xo_iload_n dX9_hide_65 rfl)) <|
  xw_cons (xw_E xn_iload (xo_iload dX9_hide_66)) <|
  xw_cons (xl_v_27_445 hG dX9_hide_68) <|
  xw_cons (xw_E xn_if (xo_if_eq dX9_hide_71 (by decide))) <|
  xw_cons (xw_E xn_iload (xo_iload dX9_hide_74)) <|
  xw_cons (xw_E xn_istore (xo_istore_n dX9_hide_76 rfl)) <|
  xw_cons (xw_E xn_iinc (xo_iinc dX9_hide_77 (by decide))) <|
  xw_cons (xw_E xn_goto (xo_goto dX9_hide_80 (by decide))) <|
  xw_cons (xw_E xn_iload (xo_iload_n dX9_hide_83 rfl)) <|
  xw_cons (xw_E xn_if (xo_if_ge dX9_hide_84 (by decide))) <|
  xw_cons (xw_E xn_push (xo_iconst dX9_hide_87 (by decide))) <|
  xw_cons (xw_E xn_goto (xo_goto dX9_hide_88 (by decide))) <|
  xw_nil _
def xp_221_1 : List (Nat × xm_O) := [
  (91, .inl (xe_iload 2 92)),
  (92, .inl (xe_if (fun x => decide (¬ x = 0)) 103 95)),
  (95, .inl (xe_iload 3 96)),
  (96, .inl (xe_i2l 97)),
  (97, .inr (.inr (.inl (xc_S 195 [1])))),
  (100, .inl (xe_goto 104)),
  (103, .inl (xe_iload 3 104)),
  (104, .inr (.inl xr_i))]
theorem xq_221_1 {G : xm_G} (hG : xm_W xk_B G) (hO : xm_Og G) : ∀ q ∈ xp_221_1, xm_op xk_B G xd xk_N "LiarsCockModel" "hide" prog_28_method_84_code 5 (some (FieldType.int)) q.1 q.2 :=
  xw_cons (xw_E xn_iload (xo_iload_n dX9_hide_91 rfl)) <|
  xw_cons (xw_E xn_if (xo_if_ne dX9_hide_92 (by decide))) <|
  xw_cons (xw_E xn_iload (xo_iload_n dX9_hide_95 rfl)) <|
  xw_cons (xw_E xn_i2l (xo_i2l dX9_hide_96)) <|
  xw_cons (xl_s_27_399 hG dX9_hide_97) <|
  xw_cons (xw_E xn_goto (xo_goto dX9_hide_100 (by decide))) <|
  xw_cons (xw_E xn_iload (xo_iload_n dX9_hide_103 rfl)) <|
  xw_cons (xw_R (xt_i dX9_hide_104)) <|
  xw_nil _
def xp_221 : List (Nat × xm_O) := xp_221_0 ++ xp_221_1
theorem xq_221 {G : xm_G} (hG : xm_W xk_B G) (hO : xm_Og G) : ∀ q ∈ xp_221, xm_op xk_B G xd xk_N "LiarsCockModel" "hide" prog_28_method_84_code 5 (some (FieldType.int)) q.1 q.2 := xw_app (xq_221_0 hG hO) (xq_221_1 hG hO)
/- 222: LiarsCockModel.secret(IIIII)J -/
def xp_222_0 : List (Nat × xm_O) := [
  (0, .inl (xe_aload 0 1)),
  (1, .inl (xe_aload 0 2)),
  (2, .inl (xe_iload 2 3)),
  (3, .inr (.inr (.inl (xc_V (xj_1 8 181) [0])))),
  (6, .inl (xe_if (fun x => decide (x = 0)) 58 9)),
  (9, .inl (xe_aload 0 10)),
  (10, .inl (xe_iload 1 11)),
  (11, .inl (xe_aload 0 12)),
  (12, .inl (xe_getf (xj_1 8 16) 15)),
  (15, .inl (xe_iload 2 16)),
  (16, .inl (xe_ald (fun t => t == 0) 17)),
  (17, .inr (.inr (.inl (xc_V (xj_1 8 219) [0, 0])))),
  (20, .inl (xe_if (fun x => decide (x = 0)) 58 23)),
  (23, .inl (xe_iload 3 24)),
  (24, .inl (xe_push (.int 1) 25)),
  (25, .inl (xe_push (.int 9) 27)),
  (27, .inr (.inr (.inl (xc_S 200 [0, 0, 0])))),
  (30, .inl (xe_if (fun x => decide (x = 0)) 58 33)),
  (33, .inl (xe_iload 4 35)),
  (35, .inl (xe_push (.int 1) 36)),
  (36, .inl (xe_push (.int 15) 38)),
  (38, .inr (.inr (.inl (xc_S 200 [0, 0, 0])))),
  (41, .inl (xe_if (fun x => decide (x = 0)) 58 44)),
  (44, .inl (xe_iload 5 46)),
  (46, .inl (xe_push (.int 0) 47)),
  (47, .inl (xe_push (.int 1) 48)),
  (48, .inr (.inr (.inl (xc_S 200 [0, 0, 0])))),
  (51, .inl (xe_if (fun x => decide (x = 0)) 58 54)),
  (54, .inl (xe_push (.int 0) 55)),
  (55, .inl (xe_goto 59)),
  (58, .inl (xe_push (.int 1) 59)),
  (59, .inl (xe_putf 300 0 (xj_1 8 0) 62)),
  (62, .inl (xe_aload 0 63)),
  (63, .inl (xe_getf (xj_1 8 0) 66)),
  (66, .inl (xe_if (fun x => decide (¬ x = 0)) 98 69)),
  (69, .inl (xe_aload 0 70)),
  (70, .inl (xe_getf (xj_1 8 46) 73)),
  (73, .inl (xe_iload 1 74)),
  (74, .inl (xe_ald (fun t => t == 0) 75)),
  (75, .inl (xe_aload 0 76)),
  (76, .inl (xe_getf (xj_1 8 17) 79)),
  (79, .inl (xe_iload 2 80)),
  (80, .inl (xe_ald (fun t => t == 0) 81)),
  (81, .inl (xe_ii (fun x y => x + y) 82)),
  (82, .inl (xe_iload 4 84)),
  (84, .inl (xe_ii (fun x y => x + y) 85)),
  (85, .inl (xe_push (.int 1) 86)),
  (86, .inl (xe_ii (fun x y => x - y) 87)),
  (87, .inl (xe_push (.int 1439) 90)),
  (90, .inl (xe_icmp (fun x y => decide (x ≤ y)) 98 93))]
theorem xq_222_0 {G : xm_G} (hG : xm_W xk_B G) (hO : xm_Og G) : ∀ q ∈ xp_222_0, xm_op xk_B G xd xk_N "LiarsCockModel" "secret" prog_28_method_85_code 11 (some (FieldType.long)) q.1 q.2 :=
  xw_cons (xw_E xn_aload (xo_aload_n dX9_secret_0 rfl)) <|
  xw_cons (xw_E xn_aload (xo_aload_n dX9_secret_1 rfl)) <|
  xw_cons (xw_E xn_iload (xo_iload_n dX9_secret_2 rfl)) <|
  xw_cons (xl_v_27_371 hG dX9_secret_3) <|
  xw_cons (xw_E xn_if (xo_if_eq dX9_secret_6 (by decide))) <|
  xw_cons (xw_E xn_aload (xo_aload_n dX9_secret_9 rfl)) <|
  xw_cons (xw_E xn_iload (xo_iload_n dX9_secret_10 rfl)) <|
  xw_cons (xw_E xn_aload (xo_aload_n dX9_secret_11 rfl)) <|
  xw_cons (xw_E xn_getf (xo_getf hG xg_27_32 dX9_secret_12)) <|
  xw_cons (xw_E xn_iload (xo_iload_n dX9_secret_15 rfl)) <|
  xw_cons (xw_E xn_ald (xo_iald xk_hB dX9_secret_16)) <|
  xw_cons (xl_v_27_442 hG dX9_secret_17) <|
  xw_cons (xw_E xn_if (xo_if_eq dX9_secret_20 (by decide))) <|
  xw_cons (xw_E xn_iload (xo_iload_n dX9_secret_23 rfl)) <|
  xw_cons (xw_E xn_push (xo_iconst dX9_secret_24 (by decide))) <|
  xw_cons (xw_E xn_push (xo_bipush dX9_secret_25 (by decide))) <|
  xw_cons (xl_s_27_407 hG dX9_secret_27) <|
  xw_cons (xw_E xn_if (xo_if_eq dX9_secret_30 (by decide))) <|
  xw_cons (xw_E xn_iload (xo_iload dX9_secret_33)) <|
  xw_cons (xw_E xn_push (xo_iconst dX9_secret_35 (by decide))) <|
  xw_cons (xw_E xn_push (xo_bipush dX9_secret_36 (by decide))) <|
  xw_cons (xl_s_27_407 hG dX9_secret_38) <|
  xw_cons (xw_E xn_if (xo_if_eq dX9_secret_41 (by decide))) <|
  xw_cons (xw_E xn_iload (xo_iload dX9_secret_44)) <|
  xw_cons (xw_E xn_push (xo_iconst dX9_secret_46 (by decide))) <|
  xw_cons (xw_E xn_push (xo_iconst dX9_secret_47 (by decide))) <|
  xw_cons (xl_s_27_407 hG dX9_secret_48) <|
  xw_cons (xw_E xn_if (xo_if_eq dX9_secret_51 (by decide))) <|
  xw_cons (xw_E xn_push (xo_iconst dX9_secret_54 (by decide))) <|
  xw_cons (xw_E xn_goto (xo_goto dX9_secret_55 (by decide))) <|
  xw_cons (xw_E xn_push (xo_iconst dX9_secret_58 (by decide))) <|
  xw_cons (xw_E xn_putf (xo_putf hG rfl xu_27_162 dX9_secret_59)) <|
  xw_cons (xw_E xn_aload (xo_aload_n dX9_secret_62 rfl)) <|
  xw_cons (xw_E xn_getf (xo_getf hG xg_27_162 dX9_secret_63)) <|
  xw_cons (xw_E xn_if (xo_if_ne dX9_secret_66 (by decide))) <|
  xw_cons (xw_E xn_aload (xo_aload_n dX9_secret_69 rfl)) <|
  xw_cons (xw_E xn_getf (xo_getf hG xg_27_99 dX9_secret_70)) <|
  xw_cons (xw_E xn_iload (xo_iload_n dX9_secret_73 rfl)) <|
  xw_cons (xw_E xn_ald (xo_iald xk_hB dX9_secret_74)) <|
  xw_cons (xw_E xn_aload (xo_aload_n dX9_secret_75 rfl)) <|
  xw_cons (xw_E xn_getf (xo_getf hG xg_27_35 dX9_secret_76)) <|
  xw_cons (xw_E xn_iload (xo_iload_n dX9_secret_79 rfl)) <|
  xw_cons (xw_E xn_ald (xo_iald xk_hB dX9_secret_80)) <|
  xw_cons (xw_E xn_ii (xo_iadd dX9_secret_81)) <|
  xw_cons (xw_E xn_iload (xo_iload dX9_secret_82)) <|
  xw_cons (xw_E xn_ii (xo_iadd dX9_secret_84)) <|
  xw_cons (xw_E xn_push (xo_iconst dX9_secret_85 (by decide))) <|
  xw_cons (xw_E xn_ii (xo_isub dX9_secret_86)) <|
  xw_cons (xw_E xn_push (xo_sipush dX9_secret_87 (by decide))) <|
  xw_cons (xw_E xn_icmp (xo_icmp_le dX9_secret_90 (by decide))) <|
  xw_nil _
def xp_222_1 : List (Nat × xm_O) := [
  (93, .inl (xe_aload 0 94)),
  (94, .inl (xe_push (.int 1) 95)),
  (95, .inl (xe_putf 300 0 (xj_1 8 0) 98)),
  (98, .inl (xe_aload 0 99)),
  (99, .inl (xe_getf (xj_1 8 0) 102)),
  (102, .inl (xe_push (.int 1) 103)),
  (103, .inl (xe_icmp (fun x y => decide (¬ x = y)) 108 106)),
  (106, .inl (xe_push (.long 0) 107)),
  (107, .inr (.inl xr_l)),
  (108, .inl (xe_aload 0 109)),
  (109, .inl (xe_push (.int 0) 110)),
  (110, .inr (.inr (.inl (xc_V (xj_1 8 182) [0])))),
  (113, .inl (xe_push (.long 1) 114)),
  (114, .inl (xe_lstore 6 116)),
  (116, .inl (xe_push (.long 1) 117)),
  (117, .inl (xe_lstore 8 119)),
  (119, .inl (xe_push (.int 0) 120)),
  (120, .inl (xe_istore 10 122)),
  (122, .inl (xe_iload 10 124)),
  (124, .inl (xe_iload 4 126)),
  (126, .inl (xe_icmp (fun x y => decide (y ≤ x)) 190 129)),
  (129, .inl (xe_aload 0 130)),
  (130, .inl (xe_iload 2 131)),
  (131, .inl (xe_aload 0 132)),
  (132, .inl (xe_getf (xj_1 8 46) 135)),
  (135, .inl (xe_iload 1 136)),
  (136, .inl (xe_ald (fun t => t == 0) 137)),
  (137, .inl (xe_aload 0 138)),
  (138, .inl (xe_getf (xj_1 8 17) 141)),
  (141, .inl (xe_iload 2 142)),
  (142, .inl (xe_ald (fun t => t == 0) 143)),
  (143, .inl (xe_ii (fun x y => x + y) 144)),
  (144, .inl (xe_iload 10 146)),
  (146, .inl (xe_ii (fun x y => x + y) 147)),
  (147, .inl (xe_aload 0 148)),
  (148, .inl (xe_getf (xj_1 8 44) 151)),
  (151, .inr (.inr (.inl (xc_V (xj_1 8 184) [0, 0, 0])))),
  (154, .inl (xe_aload 0 155)),
  (155, .inl (xe_getf (xj_1 8 45) 158)),
  (158, .inl (xe_iload 1 159)),
  (159, .inl (xe_ald (fun t => t == 0) 160)),
  (160, .inl (xe_icmp (fun x y => decide (x = y)) 166 163)),
  (163, .inl (xe_goto 184)),
  (166, .inl (xe_lload 6 168)),
  (168, .inl (xe_push (.int 10) 170)),
  (170, .inl (xe_iload 3 171)),
  (171, .inl (xe_ii (fun x y => x - y) 172)),
  (172, .inl (xe_i2l 173)),
  (173, .inl (xe_ll (fun x y => x * y) 174)),
  (174, .inl (xe_lstore 6 176))]
theorem xq_222_1 {G : xm_G} (hG : xm_W xk_B G) (hO : xm_Og G) : ∀ q ∈ xp_222_1, xm_op xk_B G xd xk_N "LiarsCockModel" "secret" prog_28_method_85_code 11 (some (FieldType.long)) q.1 q.2 :=
  xw_cons (xw_E xn_aload (xo_aload_n dX9_secret_93 rfl)) <|
  xw_cons (xw_E xn_push (xo_iconst dX9_secret_94 (by decide))) <|
  xw_cons (xw_E xn_putf (xo_putf hG rfl xu_27_162 dX9_secret_95)) <|
  xw_cons (xw_E xn_aload (xo_aload_n dX9_secret_98 rfl)) <|
  xw_cons (xw_E xn_getf (xo_getf hG xg_27_162 dX9_secret_99)) <|
  xw_cons (xw_E xn_push (xo_iconst dX9_secret_102 (by decide))) <|
  xw_cons (xw_E xn_icmp (xo_icmp_ne dX9_secret_103 (by decide))) <|
  xw_cons (xw_E xn_push (xo_lconst dX9_secret_106 (by decide))) <|
  xw_cons (xw_R (xt_l dX9_secret_107)) <|
  xw_cons (xw_E xn_aload (xo_aload_n dX9_secret_108 rfl)) <|
  xw_cons (xw_E xn_push (xo_iconst dX9_secret_109 (by decide))) <|
  xw_cons (xl_v_27_374 hG dX9_secret_110) <|
  xw_cons (xw_E xn_push (xo_lconst dX9_secret_113 (by decide))) <|
  xw_cons (xw_E xn_lstore (xo_lstore dX9_secret_114)) <|
  xw_cons (xw_E xn_push (xo_lconst dX9_secret_116 (by decide))) <|
  xw_cons (xw_E xn_lstore (xo_lstore dX9_secret_117)) <|
  xw_cons (xw_E xn_push (xo_iconst dX9_secret_119 (by decide))) <|
  xw_cons (xw_E xn_istore (xo_istore dX9_secret_120)) <|
  xw_cons (xw_E xn_iload (xo_iload dX9_secret_122)) <|
  xw_cons (xw_E xn_iload (xo_iload dX9_secret_124)) <|
  xw_cons (xw_E xn_icmp (xo_icmp_ge dX9_secret_126 (by decide))) <|
  xw_cons (xw_E xn_aload (xo_aload_n dX9_secret_129 rfl)) <|
  xw_cons (xw_E xn_iload (xo_iload_n dX9_secret_130 rfl)) <|
  xw_cons (xw_E xn_aload (xo_aload_n dX9_secret_131 rfl)) <|
  xw_cons (xw_E xn_getf (xo_getf hG xg_27_99 dX9_secret_132)) <|
  xw_cons (xw_E xn_iload (xo_iload_n dX9_secret_135 rfl)) <|
  xw_cons (xw_E xn_ald (xo_iald xk_hB dX9_secret_136)) <|
  xw_cons (xw_E xn_aload (xo_aload_n dX9_secret_137 rfl)) <|
  xw_cons (xw_E xn_getf (xo_getf hG xg_27_35 dX9_secret_138)) <|
  xw_cons (xw_E xn_iload (xo_iload_n dX9_secret_141 rfl)) <|
  xw_cons (xw_E xn_ald (xo_iald xk_hB dX9_secret_142)) <|
  xw_cons (xw_E xn_ii (xo_iadd dX9_secret_143)) <|
  xw_cons (xw_E xn_iload (xo_iload dX9_secret_144)) <|
  xw_cons (xw_E xn_ii (xo_iadd dX9_secret_146)) <|
  xw_cons (xw_E xn_aload (xo_aload_n dX9_secret_147 rfl)) <|
  xw_cons (xw_E xn_getf (xo_getf hG xg_27_334 dX9_secret_148)) <|
  xw_cons (xl_v_27_368 hG dX9_secret_151) <|
  xw_cons (xw_E xn_aload (xo_aload_n dX9_secret_154 rfl)) <|
  xw_cons (xw_E xn_getf (xo_getf hG xg_27_96 dX9_secret_155)) <|
  xw_cons (xw_E xn_iload (xo_iload_n dX9_secret_158 rfl)) <|
  xw_cons (xw_E xn_ald (xo_iald xk_hB dX9_secret_159)) <|
  xw_cons (xw_E xn_icmp (xo_icmp_eq dX9_secret_160 (by decide))) <|
  xw_cons (xw_E xn_goto (xo_goto dX9_secret_163 (by decide))) <|
  xw_cons (xw_E xn_lload (xo_lload dX9_secret_166)) <|
  xw_cons (xw_E xn_push (xo_bipush dX9_secret_168 (by decide))) <|
  xw_cons (xw_E xn_iload (xo_iload_n dX9_secret_170 rfl)) <|
  xw_cons (xw_E xn_ii (xo_isub dX9_secret_171)) <|
  xw_cons (xw_E xn_i2l (xo_i2l dX9_secret_172)) <|
  xw_cons (xw_E xn_ll (xo_lmul dX9_secret_173)) <|
  xw_cons (xw_E xn_lstore (xo_lstore dX9_secret_174)) <|
  xw_nil _
def xp_222_2 : List (Nat × xm_O) := [
  (176, .inl (xe_lload 8 178)),
  (178, .inl (xe_push (.long (10 : Int64)) 181)),
  (181, .inl (xe_ll (fun x y => x * y) 182)),
  (182, .inl (xe_lstore 8 184)),
  (184, .inl (xe_iinc 10 1 187)),
  (187, .inl (xe_goto 122)),
  (190, .inl (xe_lload 6 192)),
  (192, .inl (xe_lload 8 194)),
  (194, .inl (xe_iload 5 196)),
  (196, .inr (.inr (.inl (xc_S 202 [0, 1, 1])))),
  (199, .inr (.inl xr_l))]
theorem xq_222_2 {G : xm_G} (hG : xm_W xk_B G) (hO : xm_Og G) : ∀ q ∈ xp_222_2, xm_op xk_B G xd xk_N "LiarsCockModel" "secret" prog_28_method_85_code 11 (some (FieldType.long)) q.1 q.2 :=
  xw_cons (xw_E xn_lload (xo_lload dX9_secret_176)) <|
  xw_cons (xw_E xn_push (xo_ldc2 hG q2166 dX9_secret_178)) <|
  xw_cons (xw_E xn_ll (xo_lmul dX9_secret_181)) <|
  xw_cons (xw_E xn_lstore (xo_lstore dX9_secret_182)) <|
  xw_cons (xw_E xn_iinc (xo_iinc dX9_secret_184 (by decide))) <|
  xw_cons (xw_E xn_goto (xo_goto dX9_secret_187 (by decide))) <|
  xw_cons (xw_E xn_lload (xo_lload dX9_secret_190)) <|
  xw_cons (xw_E xn_lload (xo_lload dX9_secret_192)) <|
  xw_cons (xw_E xn_iload (xo_iload dX9_secret_194)) <|
  xw_cons (xl_s_27_413 hG dX9_secret_196) <|
  xw_cons (xw_R (xt_l dX9_secret_199)) <|
  xw_nil _
def xp_222 : List (Nat × xm_O) := xp_222_0 ++ xp_222_1 ++ xp_222_2
theorem xq_222 {G : xm_G} (hG : xm_W xk_B G) (hO : xm_Og G) : ∀ q ∈ xp_222, xm_op xk_B G xd xk_N "LiarsCockModel" "secret" prog_28_method_85_code 11 (some (FieldType.long)) q.1 q.2 := xw_app (xw_app (xq_222_0 hG hO) (xq_222_1 hG hO)) (xq_222_2 hG hO)
/- 223: LiarsCockModel.sector(II)I -/
def xp_223_0 : List (Nat × xm_O) := [
  (0, .inl (xe_aload 0 1)),
  (1, .inl (xe_push (.int 0) 2)),
  (2, .inl (xe_putf 300 0 (xj_1 8 0) 5)),
  (5, .inl (xe_iload 1 6)),
  (6, .inr (.inr (.inl (xc_S 186 [0])))),
  (9, .inl (xe_if (fun x => decide (x = 0)) 19 12)),
  (12, .inl (xe_iload 2 13)),
  (13, .inr (.inr (.inl (xc_S 186 [0])))),
  (16, .inl (xe_if (fun x => decide (¬ x = 0)) 21 19)),
  (19, .inl (xe_push (.int (-1)) 20)),
  (20, .inr (.inl xr_i)),
  (21, .inl (xe_push (.int 0) 22)),
  (22, .inl (xe_istore 3 23)),
  (23, .inl (xe_push (.int 0) 24)),
  (24, .inl (xe_istore 4 26)),
  (26, .inl (xe_iload 4 28)),
  (28, .inl (xe_aload 0 29)),
  (29, .inl (xe_getf (xj_1 8 10) 32)),
  (32, .inl (xe_push (.int 2) 33)),
  (33, .inl (xe_ald (fun t => t == 0) 34)),
  (34, .inl (xe_icmp (fun x y => decide (y ≤ x)) 74 37)),
  (37, .inl (xe_iload 3 38)),
  (38, .inl (xe_aload 0 39)),
  (39, .inl (xe_getf (xj_1 8 13) 42)),
  (42, .inl (xe_aload 0 43)),
  (43, .inl (xe_getf (xj_1 8 14) 46)),
  (46, .inl (xe_iload 4 48)),
  (48, .inl (xe_ald (fun t => t == 0) 49)),
  (49, .inl (xe_ald (fun t => t == 0) 50)),
  (50, .inl (xe_iload 1 51)),
  (51, .inl (xe_iload 2 52)),
  (52, .inr (.inr (.inl (xc_S 191 [0, 0, 0])))),
  (55, .inl (xe_if (fun x => decide (x = 0)) 65 58)),
  (58, .inl (xe_push (.int 1) 59)),
  (59, .inl (xe_iload 4 61)),
  (61, .inl (xe_ii (fun x y => x <<< (y &&& 31)) 62)),
  (62, .inl (xe_goto 66)),
  (65, .inl (xe_push (.int 0) 66)),
  (66, .inl (xe_ii (fun x y => x ||| y) 67)),
  (67, .inl (xe_istore 3 68)),
  (68, .inl (xe_iinc 4 1 71)),
  (71, .inl (xe_goto 26)),
  (74, .inl (xe_iload 3 75)),
  (75, .inr (.inl xr_i))]
theorem xq_223_0 {G : xm_G} (hG : xm_W xk_B G) (hO : xm_Og G) : ∀ q ∈ xp_223_0, xm_op xk_B G xd xk_N "LiarsCockModel" "sector" prog_28_method_86_code 5 (some (FieldType.int)) q.1 q.2 :=
  xw_cons (xw_E xn_aload (xo_aload_n dX9_sector_0 rfl)) <|
  xw_cons (xw_E xn_push (xo_iconst dX9_sector_1 (by decide))) <|
  xw_cons (xw_E xn_putf (xo_putf hG rfl xu_27_162 dX9_sector_2)) <|
  xw_cons (xw_E xn_iload (xo_iload_n dX9_sector_5 rfl)) <|
  xw_cons (xl_s_27_377 hG dX9_sector_6) <|
  xw_cons (xw_E xn_if (xo_if_eq dX9_sector_9 (by decide))) <|
  xw_cons (xw_E xn_iload (xo_iload_n dX9_sector_12 rfl)) <|
  xw_cons (xl_s_27_377 hG dX9_sector_13) <|
  xw_cons (xw_E xn_if (xo_if_ne dX9_sector_16 (by decide))) <|
  xw_cons (xw_E xn_push (xo_iconst dX9_sector_19 (by decide))) <|
  xw_cons (xw_R (xt_i dX9_sector_20)) <|
  xw_cons (xw_E xn_push (xo_iconst dX9_sector_21 (by decide))) <|
  xw_cons (xw_E xn_istore (xo_istore_n dX9_sector_22 rfl)) <|
  xw_cons (xw_E xn_push (xo_iconst dX9_sector_23 (by decide))) <|
  xw_cons (xw_E xn_istore (xo_istore dX9_sector_24)) <|
  xw_cons (xw_E xn_iload (xo_iload dX9_sector_26)) <|
  xw_cons (xw_E xn_aload (xo_aload_n dX9_sector_28 rfl)) <|
  xw_cons (xw_E xn_getf (xo_getf hG xg_27_13 dX9_sector_29)) <|
  xw_cons (xw_E xn_push (xo_iconst dX9_sector_32 (by decide))) <|
  xw_cons (xw_E xn_ald (xo_iald xk_hB dX9_sector_33)) <|
  xw_cons (xw_E xn_icmp (xo_icmp_ge dX9_sector_34 (by decide))) <|
  xw_cons (xw_E xn_iload (xo_iload_n dX9_sector_37 rfl)) <|
  xw_cons (xw_E xn_aload (xo_aload_n dX9_sector_38 rfl)) <|
  xw_cons (xw_E xn_getf (xo_getf hG xg_27_23 dX9_sector_39)) <|
  xw_cons (xw_E xn_aload (xo_aload_n dX9_sector_42 rfl)) <|
  xw_cons (xw_E xn_getf (xo_getf hG xg_27_26 dX9_sector_43)) <|
  xw_cons (xw_E xn_iload (xo_iload dX9_sector_46)) <|
  xw_cons (xw_E xn_ald (xo_iald xk_hB dX9_sector_48)) <|
  xw_cons (xw_E xn_ald (xo_iald xk_hB dX9_sector_49)) <|
  xw_cons (xw_E xn_iload (xo_iload_n dX9_sector_50 rfl)) <|
  xw_cons (xw_E xn_iload (xo_iload_n dX9_sector_51 rfl)) <|
  xw_cons (xl_s_27_383 hG dX9_sector_52) <|
  xw_cons (xw_E xn_if (xo_if_eq dX9_sector_55 (by decide))) <|
  xw_cons (xw_E xn_push (xo_iconst dX9_sector_58 (by decide))) <|
  xw_cons (xw_E xn_iload (xo_iload dX9_sector_59)) <|
  xw_cons (xw_E xn_ii (xo_ishl dX9_sector_61)) <|
  xw_cons (xw_E xn_goto (xo_goto dX9_sector_62 (by decide))) <|
  xw_cons (xw_E xn_push (xo_iconst dX9_sector_65 (by decide))) <|
  xw_cons (xw_E xn_ii (xo_ior dX9_sector_66)) <|
  xw_cons (xw_E xn_istore (xo_istore_n dX9_sector_67 rfl)) <|
  xw_cons (xw_E xn_iinc (xo_iinc dX9_sector_68 (by decide))) <|
  xw_cons (xw_E xn_goto (xo_goto dX9_sector_71 (by decide))) <|
  xw_cons (xw_E xn_iload (xo_iload_n dX9_sector_74 rfl)) <|
  xw_cons (xw_R (xt_i dX9_sector_75)) <|
  xw_nil _
def xp_223 : List (Nat × xm_O) := xp_223_0
theorem xq_223 {G : xm_G} (hG : xm_W xk_B G) (hO : xm_Og G) : ∀ q ∈ xp_223, xm_op xk_B G xd xk_N "LiarsCockModel" "sector" prog_28_method_86_code 5 (some (FieldType.int)) q.1 q.2 := xq_223_0 hG hO
