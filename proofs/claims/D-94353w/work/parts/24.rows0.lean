/-! rows of methods, by program -/
set_option maxRecDepth 100000
/- 0: LiarsCockLaw.secret(LLiarsCock;IIIII[J)I -/
def xp_0_0 : List (Nat × xm_O) := [
  (0, .inl (xe_aload 6 2)),
  (2, .inl (xe_push (.int 0) 3)),
  (3, .inl (xe_aload 0 4)),
  (4, .inl (xe_iload 1 5)),
  (5, .inl (xe_iload 2 6)),
  (6, .inl (xe_iload 3 7)),
  (7, .inl (xe_iload 4 9)),
  (9, .inl (xe_iload 5 11)),
  (11, .inr (.inr (.inl (xc_V (xj_1 0 82) [0, 0, 0, 0, 0])))),
  (14, .inl (xe_ast 300 1 (xm_kd 1) 15)),
  (15, .inl (xe_goto 22)),
  (18, .inl (xe_astore 7 20)),
  (20, .inl (xe_push (.int 1) 21)),
  (21, .inr (.inl xr_i)),
  (22, .inl (xe_push (.int 0) 23)),
  (23, .inr (.inl xr_i))]
theorem xq_0_0 {G : xm_G} (hG : xm_W xk_B G) (hO : xm_Og G) : ∀ q ∈ xp_0_0, xm_op xk_B G xd xk_N "LiarsCockLaw" "secret" method_3_code 8 (some (FieldType.int)) q.1 q.2 :=
  xw_cons (xw_E xn_aload (xo_aload dX0_secret_0)) <|
  xw_cons (xw_E xn_push (xo_iconst dX0_secret_2 (by decide))) <|
  xw_cons (xw_E xn_aload (xo_aload_n dX0_secret_3 rfl)) <|
  xw_cons (xw_E xn_iload (xo_iload_n dX0_secret_4 rfl)) <|
  xw_cons (xw_E xn_iload (xo_iload_n dX0_secret_5 rfl)) <|
  xw_cons (xw_E xn_iload (xo_iload_n dX0_secret_6 rfl)) <|
  xw_cons (xw_E xn_iload (xo_iload dX0_secret_7)) <|
  xw_cons (xw_E xn_iload (xo_iload dX0_secret_9)) <|
  xw_cons (xl_v_26_7 hG dX0_secret_11) <|
  xw_cons (xw_E xn_ast (xo_last hG xk_hB rfl dX0_secret_14)) <|
  xw_cons (xw_E xn_goto (xo_goto dX0_secret_15 (by decide))) <|
  xw_cons (xw_E xn_astore (xo_astore dX0_secret_18)) <|
  xw_cons (xw_E xn_push (xo_iconst dX0_secret_20 (by decide))) <|
  xw_cons (xw_R (xt_i dX0_secret_21)) <|
  xw_cons (xw_E xn_push (xo_iconst dX0_secret_22 (by decide))) <|
  xw_cons (xw_R (xt_i dX0_secret_23)) <|
  xw_nil _
def xp_0 : List (Nat × xm_O) := xp_0_0
theorem xq_0 {G : xm_G} (hG : xm_W xk_B G) (hO : xm_Og G) : ∀ q ∈ xp_0, xm_op xk_B G xd xk_N "LiarsCockLaw" "secret" method_3_code 8 (some (FieldType.int)) q.1 q.2 := xq_0_0 hG hO
/- 1: LiarsCock.<init>()V -/
def xp_1_0 : List (Nat × xm_O) := [
  (0, .inl (xe_aload 0 1)),
  (1, .inl (xe_objInit 4)),
  (4, .inl (xe_aload 0 5)),
  (5, .inl (xe_new 1 9 xk_f1 8)),
  (8, .inl (xe_dup 9)),
  (9, .inr (.inr (.inl (xc_I 83 [])))),
  (12, .inl (xe_putf 300 2 (xj_1 0 0) 15)),
  (15, .inl (xe_aload 0 16)),
  (16, .inr (.inr (.inl (xc_S 2 [])))),
  (19, .inl (xe_putf 300 2 (xj_1 0 1) 22)),
  (22, .inl (xe_aload 0 23)),
  (23, .inl (xe_new 25 3 xk_f25 26)),
  (26, .inl (xe_dup 27)),
  (27, .inr (.inr (.inl (xc_I 279 [])))),
  (30, .inl (xe_putf 300 2 (xj_1 0 3) 33)),
  (33, .inl (xe_aload 0 34)),
  (34, .inl (xe_new 25 3 xk_f25 37)),
  (37, .inl (xe_dup 38)),
  (38, .inr (.inr (.inl (xc_I 279 [])))),
  (41, .inl (xe_putf 300 2 (xj_1 0 4) 44)),
  (44, .inl (xe_aload 0 45)),
  (45, .inl (xe_new 25 3 xk_f25 48)),
  (48, .inl (xe_dup 49)),
  (49, .inr (.inr (.inl (xc_I 279 [])))),
  (52, .inl (xe_putf 300 2 (xj_1 0 5) 55)),
  (55, .inl (xe_aload 0 56)),
  (56, .inl (xe_new 25 3 xk_f25 59)),
  (59, .inl (xe_dup 60)),
  (60, .inr (.inr (.inl (xc_I 279 [])))),
  (63, .inl (xe_putf 300 2 (xj_1 0 6) 66)),
  (66, .inl (xe_aload 0 67)),
  (67, .inl (xe_new 5 3 xk_f5 70)),
  (70, .inl (xe_dup 71)),
  (71, .inl (xe_aload 0 72)),
  (72, .inr (.inr (.inl (xc_I 126 [2])))),
  (75, .inl (xe_putf 300 2 (xj_1 0 7) 78)),
  (78, .inl (xe_aload 0 79)),
  (79, .inl (xe_new 6 4 xk_f6 82)),
  (82, .inl (xe_dup 83)),
  (83, .inl (xe_aload 0 84)),
  (84, .inr (.inr (.inl (xc_I 129 [2])))),
  (87, .inl (xe_putf 300 2 (xj_1 0 8) 90)),
  (90, .inl (xe_aload 0 91)),
  (91, .inl (xe_new 7 7 xk_f7 94)),
  (94, .inl (xe_dup 95)),
  (95, .inl (xe_aload 0 96)),
  (96, .inr (.inr (.inl (xc_I 131 [2])))),
  (99, .inl (xe_putf 300 2 (xj_1 0 9) 102)),
  (102, .inl (xe_aload 0 103)),
  (103, .inl (xe_push (.int 4) 104))]
theorem xq_1_0 {G : xm_G} (hG : xm_W xk_B G) (hO : xm_Og G) : ∀ q ∈ xp_1_0, xm_op xk_B G xd xk_N "LiarsCock" "<init>" prog_1_method_1_code 1 none q.1 q.2 :=
  xw_cons (xw_E xn_aload (xo_aload_n dX1_init_0 rfl)) <|
  xw_cons (xw_E xn_objInit (xo_objInit hG q171 q172 q173 dX1_init_1)) <|
  xw_cons (xw_E xn_aload (xo_aload_n dX1_init_4 rfl)) <|
  xw_cons (xw_E xn_new (xo_new hG xnw_0_7 dX1_init_5)) <|
  xw_cons (xw_E xn_dup (xo_dup dX1_init_8)) <|
  xw_cons (xl_s_0_9 hG dX1_init_9) <|
  xw_cons (xw_E xn_putf (xo_putf hG rfl xu_0_10 dX1_init_12)) <|
  xw_cons (xw_E xn_aload (xo_aload_n dX1_init_15 rfl)) <|
  xw_cons (xl_s_0_16 hG dX1_init_16) <|
  xw_cons (xw_E xn_putf (xo_putf hG rfl xu_0_20 dX1_init_19)) <|
  xw_cons (xw_E xn_aload (xo_aload_n dX1_init_22 rfl)) <|
  xw_cons (xw_E xn_new (xo_new hG xnw_0_24 dX1_init_23)) <|
  xw_cons (xw_E xn_dup (xo_dup dX1_init_26)) <|
  xw_cons (xl_s_0_26 hG dX1_init_27) <|
  xw_cons (xw_E xn_putf (xo_putf hG rfl xu_0_27 dX1_init_30)) <|
  xw_cons (xw_E xn_aload (xo_aload_n dX1_init_33 rfl)) <|
  xw_cons (xw_E xn_new (xo_new hG xnw_0_24 dX1_init_34)) <|
  xw_cons (xw_E xn_dup (xo_dup dX1_init_37)) <|
  xw_cons (xl_s_0_26 hG dX1_init_38) <|
  xw_cons (xw_E xn_putf (xo_putf hG rfl xu_0_31 dX1_init_41)) <|
  xw_cons (xw_E xn_aload (xo_aload_n dX1_init_44 rfl)) <|
  xw_cons (xw_E xn_new (xo_new hG xnw_0_24 dX1_init_45)) <|
  xw_cons (xw_E xn_dup (xo_dup dX1_init_48)) <|
  xw_cons (xl_s_0_26 hG dX1_init_49) <|
  xw_cons (xw_E xn_putf (xo_putf hG rfl xu_0_34 dX1_init_52)) <|
  xw_cons (xw_E xn_aload (xo_aload_n dX1_init_55 rfl)) <|
  xw_cons (xw_E xn_new (xo_new hG xnw_0_24 dX1_init_56)) <|
  xw_cons (xw_E xn_dup (xo_dup dX1_init_59)) <|
  xw_cons (xl_s_0_26 hG dX1_init_60) <|
  xw_cons (xw_E xn_putf (xo_putf hG rfl xu_0_37 dX1_init_63)) <|
  xw_cons (xw_E xn_aload (xo_aload_n dX1_init_66 rfl)) <|
  xw_cons (xw_E xn_new (xo_new hG xnw_0_40 dX1_init_67)) <|
  xw_cons (xw_E xn_dup (xo_dup dX1_init_70)) <|
  xw_cons (xw_E xn_aload (xo_aload_n dX1_init_71 rfl)) <|
  xw_cons (xl_s_0_42 hG dX1_init_72) <|
  xw_cons (xw_E xn_putf (xo_putf hG rfl xu_0_45 dX1_init_75)) <|
  xw_cons (xw_E xn_aload (xo_aload_n dX1_init_78 rfl)) <|
  xw_cons (xw_E xn_new (xo_new hG xnw_0_49 dX1_init_79)) <|
  xw_cons (xw_E xn_dup (xo_dup dX1_init_82)) <|
  xw_cons (xw_E xn_aload (xo_aload_n dX1_init_83 rfl)) <|
  xw_cons (xl_s_0_51 hG dX1_init_84) <|
  xw_cons (xw_E xn_putf (xo_putf hG rfl xu_0_52 dX1_init_87)) <|
  xw_cons (xw_E xn_aload (xo_aload_n dX1_init_90 rfl)) <|
  xw_cons (xw_E xn_new (xo_new hG xnw_0_56 dX1_init_91)) <|
  xw_cons (xw_E xn_dup (xo_dup dX1_init_94)) <|
  xw_cons (xw_E xn_aload (xo_aload_n dX1_init_95 rfl)) <|
  xw_cons (xl_s_0_58 hG dX1_init_96) <|
  xw_cons (xw_E xn_putf (xo_putf hG rfl xu_0_59 dX1_init_99)) <|
  xw_cons (xw_E xn_aload (xo_aload_n dX1_init_102 rfl)) <|
  xw_cons (xw_E xn_push (xo_iconst dX1_init_103 (by decide))) <|
  xw_nil _
def xp_1_1 : List (Nat × xm_O) := [
  (104, .inl (xe_newa 7 .null 100000 107)),
  (107, .inl (xe_putf 300 2 (xj_1 0 10) 110)),
  (110, .inr (.inl xr_v))]
theorem xq_1_1 {G : xm_G} (hG : xm_W xk_B G) (hO : xm_Og G) : ∀ q ∈ xp_1_1, xm_op xk_B G xd xk_N "LiarsCock" "<init>" prog_1_method_1_code 1 none q.1 q.2 :=
  xw_cons (xw_E xn_newa (xo_anewa hG (by decide) rfl (by decide) q413 q414 dX1_init_104)) <|
  xw_cons (xw_E xn_putf (xo_putf hG rfl xu_0_65 dX1_init_107)) <|
  xw_cons (xw_R (xt_v dX1_init_110)) <|
  xw_nil _
def xp_1 : List (Nat × xm_O) := xp_1_0 ++ xp_1_1
theorem xq_1 {G : xm_G} (hG : xm_W xk_B G) (hO : xm_Og G) : ∀ q ∈ xp_1, xm_op xk_B G xd xk_N "LiarsCock" "<init>" prog_1_method_1_code 1 none q.1 q.2 := xw_app (xq_1_0 hG hO) (xq_1_1 hG hO)
/- 2: LiarsCock.none()LLiarsCock$Parish; -/
def xp_2_0 : List (Nat × xm_O) := [
  (0, .inl (xe_new 2 10 xk_f2 3)),
  (3, .inl (xe_dup 4)),
  (4, .inr (.inr (.inl (xc_I 115 [])))),
  (7, .inl (xe_astore 0 8)),
  (8, .inl (xe_aload 0 9)),
  (9, .inl (xe_getf (xj_1 2 6) 12)),
  (12, .inl (xe_push (.int 0) 13)),
  (13, .inl (xe_new 4 2 xk_f4 16)),
  (16, .inl (xe_dup 17)),
  (17, .inl (xe_push (.int 0) 18)),
  (18, .inl (xe_push (.int 0) 19)),
  (19, .inr (.inr (.inl (xc_I 125 [0, 0])))),
  (22, .inl (xe_aast 300 xk_as 23)),
  (23, .inl (xe_aload 0 24)),
  (24, .inl (xe_push (.long 1) 25)),
  (25, .inl (xe_putf 300 1 (xj_1 2 8) 28)),
  (28, .inl (xe_aload 0 29)),
  (29, .inr (.inl xr_a))]
theorem xq_2_0 {G : xm_G} (hG : xm_W xk_B G) (hO : xm_Og G) : ∀ q ∈ xp_2_0, xm_op xk_B G xd xk_N "LiarsCock" "none" prog_1_method_5_code 1 (some ((FieldType.object "LiarsCock$Parish"))) q.1 q.2 :=
  xw_cons (xw_E xn_new (xo_new hG xnw_0_69 dX1_none_0)) <|
  xw_cons (xw_E xn_dup (xo_dup dX1_none_3)) <|
  xw_cons (xl_s_0_71 hG dX1_none_4) <|
  xw_cons (xw_E xn_astore (xo_astore_n dX1_none_7 rfl)) <|
  xw_cons (xw_E xn_aload (xo_aload_n dX1_none_8 rfl)) <|
  xw_cons (xw_E xn_getf (xo_getf hG xg_0_72 dX1_none_9)) <|
  xw_cons (xw_E xn_push (xo_iconst dX1_none_12 (by decide))) <|
  xw_cons (xw_E xn_new (xo_new hG xnw_0_76 dX1_none_13)) <|
  xw_cons (xw_E xn_dup (xo_dup dX1_none_16)) <|
  xw_cons (xw_E xn_push (xo_iconst dX1_none_17 (by decide))) <|
  xw_cons (xw_E xn_push (xo_iconst dX1_none_18 (by decide))) <|
  xw_cons (xl_s_0_78 hG dX1_none_19) <|
  xw_cons (xw_E xn_aast (xo_aast hG xk_hB rfl xk_as_ok dX1_none_22)) <|
  xw_cons (xw_E xn_aload (xo_aload_n dX1_none_23 rfl)) <|
  xw_cons (xw_E xn_push (xo_lconst dX1_none_24 (by decide))) <|
  xw_cons (xw_E xn_putf (xo_putf hG rfl xu_0_81 dX1_none_25)) <|
  xw_cons (xw_E xn_aload (xo_aload_n dX1_none_28 rfl)) <|
  xw_cons (xw_R (xt_a (Or.inl ⟨_, rfl⟩) dX1_none_29)) <|
  xw_nil _
def xp_2 : List (Nat × xm_O) := xp_2_0
theorem xq_2 {G : xm_G} (hG : xm_W xk_B G) (hO : xm_Og G) : ∀ q ∈ xp_2, xm_op xk_B G xd xk_N "LiarsCock" "none" prog_1_method_5_code 1 (some ((FieldType.object "LiarsCock$Parish"))) q.1 q.2 := xq_2_0 hG hO
/- 3: LiarsCock.feed(JJJ)I -/
def xp_3_0 : List (Nat × xm_O) := [
  (0, .inl (xe_aload 0 1)),
  (1, .inl (xe_getf (xj_1 0 0) 4)),
  (4, .inl (xe_lload 1 5)),
  (5, .inr (.inr (.inl (xc_V (xj_1 1 84) [1])))),
  (8, .inl (xe_aload 0 9)),
  (9, .inl (xe_getf (xj_1 0 0) 12)),
  (12, .inl (xe_lload 3 13)),
  (13, .inr (.inr (.inl (xc_V (xj_1 1 84) [1])))),
  (16, .inl (xe_aload 0 17)),
  (17, .inl (xe_getf (xj_1 0 0) 20)),
  (20, .inl (xe_lload 5 22)),
  (22, .inr (.inr (.inl (xc_V (xj_1 1 84) [1])))),
  (25, .inl (xe_aload 0 26)),
  (26, .inl (xe_getf (xj_1 0 0) 29)),
  (29, .inl (xe_getf (xj_1 1 3) 32)),
  (32, .inr (.inl xr_i))]
theorem xq_3_0 {G : xm_G} (hG : xm_W xk_B G) (hO : xm_Og G) : ∀ q ∈ xp_3_0, xm_op xk_B G xd xk_N "LiarsCock" "feed" prog_1_method_6_code 7 (some (FieldType.int)) q.1 q.2 :=
  xw_cons (xw_E xn_aload (xo_aload_n dX1_feed_0 rfl)) <|
  xw_cons (xw_E xn_getf (xo_getf hG xg_0_10 dX1_feed_1)) <|
  xw_cons (xw_E xn_lload (xo_lload_n dX1_feed_4 rfl)) <|
  xw_cons (xl_v_0_85 hG dX1_feed_5) <|
  xw_cons (xw_E xn_aload (xo_aload_n dX1_feed_8 rfl)) <|
  xw_cons (xw_E xn_getf (xo_getf hG xg_0_10 dX1_feed_9)) <|
  xw_cons (xw_E xn_lload (xo_lload_n dX1_feed_12 rfl)) <|
  xw_cons (xl_v_0_85 hG dX1_feed_13) <|
  xw_cons (xw_E xn_aload (xo_aload_n dX1_feed_16 rfl)) <|
  xw_cons (xw_E xn_getf (xo_getf hG xg_0_10 dX1_feed_17)) <|
  xw_cons (xw_E xn_lload (xo_lload dX1_feed_20)) <|
  xw_cons (xl_v_0_85 hG dX1_feed_22) <|
  xw_cons (xw_E xn_aload (xo_aload_n dX1_feed_25 rfl)) <|
  xw_cons (xw_E xn_getf (xo_getf hG xg_0_10 dX1_feed_26)) <|
  xw_cons (xw_E xn_getf (xo_getf hG xg_0_89 dX1_feed_29)) <|
  xw_cons (xw_R (xt_i dX1_feed_32)) <|
  xw_nil _
def xp_3 : List (Nat × xm_O) := xp_3_0
theorem xq_3 {G : xm_G} (hG : xm_W xk_B G) (hO : xm_Og G) : ∀ q ∈ xp_3, xm_op xk_B G xd xk_N "LiarsCock" "feed" prog_1_method_6_code 7 (some (FieldType.int)) q.1 q.2 := xq_3_0 hG hO
/- 4: LiarsCock.within(III)Z -/
def xp_4_0 : List (Nat × xm_O) := [
  (0, .inl (xe_iload 0 1)),
  (1, .inl (xe_iload 1 2)),
  (2, .inl (xe_icmp (fun x y => decide (x < y)) 14 5)),
  (5, .inl (xe_iload 0 6)),
  (6, .inl (xe_iload 2 7)),
  (7, .inl (xe_icmp (fun x y => decide (y < x)) 14 10)),
  (10, .inl (xe_push (.int 1) 11)),
  (11, .inl (xe_goto 15)),
  (14, .inl (xe_push (.int 0) 15)),
  (15, .inr (.inl xr_z))]
theorem xq_4_0 {G : xm_G} (hG : xm_W xk_B G) (hO : xm_Og G) : ∀ q ∈ xp_4_0, xm_op xk_B G xd xk_N "LiarsCock" "within" prog_1_method_2_code 3 (some (FieldType.boolean)) q.1 q.2 :=
  xw_cons (xw_E xn_iload (xo_iload_n dX1_within_0 rfl)) <|
  xw_cons (xw_E xn_iload (xo_iload_n dX1_within_1 rfl)) <|
  xw_cons (xw_E xn_icmp (xo_icmp_lt dX1_within_2 (by decide))) <|
  xw_cons (xw_E xn_iload (xo_iload_n dX1_within_5 rfl)) <|
  xw_cons (xw_E xn_iload (xo_iload_n dX1_within_6 rfl)) <|
  xw_cons (xw_E xn_icmp (xo_icmp_gt dX1_within_7 (by decide))) <|
  xw_cons (xw_E xn_push (xo_iconst dX1_within_10 (by decide))) <|
  xw_cons (xw_E xn_goto (xo_goto dX1_within_11 (by decide))) <|
  xw_cons (xw_E xn_push (xo_iconst dX1_within_14 (by decide))) <|
  xw_cons (xw_R (xt_z dX1_within_15)) <|
  xw_nil _
def xp_4 : List (Nat × xm_O) := xp_4_0
theorem xq_4 {G : xm_G} (hG : xm_W xk_B G) (hO : xm_Og G) : ∀ q ∈ xp_4, xm_op xk_B G xd xk_N "LiarsCock" "within" prog_1_method_2_code 3 (some (FieldType.boolean)) q.1 q.2 := xq_4_0 hG hO
/- 5: LiarsCock.parish()I -/
def xp_5_0 : List (Nat × xm_O) := [
  (0, .inl (xe_aload 0 1)),
  (1, .inl (xe_aload 0 2)),
  (2, .inl (xe_getf (xj_1 0 0) 5)),
  (5, .inr (.inr (.inl (xc_V (xj_1 1 85) [])))),
  (8, .inl (xe_putf 300 2 (xj_1 0 1) 11)),
  (11, .inl (xe_aload 0 12)),
  (12, .inl (xe_push (.int 0) 13)),
  (13, .inl (xe_putf 300 0 (xj_1 0 2) 16)),
  (16, .inl (xe_aload 0 17)),
  (17, .inl (xe_getf (xj_1 0 3) 20)),
  (20, .inr (.inr (.inl (xc_V (xj_1 25 287) [])))),
  (23, .inl (xe_aload 0 24)),
  (24, .inl (xe_getf (xj_1 0 5) 27)),
  (27, .inr (.inr (.inl (xc_V (xj_1 25 287) [])))),
  (30, .inl (xe_aload 0 31)),
  (31, .inl (xe_getf (xj_1 0 4) 34)),
  (34, .inr (.inr (.inl (xc_V (xj_1 25 287) [])))),
  (37, .inl (xe_aload 0 38)),
  (38, .inl (xe_getf (xj_1 0 6) 41)),
  (41, .inr (.inr (.inl (xc_V (xj_1 25 287) [])))),
  (44, .inl (xe_push (.int 0) 45)),
  (45, .inr (.inl xr_i)),
  (46, .inl (xe_astore 1 47)),
  (47, .inl (xe_aload 1 48)),
  (48, .inl (xe_getf (xj_1 9 0) 51)),
  (51, .inr (.inl xr_i))]
theorem xq_5_0 {G : xm_G} (hG : xm_W xk_B G) (hO : xm_Og G) : ∀ q ∈ xp_5_0, xm_op xk_B G xd xk_N "LiarsCock" "parish" prog_1_method_7_code 2 (some (FieldType.int)) q.1 q.2 :=
  xw_cons (xw_E xn_aload (xo_aload_n dX1_parish_0 rfl)) <|
  xw_cons (xw_E xn_aload (xo_aload_n dX1_parish_1 rfl)) <|
  xw_cons (xw_E xn_getf (xo_getf hG xg_0_10 dX1_parish_2)) <|
  xw_cons (xl_v_0_93 hG dX1_parish_5) <|
  xw_cons (xw_E xn_putf (xo_putf hG rfl xu_0_20 dX1_parish_8)) <|
  xw_cons (xw_E xn_aload (xo_aload_n dX1_parish_11 rfl)) <|
  xw_cons (xw_E xn_push (xo_iconst dX1_parish_12 (by decide))) <|
  xw_cons (xw_E xn_putf (xo_putf hG rfl xu_0_95 dX1_parish_13)) <|
  xw_cons (xw_E xn_aload (xo_aload_n dX1_parish_16 rfl)) <|
  xw_cons (xw_E xn_getf (xo_getf hG xg_0_27 dX1_parish_17)) <|
  xw_cons (xl_v_0_98 hG dX1_parish_20) <|
  xw_cons (xw_E xn_aload (xo_aload_n dX1_parish_23 rfl)) <|
  xw_cons (xw_E xn_getf (xo_getf hG xg_0_34 dX1_parish_24)) <|
  xw_cons (xl_v_0_98 hG dX1_parish_27) <|
  xw_cons (xw_E xn_aload (xo_aload_n dX1_parish_30 rfl)) <|
  xw_cons (xw_E xn_getf (xo_getf hG xg_0_31 dX1_parish_31)) <|
  xw_cons (xl_v_0_98 hG dX1_parish_34) <|
  xw_cons (xw_E xn_aload (xo_aload_n dX1_parish_37 rfl)) <|
  xw_cons (xw_E xn_getf (xo_getf hG xg_0_37 dX1_parish_38)) <|
  xw_cons (xl_v_0_98 hG dX1_parish_41) <|
  xw_cons (xw_E xn_push (xo_iconst dX1_parish_44 (by decide))) <|
  xw_cons (xw_R (xt_i dX1_parish_45)) <|
  xw_cons (xw_E xn_astore (xo_astore_n dX1_parish_46 rfl)) <|
  xw_cons (xw_E xn_aload (xo_aload_n dX1_parish_47 rfl)) <|
  xw_cons (xw_E xn_getf (xo_getf hG xg_0_103 dX1_parish_48)) <|
  xw_cons (xw_R (xt_i dX1_parish_51)) <|
  xw_nil _
def xp_5 : List (Nat × xm_O) := xp_5_0
theorem xq_5 {G : xm_G} (hG : xm_W xk_B G) (hO : xm_Og G) : ∀ q ∈ xp_5, xm_op xk_B G xd xk_N "LiarsCock" "parish" prog_1_method_7_code 2 (some (FieldType.int)) q.1 q.2 := xq_5_0 hG hO
/- 6: LiarsCock.has(JI)Z -/
def xp_6_0 : List (Nat × xm_O) := [
  (0, .inl (xe_lload 0 1)),
  (1, .inl (xe_iload 2 2)),
  (2, .inl (xe_li (fun x y => x >>> (y.toInt64 &&& 63)) 3)),
  (3, .inl (xe_push (.long 1) 4)),
  (4, .inl (xe_ll (fun x y => x &&& y) 5)),
  (5, .inl (xe_push (.long 1) 6)),
  (6, .inl (xe_lcmp 7)),
  (7, .inl (xe_if (fun x => decide (¬ x = 0)) 14 10)),
  (10, .inl (xe_push (.int 1) 11)),
  (11, .inl (xe_goto 15)),
  (14, .inl (xe_push (.int 0) 15)),
  (15, .inr (.inl xr_z))]
theorem xq_6_0 {G : xm_G} (hG : xm_W xk_B G) (hO : xm_Og G) : ∀ q ∈ xp_6_0, xm_op xk_B G xd xk_N "LiarsCock" "has" prog_1_method_3_code 3 (some (FieldType.boolean)) q.1 q.2 :=
  xw_cons (xw_E xn_lload (xo_lload_n dX1_has_0 rfl)) <|
  xw_cons (xw_E xn_iload (xo_iload_n dX1_has_1 rfl)) <|
  xw_cons (xw_E xn_li (xo_lshr dX1_has_2)) <|
  xw_cons (xw_E xn_push (xo_lconst dX1_has_3 (by decide))) <|
  xw_cons (xw_E xn_ll (xo_land dX1_has_4)) <|
  xw_cons (xw_E xn_push (xo_lconst dX1_has_5 (by decide))) <|
  xw_cons (xw_E xn_lcmp (xo_lcmp dX1_has_6)) <|
  xw_cons (xw_E xn_if (xo_if_ne dX1_has_7 (by decide))) <|
  xw_cons (xw_E xn_push (xo_iconst dX1_has_10 (by decide))) <|
  xw_cons (xw_E xn_goto (xo_goto dX1_has_11 (by decide))) <|
  xw_cons (xw_E xn_push (xo_iconst dX1_has_14 (by decide))) <|
  xw_cons (xw_R (xt_z dX1_has_15)) <|
  xw_nil _
def xp_6 : List (Nat × xm_O) := xp_6_0
theorem xq_6 {G : xm_G} (hG : xm_W xk_B G) (hO : xm_Og G) : ∀ q ∈ xp_6, xm_op xk_B G xd xk_N "LiarsCock" "has" prog_1_method_3_code 3 (some (FieldType.boolean)) q.1 q.2 := xq_6_0 hG hO
/- 7: LiarsCock.truth(I)Z -/
def xp_7_0 : List (Nat × xm_O) := [
  (0, .inl (xe_aload 0 1)),
  (1, .inl (xe_iload 1 2)),
  (2, .inr (.inr (.inl (xc_V (xj_1 0 8) [0])))),
  (5, .inl (xe_if (fun x => decide (¬ x = 0)) 10 8)),
  (8, .inl (xe_push (.int 0) 9)),
  (9, .inr (.inl xr_z)),
  (10, .inl (xe_aload 0 11)),
  (11, .inl (xe_iload 1 12)),
  (12, .inl (xe_putf 300 0 (xj_1 0 2) 15)),
  (15, .inl (xe_push (.int 1) 16)),
  (16, .inr (.inl xr_z))]
theorem xq_7_0 {G : xm_G} (hG : xm_W xk_B G) (hO : xm_Og G) : ∀ q ∈ xp_7_0, xm_op xk_B G xd xk_N "LiarsCock" "truth" prog_1_method_16_code 2 (some (FieldType.boolean)) q.1 q.2 :=
  xw_cons (xw_E xn_aload (xo_aload_n dX1_truth_0 rfl)) <|
  xw_cons (xw_E xn_iload (xo_iload_n dX1_truth_1 rfl)) <|
  xw_cons (xl_v_0_127 hG dX1_truth_2) <|
  xw_cons (xw_E xn_if (xo_if_ne dX1_truth_5 (by decide))) <|
  xw_cons (xw_E xn_push (xo_iconst dX1_truth_8 (by decide))) <|
  xw_cons (xw_R (xt_z dX1_truth_9)) <|
  xw_cons (xw_E xn_aload (xo_aload_n dX1_truth_10 rfl)) <|
  xw_cons (xw_E xn_iload (xo_iload_n dX1_truth_11 rfl)) <|
  xw_cons (xw_E xn_putf (xo_putf hG rfl xu_0_95 dX1_truth_12)) <|
  xw_cons (xw_E xn_push (xo_iconst dX1_truth_15 (by decide))) <|
  xw_cons (xw_R (xt_z dX1_truth_16)) <|
  xw_nil _
def xp_7 : List (Nat × xm_O) := xp_7_0
theorem xq_7 {G : xm_G} (hG : xm_W xk_B G) (hO : xm_Og G) : ∀ q ∈ xp_7, xm_op xk_B G xd xk_N "LiarsCock" "truth" prog_1_method_16_code 2 (some (FieldType.boolean)) q.1 q.2 := xq_7_0 hG hO
/- 8: LiarsCock.isWorld(I)Z -/
def xp_8_0 : List (Nat × xm_O) := [
  (0, .inl (xe_iload 1 1)),
  (1, .inl (xe_push (.int 0) 2)),
  (2, .inl (xe_aload 0 3)),
  (3, .inl (xe_getf (xj_1 0 1) 6)),
  (6, .inr (.inr (.inl (xc_V (xj_1 2 119) [])))),
  (9, .inl (xe_push (.int 1) 10)),
  (10, .inl (xe_ii (fun x y => x - y) 11)),
  (11, .inr (.inr (.inl (xc_S 4 [0, 0, 0])))),
  (14, .inr (.inl xr_z))]
theorem xq_8_0 {G : xm_G} (hG : xm_W xk_B G) (hO : xm_Og G) : ∀ q ∈ xp_8_0, xm_op xk_B G xd xk_N "LiarsCock" "isWorld" prog_1_method_11_code 2 (some (FieldType.boolean)) q.1 q.2 :=
  xw_cons (xw_E xn_iload (xo_iload_n dX1_isWorld_0 rfl)) <|
  xw_cons (xw_E xn_push (xo_iconst dX1_isWorld_1 (by decide))) <|
  xw_cons (xw_E xn_aload (xo_aload_n dX1_isWorld_2 rfl)) <|
  xw_cons (xw_E xn_getf (xo_getf hG xg_0_20 dX1_isWorld_3)) <|
  xw_cons (xl_v_0_120 hG dX1_isWorld_6) <|
  xw_cons (xw_E xn_push (xo_iconst dX1_isWorld_9 (by decide))) <|
  xw_cons (xw_E xn_ii (xo_isub dX1_isWorld_10)) <|
  xw_cons (xl_s_0_113 hG dX1_isWorld_11) <|
  xw_cons (xw_R (xt_z dX1_isWorld_14)) <|
  xw_nil _
def xp_8 : List (Nat × xm_O) := xp_8_0
theorem xq_8 {G : xm_G} (hG : xm_W xk_B G) (hO : xm_Og G) : ∀ q ∈ xp_8, xm_op xk_B G xd xk_N "LiarsCock" "isWorld" prog_1_method_11_code 2 (some (FieldType.boolean)) q.1 q.2 := xq_8_0 hG hO
/- 9: LiarsCock.say(II)I -/
def xp_9_0 : List (Nat × xm_O) := [
  (0, .inl (xe_aload 0 1)),
  (1, .inl (xe_aload 0 2)),
  (2, .inl (xe_getf (xj_1 0 3) 5)),
  (5, .inl (xe_aload 0 6)),
  (6, .inl (xe_iload 1 7)),
  (7, .inr (.inr (.inl (xc_V (xj_1 0 10) [0])))),
  (10, .inl (xe_if (fun x => decide (x = 0)) 44 13)),
  (13, .inl (xe_iload 2 14)),
  (14, .inr (.inr (.inl (xc_S 11 [0])))),
  (17, .inl (xe_if (fun x => decide (x = 0)) 44 20)),
  (20, .inl (xe_iload 2 21)),
  (21, .inl (xe_aload 0 22)),
  (22, .inr (.inr (.inl (xc_V (xj_1 0 12) [])))),
  (25, .inl (xe_icmp (fun x y => decide (x < y)) 44 28)),
  (28, .inl (xe_aload 0 29)),
  (29, .inl (xe_getf (xj_1 0 3) 32)),
  (32, .inr (.inr (.inl (xc_V (xj_1 25 280) [])))),
  (35, .inl (xe_push (.int 24) 37)),
  (37, .inl (xe_icmp (fun x y => decide (y ≤ x)) 44 40)),
  (40, .inl (xe_push (.int 1) 41)),
  (41, .inl (xe_goto 45)),
  (44, .inl (xe_push (.int 0) 45)),
  (45, .inl (xe_iload 1 46)),
  (46, .inl (xe_iload 2 47)),
  (47, .inr (.inr (.inl (xc_V (xj_1 0 13) [0, 0, 0, 2])))),
  (50, .inr (.inl xr_i))]
theorem xq_9_0 {G : xm_G} (hG : xm_W xk_B G) (hO : xm_Og G) : ∀ q ∈ xp_9_0, xm_op xk_B G xd xk_N "LiarsCock" "say" prog_1_method_19_code 3 (some (FieldType.int)) q.1 q.2 :=
  xw_cons (xw_E xn_aload (xo_aload_n dX1_say_0 rfl)) <|
  xw_cons (xw_E xn_aload (xo_aload_n dX1_say_1 rfl)) <|
  xw_cons (xw_E xn_getf (xo_getf hG xg_0_27 dX1_say_2)) <|
  xw_cons (xw_E xn_aload (xo_aload_n dX1_say_5 rfl)) <|
  xw_cons (xw_E xn_iload (xo_iload_n dX1_say_6 rfl)) <|
  xw_cons (xl_v_0_154 hG dX1_say_7) <|
  xw_cons (xw_E xn_if (xo_if_eq dX1_say_10 (by decide))) <|
  xw_cons (xw_E xn_iload (xo_iload_n dX1_say_13 rfl)) <|
  xw_cons (xl_s_0_123 hG dX1_say_14) <|
  xw_cons (xw_E xn_if (xo_if_eq dX1_say_17 (by decide))) <|
  xw_cons (xw_E xn_iload (xo_iload_n dX1_say_20 rfl)) <|
  xw_cons (xw_E xn_aload (xo_aload_n dX1_say_21 rfl)) <|
  xw_cons (xl_v_0_157 hG dX1_say_22) <|
  xw_cons (xw_E xn_icmp (xo_icmp_lt dX1_say_25 (by decide))) <|
  xw_cons (xw_E xn_aload (xo_aload_n dX1_say_28 rfl)) <|
  xw_cons (xw_E xn_getf (xo_getf hG xg_0_27 dX1_say_29)) <|
  xw_cons (xl_v_0_109 hG dX1_say_32) <|
  xw_cons (xw_E xn_push (xo_bipush dX1_say_35 (by decide))) <|
  xw_cons (xw_E xn_icmp (xo_icmp_ge dX1_say_37 (by decide))) <|
  xw_cons (xw_E xn_push (xo_iconst dX1_say_40 (by decide))) <|
  xw_cons (xw_E xn_goto (xo_goto dX1_say_41 (by decide))) <|
  xw_cons (xw_E xn_push (xo_iconst dX1_say_44 (by decide))) <|
  xw_cons (xw_E xn_iload (xo_iload_n dX1_say_45 rfl)) <|
  xw_cons (xw_E xn_iload (xo_iload_n dX1_say_46 rfl)) <|
  xw_cons (xl_v_0_160 hG dX1_say_47) <|
  xw_cons (xw_R (xt_i dX1_say_50)) <|
  xw_nil _
def xp_9 : List (Nat × xm_O) := xp_9_0
theorem xq_9 {G : xm_G} (hG : xm_W xk_B G) (hO : xm_Og G) : ∀ q ∈ xp_9, xm_op xk_B G xd xk_N "LiarsCock" "say" prog_1_method_19_code 3 (some (FieldType.int)) q.1 q.2 := xq_9_0 hG hO
/- 10: LiarsCock.isPerson(I)Z -/
def xp_10_0 : List (Nat × xm_O) := [
  (0, .inl (xe_iload 1 1)),
  (1, .inl (xe_push (.int 0) 2)),
  (2, .inl (xe_aload 0 3)),
  (3, .inl (xe_getf (xj_1 0 1) 6)),
  (6, .inl (xe_getf (xj_1 2 3) 9)),
  (9, .inr (.inr (.inl (xc_V (xj_1 25 280) [])))),
  (12, .inl (xe_push (.int 1) 13)),
  (13, .inl (xe_ii (fun x y => x - y) 14)),
  (14, .inr (.inr (.inl (xc_S 4 [0, 0, 0])))),
  (17, .inr (.inl xr_z))]
theorem xq_10_0 {G : xm_G} (hG : xm_W xk_B G) (hO : xm_Og G) : ∀ q ∈ xp_10_0, xm_op xk_B G xd xk_N "LiarsCock" "isPerson" prog_1_method_9_code 2 (some (FieldType.boolean)) q.1 q.2 :=
  xw_cons (xw_E xn_iload (xo_iload_n dX1_isPerson_0 rfl)) <|
  xw_cons (xw_E xn_push (xo_iconst dX1_isPerson_1 (by decide))) <|
  xw_cons (xw_E xn_aload (xo_aload_n dX1_isPerson_2 rfl)) <|
  xw_cons (xw_E xn_getf (xo_getf hG xg_0_20 dX1_isPerson_3)) <|
  xw_cons (xw_E xn_getf (xo_getf hG xg_0_117 dX1_isPerson_6)) <|
  xw_cons (xl_v_0_109 hG dX1_isPerson_9) <|
  xw_cons (xw_E xn_push (xo_iconst dX1_isPerson_12 (by decide))) <|
  xw_cons (xw_E xn_ii (xo_isub dX1_isPerson_13)) <|
  xw_cons (xl_s_0_113 hG dX1_isPerson_14) <|
  xw_cons (xw_R (xt_z dX1_isPerson_17)) <|
  xw_nil _
def xp_10 : List (Nat × xm_O) := xp_10_0
theorem xq_10 {G : xm_G} (hG : xm_W xk_B G) (hO : xm_Og G) : ∀ q ∈ xp_10, xm_op xk_B G xd xk_N "LiarsCock" "isPerson" prog_1_method_9_code 2 (some (FieldType.boolean)) q.1 q.2 := xq_10_0 hG hO
/- 11: LiarsCock.isMinute(I)Z -/
def xp_11_0 : List (Nat × xm_O) := [
  (0, .inl (xe_iload 0 1)),
  (1, .inl (xe_push (.int 0) 2)),
  (2, .inl (xe_push (.int 1439) 5)),
  (5, .inr (.inr (.inl (xc_S 4 [0, 0, 0])))),
  (8, .inr (.inl xr_z))]
theorem xq_11_0 {G : xm_G} (hG : xm_W xk_B G) (hO : xm_Og G) : ∀ q ∈ xp_11_0, xm_op xk_B G xd xk_N "LiarsCock" "isMinute" prog_1_method_12_code 1 (some (FieldType.boolean)) q.1 q.2 :=
  xw_cons (xw_E xn_iload (xo_iload_n dX1_isMinute_0 rfl)) <|
  xw_cons (xw_E xn_push (xo_iconst dX1_isMinute_1 (by decide))) <|
  xw_cons (xw_E xn_push (xo_sipush dX1_isMinute_2 (by decide))) <|
  xw_cons (xl_s_0_113 hG dX1_isMinute_5) <|
  xw_cons (xw_R (xt_z dX1_isMinute_8)) <|
  xw_nil _
def xp_11 : List (Nat × xm_O) := xp_11_0
theorem xq_11 {G : xm_G} (hG : xm_W xk_B G) (hO : xm_Og G) : ∀ q ∈ xp_11, xm_op xk_B G xd xk_N "LiarsCock" "isMinute" prog_1_method_12_code 1 (some (FieldType.boolean)) q.1 q.2 := xq_11_0 hG hO
/- 12: LiarsCock.last()I -/
def xp_12_0 : List (Nat × xm_O) := [
  (0, .inl (xe_aload 0 1)),
  (1, .inl (xe_getf (xj_1 0 3) 4)),
  (4, .inr (.inr (.inl (xc_V (xj_1 25 288) [])))),
  (7, .inl (xe_if (fun x => decide (x = 0)) 14 10)),
  (10, .inl (xe_push (.int 0) 11)),
  (11, .inl (xe_goto 36)),
  (14, .inl (xe_aload 0 15)),
  (15, .inl (xe_getf (xj_1 0 3) 18)),
  (18, .inl (xe_aload 0 19)),
  (19, .inl (xe_getf (xj_1 0 3) 22)),
  (22, .inr (.inr (.inl (xc_V (xj_1 25 280) [])))),
  (25, .inl (xe_push (.int 1) 26)),
  (26, .inl (xe_ii (fun x y => x - y) 27)),
  (27, .inr (.inr (.inl (xc_V (xj_1 25 281) [0])))),
  (30, .inl (xe_cast (fun ci => ([22] : List Nat).elem ci) 33)),
  (33, .inl (xe_getf (xj_1 22 1) 36)),
  (36, .inr (.inl xr_i))]
theorem xq_12_0 {G : xm_G} (hG : xm_W xk_B G) (hO : xm_Og G) : ∀ q ∈ xp_12_0, xm_op xk_B G xd xk_N "LiarsCock" "last" prog_1_method_17_code 1 (some (FieldType.int)) q.1 q.2 :=
  xw_cons (xw_E xn_aload (xo_aload_n dX1_last_0 rfl)) <|
  xw_cons (xw_E xn_getf (xo_getf hG xg_0_27 dX1_last_1)) <|
  xw_cons (xl_v_0_130 hG dX1_last_4) <|
  xw_cons (xw_E xn_if (xo_if_eq dX1_last_7 (by decide))) <|
  xw_cons (xw_E xn_push (xo_iconst dX1_last_10 (by decide))) <|
  xw_cons (xw_E xn_goto (xo_goto dX1_last_11 (by decide))) <|
  xw_cons (xw_E xn_aload (xo_aload_n dX1_last_14 rfl)) <|
  xw_cons (xw_E xn_getf (xo_getf hG xg_0_27 dX1_last_15)) <|
  xw_cons (xw_E xn_aload (xo_aload_n dX1_last_18 rfl)) <|
  xw_cons (xw_E xn_getf (xo_getf hG xg_0_27 dX1_last_19)) <|
  xw_cons (xl_v_0_109 hG dX1_last_22) <|
  xw_cons (xw_E xn_push (xo_iconst dX1_last_25 (by decide))) <|
  xw_cons (xw_E xn_ii (xo_isub dX1_last_26)) <|
  xw_cons (xl_v_0_134 hG dX1_last_27) <|
  xw_cons (xw_E xn_cast (xo_cast hG q1123 xca_0_138 dX1_last_30)) <|
  xw_cons (xw_E xn_getf (xo_getf hG xg_0_140 dX1_last_33)) <|
  xw_cons (xw_R (xt_i dX1_last_36)) <|
  xw_nil _
def xp_12 : List (Nat × xm_O) := xp_12_0
theorem xq_12 {G : xm_G} (hG : xm_W xk_B G) (hO : xm_Og G) : ∀ q ∈ xp_12, xm_op xk_B G xd xk_N "LiarsCock" "last" prog_1_method_17_code 1 (some (FieldType.int)) q.1 q.2 := xq_12_0 hG hO
/- 13: LiarsCock.told(Ljava/util/ArrayList;ZII)I -/
def xp_13_0 : List (Nat × xm_O) := [
  (0, .inl (xe_iload 2 1)),
  (1, .inl (xe_if (fun x => decide (¬ x = 0)) 14 4)),
  (4, .inl (xe_aload 0 5)),
  (5, .inl (xe_getf (xj_1 0 0) 8)),
  (8, .inl (xe_push (.int 0) 9)),
  (9, .inl (xe_putf 300 0 (xj_1 1 3) 12)),
  (12, .inl (xe_push (.int (-1)) 13)),
  (13, .inr (.inl xr_i)),
  (14, .inl (xe_aload 1 15)),
  (15, .inl (xe_new 22 4 xk_f22 18)),
  (18, .inl (xe_dup 19)),
  (19, .inl (xe_aload 0 20)),
  (20, .inl (xe_getf (xj_1 0 1) 23)),
  (23, .inl (xe_iload 3 24)),
  (24, .inl (xe_iload 4 26)),
  (26, .inl (xe_aload 0 27)),
  (27, .inl (xe_getf (xj_1 0 0) 30)),
  (30, .inl (xe_aload 0 31)),
  (31, .inl (xe_getf (xj_1 0 1) 34)),
  (34, .inr (.inr (.inl (xc_V (xj_1 1 114) [2])))),
  (37, .inr (.inr (.inl (xc_I 269 [2, 0, 0, 2])))),
  (40, .inr (.inr (.inl (xc_V (xj_1 25 283) [2])))),
  (43, .inl (xe_pop 44)),
  (44, .inl (xe_push (.int 0) 45)),
  (45, .inr (.inl xr_i)),
  (46, .inl (xe_astore 5 48)),
  (48, .inl (xe_aload 5 50)),
  (50, .inl (xe_getf (xj_1 9 0) 53)),
  (53, .inr (.inl xr_i))]
theorem xq_13_0 {G : xm_G} (hG : xm_W xk_B G) (hO : xm_Og G) : ∀ q ∈ xp_13_0, xm_op xk_B G xd xk_N "LiarsCock" "told" prog_1_method_18_code 6 (some (FieldType.int)) q.1 q.2 :=
  xw_cons (xw_E xn_iload (xo_iload_n dX1_told_0 rfl)) <|
  xw_cons (xw_E xn_if (xo_if_ne dX1_told_1 (by decide))) <|
  xw_cons (xw_E xn_aload (xo_aload_n dX1_told_4 rfl)) <|
  xw_cons (xw_E xn_getf (xo_getf hG xg_0_10 dX1_told_5)) <|
  xw_cons (xw_E xn_push (xo_iconst dX1_told_8 (by decide))) <|
  xw_cons (xw_E xn_putf (xo_putf hG rfl xu_0_89 dX1_told_9)) <|
  xw_cons (xw_E xn_push (xo_iconst dX1_told_12 (by decide))) <|
  xw_cons (xw_R (xt_i dX1_told_13)) <|
  xw_cons (xw_E xn_aload (xo_aload_n dX1_told_14 rfl)) <|
  xw_cons (xw_E xn_new (xo_new hG xnw_0_138 dX1_told_15)) <|
  xw_cons (xw_E xn_dup (xo_dup dX1_told_18)) <|
  xw_cons (xw_E xn_aload (xo_aload_n dX1_told_19 rfl)) <|
  xw_cons (xw_E xn_getf (xo_getf hG xg_0_20 dX1_told_20)) <|
  xw_cons (xw_E xn_iload (xo_iload_n dX1_told_23 rfl)) <|
  xw_cons (xw_E xn_iload (xo_iload dX1_told_24)) <|
  xw_cons (xw_E xn_aload (xo_aload_n dX1_told_26 rfl)) <|
  xw_cons (xw_E xn_getf (xo_getf hG xg_0_10 dX1_told_27)) <|
  xw_cons (xw_E xn_aload (xo_aload_n dX1_told_30 rfl)) <|
  xw_cons (xw_E xn_getf (xo_getf hG xg_0_20 dX1_told_31)) <|
  xw_cons (xl_v_0_143 hG dX1_told_34) <|
  xw_cons (xl_s_0_147 hG dX1_told_37) <|
  xw_cons (xl_v_0_150 hG dX1_told_40) <|
  xw_cons (xw_E xn_pop (xo_pop dX1_told_43)) <|
  xw_cons (xw_E xn_push (xo_iconst dX1_told_44 (by decide))) <|
  xw_cons (xw_R (xt_i dX1_told_45)) <|
  xw_cons (xw_E xn_astore (xo_astore dX1_told_46)) <|
  xw_cons (xw_E xn_aload (xo_aload dX1_told_48)) <|
  xw_cons (xw_E xn_getf (xo_getf hG xg_0_103 dX1_told_50)) <|
  xw_cons (xw_R (xt_i dX1_told_53)) <|
  xw_nil _
def xp_13 : List (Nat × xm_O) := xp_13_0
theorem xq_13 {G : xm_G} (hG : xm_W xk_B G) (hO : xm_Og G) : ∀ q ∈ xp_13, xm_op xk_B G xd xk_N "LiarsCock" "told" prog_1_method_18_code 6 (some (FieldType.int)) q.1 q.2 := xq_13_0 hG hO
/- 14: LiarsCock.offer(II)I -/
def xp_14_0 : List (Nat × xm_O) := [
  (0, .inl (xe_aload 0 1)),
  (1, .inl (xe_aload 0 2)),
  (2, .inl (xe_getf (xj_1 0 4) 5)),
  (5, .inl (xe_aload 0 6)),
  (6, .inl (xe_iload 1 7)),
  (7, .inr (.inr (.inl (xc_V (xj_1 0 10) [0])))),
  (10, .inl (xe_if (fun x => decide (x = 0)) 36 13)),
  (13, .inl (xe_iload 2 14)),
  (14, .inr (.inr (.inl (xc_S 11 [0])))),
  (17, .inl (xe_if (fun x => decide (x = 0)) 36 20)),
  (20, .inl (xe_aload 0 21)),
  (21, .inl (xe_getf (xj_1 0 4) 24)),
  (24, .inr (.inr (.inl (xc_V (xj_1 25 280) [])))),
  (27, .inl (xe_push (.int 6) 29)),
  (29, .inl (xe_icmp (fun x y => decide (y ≤ x)) 36 32)),
  (32, .inl (xe_push (.int 1) 33)),
  (33, .inl (xe_goto 37)),
  (36, .inl (xe_push (.int 0) 37)),
  (37, .inl (xe_iload 1 38)),
  (38, .inl (xe_iload 2 39)),
  (39, .inr (.inr (.inl (xc_V (xj_1 0 13) [0, 0, 0, 2])))),
  (42, .inr (.inl xr_i))]
theorem xq_14_0 {G : xm_G} (hG : xm_W xk_B G) (hO : xm_Og G) : ∀ q ∈ xp_14_0, xm_op xk_B G xd xk_N "LiarsCock" "offer" prog_1_method_20_code 3 (some (FieldType.int)) q.1 q.2 :=
  xw_cons (xw_E xn_aload (xo_aload_n dX1_offer_0 rfl)) <|
  xw_cons (xw_E xn_aload (xo_aload_n dX1_offer_1 rfl)) <|
  xw_cons (xw_E xn_getf (xo_getf hG xg_0_31 dX1_offer_2)) <|
  xw_cons (xw_E xn_aload (xo_aload_n dX1_offer_5 rfl)) <|
  xw_cons (xw_E xn_iload (xo_iload_n dX1_offer_6 rfl)) <|
  xw_cons (xl_v_0_154 hG dX1_offer_7) <|
  xw_cons (xw_E xn_if (xo_if_eq dX1_offer_10 (by decide))) <|
  xw_cons (xw_E xn_iload (xo_iload_n dX1_offer_13 rfl)) <|
  xw_cons (xl_s_0_123 hG dX1_offer_14) <|
  xw_cons (xw_E xn_if (xo_if_eq dX1_offer_17 (by decide))) <|
  xw_cons (xw_E xn_aload (xo_aload_n dX1_offer_20 rfl)) <|
  xw_cons (xw_E xn_getf (xo_getf hG xg_0_31 dX1_offer_21)) <|
  xw_cons (xl_v_0_109 hG dX1_offer_24) <|
  xw_cons (xw_E xn_push (xo_bipush dX1_offer_27 (by decide))) <|
  xw_cons (xw_E xn_icmp (xo_icmp_ge dX1_offer_29 (by decide))) <|
  xw_cons (xw_E xn_push (xo_iconst dX1_offer_32 (by decide))) <|
  xw_cons (xw_E xn_goto (xo_goto dX1_offer_33 (by decide))) <|
  xw_cons (xw_E xn_push (xo_iconst dX1_offer_36 (by decide))) <|
  xw_cons (xw_E xn_iload (xo_iload_n dX1_offer_37 rfl)) <|
  xw_cons (xw_E xn_iload (xo_iload_n dX1_offer_38 rfl)) <|
  xw_cons (xl_v_0_160 hG dX1_offer_39) <|
  xw_cons (xw_R (xt_i dX1_offer_42)) <|
  xw_nil _
def xp_14 : List (Nat × xm_O) := xp_14_0
theorem xq_14 {G : xm_G} (hG : xm_W xk_B G) (hO : xm_Og G) : ∀ q ∈ xp_14, xm_op xk_B G xd xk_N "LiarsCock" "offer" prog_1_method_20_code 3 (some (FieldType.int)) q.1 q.2 := xq_14_0 hG hO
/- 15: LiarsCock.points(III)I -/
def xp_15_0 : List (Nat × xm_O) := [
  (0, .inl (xe_aload 0 1)),
  (1, .inl (xe_iload 1 2)),
  (2, .inr (.inr (.inl (xc_V (xj_1 0 16) [0])))),
  (5, .inl (xe_if (fun x => decide (x = 0)) 33 8)),
  (8, .inl (xe_iload 2 9)),
  (9, .inr (.inr (.inl (xc_S 11 [0])))),
  (12, .inl (xe_if (fun x => decide (x = 0)) 33 15)),
  (15, .inl (xe_aload 0 16)),
  (16, .inl (xe_iload 3 17)),
  (17, .inr (.inr (.inl (xc_V (xj_1 0 8) [0])))),
  (20, .inl (xe_if (fun x => decide (x = 0)) 33 23)),
  (23, .inl (xe_aload 0 24)),
  (24, .inl (xe_iload 1 25)),
  (25, .inl (xe_iload 2 26)),
  (26, .inl (xe_iload 3 27)),
  (27, .inr (.inr (.inl (xc_V (xj_1 0 17) [0, 0, 0])))),
  (30, .inl (xe_goto 34)),
  (33, .inl (xe_push (.int (-1)) 34)),
  (34, .inr (.inl xr_i))]
theorem xq_15_0 {G : xm_G} (hG : xm_W xk_B G) (hO : xm_Og G) : ∀ q ∈ xp_15_0, xm_op xk_B G xd xk_N "LiarsCock" "points" prog_1_method_26_code 4 (some (FieldType.int)) q.1 q.2 :=
  xw_cons (xw_E xn_aload (xo_aload_n dX1_points_0 rfl)) <|
  xw_cons (xw_E xn_iload (xo_iload_n dX1_points_1 rfl)) <|
  xw_cons (xl_v_0_197 hG dX1_points_2) <|
  xw_cons (xw_E xn_if (xo_if_eq dX1_points_5 (by decide))) <|
  xw_cons (xw_E xn_iload (xo_iload_n dX1_points_8 rfl)) <|
  xw_cons (xl_s_0_123 hG dX1_points_9) <|
  xw_cons (xw_E xn_if (xo_if_eq dX1_points_12 (by decide))) <|
  xw_cons (xw_E xn_aload (xo_aload_n dX1_points_15 rfl)) <|
  xw_cons (xw_E xn_iload (xo_iload_n dX1_points_16 rfl)) <|
  xw_cons (xl_v_0_127 hG dX1_points_17) <|
  xw_cons (xw_E xn_if (xo_if_eq dX1_points_20 (by decide))) <|
  xw_cons (xw_E xn_aload (xo_aload_n dX1_points_23 rfl)) <|
  xw_cons (xw_E xn_iload (xo_iload_n dX1_points_24 rfl)) <|
  xw_cons (xw_E xn_iload (xo_iload_n dX1_points_25 rfl)) <|
  xw_cons (xw_E xn_iload (xo_iload_n dX1_points_26 rfl)) <|
  xw_cons (xl_v_0_189 hG dX1_points_27) <|
  xw_cons (xw_E xn_goto (xo_goto dX1_points_30 (by decide))) <|
  xw_cons (xw_E xn_push (xo_iconst dX1_points_33 (by decide))) <|
  xw_cons (xw_R (xt_i dX1_points_34)) <|
  xw_nil _
def xp_15 : List (Nat × xm_O) := xp_15_0
theorem xq_15 {G : xm_G} (hG : xm_W xk_B G) (hO : xm_Og G) : ∀ q ∈ xp_15, xm_op xk_B G xd xk_N "LiarsCock" "points" prog_1_method_26_code 4 (some (FieldType.int)) q.1 q.2 := xq_15_0 hG hO
/- 16: LiarsCock.isCock(I)Z -/
def xp_16_0 : List (Nat × xm_O) := [
  (0, .inl (xe_iload 1 1)),
  (1, .inl (xe_push (.int 0) 2)),
  (2, .inl (xe_push (.int 1) 3)),
  (3, .inr (.inr (.inl (xc_S 4 [0, 0, 0])))),
  (6, .inl (xe_if (fun x => decide (x = 0)) 25 9)),
  (9, .inl (xe_aload 0 10)),
  (10, .inl (xe_getf (xj_1 0 1) 13)),
  (13, .inl (xe_getf (xj_1 2 6) 16)),
  (16, .inl (xe_iload 1 17)),
  (17, .inl (xe_ald (fun t => Nat.ble 4 t) 18)),
  (18, .inl (xe_null 25 21)),
  (21, .inl (xe_push (.int 1) 22)),
  (22, .inl (xe_goto 26)),
  (25, .inl (xe_push (.int 0) 26)),
  (26, .inr (.inl xr_z))]
theorem xq_16_0 {G : xm_G} (hG : xm_W xk_B G) (hO : xm_Og G) : ∀ q ∈ xp_16_0, xm_op xk_B G xd xk_N "LiarsCock" "isCock" prog_1_method_10_code 2 (some (FieldType.boolean)) q.1 q.2 :=
  xw_cons (xw_E xn_iload (xo_iload_n dX1_isCock_0 rfl)) <|
  xw_cons (xw_E xn_push (xo_iconst dX1_isCock_1 (by decide))) <|
  xw_cons (xw_E xn_push (xo_iconst dX1_isCock_2 (by decide))) <|
  xw_cons (xl_s_0_113 hG dX1_isCock_3) <|
  xw_cons (xw_E xn_if (xo_if_eq dX1_isCock_6 (by decide))) <|
  xw_cons (xw_E xn_aload (xo_aload_n dX1_isCock_9 rfl)) <|
  xw_cons (xw_E xn_getf (xo_getf hG xg_0_20 dX1_isCock_10)) <|
  xw_cons (xw_E xn_getf (xo_getf hG xg_0_72 dX1_isCock_13)) <|
  xw_cons (xw_E xn_iload (xo_iload_n dX1_isCock_16 rfl)) <|
  xw_cons (xw_E xn_ald (xo_aald xk_hB dX1_isCock_17)) <|
  xw_cons (xw_E xn_null (xo_ifnull dX1_isCock_18 (by decide))) <|
  xw_cons (xw_E xn_push (xo_iconst dX1_isCock_21 (by decide))) <|
  xw_cons (xw_E xn_goto (xo_goto dX1_isCock_22 (by decide))) <|
  xw_cons (xw_E xn_push (xo_iconst dX1_isCock_25 (by decide))) <|
  xw_cons (xw_R (xt_z dX1_isCock_26)) <|
  xw_nil _
def xp_16 : List (Nat × xm_O) := xp_16_0
theorem xq_16 {G : xm_G} (hG : xm_W xk_B G) (hO : xm_Og G) : ∀ q ∈ xp_16, xm_op xk_B G xd xk_N "LiarsCock" "isCock" prog_1_method_10_code 2 (some (FieldType.boolean)) q.1 q.2 := xq_16_0 hG hO
/- 17: LiarsCock.pointsAt(III)I -/
def xp_17_0 : List (Nat × xm_O) := [
  (0, .inl (xe_aload 0 1)),
  (1, .inl (xe_aload 0 2)),
  (2, .inl (xe_getf (xj_1 0 1) 5)),
  (5, .inl (xe_getf (xj_1 2 6) 8)),
  (8, .inl (xe_iload 1 9)),
  (9, .inl (xe_ald (fun t => Nat.ble 4 t) 10)),
  (10, .inl (xe_getf (xj_1 4 0) 13)),
  (13, .inl (xe_iload 2 14)),
  (14, .inl (xe_aload 0 15)),
  (15, .inl (xe_getf (xj_1 0 1) 18)),
  (18, .inl (xe_getf (xj_1 2 6) 21)),
  (21, .inl (xe_iload 1 22)),
  (22, .inl (xe_ald (fun t => Nat.ble 4 t) 23)),
  (23, .inl (xe_getf (xj_1 4 1) 26)),
  (26, .inl (xe_ii (fun x y => x - y) 27)),
  (27, .inl (xe_iload 3 28)),
  (28, .inr (.inr (.inl (xc_V (xj_1 0 18) [0, 0, 0])))),
  (31, .inr (.inr (.inl (xc_S 19 [2])))),
  (34, .inr (.inl xr_i))]
theorem xq_17_0 {G : xm_G} (hG : xm_W xk_B G) (hO : xm_Og G) : ∀ q ∈ xp_17_0, xm_op xk_B G xd xk_N "LiarsCock" "pointsAt" prog_1_method_24_code 4 (some (FieldType.int)) q.1 q.2 :=
  xw_cons (xw_E xn_aload (xo_aload_n dX1_pointsAt_0 rfl)) <|
  xw_cons (xw_E xn_aload (xo_aload_n dX1_pointsAt_1 rfl)) <|
  xw_cons (xw_E xn_getf (xo_getf hG xg_0_20 dX1_pointsAt_2)) <|
  xw_cons (xw_E xn_getf (xo_getf hG xg_0_72 dX1_pointsAt_5)) <|
  xw_cons (xw_E xn_iload (xo_iload_n dX1_pointsAt_8 rfl)) <|
  xw_cons (xw_E xn_ald (xo_aald xk_hB dX1_pointsAt_9)) <|
  xw_cons (xw_E xn_getf (xo_getf hG xg_0_179 dX1_pointsAt_10)) <|
  xw_cons (xw_E xn_iload (xo_iload_n dX1_pointsAt_13 rfl)) <|
  xw_cons (xw_E xn_aload (xo_aload_n dX1_pointsAt_14 rfl)) <|
  xw_cons (xw_E xn_getf (xo_getf hG xg_0_20 dX1_pointsAt_15)) <|
  xw_cons (xw_E xn_getf (xo_getf hG xg_0_72 dX1_pointsAt_18)) <|
  xw_cons (xw_E xn_iload (xo_iload_n dX1_pointsAt_21 rfl)) <|
  xw_cons (xw_E xn_ald (xo_aald xk_hB dX1_pointsAt_22)) <|
  xw_cons (xw_E xn_getf (xo_getf hG xg_0_182 dX1_pointsAt_23)) <|
  xw_cons (xw_E xn_ii (xo_isub dX1_pointsAt_26)) <|
  xw_cons (xw_E xn_iload (xo_iload_n dX1_pointsAt_27 rfl)) <|
  xw_cons (xl_v_0_168 hG dX1_pointsAt_28) <|
  xw_cons (xl_s_0_185 hG dX1_pointsAt_31) <|
  xw_cons (xw_R (xt_i dX1_pointsAt_34)) <|
  xw_nil _
def xp_17 : List (Nat × xm_O) := xp_17_0
theorem xq_17 {G : xm_G} (hG : xm_W xk_B G) (hO : xm_Og G) : ∀ q ∈ xp_17, xm_op xk_B G xd xk_N "LiarsCock" "pointsAt" prog_1_method_24_code 4 (some (FieldType.int)) q.1 q.2 := xq_17_0 hG hO
/- 18: LiarsCock.lastLie(III)LLiarsCock$Saying; -/
def xp_18_0 : List (Nat × xm_O) := [
  (0, .inl (xe_aload 0 1)),
  (1, .inl (xe_getf (xj_1 0 3) 4)),
  (4, .inr (.inr (.inl (xc_V (xj_1 25 280) [])))),
  (7, .inl (xe_push (.int 1) 8)),
  (8, .inl (xe_ii (fun x y => x - y) 9)),
  (9, .inl (xe_istore 4 11)),
  (11, .inl (xe_iload 4 13)),
  (13, .inl (xe_if (fun x => decide (x < 0)) 74 16)),
  (16, .inl (xe_aload 0 17)),
  (17, .inl (xe_getf (xj_1 0 3) 20)),
  (20, .inl (xe_iload 4 22)),
  (22, .inr (.inr (.inl (xc_V (xj_1 25 281) [0])))),
  (25, .inl (xe_cast (fun ci => ([22] : List Nat).elem ci) 28)),
  (28, .inl (xe_getf (xj_1 22 1) 31)),
  (31, .inl (xe_iload 2 32)),
  (32, .inl (xe_icmp (fun x y => decide (y < x)) 68 35)),
  (35, .inl (xe_aload 0 36)),
  (36, .inl (xe_getf (xj_1 0 3) 39)),
  (39, .inl (xe_iload 4 41)),
  (41, .inr (.inr (.inl (xc_V (xj_1 25 281) [0])))),
  (44, .inl (xe_cast (fun ci => ([22] : List Nat).elem ci) 47)),
  (47, .inl (xe_iload 1 48)),
  (48, .inl (xe_iload 3 49)),
  (49, .inr (.inr (.inl (xc_V (xj_1 22 270) [0, 0])))),
  (52, .inl (xe_if (fun x => decide (x = 0)) 68 55)),
  (55, .inl (xe_aload 0 56)),
  (56, .inl (xe_getf (xj_1 0 3) 59)),
  (59, .inl (xe_iload 4 61)),
  (61, .inr (.inr (.inl (xc_V (xj_1 25 281) [0])))),
  (64, .inl (xe_cast (fun ci => ([22] : List Nat).elem ci) 67)),
  (67, .inr (.inl xr_a)),
  (68, .inl (xe_iinc 4 (-1) 71)),
  (71, .inl (xe_goto 11)),
  (74, .inl (xe_push .null 75)),
  (75, .inr (.inl xr_a))]
theorem xq_18_0 {G : xm_G} (hG : xm_W xk_B G) (hO : xm_Og G) : ∀ q ∈ xp_18_0, xm_op xk_B G xd xk_N "LiarsCock" "lastLie" prog_1_method_21_code 5 (some ((FieldType.object "LiarsCock$Saying"))) q.1 q.2 :=
  xw_cons (xw_E xn_aload (xo_aload_n dX1_lastLie_0 rfl)) <|
  xw_cons (xw_E xn_getf (xo_getf hG xg_0_27 dX1_lastLie_1)) <|
  xw_cons (xl_v_0_109 hG dX1_lastLie_4) <|
  xw_cons (xw_E xn_push (xo_iconst dX1_lastLie_7 (by decide))) <|
  xw_cons (xw_E xn_ii (xo_isub dX1_lastLie_8)) <|
  xw_cons (xw_E xn_istore (xo_istore dX1_lastLie_9)) <|
  xw_cons (xw_E xn_iload (xo_iload dX1_lastLie_11)) <|
  xw_cons (xw_E xn_if (xo_if_lt dX1_lastLie_13 (by decide))) <|
  xw_cons (xw_E xn_aload (xo_aload_n dX1_lastLie_16 rfl)) <|
  xw_cons (xw_E xn_getf (xo_getf hG xg_0_27 dX1_lastLie_17)) <|
  xw_cons (xw_E xn_iload (xo_iload dX1_lastLie_20)) <|
  xw_cons (xl_v_0_134 hG dX1_lastLie_22) <|
  xw_cons (xw_E xn_cast (xo_cast hG q1123 xca_0_138 dX1_lastLie_25)) <|
  xw_cons (xw_E xn_getf (xo_getf hG xg_0_140 dX1_lastLie_28)) <|
  xw_cons (xw_E xn_iload (xo_iload_n dX1_lastLie_31 rfl)) <|
  xw_cons (xw_E xn_icmp (xo_icmp_gt dX1_lastLie_32 (by decide))) <|
  xw_cons (xw_E xn_aload (xo_aload_n dX1_lastLie_35 rfl)) <|
  xw_cons (xw_E xn_getf (xo_getf hG xg_0_27 dX1_lastLie_36)) <|
  xw_cons (xw_E xn_iload (xo_iload dX1_lastLie_39)) <|
  xw_cons (xl_v_0_134 hG dX1_lastLie_41) <|
  xw_cons (xw_E xn_cast (xo_cast hG q1123 xca_0_138 dX1_lastLie_44)) <|
  xw_cons (xw_E xn_iload (xo_iload_n dX1_lastLie_47 rfl)) <|
  xw_cons (xw_E xn_iload (xo_iload_n dX1_lastLie_48 rfl)) <|
  xw_cons (xl_v_0_164 hG dX1_lastLie_49) <|
  xw_cons (xw_E xn_if (xo_if_eq dX1_lastLie_52 (by decide))) <|
  xw_cons (xw_E xn_aload (xo_aload_n dX1_lastLie_55 rfl)) <|
  xw_cons (xw_E xn_getf (xo_getf hG xg_0_27 dX1_lastLie_56)) <|
  xw_cons (xw_E xn_iload (xo_iload dX1_lastLie_59)) <|
  xw_cons (xl_v_0_134 hG dX1_lastLie_61) <|
  xw_cons (xw_E xn_cast (xo_cast hG q1123 xca_0_138 dX1_lastLie_64)) <|
  xw_cons (xw_R (xt_a (Or.inl ⟨_, rfl⟩) dX1_lastLie_67)) <|
  xw_cons (xw_E xn_iinc (xo_iinc dX1_lastLie_68 (by decide))) <|
  xw_cons (xw_E xn_goto (xo_goto dX1_lastLie_71 (by decide))) <|
  xw_cons (xw_E xn_push (xo_anull dX1_lastLie_74)) <|
  xw_cons (xw_R (xt_a (Or.inl ⟨_, rfl⟩) dX1_lastLie_75)) <|
  xw_nil _
def xp_18 : List (Nat × xm_O) := xp_18_0
theorem xq_18 {G : xm_G} (hG : xm_W xk_B G) (hO : xm_Og G) : ∀ q ∈ xp_18, xm_op xk_B G xd xk_N "LiarsCock" "lastLie" prog_1_method_21_code 5 (some ((FieldType.object "LiarsCock$Saying"))) q.1 q.2 := xq_18_0 hG hO
/- 19: LiarsCock.who(LLiarsCock$Saying;)I -/
def xp_19_0 : List (Nat × xm_O) := [
  (0, .inl (xe_aload 0 1)),
  (1, .inl (xe_null 4 8)),
  (4, .inl (xe_push (.int (-1)) 5)),
  (5, .inl (xe_goto 12)),
  (8, .inl (xe_aload 0 9)),
  (9, .inl (xe_getf (xj_1 22 0) 12)),
  (12, .inr (.inl xr_i))]
theorem xq_19_0 {G : xm_G} (hG : xm_W xk_B G) (hO : xm_Og G) : ∀ q ∈ xp_19_0, xm_op xk_B G xd xk_N "LiarsCock" "who" prog_1_method_23_code 1 (some (FieldType.int)) q.1 q.2 :=
  xw_cons (xw_E xn_aload (xo_aload_n dX1_who_0 rfl)) <|
  xw_cons (xw_E xn_null (xo_ifnonnull dX1_who_1 (by decide))) <|
  xw_cons (xw_E xn_push (xo_iconst dX1_who_4 (by decide))) <|
  xw_cons (xw_E xn_goto (xo_goto dX1_who_5 (by decide))) <|
  xw_cons (xw_E xn_aload (xo_aload_n dX1_who_8 rfl)) <|
  xw_cons (xw_E xn_getf (xo_getf hG xg_0_176 dX1_who_9)) <|
  xw_cons (xw_R (xt_i dX1_who_12)) <|
  xw_nil _
def xp_19 : List (Nat × xm_O) := xp_19_0
theorem xq_19 {G : xm_G} (hG : xm_W xk_B G) (hO : xm_Og G) : ∀ q ∈ xp_19, xm_op xk_B G xd xk_N "LiarsCock" "who" prog_1_method_23_code 1 (some (FieldType.int)) q.1 q.2 := xq_19_0 hG hO
/- 20: LiarsCock.lie(II)I -/
def xp_20_0 : List (Nat × xm_O) := [
  (0, .inl (xe_aload 0 1)),
  (1, .inl (xe_iload 1 2)),
  (2, .inr (.inr (.inl (xc_V (xj_1 0 21) [0])))),
  (5, .inl (xe_if (fun x => decide (x = 0)) 16 8)),
  (8, .inl (xe_aload 0 9)),
  (9, .inl (xe_iload 2 10)),
  (10, .inr (.inr (.inl (xc_V (xj_1 0 8) [0])))),
  (13, .inl (xe_if (fun x => decide (¬ x = 0)) 18 16)),
  (16, .inl (xe_push (.int (-1)) 17)),
  (17, .inr (.inl xr_i)),
  (18, .inl (xe_aload 0 19)),
  (19, .inl (xe_getf (xj_1 0 3) 22)),
  (22, .inl (xe_iload 1 23)),
  (23, .inr (.inr (.inl (xc_V (xj_1 25 281) [0])))),
  (26, .inl (xe_cast (fun ci => ([22] : List Nat).elem ci) 29)),
  (29, .inl (xe_astore 3 30)),
  (30, .inl (xe_aload 3 31)),
  (31, .inl (xe_getf (xj_1 22 2) 34)),
  (34, .inl (xe_iload 2 35)),
  (35, .inr (.inr (.inl (xc_S 6 [0, 1])))),
  (38, .inl (xe_if (fun x => decide (x = 0)) 45 41)),
  (41, .inl (xe_push (.int 1) 42)),
  (42, .inl (xe_goto 46)),
  (45, .inl (xe_push (.int 0) 46)),
  (46, .inl (xe_aload 3 47)),
  (47, .inl (xe_push (.int 0) 48)),
  (48, .inl (xe_iload 2 49)),
  (49, .inr (.inr (.inl (xc_V (xj_1 22 270) [0, 0])))),
  (52, .inl (xe_if (fun x => decide (x = 0)) 59 55)),
  (55, .inl (xe_push (.int 2) 56)),
  (56, .inl (xe_goto 60)),
  (59, .inl (xe_push (.int 0) 60)),
  (60, .inl (xe_ii (fun x y => x + y) 61)),
  (61, .inl (xe_aload 3 62)),
  (62, .inl (xe_push (.int 1) 63)),
  (63, .inl (xe_iload 2 64)),
  (64, .inr (.inr (.inl (xc_V (xj_1 22 270) [0, 0])))),
  (67, .inl (xe_if (fun x => decide (x = 0)) 74 70)),
  (70, .inl (xe_push (.int 4) 71)),
  (71, .inl (xe_goto 75)),
  (74, .inl (xe_push (.int 0) 75)),
  (75, .inl (xe_ii (fun x y => x + y) 76)),
  (76, .inr (.inl xr_i))]
theorem xq_20_0 {G : xm_G} (hG : xm_W xk_B G) (hO : xm_Og G) : ∀ q ∈ xp_20_0, xm_op xk_B G xd xk_N "LiarsCock" "lie" prog_1_method_28_code 4 (some (FieldType.int)) q.1 q.2 :=
  xw_cons (xw_E xn_aload (xo_aload_n dX1_lie_0 rfl)) <|
  xw_cons (xw_E xn_iload (xo_iload_n dX1_lie_1 rfl)) <|
  xw_cons (xl_v_0_200 hG dX1_lie_2) <|
  xw_cons (xw_E xn_if (xo_if_eq dX1_lie_5 (by decide))) <|
  xw_cons (xw_E xn_aload (xo_aload_n dX1_lie_8 rfl)) <|
  xw_cons (xw_E xn_iload (xo_iload_n dX1_lie_9 rfl)) <|
  xw_cons (xl_v_0_127 hG dX1_lie_10) <|
  xw_cons (xw_E xn_if (xo_if_ne dX1_lie_13 (by decide))) <|
  xw_cons (xw_E xn_push (xo_iconst dX1_lie_16 (by decide))) <|
  xw_cons (xw_R (xt_i dX1_lie_17)) <|
  xw_cons (xw_E xn_aload (xo_aload_n dX1_lie_18 rfl)) <|
  xw_cons (xw_E xn_getf (xo_getf hG xg_0_27 dX1_lie_19)) <|
  xw_cons (xw_E xn_iload (xo_iload_n dX1_lie_22 rfl)) <|
  xw_cons (xl_v_0_134 hG dX1_lie_23) <|
  xw_cons (xw_E xn_cast (xo_cast hG q1123 xca_0_138 dX1_lie_26)) <|
  xw_cons (xw_E xn_astore (xo_astore_n dX1_lie_29 rfl)) <|
  xw_cons (xw_E xn_aload (xo_aload_n dX1_lie_30 rfl)) <|
  xw_cons (xw_E xn_getf (xo_getf hG xg_0_203 dX1_lie_31)) <|
  xw_cons (xw_E xn_iload (xo_iload_n dX1_lie_34 rfl)) <|
  xw_cons (xl_s_0_172 hG dX1_lie_35) <|
  xw_cons (xw_E xn_if (xo_if_eq dX1_lie_38 (by decide))) <|
  xw_cons (xw_E xn_push (xo_iconst dX1_lie_41 (by decide))) <|
  xw_cons (xw_E xn_goto (xo_goto dX1_lie_42 (by decide))) <|
  xw_cons (xw_E xn_push (xo_iconst dX1_lie_45 (by decide))) <|
  xw_cons (xw_E xn_aload (xo_aload_n dX1_lie_46 rfl)) <|
  xw_cons (xw_E xn_push (xo_iconst dX1_lie_47 (by decide))) <|
  xw_cons (xw_E xn_iload (xo_iload_n dX1_lie_48 rfl)) <|
  xw_cons (xl_v_0_164 hG dX1_lie_49) <|
  xw_cons (xw_E xn_if (xo_if_eq dX1_lie_52 (by decide))) <|
  xw_cons (xw_E xn_push (xo_iconst dX1_lie_55 (by decide))) <|
  xw_cons (xw_E xn_goto (xo_goto dX1_lie_56 (by decide))) <|
  xw_cons (xw_E xn_push (xo_iconst dX1_lie_59 (by decide))) <|
  xw_cons (xw_E xn_ii (xo_iadd dX1_lie_60)) <|
  xw_cons (xw_E xn_aload (xo_aload_n dX1_lie_61 rfl)) <|
  xw_cons (xw_E xn_push (xo_iconst dX1_lie_62 (by decide))) <|
  xw_cons (xw_E xn_iload (xo_iload_n dX1_lie_63 rfl)) <|
  xw_cons (xl_v_0_164 hG dX1_lie_64) <|
  xw_cons (xw_E xn_if (xo_if_eq dX1_lie_67 (by decide))) <|
  xw_cons (xw_E xn_push (xo_iconst dX1_lie_70 (by decide))) <|
  xw_cons (xw_E xn_goto (xo_goto dX1_lie_71 (by decide))) <|
  xw_cons (xw_E xn_push (xo_iconst dX1_lie_74 (by decide))) <|
  xw_cons (xw_E xn_ii (xo_iadd dX1_lie_75)) <|
  xw_cons (xw_R (xt_i dX1_lie_76)) <|
  xw_nil _
def xp_20 : List (Nat × xm_O) := xp_20_0
theorem xq_20 {G : xm_G} (hG : xm_W xk_B G) (hO : xm_Og G) : ∀ q ∈ xp_20, xm_op xk_B G xd xk_N "LiarsCock" "lie" prog_1_method_28_code 4 (some (FieldType.int)) q.1 q.2 := xq_20_0 hG hO
/- 21: LiarsCock.isSaying(I)Z -/
def xp_21_0 : List (Nat × xm_O) := [
  (0, .inl (xe_iload 1 1)),
  (1, .inl (xe_push (.int 0) 2)),
  (2, .inl (xe_aload 0 3)),
  (3, .inl (xe_getf (xj_1 0 3) 6)),
  (6, .inr (.inr (.inl (xc_V (xj_1 25 280) [])))),
  (9, .inl (xe_push (.int 1) 10)),
  (10, .inl (xe_ii (fun x y => x - y) 11)),
  (11, .inr (.inr (.inl (xc_S 4 [0, 0, 0])))),
  (14, .inr (.inl xr_z))]
theorem xq_21_0 {G : xm_G} (hG : xm_W xk_B G) (hO : xm_Og G) : ∀ q ∈ xp_21_0, xm_op xk_B G xd xk_N "LiarsCock" "isSaying" prog_1_method_27_code 2 (some (FieldType.boolean)) q.1 q.2 :=
  xw_cons (xw_E xn_iload (xo_iload_n dX1_isSaying_0 rfl)) <|
  xw_cons (xw_E xn_push (xo_iconst dX1_isSaying_1 (by decide))) <|
  xw_cons (xw_E xn_aload (xo_aload_n dX1_isSaying_2 rfl)) <|
  xw_cons (xw_E xn_getf (xo_getf hG xg_0_27 dX1_isSaying_3)) <|
  xw_cons (xl_v_0_109 hG dX1_isSaying_6) <|
  xw_cons (xw_E xn_push (xo_iconst dX1_isSaying_9 (by decide))) <|
  xw_cons (xw_E xn_ii (xo_isub dX1_isSaying_10)) <|
  xw_cons (xl_s_0_113 hG dX1_isSaying_11) <|
  xw_cons (xw_R (xt_z dX1_isSaying_14)) <|
  xw_nil _
def xp_21 : List (Nat × xm_O) := xp_21_0
theorem xq_21 {G : xm_G} (hG : xm_W xk_B G) (hO : xm_Og G) : ∀ q ∈ xp_21, xm_op xk_B G xd xk_N "LiarsCock" "isSaying" prog_1_method_27_code 2 (some (FieldType.boolean)) q.1 q.2 := xq_21_0 hG hO
/- 22: LiarsCock.look(IIII)I -/
def xp_22_0 : List (Nat × xm_O) := [
  (0, .inl (xe_aload 0 1)),
  (1, .inl (xe_iload 1 2)),
  (2, .inr (.inr (.inl (xc_V (xj_1 0 16) [0])))),
  (5, .inl (xe_if (fun x => decide (x = 0)) 42 8)),
  (8, .inl (xe_iload 2 9)),
  (9, .inr (.inr (.inl (xc_S 11 [0])))),
  (12, .inl (xe_if (fun x => decide (x = 0)) 42 15)),
  (15, .inl (xe_iload 3 16)),
  (16, .inr (.inr (.inl (xc_S 23 [0])))),
  (19, .inl (xe_if (fun x => decide (x = 0)) 42 22)),
  (22, .inl (xe_iload 4 24)),
  (24, .inr (.inr (.inl (xc_S 23 [0])))),
  (27, .inl (xe_if (fun x => decide (x = 0)) 42 30)),
  (30, .inl (xe_aload 0 31)),
  (31, .inl (xe_getf (xj_1 0 5) 34)),
  (34, .inr (.inr (.inl (xc_V (xj_1 25 280) [])))),
  (37, .inl (xe_push (.int 12) 39)),
  (39, .inl (xe_icmp (fun x y => decide (¬ x = y)) 44 42)),
  (42, .inl (xe_push (.int (-1)) 43)),
  (43, .inr (.inl xr_i)),
  (44, .inl (xe_aload 0 45)),
  (45, .inl (xe_getf (xj_1 0 5) 48)),
  (48, .inl (xe_new 23 4 xk_f23 51)),
  (51, .inl (xe_dup 52)),
  (52, .inl (xe_iload 1 53)),
  (53, .inl (xe_iload 2 54)),
  (54, .inl (xe_iload 3 55)),
  (55, .inl (xe_iload 4 57)),
  (57, .inr (.inr (.inl (xc_I 271 [0, 0, 0, 0])))),
  (60, .inr (.inr (.inl (xc_V (xj_1 25 283) [2])))),
  (63, .inl (xe_pop 64)),
  (64, .inl (xe_aload 0 65)),
  (65, .inl (xe_getf (xj_1 0 5) 68)),
  (68, .inr (.inr (.inl (xc_V (xj_1 25 280) [])))),
  (71, .inl (xe_push (.int 1) 72)),
  (72, .inl (xe_ii (fun x y => x - y) 73)),
  (73, .inr (.inl xr_i))]
theorem xq_22_0 {G : xm_G} (hG : xm_W xk_B G) (hO : xm_Og G) : ∀ q ∈ xp_22_0, xm_op xk_B G xd xk_N "LiarsCock" "look" prog_1_method_30_code 5 (some (FieldType.int)) q.1 q.2 :=
  xw_cons (xw_E xn_aload (xo_aload_n dX1_look_0 rfl)) <|
  xw_cons (xw_E xn_iload (xo_iload_n dX1_look_1 rfl)) <|
  xw_cons (xl_v_0_197 hG dX1_look_2) <|
  xw_cons (xw_E xn_if (xo_if_eq dX1_look_5 (by decide))) <|
  xw_cons (xw_E xn_iload (xo_iload_n dX1_look_8 rfl)) <|
  xw_cons (xl_s_0_123 hG dX1_look_9) <|
  xw_cons (xw_E xn_if (xo_if_eq dX1_look_12 (by decide))) <|
  xw_cons (xw_E xn_iload (xo_iload_n dX1_look_15 rfl)) <|
  xw_cons (xl_s_0_206 hG dX1_look_16) <|
  xw_cons (xw_E xn_if (xo_if_eq dX1_look_19 (by decide))) <|
  xw_cons (xw_E xn_iload (xo_iload dX1_look_22)) <|
  xw_cons (xl_s_0_206 hG dX1_look_24) <|
  xw_cons (xw_E xn_if (xo_if_eq dX1_look_27 (by decide))) <|
  xw_cons (xw_E xn_aload (xo_aload_n dX1_look_30 rfl)) <|
  xw_cons (xw_E xn_getf (xo_getf hG xg_0_34 dX1_look_31)) <|
  xw_cons (xl_v_0_109 hG dX1_look_34) <|
  xw_cons (xw_E xn_push (xo_bipush dX1_look_37 (by decide))) <|
  xw_cons (xw_E xn_icmp (xo_icmp_ne dX1_look_39 (by decide))) <|
  xw_cons (xw_E xn_push (xo_iconst dX1_look_42 (by decide))) <|
  xw_cons (xw_R (xt_i dX1_look_43)) <|
  xw_cons (xw_E xn_aload (xo_aload_n dX1_look_44 rfl)) <|
  xw_cons (xw_E xn_getf (xo_getf hG xg_0_34 dX1_look_45)) <|
  xw_cons (xw_E xn_new (xo_new hG xnw_0_209 dX1_look_48)) <|
  xw_cons (xw_E xn_dup (xo_dup dX1_look_51)) <|
  xw_cons (xw_E xn_iload (xo_iload_n dX1_look_52 rfl)) <|
  xw_cons (xw_E xn_iload (xo_iload_n dX1_look_53 rfl)) <|
  xw_cons (xw_E xn_iload (xo_iload_n dX1_look_54 rfl)) <|
  xw_cons (xw_E xn_iload (xo_iload dX1_look_55)) <|
  xw_cons (xl_s_0_211 hG dX1_look_57) <|
  xw_cons (xl_v_0_150 hG dX1_look_60) <|
  xw_cons (xw_E xn_pop (xo_pop dX1_look_63)) <|
  xw_cons (xw_E xn_aload (xo_aload_n dX1_look_64 rfl)) <|
  xw_cons (xw_E xn_getf (xo_getf hG xg_0_34 dX1_look_65)) <|
  xw_cons (xl_v_0_109 hG dX1_look_68) <|
  xw_cons (xw_E xn_push (xo_iconst dX1_look_71 (by decide))) <|
  xw_cons (xw_E xn_ii (xo_isub dX1_look_72)) <|
  xw_cons (xw_R (xt_i dX1_look_73)) <|
  xw_nil _
def xp_22 : List (Nat × xm_O) := xp_22_0
theorem xq_22 {G : xm_G} (hG : xm_W xk_B G) (hO : xm_Og G) : ∀ q ∈ xp_22, xm_op xk_B G xd xk_N "LiarsCock" "look" prog_1_method_30_code 5 (some (FieldType.int)) q.1 q.2 := xq_22_0 hG hO
/- 23: LiarsCock.isBearing(I)Z -/
def xp_23_0 : List (Nat × xm_O) := [
  (0, .inl (xe_iload 0 1)),
  (1, .inl (xe_push (.int 0) 2)),
  (2, .inl (xe_push (.int 359) 5)),
  (5, .inr (.inr (.inl (xc_S 4 [0, 0, 0])))),
  (8, .inr (.inl xr_z))]
theorem xq_23_0 {G : xm_G} (hG : xm_W xk_B G) (hO : xm_Og G) : ∀ q ∈ xp_23_0, xm_op xk_B G xd xk_N "LiarsCock" "isBearing" prog_1_method_14_code 1 (some (FieldType.boolean)) q.1 q.2 :=
  xw_cons (xw_E xn_iload (xo_iload_n dX1_isBearing_0 rfl)) <|
  xw_cons (xw_E xn_push (xo_iconst dX1_isBearing_1 (by decide))) <|
  xw_cons (xw_E xn_push (xo_sipush dX1_isBearing_2 (by decide))) <|
  xw_cons (xl_s_0_113 hG dX1_isBearing_5) <|
  xw_cons (xw_R (xt_z dX1_isBearing_8)) <|
  xw_nil _
def xp_23 : List (Nat × xm_O) := xp_23_0
theorem xq_23 {G : xm_G} (hG : xm_W xk_B G) (hO : xm_Og G) : ∀ q ∈ xp_23, xm_op xk_B G xd xk_N "LiarsCock" "isBearing" prog_1_method_14_code 1 (some (FieldType.boolean)) q.1 q.2 := xq_23_0 hG hO
/- 24: LiarsCock.watch(II)I -/
def xp_24_0 : List (Nat × xm_O) := [
  (0, .inl (xe_aload 0 1)),
  (1, .inl (xe_iload 1 2)),
  (2, .inr (.inr (.inl (xc_V (xj_1 0 16) [0])))),
  (5, .inl (xe_if (fun x => decide (x = 0)) 26 8)),
  (8, .inl (xe_iload 2 9)),
  (9, .inr (.inr (.inl (xc_S 11 [0])))),
  (12, .inl (xe_if (fun x => decide (x = 0)) 26 15)),
  (15, .inl (xe_aload 0 16)),
  (16, .inl (xe_getf (xj_1 0 6) 19)),
  (19, .inr (.inr (.inl (xc_V (xj_1 25 280) [])))),
  (22, .inl (xe_push (.int 4) 23)),
  (23, .inl (xe_icmp (fun x y => decide (¬ x = y)) 28 26)),
  (26, .inl (xe_push (.int (-1)) 27)),
  (27, .inr (.inl xr_i)),
  (28, .inl (xe_aload 0 29)),
  (29, .inl (xe_getf (xj_1 0 6) 32)),
  (32, .inl (xe_new 23 4 xk_f23 35)),
  (35, .inl (xe_dup 36)),
  (36, .inl (xe_iload 1 37)),
  (37, .inl (xe_iload 2 38)),
  (38, .inl (xe_push (.int 0) 39)),
  (39, .inl (xe_push (.int 0) 40)),
  (40, .inr (.inr (.inl (xc_I 271 [0, 0, 0, 0])))),
  (43, .inr (.inr (.inl (xc_V (xj_1 25 283) [2])))),
  (46, .inl (xe_pop 47)),
  (47, .inl (xe_aload 0 48)),
  (48, .inl (xe_getf (xj_1 0 6) 51)),
  (51, .inr (.inr (.inl (xc_V (xj_1 25 280) [])))),
  (54, .inl (xe_push (.int 1) 55)),
  (55, .inl (xe_ii (fun x y => x - y) 56)),
  (56, .inr (.inl xr_i))]
theorem xq_24_0 {G : xm_G} (hG : xm_W xk_B G) (hO : xm_Og G) : ∀ q ∈ xp_24_0, xm_op xk_B G xd xk_N "LiarsCock" "watch" prog_1_method_31_code 3 (some (FieldType.int)) q.1 q.2 :=
  xw_cons (xw_E xn_aload (xo_aload_n dX1_watch_0 rfl)) <|
  xw_cons (xw_E xn_iload (xo_iload_n dX1_watch_1 rfl)) <|
  xw_cons (xl_v_0_197 hG dX1_watch_2) <|
  xw_cons (xw_E xn_if (xo_if_eq dX1_watch_5 (by decide))) <|
  xw_cons (xw_E xn_iload (xo_iload_n dX1_watch_8 rfl)) <|
  xw_cons (xl_s_0_123 hG dX1_watch_9) <|
  xw_cons (xw_E xn_if (xo_if_eq dX1_watch_12 (by decide))) <|
  xw_cons (xw_E xn_aload (xo_aload_n dX1_watch_15 rfl)) <|
  xw_cons (xw_E xn_getf (xo_getf hG xg_0_37 dX1_watch_16)) <|
  xw_cons (xl_v_0_109 hG dX1_watch_19) <|
  xw_cons (xw_E xn_push (xo_iconst dX1_watch_22 (by decide))) <|
  xw_cons (xw_E xn_icmp (xo_icmp_ne dX1_watch_23 (by decide))) <|
  xw_cons (xw_E xn_push (xo_iconst dX1_watch_26 (by decide))) <|
  xw_cons (xw_R (xt_i dX1_watch_27)) <|
  xw_cons (xw_E xn_aload (xo_aload_n dX1_watch_28 rfl)) <|
  xw_cons (xw_E xn_getf (xo_getf hG xg_0_37 dX1_watch_29)) <|
  xw_cons (xw_E xn_new (xo_new hG xnw_0_209 dX1_watch_32)) <|
  xw_cons (xw_E xn_dup (xo_dup dX1_watch_35)) <|
  xw_cons (xw_E xn_iload (xo_iload_n dX1_watch_36 rfl)) <|
  xw_cons (xw_E xn_iload (xo_iload_n dX1_watch_37 rfl)) <|
  xw_cons (xw_E xn_push (xo_iconst dX1_watch_38 (by decide))) <|
  xw_cons (xw_E xn_push (xo_iconst dX1_watch_39 (by decide))) <|
  xw_cons (xl_s_0_211 hG dX1_watch_40) <|
  xw_cons (xl_v_0_150 hG dX1_watch_43) <|
  xw_cons (xw_E xn_pop (xo_pop dX1_watch_46)) <|
  xw_cons (xw_E xn_aload (xo_aload_n dX1_watch_47 rfl)) <|
  xw_cons (xw_E xn_getf (xo_getf hG xg_0_37 dX1_watch_48)) <|
  xw_cons (xl_v_0_109 hG dX1_watch_51) <|
  xw_cons (xw_E xn_push (xo_iconst dX1_watch_54 (by decide))) <|
  xw_cons (xw_E xn_ii (xo_isub dX1_watch_55)) <|
  xw_cons (xw_R (xt_i dX1_watch_56)) <|
  xw_nil _
def xp_24 : List (Nat × xm_O) := xp_24_0
theorem xq_24 {G : xm_G} (hG : xm_W xk_B G) (hO : xm_Og G) : ∀ q ∈ xp_24, xm_op xk_B G xd xk_N "LiarsCock" "watch" prog_1_method_31_code 3 (some (FieldType.int)) q.1 q.2 := xq_24_0 hG hO
/- 25: LiarsCock.world(I)I -/
def xp_25_0 : List (Nat × xm_O) := [
  (0, .inl (xe_aload 0 1)),
  (1, .inl (xe_iload 1 2)),
  (2, .inr (.inr (.inl (xc_V (xj_1 0 8) [0])))),
  (5, .inl (xe_if (fun x => decide (¬ x = 0)) 10 8)),
  (8, .inl (xe_push (.int (-1)) 9)),
  (9, .inr (.inl xr_i)),
  (10, .inl (xe_aload 0 11)),
  (11, .inr (.inr (.inl (xc_V (xj_1 0 26) [])))),
  (14, .inl (xe_iload 1 15)),
  (15, .inr (.inr (.inl (xc_S 6 [0, 1])))),
  (18, .inl (xe_if (fun x => decide (x = 0)) 25 21)),
  (21, .inl (xe_push (.int 2) 22)),
  (22, .inl (xe_goto 44)),
  (25, .inl (xe_aload 0 26)),
  (26, .inl (xe_getf (xj_1 0 1) 29)),
  (29, .inl (xe_getf (xj_1 2 8) 32)),
  (32, .inl (xe_iload 1 33)),
  (33, .inr (.inr (.inl (xc_S 6 [0, 1])))),
  (36, .inl (xe_if (fun x => decide (x = 0)) 43 39)),
  (39, .inl (xe_push (.int 1) 40)),
  (40, .inl (xe_goto 44)),
  (43, .inl (xe_push (.int 0) 44)),
  (44, .inr (.inl xr_i))]
theorem xq_25_0 {G : xm_G} (hG : xm_W xk_B G) (hO : xm_Og G) : ∀ q ∈ xp_25_0, xm_op xk_B G xd xk_N "LiarsCock" "world" prog_1_method_36_code 2 (some (FieldType.int)) q.1 q.2 :=
  xw_cons (xw_E xn_aload (xo_aload_n dX1_world_0 rfl)) <|
  xw_cons (xw_E xn_iload (xo_iload_n dX1_world_1 rfl)) <|
  xw_cons (xl_v_0_127 hG dX1_world_2) <|
  xw_cons (xw_E xn_if (xo_if_ne dX1_world_5 (by decide))) <|
  xw_cons (xw_E xn_push (xo_iconst dX1_world_8 (by decide))) <|
  xw_cons (xw_R (xt_i dX1_world_9)) <|
  xw_cons (xw_E xn_aload (xo_aload_n dX1_world_10 rfl)) <|
  xw_cons (xl_v_0_235 hG dX1_world_11) <|
  xw_cons (xw_E xn_iload (xo_iload_n dX1_world_14 rfl)) <|
  xw_cons (xl_s_0_172 hG dX1_world_15) <|
  xw_cons (xw_E xn_if (xo_if_eq dX1_world_18 (by decide))) <|
  xw_cons (xw_E xn_push (xo_iconst dX1_world_21 (by decide))) <|
  xw_cons (xw_E xn_goto (xo_goto dX1_world_22 (by decide))) <|
  xw_cons (xw_E xn_aload (xo_aload_n dX1_world_25 rfl)) <|
  xw_cons (xw_E xn_getf (xo_getf hG xg_0_20 dX1_world_26)) <|
  xw_cons (xw_E xn_getf (xo_getf hG xg_0_81 dX1_world_29)) <|
  xw_cons (xw_E xn_iload (xo_iload_n dX1_world_32 rfl)) <|
  xw_cons (xl_s_0_172 hG dX1_world_33) <|
  xw_cons (xw_E xn_if (xo_if_eq dX1_world_36 (by decide))) <|
  xw_cons (xw_E xn_push (xo_iconst dX1_world_39 (by decide))) <|
  xw_cons (xw_E xn_goto (xo_goto dX1_world_40 (by decide))) <|
  xw_cons (xw_E xn_push (xo_iconst dX1_world_43 (by decide))) <|
  xw_cons (xw_R (xt_i dX1_world_44)) <|
  xw_nil _
def xp_25 : List (Nat × xm_O) := xp_25_0
theorem xq_25 {G : xm_G} (hG : xm_W xk_B G) (hO : xm_Og G) : ∀ q ∈ xp_25, xm_op xk_B G xd xk_N "LiarsCock" "world" prog_1_method_36_code 2 (some (FieldType.int)) q.1 q.2 := xq_25_0 hG hO
/- 26: LiarsCock.canBe()J -/
def xp_26_0 : List (Nat × xm_O) := [
  (0, .inl (xe_aload 0 1)),
  (1, .inl (xe_aload 0 2)),
  (2, .inr (.inr (.inl (xc_V (xj_1 0 27) [])))),
  (5, .inr (.inr (.inl (xc_V (xj_1 0 28) [0])))),
  (8, .inr (.inl xr_l))]
theorem xq_26_0 {G : xm_G} (hG : xm_W xk_B G) (hO : xm_Og G) : ∀ q ∈ xp_26_0, xm_op xk_B G xd xk_N "LiarsCock" "canBe" prog_1_method_35_code 1 (some (FieldType.long)) q.1 q.2 :=
  xw_cons (xw_E xn_aload (xo_aload_n dX1_canBe_0 rfl)) <|
  xw_cons (xw_E xn_aload (xo_aload_n dX1_canBe_1 rfl)) <|
  xw_cons (xl_v_0_228 hG dX1_canBe_2) <|
  xw_cons (xl_v_0_231 hG dX1_canBe_5) <|
  xw_cons (xw_R (xt_l dX1_canBe_8)) <|
  xw_nil _
def xp_26 : List (Nat × xm_O) := xp_26_0
theorem xq_26 {G : xm_G} (hG : xm_W xk_B G) (hO : xm_Og G) : ∀ q ∈ xp_26, xm_op xk_B G xd xk_N "LiarsCock" "canBe" prog_1_method_35_code 1 (some (FieldType.long)) q.1 q.2 := xq_26_0 hG hO
/- 27: LiarsCock.allLooks()I -/
def xp_27_0 : List (Nat × xm_O) := [
  (0, .inl (xe_push (.int 1) 1)),
  (1, .inl (xe_aload 0 2)),
  (2, .inl (xe_getf (xj_1 0 5) 5)),
  (5, .inr (.inr (.inl (xc_V (xj_1 25 280) [])))),
  (8, .inl (xe_ii (fun x y => x <<< (y &&& 31)) 9)),
  (9, .inl (xe_push (.int 1) 10)),
  (10, .inl (xe_ii (fun x y => x - y) 11)),
  (11, .inr (.inl xr_i))]
theorem xq_27_0 {G : xm_G} (hG : xm_W xk_B G) (hO : xm_Og G) : ∀ q ∈ xp_27_0, xm_op xk_B G xd xk_N "LiarsCock" "allLooks" prog_1_method_34_code 1 (some (FieldType.int)) q.1 q.2 :=
  xw_cons (xw_E xn_push (xo_iconst dX1_allLooks_0 (by decide))) <|
  xw_cons (xw_E xn_aload (xo_aload_n dX1_allLooks_1 rfl)) <|
  xw_cons (xw_E xn_getf (xo_getf hG xg_0_34 dX1_allLooks_2)) <|
  xw_cons (xl_v_0_109 hG dX1_allLooks_5) <|
  xw_cons (xw_E xn_ii (xo_ishl dX1_allLooks_8)) <|
  xw_cons (xw_E xn_push (xo_iconst dX1_allLooks_9 (by decide))) <|
  xw_cons (xw_E xn_ii (xo_isub dX1_allLooks_10)) <|
  xw_cons (xw_R (xt_i dX1_allLooks_11)) <|
  xw_nil _
def xp_27 : List (Nat × xm_O) := xp_27_0
theorem xq_27 {G : xm_G} (hG : xm_W xk_B G) (hO : xm_Og G) : ∀ q ∈ xp_27, xm_op xk_B G xd xk_N "LiarsCock" "allLooks" prog_1_method_34_code 1 (some (FieldType.int)) q.1 q.2 := xq_27_0 hG hO
/- 28: LiarsCock.canBe(I)J -/
def xp_28_0 : List (Nat × xm_O) := [
  (0, .inl (xe_aload 0 1)),
  (1, .inl (xe_getf (xj_1 0 1) 4)),
  (4, .inl (xe_getf (xj_1 2 8) 7)),
  (7, .inl (xe_lstore 2 8)),
  (8, .inl (xe_push (.int 0) 9)),
  (9, .inl (xe_istore 4 11)),
  (11, .inl (xe_iload 4 13)),
  (13, .inl (xe_aload 0 14)),
  (14, .inl (xe_getf (xj_1 0 5) 17)),
  (17, .inr (.inr (.inl (xc_V (xj_1 25 280) [])))),
  (20, .inl (xe_icmp (fun x y => decide (y ≤ x)) 58 23)),
  (23, .inl (xe_iload 1 24)),
  (24, .inl (xe_i2l 25)),
  (25, .inl (xe_iload 4 27)),
  (27, .inr (.inr (.inl (xc_S 6 [0, 1])))),
  (30, .inl (xe_if (fun x => decide (x = 0)) 52 33)),
  (33, .inl (xe_lload 2 34)),
  (34, .inl (xe_aload 0 35)),
  (35, .inl (xe_aload 0 36)),
  (36, .inl (xe_getf (xj_1 0 5) 39)),
  (39, .inl (xe_iload 4 41)),
  (41, .inr (.inr (.inl (xc_V (xj_1 25 281) [0])))),
  (44, .inl (xe_cast (fun ci => ([23] : List Nat).elem ci) 47)),
  (47, .inr (.inr (.inl (xc_V (xj_1 0 29) [2])))),
  (50, .inl (xe_ll (fun x y => x &&& y) 51)),
  (51, .inl (xe_lstore 2 52)),
  (52, .inl (xe_iinc 4 1 55)),
  (55, .inl (xe_goto 11)),
  (58, .inl (xe_lload 2 59)),
  (59, .inr (.inl xr_l))]
theorem xq_28_0 {G : xm_G} (hG : xm_W xk_B G) (hO : xm_Og G) : ∀ q ∈ xp_28_0, xm_op xk_B G xd xk_N "LiarsCock" "canBe" prog_1_method_33_code 5 (some (FieldType.long)) q.1 q.2 :=
  xw_cons (xw_E xn_aload (xo_aload_n dX1_canBe_2_0 rfl)) <|
  xw_cons (xw_E xn_getf (xo_getf hG xg_0_20 dX1_canBe_2_1)) <|
  xw_cons (xw_E xn_getf (xo_getf hG xg_0_81 dX1_canBe_2_4)) <|
  xw_cons (xw_E xn_lstore (xo_lstore_n dX1_canBe_2_7 rfl)) <|
  xw_cons (xw_E xn_push (xo_iconst dX1_canBe_2_8 (by decide))) <|
  xw_cons (xw_E xn_istore (xo_istore dX1_canBe_2_9)) <|
  xw_cons (xw_E xn_iload (xo_iload dX1_canBe_2_11)) <|
  xw_cons (xw_E xn_aload (xo_aload_n dX1_canBe_2_13 rfl)) <|
  xw_cons (xw_E xn_getf (xo_getf hG xg_0_34 dX1_canBe_2_14)) <|
  xw_cons (xl_v_0_109 hG dX1_canBe_2_17) <|
  xw_cons (xw_E xn_icmp (xo_icmp_ge dX1_canBe_2_20 (by decide))) <|
  xw_cons (xw_E xn_iload (xo_iload_n dX1_canBe_2_23 rfl)) <|
  xw_cons (xw_E xn_i2l (xo_i2l dX1_canBe_2_24)) <|
  xw_cons (xw_E xn_iload (xo_iload dX1_canBe_2_25)) <|
  xw_cons (xl_s_0_172 hG dX1_canBe_2_27) <|
  xw_cons (xw_E xn_if (xo_if_eq dX1_canBe_2_30 (by decide))) <|
  xw_cons (xw_E xn_lload (xo_lload_n dX1_canBe_2_33 rfl)) <|
  xw_cons (xw_E xn_aload (xo_aload_n dX1_canBe_2_34 rfl)) <|
  xw_cons (xw_E xn_aload (xo_aload_n dX1_canBe_2_35 rfl)) <|
  xw_cons (xw_E xn_getf (xo_getf hG xg_0_34 dX1_canBe_2_36)) <|
  xw_cons (xw_E xn_iload (xo_iload dX1_canBe_2_39)) <|
  xw_cons (xl_v_0_134 hG dX1_canBe_2_41) <|
  xw_cons (xw_E xn_cast (xo_cast hG q1212 xca_0_209 dX1_canBe_2_44)) <|
  xw_cons (xl_v_0_224 hG dX1_canBe_2_47) <|
  xw_cons (xw_E xn_ll (xo_land dX1_canBe_2_50)) <|
  xw_cons (xw_E xn_lstore (xo_lstore_n dX1_canBe_2_51 rfl)) <|
  xw_cons (xw_E xn_iinc (xo_iinc dX1_canBe_2_52 (by decide))) <|
  xw_cons (xw_E xn_goto (xo_goto dX1_canBe_2_55 (by decide))) <|
  xw_cons (xw_E xn_lload (xo_lload_n dX1_canBe_2_58 rfl)) <|
  xw_cons (xw_R (xt_l dX1_canBe_2_59)) <|
  xw_nil _
def xp_28 : List (Nat × xm_O) := xp_28_0
theorem xq_28 {G : xm_G} (hG : xm_W xk_B G) (hO : xm_Og G) : ∀ q ∈ xp_28, xm_op xk_B G xd xk_N "LiarsCock" "canBe" prog_1_method_33_code 5 (some (FieldType.long)) q.1 q.2 := xq_28_0 hG hO
/- 29: LiarsCock.fits(LLiarsCock$Look;)J -/
def xp_29_0 : List (Nat × xm_O) := [
  (0, .inl (xe_push (.long 0) 1)),
  (1, .inl (xe_lstore 2 2)),
  (2, .inl (xe_push (.int 0) 3)),
  (3, .inl (xe_istore 4 5)),
  (5, .inl (xe_iload 4 7)),
  (7, .inl (xe_aload 0 8)),
  (8, .inl (xe_getf (xj_1 0 1) 11)),
  (11, .inr (.inr (.inl (xc_V (xj_1 2 119) [])))),
  (14, .inl (xe_icmp (fun x y => decide (y ≤ x)) 51 17)),
  (17, .inl (xe_aload 1 18)),
  (18, .inl (xe_aload 0 19)),
  (19, .inl (xe_aload 1 20)),
  (20, .inl (xe_getf (xj_1 23 0) 23)),
  (23, .inl (xe_aload 1 24)),
  (24, .inl (xe_getf (xj_1 23 1) 27)),
  (27, .inl (xe_iload 4 29)),
  (29, .inr (.inr (.inl (xc_V (xj_1 0 30) [0, 0, 0])))),
  (32, .inr (.inr (.inl (xc_V (xj_1 23 272) [0])))),
  (35, .inl (xe_if (fun x => decide (x = 0)) 45 38)),
  (38, .inl (xe_lload 2 39)),
  (39, .inl (xe_push (.long 1) 40)),
  (40, .inl (xe_iload 4 42)),
  (42, .inl (xe_li (fun x y => x <<< (y.toInt64 &&& 63)) 43)),
  (43, .inl (xe_ll (fun x y => x ||| y) 44)),
  (44, .inl (xe_lstore 2 45)),
  (45, .inl (xe_iinc 4 1 48)),
  (48, .inl (xe_goto 5)),
  (51, .inl (xe_lload 2 52)),
  (52, .inr (.inl xr_l))]
theorem xq_29_0 {G : xm_G} (hG : xm_W xk_B G) (hO : xm_Og G) : ∀ q ∈ xp_29_0, xm_op xk_B G xd xk_N "LiarsCock" "fits" prog_1_method_32_code 5 (some (FieldType.long)) q.1 q.2 :=
  xw_cons (xw_E xn_push (xo_lconst dX1_fits_0 (by decide))) <|
  xw_cons (xw_E xn_lstore (xo_lstore_n dX1_fits_1 rfl)) <|
  xw_cons (xw_E xn_push (xo_iconst dX1_fits_2 (by decide))) <|
  xw_cons (xw_E xn_istore (xo_istore dX1_fits_3)) <|
  xw_cons (xw_E xn_iload (xo_iload dX1_fits_5)) <|
  xw_cons (xw_E xn_aload (xo_aload_n dX1_fits_7 rfl)) <|
  xw_cons (xw_E xn_getf (xo_getf hG xg_0_20 dX1_fits_8)) <|
  xw_cons (xl_v_0_120 hG dX1_fits_11) <|
  xw_cons (xw_E xn_icmp (xo_icmp_ge dX1_fits_14 (by decide))) <|
  xw_cons (xw_E xn_aload (xo_aload_n dX1_fits_17 rfl)) <|
  xw_cons (xw_E xn_aload (xo_aload_n dX1_fits_18 rfl)) <|
  xw_cons (xw_E xn_aload (xo_aload_n dX1_fits_19 rfl)) <|
  xw_cons (xw_E xn_getf (xo_getf hG xg_0_214 dX1_fits_20)) <|
  xw_cons (xw_E xn_aload (xo_aload_n dX1_fits_23 rfl)) <|
  xw_cons (xw_E xn_getf (xo_getf hG xg_0_217 dX1_fits_24)) <|
  xw_cons (xw_E xn_iload (xo_iload dX1_fits_27)) <|
  xw_cons (xl_v_0_218 hG dX1_fits_29) <|
  xw_cons (xl_v_0_221 hG dX1_fits_32) <|
  xw_cons (xw_E xn_if (xo_if_eq dX1_fits_35 (by decide))) <|
  xw_cons (xw_E xn_lload (xo_lload_n dX1_fits_38 rfl)) <|
  xw_cons (xw_E xn_push (xo_lconst dX1_fits_39 (by decide))) <|
  xw_cons (xw_E xn_iload (xo_iload dX1_fits_40)) <|
  xw_cons (xw_E xn_li (xo_lshl dX1_fits_42)) <|
  xw_cons (xw_E xn_ll (xo_lor dX1_fits_43)) <|
  xw_cons (xw_E xn_lstore (xo_lstore_n dX1_fits_44 rfl)) <|
  xw_cons (xw_E xn_iinc (xo_iinc dX1_fits_45 (by decide))) <|
  xw_cons (xw_E xn_goto (xo_goto dX1_fits_48 (by decide))) <|
  xw_cons (xw_E xn_lload (xo_lload_n dX1_fits_51 rfl)) <|
  xw_cons (xw_R (xt_l dX1_fits_52)) <|
  xw_nil _
def xp_29 : List (Nat × xm_O) := xp_29_0
theorem xq_29 {G : xm_G} (hG : xm_W xk_B G) (hO : xm_Og G) : ∀ q ∈ xp_29, xm_op xk_B G xd xk_N "LiarsCock" "fits" prog_1_method_32_code 5 (some (FieldType.long)) q.1 q.2 := xq_29_0 hG hO
/- 30: LiarsCock.bearingAt(III)I -/
def xp_30_0 : List (Nat × xm_O) := [
  (0, .inl (xe_aload 0 1)),
  (1, .inl (xe_getf (xj_1 0 1) 4)),
  (4, .inl (xe_aload 0 5)),
  (5, .inl (xe_iload 1 6)),
  (6, .inl (xe_iload 2 7)),
  (7, .inl (xe_iload 3 8)),
  (8, .inr (.inr (.inl (xc_V (xj_1 0 17) [0, 0, 0])))),
  (11, .inr (.inr (.inl (xc_V (xj_1 2 122) [0])))),
  (14, .inr (.inl xr_i))]
theorem xq_30_0 {G : xm_G} (hG : xm_W xk_B G) (hO : xm_Og G) : ∀ q ∈ xp_30_0, xm_op xk_B G xd xk_N "LiarsCock" "bearingAt" prog_1_method_25_code 4 (some (FieldType.int)) q.1 q.2 :=
  xw_cons (xw_E xn_aload (xo_aload_n dX1_bearingAt_0 rfl)) <|
  xw_cons (xw_E xn_getf (xo_getf hG xg_0_20 dX1_bearingAt_1)) <|
  xw_cons (xw_E xn_aload (xo_aload_n dX1_bearingAt_4 rfl)) <|
  xw_cons (xw_E xn_iload (xo_iload_n dX1_bearingAt_5 rfl)) <|
  xw_cons (xw_E xn_iload (xo_iload_n dX1_bearingAt_6 rfl)) <|
  xw_cons (xw_E xn_iload (xo_iload_n dX1_bearingAt_7 rfl)) <|
  xw_cons (xl_v_0_189 hG dX1_bearingAt_8) <|
  xw_cons (xl_v_0_193 hG dX1_bearingAt_11) <|
  xw_cons (xw_R (xt_i dX1_bearingAt_14)) <|
  xw_nil _
def xp_30 : List (Nat × xm_O) := xp_30_0
theorem xq_30 {G : xm_G} (hG : xm_W xk_B G) (hO : xm_Og G) : ∀ q ∈ xp_30, xm_op xk_B G xd xk_N "LiarsCock" "bearingAt" prog_1_method_25_code 4 (some (FieldType.int)) q.1 q.2 := xq_30_0 hG hO
/- 31: LiarsCock.isIn(III)Z -/
def xp_31_0 : List (Nat × xm_O) := [
  (0, .inl (xe_iload 1 1)),
  (1, .inl (xe_iload 2 2)),
  (2, .inl (xe_icmp (fun x y => decide (y < x)) 14 5)),
  (5, .inl (xe_iload 0 6)),
  (6, .inl (xe_iload 1 7)),
  (7, .inl (xe_iload 2 8)),
  (8, .inr (.inr (.inl (xc_S 4 [0, 0, 0])))),
  (11, .inl (xe_goto 29)),
  (14, .inl (xe_iload 0 15)),
  (15, .inl (xe_iload 1 16)),
  (16, .inl (xe_icmp (fun x y => decide (y ≤ x)) 24 19)),
  (19, .inl (xe_iload 0 20)),
  (20, .inl (xe_iload 2 21)),
  (21, .inl (xe_icmp (fun x y => decide (y < x)) 28 24)),
  (24, .inl (xe_push (.int 1) 25)),
  (25, .inl (xe_goto 29)),
  (28, .inl (xe_push (.int 0) 29)),
  (29, .inr (.inl xr_z))]
theorem xq_31_0 {G : xm_G} (hG : xm_W xk_B G) (hO : xm_Og G) : ∀ q ∈ xp_31_0, xm_op xk_B G xd xk_N "LiarsCock" "isIn" prog_1_method_29_code 3 (some (FieldType.boolean)) q.1 q.2 :=
  xw_cons (xw_E xn_iload (xo_iload_n dX1_isIn_0 rfl)) <|
  xw_cons (xw_E xn_iload (xo_iload_n dX1_isIn_1 rfl)) <|
  xw_cons (xw_E xn_icmp (xo_icmp_gt dX1_isIn_2 (by decide))) <|
  xw_cons (xw_E xn_iload (xo_iload_n dX1_isIn_5 rfl)) <|
  xw_cons (xw_E xn_iload (xo_iload_n dX1_isIn_6 rfl)) <|
  xw_cons (xw_E xn_iload (xo_iload_n dX1_isIn_7 rfl)) <|
  xw_cons (xl_s_0_113 hG dX1_isIn_8) <|
  xw_cons (xw_E xn_goto (xo_goto dX1_isIn_11 (by decide))) <|
  xw_cons (xw_E xn_iload (xo_iload_n dX1_isIn_14 rfl)) <|
  xw_cons (xw_E xn_iload (xo_iload_n dX1_isIn_15 rfl)) <|
  xw_cons (xw_E xn_icmp (xo_icmp_ge dX1_isIn_16 (by decide))) <|
  xw_cons (xw_E xn_iload (xo_iload_n dX1_isIn_19 rfl)) <|
  xw_cons (xw_E xn_iload (xo_iload_n dX1_isIn_20 rfl)) <|
  xw_cons (xw_E xn_icmp (xo_icmp_gt dX1_isIn_21 (by decide))) <|
  xw_cons (xw_E xn_push (xo_iconst dX1_isIn_24 (by decide))) <|
  xw_cons (xw_E xn_goto (xo_goto dX1_isIn_25 (by decide))) <|
  xw_cons (xw_E xn_push (xo_iconst dX1_isIn_28 (by decide))) <|
  xw_cons (xw_R (xt_z dX1_isIn_29)) <|
  xw_nil _
def xp_31 : List (Nat × xm_O) := xp_31_0
theorem xq_31 {G : xm_G} (hG : xm_W xk_B G) (hO : xm_Og G) : ∀ q ∈ xp_31, xm_op xk_B G xd xk_N "LiarsCock" "isIn" prog_1_method_29_code 3 (some (FieldType.boolean)) q.1 q.2 := xq_31_0 hG hO
/- 32: LiarsCock.worlds(I)I -/
def xp_32_0 : List (Nat × xm_O) := [
  (0, .inl (xe_iload 1 1)),
  (1, .inl (xe_push (.int (-1)) 2)),
  (2, .inl (xe_icmp (fun x y => decide (x = y)) 15 5)),
  (5, .inl (xe_aload 0 6)),
  (6, .inl (xe_iload 1 7)),
  (7, .inr (.inr (.inl (xc_V (xj_1 0 33) [0])))),
  (10, .inl (xe_if (fun x => decide (¬ x = 0)) 15 13)),
  (13, .inl (xe_push (.int (-1)) 14)),
  (14, .inr (.inl xr_i)),
  (15, .inl (xe_iload 1 16)),
  (16, .inl (xe_push (.int (-1)) 17)),
  (17, .inl (xe_icmp (fun x y => decide (¬ x = y)) 27 20)),
  (20, .inl (xe_aload 0 21)),
  (21, .inr (.inr (.inl (xc_V (xj_1 0 26) [])))),
  (24, .inl (xe_goto 37)),
  (27, .inl (xe_aload 0 28)),
  (28, .inr (.inr (.inl (xc_V (xj_1 0 26) [])))),
  (31, .inl (xe_aload 0 32)),
  (32, .inl (xe_iload 1 33)),
  (33, .inr (.inr (.inl (xc_V (xj_1 0 34) [0])))),
  (36, .inl (xe_ll (fun x y => x &&& y) 37)),
  (37, .inr (.inr (.inl (xc_S 35 [1])))),
  (40, .inr (.inl xr_i))]
theorem xq_32_0 {G : xm_G} (hG : xm_W xk_B G) (hO : xm_Og G) : ∀ q ∈ xp_32_0, xm_op xk_B G xd xk_N "LiarsCock" "worlds" prog_1_method_38_code 2 (some (FieldType.int)) q.1 q.2 :=
  xw_cons (xw_E xn_iload (xo_iload_n dX1_worlds_0 rfl)) <|
  xw_cons (xw_E xn_push (xo_iconst dX1_worlds_1 (by decide))) <|
  xw_cons (xw_E xn_icmp (xo_icmp_eq dX1_worlds_2 (by decide))) <|
  xw_cons (xw_E xn_aload (xo_aload_n dX1_worlds_5 rfl)) <|
  xw_cons (xw_E xn_iload (xo_iload_n dX1_worlds_6 rfl)) <|
  xw_cons (xl_v_0_238 hG dX1_worlds_7) <|
  xw_cons (xw_E xn_if (xo_if_ne dX1_worlds_10 (by decide))) <|
  xw_cons (xw_E xn_push (xo_iconst dX1_worlds_13 (by decide))) <|
  xw_cons (xw_R (xt_i dX1_worlds_14)) <|
  xw_cons (xw_E xn_iload (xo_iload_n dX1_worlds_15 rfl)) <|
  xw_cons (xw_E xn_push (xo_iconst dX1_worlds_16 (by decide))) <|
  xw_cons (xw_E xn_icmp (xo_icmp_ne dX1_worlds_17 (by decide))) <|
  xw_cons (xw_E xn_aload (xo_aload_n dX1_worlds_20 rfl)) <|
  xw_cons (xl_v_0_235 hG dX1_worlds_21) <|
  xw_cons (xw_E xn_goto (xo_goto dX1_worlds_24 (by decide))) <|
  xw_cons (xw_E xn_aload (xo_aload_n dX1_worlds_27 rfl)) <|
  xw_cons (xl_v_0_235 hG dX1_worlds_28) <|
  xw_cons (xw_E xn_aload (xo_aload_n dX1_worlds_31 rfl)) <|
  xw_cons (xw_E xn_iload (xo_iload_n dX1_worlds_32 rfl)) <|
  xw_cons (xl_v_0_241 hG dX1_worlds_33) <|
  xw_cons (xw_E xn_ll (xo_land dX1_worlds_36)) <|
  xw_cons (xl_s_0_244 hG dX1_worlds_37) <|
  xw_cons (xw_R (xt_i dX1_worlds_40)) <|
  xw_nil _
def xp_32 : List (Nat × xm_O) := xp_32_0
theorem xq_32 {G : xm_G} (hG : xm_W xk_B G) (hO : xm_Og G) : ∀ q ∈ xp_32, xm_op xk_B G xd xk_N "LiarsCock" "worlds" prog_1_method_38_code 2 (some (FieldType.int)) q.1 q.2 := xq_32_0 hG hO
/- 33: LiarsCock.isFact(I)Z -/
def xp_33_0 : List (Nat × xm_O) := [
  (0, .inl (xe_iload 1 1)),
  (1, .inl (xe_push (.int 0) 2)),
  (2, .inl (xe_aload 0 3)),
  (3, .inl (xe_getf (xj_1 0 1) 6)),
  (6, .inl (xe_getf (xj_1 2 0) 9)),
  (9, .inr (.inr (.inl (xc_V (xj_1 25 280) [])))),
  (12, .inl (xe_push (.int 1) 13)),
  (13, .inl (xe_ii (fun x y => x - y) 14)),
  (14, .inr (.inr (.inl (xc_S 4 [0, 0, 0])))),
  (17, .inr (.inl xr_z))]
theorem xq_33_0 {G : xm_G} (hG : xm_W xk_B G) (hO : xm_Og G) : ∀ q ∈ xp_33_0, xm_op xk_B G xd xk_N "LiarsCock" "isFact" prog_1_method_8_code 2 (some (FieldType.boolean)) q.1 q.2 :=
  xw_cons (xw_E xn_iload (xo_iload_n dX1_isFact_0 rfl)) <|
  xw_cons (xw_E xn_push (xo_iconst dX1_isFact_1 (by decide))) <|
  xw_cons (xw_E xn_aload (xo_aload_n dX1_isFact_2 rfl)) <|
  xw_cons (xw_E xn_getf (xo_getf hG xg_0_20 dX1_isFact_3)) <|
  xw_cons (xw_E xn_getf (xo_getf hG xg_0_106 dX1_isFact_6)) <|
  xw_cons (xl_v_0_109 hG dX1_isFact_9) <|
  xw_cons (xw_E xn_push (xo_iconst dX1_isFact_12 (by decide))) <|
  xw_cons (xw_E xn_ii (xo_isub dX1_isFact_13)) <|
  xw_cons (xl_s_0_113 hG dX1_isFact_14) <|
  xw_cons (xw_R (xt_z dX1_isFact_17)) <|
  xw_nil _
def xp_33 : List (Nat × xm_O) := xp_33_0
theorem xq_33 {G : xm_G} (hG : xm_W xk_B G) (hO : xm_Og G) : ∀ q ∈ xp_33, xm_op xk_B G xd xk_N "LiarsCock" "isFact" prog_1_method_8_code 2 (some (FieldType.boolean)) q.1 q.2 := xq_33_0 hG hO
/- 34: LiarsCock.with(I)J -/
def xp_34_0 : List (Nat × xm_O) := [
  (0, .inl (xe_push (.long 0) 1)),
  (1, .inl (xe_lstore 2 2)),
  (2, .inl (xe_push (.int 0) 3)),
  (3, .inl (xe_istore 4 5)),
  (5, .inl (xe_iload 4 7)),
  (7, .inl (xe_aload 0 8)),
  (8, .inl (xe_getf (xj_1 0 1) 11)),
  (11, .inr (.inr (.inl (xc_V (xj_1 2 119) [])))),
  (14, .inl (xe_icmp (fun x y => decide (y ≤ x)) 40 17)),
  (17, .inl (xe_iload 4 19)),
  (19, .inl (xe_i2l 20)),
  (20, .inl (xe_iload 1 21)),
  (21, .inr (.inr (.inl (xc_S 6 [0, 1])))),
  (24, .inl (xe_if (fun x => decide (x = 0)) 34 27)),
  (27, .inl (xe_lload 2 28)),
  (28, .inl (xe_push (.long 1) 29)),
  (29, .inl (xe_iload 4 31)),
  (31, .inl (xe_li (fun x y => x <<< (y.toInt64 &&& 63)) 32)),
  (32, .inl (xe_ll (fun x y => x ||| y) 33)),
  (33, .inl (xe_lstore 2 34)),
  (34, .inl (xe_iinc 4 1 37)),
  (37, .inl (xe_goto 5)),
  (40, .inl (xe_lload 2 41)),
  (41, .inr (.inl xr_l))]
theorem xq_34_0 {G : xm_G} (hG : xm_W xk_B G) (hO : xm_Og G) : ∀ q ∈ xp_34_0, xm_op xk_B G xd xk_N "LiarsCock" "with" prog_1_method_37_code 5 (some (FieldType.long)) q.1 q.2 :=
  xw_cons (xw_E xn_push (xo_lconst dX1_with_0 (by decide))) <|
  xw_cons (xw_E xn_lstore (xo_lstore_n dX1_with_1 rfl)) <|
  xw_cons (xw_E xn_push (xo_iconst dX1_with_2 (by decide))) <|
  xw_cons (xw_E xn_istore (xo_istore dX1_with_3)) <|
  xw_cons (xw_E xn_iload (xo_iload dX1_with_5)) <|
  xw_cons (xw_E xn_aload (xo_aload_n dX1_with_7 rfl)) <|
  xw_cons (xw_E xn_getf (xo_getf hG xg_0_20 dX1_with_8)) <|
  xw_cons (xl_v_0_120 hG dX1_with_11) <|
  xw_cons (xw_E xn_icmp (xo_icmp_ge dX1_with_14 (by decide))) <|
  xw_cons (xw_E xn_iload (xo_iload dX1_with_17)) <|
  xw_cons (xw_E xn_i2l (xo_i2l dX1_with_19)) <|
  xw_cons (xw_E xn_iload (xo_iload_n dX1_with_20 rfl)) <|
  xw_cons (xl_s_0_172 hG dX1_with_21) <|
  xw_cons (xw_E xn_if (xo_if_eq dX1_with_24 (by decide))) <|
  xw_cons (xw_E xn_lload (xo_lload_n dX1_with_27 rfl)) <|
  xw_cons (xw_E xn_push (xo_lconst dX1_with_28 (by decide))) <|
  xw_cons (xw_E xn_iload (xo_iload dX1_with_29)) <|
  xw_cons (xw_E xn_li (xo_lshl dX1_with_31)) <|
  xw_cons (xw_E xn_ll (xo_lor dX1_with_32)) <|
  xw_cons (xw_E xn_lstore (xo_lstore_n dX1_with_33 rfl)) <|
  xw_cons (xw_E xn_iinc (xo_iinc dX1_with_34 (by decide))) <|
  xw_cons (xw_E xn_goto (xo_goto dX1_with_37 (by decide))) <|
  xw_cons (xw_E xn_lload (xo_lload_n dX1_with_40 rfl)) <|
  xw_cons (xw_R (xt_l dX1_with_41)) <|
  xw_nil _
def xp_34 : List (Nat × xm_O) := xp_34_0
theorem xq_34 {G : xm_G} (hG : xm_W xk_B G) (hO : xm_Og G) : ∀ q ∈ xp_34, xm_op xk_B G xd xk_N "LiarsCock" "with" prog_1_method_37_code 5 (some (FieldType.long)) q.1 q.2 := xq_34_0 hG hO
/- 35: LiarsCock.bits(J)I -/
def xp_35_0 : List (Nat × xm_O) := [
  (0, .inl (xe_push (.int 0) 1)),
  (1, .inl (xe_istore 2 2)),
  (2, .inl (xe_lload 0 3)),
  (3, .inl (xe_lstore 3 4)),
  (4, .inl (xe_lload 3 5)),
  (5, .inl (xe_push (.long 0) 6)),
  (6, .inl (xe_lcmp 7)),
  (7, .inl (xe_if (fun x => decide (x = 0)) 22 10)),
  (10, .inl (xe_iinc 2 1 13)),
  (13, .inl (xe_lload 3 14)),
  (14, .inl (xe_lload 3 15)),
  (15, .inl (xe_push (.long 1) 16)),
  (16, .inl (xe_ll (fun x y => x - y) 17)),
  (17, .inl (xe_ll (fun x y => x &&& y) 18)),
  (18, .inl (xe_lstore 3 19)),
  (19, .inl (xe_goto 4)),
  (22, .inl (xe_iload 2 23)),
  (23, .inr (.inl xr_i))]
theorem xq_35_0 {G : xm_G} (hG : xm_W xk_B G) (hO : xm_Og G) : ∀ q ∈ xp_35_0, xm_op xk_B G xd xk_N "LiarsCock" "bits" prog_1_method_4_code 5 (some (FieldType.int)) q.1 q.2 :=
  xw_cons (xw_E xn_push (xo_iconst dX1_bits_0 (by decide))) <|
  xw_cons (xw_E xn_istore (xo_istore_n dX1_bits_1 rfl)) <|
  xw_cons (xw_E xn_lload (xo_lload_n dX1_bits_2 rfl)) <|
  xw_cons (xw_E xn_lstore (xo_lstore_n dX1_bits_3 rfl)) <|
  xw_cons (xw_E xn_lload (xo_lload_n dX1_bits_4 rfl)) <|
  xw_cons (xw_E xn_push (xo_lconst dX1_bits_5 (by decide))) <|
  xw_cons (xw_E xn_lcmp (xo_lcmp dX1_bits_6)) <|
  xw_cons (xw_E xn_if (xo_if_eq dX1_bits_7 (by decide))) <|
  xw_cons (xw_E xn_iinc (xo_iinc dX1_bits_10 (by decide))) <|
  xw_cons (xw_E xn_lload (xo_lload_n dX1_bits_13 rfl)) <|
  xw_cons (xw_E xn_lload (xo_lload_n dX1_bits_14 rfl)) <|
  xw_cons (xw_E xn_push (xo_lconst dX1_bits_15 (by decide))) <|
  xw_cons (xw_E xn_ll (xo_lsub dX1_bits_16)) <|
  xw_cons (xw_E xn_ll (xo_land dX1_bits_17)) <|
  xw_cons (xw_E xn_lstore (xo_lstore_n dX1_bits_18 rfl)) <|
  xw_cons (xw_E xn_goto (xo_goto dX1_bits_19 (by decide))) <|
  xw_cons (xw_E xn_iload (xo_iload_n dX1_bits_22 rfl)) <|
  xw_cons (xw_R (xt_i dX1_bits_23)) <|
  xw_nil _
def xp_35 : List (Nat × xm_O) := xp_35_0
theorem xq_35 {G : xm_G} (hG : xm_W xk_B G) (hO : xm_Og G) : ∀ q ∈ xp_35, xm_op xk_B G xd xk_N "LiarsCock" "bits" prog_1_method_4_code 5 (some (FieldType.int)) q.1 q.2 := xq_35_0 hG hO
/- 36: LiarsCock.sureFact(I)I -/
def xp_36_0 : List (Nat × xm_O) := [
  (0, .inl (xe_aload 0 1)),
  (1, .inl (xe_iload 1 2)),
  (2, .inr (.inr (.inl (xc_V (xj_1 0 33) [0])))),
  (5, .inl (xe_if (fun x => decide (x = 0)) 23 8)),
  (8, .inl (xe_aload 0 9)),
  (9, .inr (.inr (.inl (xc_V (xj_1 0 26) [])))),
  (12, .inl (xe_aload 0 13)),
  (13, .inl (xe_iload 1 14)),
  (14, .inr (.inr (.inl (xc_V (xj_1 0 34) [0])))),
  (17, .inr (.inr (.inl (xc_S 37 [1, 1])))),
  (20, .inl (xe_goto 24)),
  (23, .inl (xe_push (.int (-1)) 24)),
  (24, .inr (.inl xr_i))]
theorem xq_36_0 {G : xm_G} (hG : xm_W xk_B G) (hO : xm_Og G) : ∀ q ∈ xp_36_0, xm_op xk_B G xd xk_N "LiarsCock" "sureFact" prog_1_method_40_code 2 (some (FieldType.int)) q.1 q.2 :=
  xw_cons (xw_E xn_aload (xo_aload_n dX1_sureFact_0 rfl)) <|
  xw_cons (xw_E xn_iload (xo_iload_n dX1_sureFact_1 rfl)) <|
  xw_cons (xl_v_0_238 hG dX1_sureFact_2) <|
  xw_cons (xw_E xn_if (xo_if_eq dX1_sureFact_5 (by decide))) <|
  xw_cons (xw_E xn_aload (xo_aload_n dX1_sureFact_8 rfl)) <|
  xw_cons (xl_v_0_235 hG dX1_sureFact_9) <|
  xw_cons (xw_E xn_aload (xo_aload_n dX1_sureFact_12 rfl)) <|
  xw_cons (xw_E xn_iload (xo_iload_n dX1_sureFact_13 rfl)) <|
  xw_cons (xl_v_0_241 hG dX1_sureFact_14) <|
  xw_cons (xl_s_0_250 hG dX1_sureFact_17) <|
  xw_cons (xw_E xn_goto (xo_goto dX1_sureFact_20 (by decide))) <|
  xw_cons (xw_E xn_push (xo_iconst dX1_sureFact_23 (by decide))) <|
  xw_cons (xw_R (xt_i dX1_sureFact_24)) <|
  xw_nil _
def xp_36 : List (Nat × xm_O) := xp_36_0
theorem xq_36 {G : xm_G} (hG : xm_W xk_B G) (hO : xm_Og G) : ∀ q ∈ xp_36, xm_op xk_B G xd xk_N "LiarsCock" "sureFact" prog_1_method_40_code 2 (some (FieldType.int)) q.1 q.2 := xq_36_0 hG hO
/- 37: LiarsCock.sureBy(JJ)I -/
def xp_37_0 : List (Nat × xm_O) := [
  (0, .inl (xe_lload 0 1)),
  (1, .inl (xe_push (.long 0) 2)),
  (2, .inl (xe_lcmp 3)),
  (3, .inl (xe_if (fun x => decide (¬ x = 0)) 8 6)),
  (6, .inl (xe_push (.int 3) 7)),
  (7, .inr (.inl xr_i)),
  (8, .inl (xe_lload 0 9)),
  (9, .inl (xe_lload 2 10)),
  (10, .inl (xe_push (.long (-1 : Int64)) 13)),
  (13, .inl (xe_ll (fun x y => x ^^^ y) 14)),
  (14, .inl (xe_ll (fun x y => x &&& y) 15)),
  (15, .inl (xe_push (.long 0) 16)),
  (16, .inl (xe_lcmp 17)),
  (17, .inl (xe_if (fun x => decide (¬ x = 0)) 24 20)),
  (20, .inl (xe_push (.int 1) 21)),
  (21, .inl (xe_goto 37)),
  (24, .inl (xe_lload 0 25)),
  (25, .inl (xe_lload 2 26)),
  (26, .inl (xe_ll (fun x y => x &&& y) 27)),
  (27, .inl (xe_push (.long 0) 28)),
  (28, .inl (xe_lcmp 29)),
  (29, .inl (xe_if (fun x => decide (¬ x = 0)) 36 32)),
  (32, .inl (xe_push (.int 0) 33)),
  (33, .inl (xe_goto 37)),
  (36, .inl (xe_push (.int 2) 37)),
  (37, .inr (.inl xr_i))]
theorem xq_37_0 {G : xm_G} (hG : xm_W xk_B G) (hO : xm_Og G) : ∀ q ∈ xp_37_0, xm_op xk_B G xd xk_N "LiarsCock" "sureBy" prog_1_method_39_code 4 (some (FieldType.int)) q.1 q.2 :=
  xw_cons (xw_E xn_lload (xo_lload_n dX1_sureBy_0 rfl)) <|
  xw_cons (xw_E xn_push (xo_lconst dX1_sureBy_1 (by decide))) <|
  xw_cons (xw_E xn_lcmp (xo_lcmp dX1_sureBy_2)) <|
  xw_cons (xw_E xn_if (xo_if_ne dX1_sureBy_3 (by decide))) <|
  xw_cons (xw_E xn_push (xo_iconst dX1_sureBy_6 (by decide))) <|
  xw_cons (xw_R (xt_i dX1_sureBy_7)) <|
  xw_cons (xw_E xn_lload (xo_lload_n dX1_sureBy_8 rfl)) <|
  xw_cons (xw_E xn_lload (xo_lload_n dX1_sureBy_9 rfl)) <|
  xw_cons (xw_E xn_push (xo_ldc2 hG q1295 dX1_sureBy_10)) <|
  xw_cons (xw_E xn_ll (xo_lxor dX1_sureBy_13)) <|
  xw_cons (xw_E xn_ll (xo_land dX1_sureBy_14)) <|
  xw_cons (xw_E xn_push (xo_lconst dX1_sureBy_15 (by decide))) <|
  xw_cons (xw_E xn_lcmp (xo_lcmp dX1_sureBy_16)) <|
  xw_cons (xw_E xn_if (xo_if_ne dX1_sureBy_17 (by decide))) <|
  xw_cons (xw_E xn_push (xo_iconst dX1_sureBy_20 (by decide))) <|
  xw_cons (xw_E xn_goto (xo_goto dX1_sureBy_21 (by decide))) <|
  xw_cons (xw_E xn_lload (xo_lload_n dX1_sureBy_24 rfl)) <|
  xw_cons (xw_E xn_lload (xo_lload_n dX1_sureBy_25 rfl)) <|
  xw_cons (xw_E xn_ll (xo_land dX1_sureBy_26)) <|
  xw_cons (xw_E xn_push (xo_lconst dX1_sureBy_27 (by decide))) <|
  xw_cons (xw_E xn_lcmp (xo_lcmp dX1_sureBy_28)) <|
  xw_cons (xw_E xn_if (xo_if_ne dX1_sureBy_29 (by decide))) <|
  xw_cons (xw_E xn_push (xo_iconst dX1_sureBy_32 (by decide))) <|
  xw_cons (xw_E xn_goto (xo_goto dX1_sureBy_33 (by decide))) <|
  xw_cons (xw_E xn_push (xo_iconst dX1_sureBy_36 (by decide))) <|
  xw_cons (xw_R (xt_i dX1_sureBy_37)) <|
  xw_nil _
def xp_37 : List (Nat × xm_O) := xp_37_0
theorem xq_37 {G : xm_G} (hG : xm_W xk_B G) (hO : xm_Og G) : ∀ q ∈ xp_37, xm_op xk_B G xd xk_N "LiarsCock" "sureBy" prog_1_method_39_code 4 (some (FieldType.int)) q.1 q.2 := xq_37_0 hG hO
/- 38: LiarsCock.sure(I)I -/
def xp_38_0 : List (Nat × xm_O) := [
  (0, .inl (xe_aload 0 1)),
  (1, .inl (xe_iload 1 2)),
  (2, .inr (.inr (.inl (xc_V (xj_1 0 21) [0])))),
  (5, .inl (xe_if (fun x => decide (x = 0)) 32 8)),
  (8, .inl (xe_aload 0 9)),
  (9, .inr (.inr (.inl (xc_V (xj_1 0 26) [])))),
  (12, .inl (xe_aload 0 13)),
  (13, .inl (xe_getf (xj_1 0 3) 16)),
  (16, .inl (xe_iload 1 17)),
  (17, .inr (.inr (.inl (xc_V (xj_1 25 281) [0])))),
  (20, .inl (xe_cast (fun ci => ([22] : List Nat).elem ci) 23)),
  (23, .inl (xe_getf (xj_1 22 2) 26)),
  (26, .inr (.inr (.inl (xc_S 37 [1, 1])))),
  (29, .inl (xe_goto 33)),
  (32, .inl (xe_push (.int (-1)) 33)),
  (33, .inr (.inl xr_i))]
theorem xq_38_0 {G : xm_G} (hG : xm_W xk_B G) (hO : xm_Og G) : ∀ q ∈ xp_38_0, xm_op xk_B G xd xk_N "LiarsCock" "sure" prog_1_method_41_code 2 (some (FieldType.int)) q.1 q.2 :=
  xw_cons (xw_E xn_aload (xo_aload_n dX1_sure_0 rfl)) <|
  xw_cons (xw_E xn_iload (xo_iload_n dX1_sure_1 rfl)) <|
  xw_cons (xl_v_0_200 hG dX1_sure_2) <|
  xw_cons (xw_E xn_if (xo_if_eq dX1_sure_5 (by decide))) <|
  xw_cons (xw_E xn_aload (xo_aload_n dX1_sure_8 rfl)) <|
  xw_cons (xl_v_0_235 hG dX1_sure_9) <|
  xw_cons (xw_E xn_aload (xo_aload_n dX1_sure_12 rfl)) <|
  xw_cons (xw_E xn_getf (xo_getf hG xg_0_27 dX1_sure_13)) <|
  xw_cons (xw_E xn_iload (xo_iload_n dX1_sure_16 rfl)) <|
  xw_cons (xl_v_0_134 hG dX1_sure_17) <|
  xw_cons (xw_E xn_cast (xo_cast hG q1123 xca_0_138 dX1_sure_20)) <|
  xw_cons (xw_E xn_getf (xo_getf hG xg_0_203 dX1_sure_23)) <|
  xw_cons (xl_s_0_250 hG dX1_sure_26) <|
  xw_cons (xw_E xn_goto (xo_goto dX1_sure_29 (by decide))) <|
  xw_cons (xw_E xn_push (xo_iconst dX1_sure_32 (by decide))) <|
  xw_cons (xw_R (xt_i dX1_sure_33)) <|
  xw_nil _
def xp_38 : List (Nat × xm_O) := xp_38_0
theorem xq_38 {G : xm_G} (hG : xm_W xk_B G) (hO : xm_Og G) : ∀ q ∈ xp_38, xm_op xk_B G xd xk_N "LiarsCock" "sure" prog_1_method_41_code 2 (some (FieldType.int)) q.1 q.2 := xq_38_0 hG hO
/- 39: LiarsCock.odds(II)J -/
def xp_39_0 : List (Nat × xm_O) := [
  (0, .inl (xe_aload 0 1)),
  (1, .inl (xe_iload 1 2)),
  (2, .inr (.inr (.inl (xc_V (xj_1 0 33) [0])))),
  (5, .inl (xe_if (fun x => decide (x = 0)) 15 8)),
  (8, .inl (xe_iload 2 9)),
  (9, .inr (.inr (.inl (xc_S 40 [0])))),
  (12, .inl (xe_if (fun x => decide (¬ x = 0)) 19 15)),
  (15, .inl (xe_push (.long (-1 : Int64)) 18)),
  (18, .inr (.inl xr_l)),
  (19, .inl (xe_aload 0 20)),
  (20, .inr (.inr (.inl (xc_V (xj_1 0 26) [])))),
  (23, .inl (xe_lstore 3 24)),
  (24, .inl (xe_push (.long 0) 25)),
  (25, .inl (xe_lstore 5 27)),
  (27, .inl (xe_push (.long 0) 28)),
  (28, .inl (xe_lstore 7 30)),
  (30, .inl (xe_push (.int 0) 31)),
  (31, .inl (xe_istore 9 33)),
  (33, .inl (xe_iload 9 35)),
  (35, .inl (xe_aload 0 36)),
  (36, .inl (xe_getf (xj_1 0 1) 39)),
  (39, .inr (.inr (.inl (xc_V (xj_1 2 119) [])))),
  (42, .inl (xe_icmp (fun x y => decide (y ≤ x)) 95 45)),
  (45, .inl (xe_lload 3 46)),
  (46, .inl (xe_iload 9 48)),
  (48, .inr (.inr (.inl (xc_S 6 [0, 1])))),
  (51, .inl (xe_if (fun x => decide (¬ x = 0)) 57 54)),
  (54, .inl (xe_goto 89)),
  (57, .inl (xe_lload 7 59)),
  (59, .inl (xe_aload 0 60)),
  (60, .inl (xe_iload 9 62)),
  (62, .inr (.inr (.inl (xc_V (xj_1 0 41) [0])))),
  (65, .inl (xe_ll (fun x y => x + y) 66)),
  (66, .inl (xe_lstore 7 68)),
  (68, .inl (xe_iload 9 70)),
  (70, .inl (xe_i2l 71)),
  (71, .inl (xe_iload 1 72)),
  (72, .inr (.inr (.inl (xc_S 6 [0, 1])))),
  (75, .inl (xe_if (fun x => decide (x = 0)) 89 78)),
  (78, .inl (xe_lload 5 80)),
  (80, .inl (xe_aload 0 81)),
  (81, .inl (xe_iload 9 83)),
  (83, .inr (.inr (.inl (xc_V (xj_1 0 41) [0])))),
  (86, .inl (xe_ll (fun x y => x + y) 87)),
  (87, .inl (xe_lstore 5 89)),
  (89, .inl (xe_iinc 9 1 92)),
  (92, .inl (xe_goto 33)),
  (95, .inl (xe_lload 7 97)),
  (97, .inl (xe_push (.long 0) 98)),
  (98, .inl (xe_lcmp 99))]
theorem xq_39_0 {G : xm_G} (hG : xm_W xk_B G) (hO : xm_Og G) : ∀ q ∈ xp_39_0, xm_op xk_B G xd xk_N "LiarsCock" "odds" prog_1_method_45_code 10 (some (FieldType.long)) q.1 q.2 :=
  xw_cons (xw_E xn_aload (xo_aload_n dX1_odds_0 rfl)) <|
  xw_cons (xw_E xn_iload (xo_iload_n dX1_odds_1 rfl)) <|
  xw_cons (xl_v_0_238 hG dX1_odds_2) <|
  xw_cons (xw_E xn_if (xo_if_eq dX1_odds_5 (by decide))) <|
  xw_cons (xw_E xn_iload (xo_iload_n dX1_odds_8 rfl)) <|
  xw_cons (xl_s_0_261 hG dX1_odds_9) <|
  xw_cons (xw_E xn_if (xo_if_ne dX1_odds_12 (by decide))) <|
  xw_cons (xw_E xn_push (xo_ldc2 hG q1295 dX1_odds_15)) <|
  xw_cons (xw_R (xt_l dX1_odds_18)) <|
  xw_cons (xw_E xn_aload (xo_aload_n dX1_odds_19 rfl)) <|
  xw_cons (xl_v_0_235 hG dX1_odds_20) <|
  xw_cons (xw_E xn_lstore (xo_lstore_n dX1_odds_23 rfl)) <|
  xw_cons (xw_E xn_push (xo_lconst dX1_odds_24 (by decide))) <|
  xw_cons (xw_E xn_lstore (xo_lstore dX1_odds_25)) <|
  xw_cons (xw_E xn_push (xo_lconst dX1_odds_27 (by decide))) <|
  xw_cons (xw_E xn_lstore (xo_lstore dX1_odds_28)) <|
  xw_cons (xw_E xn_push (xo_iconst dX1_odds_30 (by decide))) <|
  xw_cons (xw_E xn_istore (xo_istore dX1_odds_31)) <|
  xw_cons (xw_E xn_iload (xo_iload dX1_odds_33)) <|
  xw_cons (xw_E xn_aload (xo_aload_n dX1_odds_35 rfl)) <|
  xw_cons (xw_E xn_getf (xo_getf hG xg_0_20 dX1_odds_36)) <|
  xw_cons (xl_v_0_120 hG dX1_odds_39) <|
  xw_cons (xw_E xn_icmp (xo_icmp_ge dX1_odds_42 (by decide))) <|
  xw_cons (xw_E xn_lload (xo_lload_n dX1_odds_45 rfl)) <|
  xw_cons (xw_E xn_iload (xo_iload dX1_odds_46)) <|
  xw_cons (xl_s_0_172 hG dX1_odds_48) <|
  xw_cons (xw_E xn_if (xo_if_ne dX1_odds_51 (by decide))) <|
  xw_cons (xw_E xn_goto (xo_goto dX1_odds_54 (by decide))) <|
  xw_cons (xw_E xn_lload (xo_lload dX1_odds_57)) <|
  xw_cons (xw_E xn_aload (xo_aload_n dX1_odds_59 rfl)) <|
  xw_cons (xw_E xn_iload (xo_iload dX1_odds_60)) <|
  xw_cons (xl_v_0_264 hG dX1_odds_62) <|
  xw_cons (xw_E xn_ll (xo_ladd dX1_odds_65)) <|
  xw_cons (xw_E xn_lstore (xo_lstore dX1_odds_66)) <|
  xw_cons (xw_E xn_iload (xo_iload dX1_odds_68)) <|
  xw_cons (xw_E xn_i2l (xo_i2l dX1_odds_70)) <|
  xw_cons (xw_E xn_iload (xo_iload_n dX1_odds_71 rfl)) <|
  xw_cons (xl_s_0_172 hG dX1_odds_72) <|
  xw_cons (xw_E xn_if (xo_if_eq dX1_odds_75 (by decide))) <|
  xw_cons (xw_E xn_lload (xo_lload dX1_odds_78)) <|
  xw_cons (xw_E xn_aload (xo_aload_n dX1_odds_80 rfl)) <|
  xw_cons (xw_E xn_iload (xo_iload dX1_odds_81)) <|
  xw_cons (xl_v_0_264 hG dX1_odds_83) <|
  xw_cons (xw_E xn_ll (xo_ladd dX1_odds_86)) <|
  xw_cons (xw_E xn_lstore (xo_lstore dX1_odds_87)) <|
  xw_cons (xw_E xn_iinc (xo_iinc dX1_odds_89 (by decide))) <|
  xw_cons (xw_E xn_goto (xo_goto dX1_odds_92 (by decide))) <|
  xw_cons (xw_E xn_lload (xo_lload dX1_odds_95)) <|
  xw_cons (xw_E xn_push (xo_lconst dX1_odds_97 (by decide))) <|
  xw_cons (xw_E xn_lcmp (xo_lcmp dX1_odds_98)) <|
  xw_nil _
def xp_39_1 : List (Nat × xm_O) := [
  (99, .inl (xe_if (fun x => decide (¬ x = 0)) 108 102)),
  (102, .inl (xe_push (.long (-1 : Int64)) 105)),
  (105, .inl (xe_goto 116)),
  (108, .inl (xe_lload 5 110)),
  (110, .inl (xe_lload 7 112)),
  (112, .inl (xe_iload 2 113)),
  (113, .inr (.inr (.inl (xc_S 42 [0, 1, 1])))),
  (116, .inr (.inl xr_l))]
theorem xq_39_1 {G : xm_G} (hG : xm_W xk_B G) (hO : xm_Og G) : ∀ q ∈ xp_39_1, xm_op xk_B G xd xk_N "LiarsCock" "odds" prog_1_method_45_code 10 (some (FieldType.long)) q.1 q.2 :=
  xw_cons (xw_E xn_if (xo_if_ne dX1_odds_99 (by decide))) <|
  xw_cons (xw_E xn_push (xo_ldc2 hG q1295 dX1_odds_102)) <|
  xw_cons (xw_E xn_goto (xo_goto dX1_odds_105 (by decide))) <|
  xw_cons (xw_E xn_lload (xo_lload dX1_odds_108)) <|
  xw_cons (xw_E xn_lload (xo_lload dX1_odds_110)) <|
  xw_cons (xw_E xn_iload (xo_iload_n dX1_odds_112 rfl)) <|
  xw_cons (xl_s_0_267 hG dX1_odds_113) <|
  xw_cons (xw_R (xt_l dX1_odds_116)) <|
  xw_nil _
def xp_39 : List (Nat × xm_O) := xp_39_0 ++ xp_39_1
theorem xq_39 {G : xm_G} (hG : xm_W xk_B G) (hO : xm_Og G) : ∀ q ∈ xp_39, xm_op xk_B G xd xk_N "LiarsCock" "odds" prog_1_method_45_code 10 (some (FieldType.long)) q.1 q.2 := xw_app (xq_39_0 hG hO) (xq_39_1 hG hO)
/- 40: LiarsCock.isWhat(I)Z -/
def xp_40_0 : List (Nat × xm_O) := [
  (0, .inl (xe_iload 0 1)),
  (1, .inl (xe_push (.int 0) 2)),
  (2, .inl (xe_push (.int 1) 3)),
  (3, .inr (.inr (.inl (xc_S 4 [0, 0, 0])))),
  (6, .inr (.inl xr_z))]
theorem xq_40_0 {G : xm_G} (hG : xm_W xk_B G) (hO : xm_Og G) : ∀ q ∈ xp_40_0, xm_op xk_B G xd xk_N "LiarsCock" "isWhat" prog_1_method_15_code 1 (some (FieldType.boolean)) q.1 q.2 :=
  xw_cons (xw_E xn_iload (xo_iload_n dX1_isWhat_0 rfl)) <|
  xw_cons (xw_E xn_push (xo_iconst dX1_isWhat_1 (by decide))) <|
  xw_cons (xw_E xn_push (xo_iconst dX1_isWhat_2 (by decide))) <|
  xw_cons (xl_s_0_113 hG dX1_isWhat_3) <|
  xw_cons (xw_R (xt_z dX1_isWhat_6)) <|
  xw_nil _
def xp_40 : List (Nat × xm_O) := xp_40_0
theorem xq_40 {G : xm_G} (hG : xm_W xk_B G) (hO : xm_Og G) : ∀ q ∈ xp_40, xm_op xk_B G xd xk_N "LiarsCock" "isWhat" prog_1_method_15_code 1 (some (FieldType.boolean)) q.1 q.2 := xq_40_0 hG hO
/- 41: LiarsCock.weight(I)J -/
def xp_41_0 : List (Nat × xm_O) := [
  (0, .inl (xe_push (.long 1) 1)),
  (1, .inl (xe_lstore 2 2)),
  (2, .inl (xe_push (.int 0) 3)),
  (3, .inl (xe_istore 4 5)),
  (5, .inl (xe_iload 4 7)),
  (7, .inl (xe_aload 0 8)),
  (8, .inl (xe_getf (xj_1 0 1) 11)),
  (11, .inl (xe_getf (xj_1 2 0) 14)),
  (14, .inr (.inr (.inl (xc_V (xj_1 25 280) [])))),
  (17, .inl (xe_icmp (fun x y => decide (y ≤ x)) 67 20)),
  (20, .inl (xe_lload 2 21)),
  (21, .inl (xe_iload 1 22)),
  (22, .inl (xe_i2l 23)),
  (23, .inl (xe_iload 4 25)),
  (25, .inr (.inr (.inl (xc_S 6 [0, 1])))),
  (28, .inl (xe_if (fun x => decide (x = 0)) 45 31)),
  (31, .inl (xe_aload 0 32)),
  (32, .inl (xe_getf (xj_1 0 1) 35)),
  (35, .inl (xe_getf (xj_1 2 4) 38)),
  (38, .inl (xe_iload 4 40)),
  (40, .inl (xe_ald (fun t => t == 0) 41)),
  (41, .inl (xe_i2l 42)),
  (42, .inl (xe_goto 59)),
  (45, .inl (xe_push (.int 10) 47)),
  (47, .inl (xe_aload 0 48)),
  (48, .inl (xe_getf (xj_1 0 1) 51)),
  (51, .inl (xe_getf (xj_1 2 4) 54)),
  (54, .inl (xe_iload 4 56)),
  (56, .inl (xe_ald (fun t => t == 0) 57)),
  (57, .inl (xe_ii (fun x y => x - y) 58)),
  (58, .inl (xe_i2l 59)),
  (59, .inl (xe_ll (fun x y => x * y) 60)),
  (60, .inl (xe_lstore 2 61)),
  (61, .inl (xe_iinc 4 1 64)),
  (64, .inl (xe_goto 5)),
  (67, .inl (xe_lload 2 68)),
  (68, .inr (.inl xr_l))]
theorem xq_41_0 {G : xm_G} (hG : xm_W xk_B G) (hO : xm_Og G) : ∀ q ∈ xp_41_0, xm_op xk_B G xd xk_N "LiarsCock" "weight" prog_1_method_44_code 5 (some (FieldType.long)) q.1 q.2 :=
  xw_cons (xw_E xn_push (xo_lconst dX1_weight_0 (by decide))) <|
  xw_cons (xw_E xn_lstore (xo_lstore_n dX1_weight_1 rfl)) <|
  xw_cons (xw_E xn_push (xo_iconst dX1_weight_2 (by decide))) <|
  xw_cons (xw_E xn_istore (xo_istore dX1_weight_3)) <|
  xw_cons (xw_E xn_iload (xo_iload dX1_weight_5)) <|
  xw_cons (xw_E xn_aload (xo_aload_n dX1_weight_7 rfl)) <|
  xw_cons (xw_E xn_getf (xo_getf hG xg_0_20 dX1_weight_8)) <|
  xw_cons (xw_E xn_getf (xo_getf hG xg_0_106 dX1_weight_11)) <|
  xw_cons (xl_v_0_109 hG dX1_weight_14) <|
  xw_cons (xw_E xn_icmp (xo_icmp_ge dX1_weight_17 (by decide))) <|
  xw_cons (xw_E xn_lload (xo_lload_n dX1_weight_20 rfl)) <|
  xw_cons (xw_E xn_iload (xo_iload_n dX1_weight_21 rfl)) <|
  xw_cons (xw_E xn_i2l (xo_i2l dX1_weight_22)) <|
  xw_cons (xw_E xn_iload (xo_iload dX1_weight_23)) <|
  xw_cons (xl_s_0_172 hG dX1_weight_25) <|
  xw_cons (xw_E xn_if (xo_if_eq dX1_weight_28 (by decide))) <|
  xw_cons (xw_E xn_aload (xo_aload_n dX1_weight_31 rfl)) <|
  xw_cons (xw_E xn_getf (xo_getf hG xg_0_20 dX1_weight_32)) <|
  xw_cons (xw_E xn_getf (xo_getf hG xg_0_257 dX1_weight_35)) <|
  xw_cons (xw_E xn_iload (xo_iload dX1_weight_38)) <|
  xw_cons (xw_E xn_ald (xo_iald xk_hB dX1_weight_40)) <|
  xw_cons (xw_E xn_i2l (xo_i2l dX1_weight_41)) <|
  xw_cons (xw_E xn_goto (xo_goto dX1_weight_42 (by decide))) <|
  xw_cons (xw_E xn_push (xo_bipush dX1_weight_45 (by decide))) <|
  xw_cons (xw_E xn_aload (xo_aload_n dX1_weight_47 rfl)) <|
  xw_cons (xw_E xn_getf (xo_getf hG xg_0_20 dX1_weight_48)) <|
  xw_cons (xw_E xn_getf (xo_getf hG xg_0_257 dX1_weight_51)) <|
  xw_cons (xw_E xn_iload (xo_iload dX1_weight_54)) <|
  xw_cons (xw_E xn_ald (xo_iald xk_hB dX1_weight_56)) <|
  xw_cons (xw_E xn_ii (xo_isub dX1_weight_57)) <|
  xw_cons (xw_E xn_i2l (xo_i2l dX1_weight_58)) <|
  xw_cons (xw_E xn_ll (xo_lmul dX1_weight_59)) <|
  xw_cons (xw_E xn_lstore (xo_lstore_n dX1_weight_60 rfl)) <|
  xw_cons (xw_E xn_iinc (xo_iinc dX1_weight_61 (by decide))) <|
  xw_cons (xw_E xn_goto (xo_goto dX1_weight_64 (by decide))) <|
  xw_cons (xw_E xn_lload (xo_lload_n dX1_weight_67 rfl)) <|
  xw_cons (xw_R (xt_l dX1_weight_68)) <|
  xw_nil _
def xp_41 : List (Nat × xm_O) := xp_41_0
theorem xq_41 {G : xm_G} (hG : xm_W xk_B G) (hO : xm_Og G) : ∀ q ∈ xp_41, xm_op xk_B G xd xk_N "LiarsCock" "weight" prog_1_method_44_code 5 (some (FieldType.long)) q.1 q.2 := xq_41_0 hG hO
/- 42: LiarsCock.lowest(JJI)J -/
def xp_42_0 : List (Nat × xm_O) := [
  (0, .inl (xe_lload 0 1)),
  (1, .inl (xe_lload 2 2)),
  (2, .inr (.inr (.inl (xc_S 43 [1, 1])))),
  (5, .inl (xe_lstore 5 7)),
  (7, .inl (xe_iload 4 9)),
  (9, .inl (xe_if (fun x => decide (¬ x = 0)) 19 12)),
  (12, .inl (xe_lload 0 13)),
  (13, .inl (xe_lload 5 15)),
  (15, .inl (xe_lld (fun x y => x / y) 16)),
  (16, .inl (xe_goto 23)),
  (19, .inl (xe_lload 2 20)),
  (20, .inl (xe_lload 5 22)),
  (22, .inl (xe_lld (fun x y => x / y) 23)),
  (23, .inr (.inl xr_l))]
theorem xq_42_0 {G : xm_G} (hG : xm_W xk_B G) (hO : xm_Og G) : ∀ q ∈ xp_42_0, xm_op xk_B G xd xk_N "LiarsCock" "lowest" prog_1_method_43_code 7 (some (FieldType.long)) q.1 q.2 :=
  xw_cons (xw_E xn_lload (xo_lload_n dX1_lowest_0 rfl)) <|
  xw_cons (xw_E xn_lload (xo_lload_n dX1_lowest_1 rfl)) <|
  xw_cons (xl_s_0_254 hG dX1_lowest_2) <|
  xw_cons (xw_E xn_lstore (xo_lstore dX1_lowest_5)) <|
  xw_cons (xw_E xn_iload (xo_iload dX1_lowest_7)) <|
  xw_cons (xw_E xn_if (xo_if_ne dX1_lowest_9 (by decide))) <|
  xw_cons (xw_E xn_lload (xo_lload_n dX1_lowest_12 rfl)) <|
  xw_cons (xw_E xn_lload (xo_lload dX1_lowest_13)) <|
  xw_cons (xw_E xn_lld (xo_ldiv dX1_lowest_15)) <|
  xw_cons (xw_E xn_goto (xo_goto dX1_lowest_16 (by decide))) <|
  xw_cons (xw_E xn_lload (xo_lload_n dX1_lowest_19 rfl)) <|
  xw_cons (xw_E xn_lload (xo_lload dX1_lowest_20)) <|
  xw_cons (xw_E xn_lld (xo_ldiv dX1_lowest_22)) <|
  xw_cons (xw_R (xt_l dX1_lowest_23)) <|
  xw_nil _
def xp_42 : List (Nat × xm_O) := xp_42_0
theorem xq_42 {G : xm_G} (hG : xm_W xk_B G) (hO : xm_Og G) : ∀ q ∈ xp_42, xm_op xk_B G xd xk_N "LiarsCock" "lowest" prog_1_method_43_code 7 (some (FieldType.long)) q.1 q.2 := xq_42_0 hG hO
/- 43: LiarsCock.common(JJ)J -/
def xp_43_0 : List (Nat × xm_O) := [
  (0, .inl (xe_lload 0 1)),
  (1, .inl (xe_lstore 4 3)),
  (3, .inl (xe_lload 2 4)),
  (4, .inl (xe_lstore 6 6)),
  (6, .inl (xe_lload 6 8)),
  (8, .inl (xe_push (.long 0) 9)),
  (9, .inl (xe_lcmp 10)),
  (10, .inl (xe_if (fun x => decide (x = 0)) 31 13)),
  (13, .inl (xe_lload 4 15)),
  (15, .inl (xe_lload 6 17)),
  (17, .inl (xe_lld (fun x y => x - x / y * y) 18)),
  (18, .inl (xe_lstore 8 20)),
  (20, .inl (xe_lload 6 22)),
  (22, .inl (xe_lstore 4 24)),
  (24, .inl (xe_lload 8 26)),
  (26, .inl (xe_lstore 6 28)),
  (28, .inl (xe_goto 6)),
  (31, .inl (xe_lload 4 33)),
  (33, .inr (.inl xr_l))]
theorem xq_43_0 {G : xm_G} (hG : xm_W xk_B G) (hO : xm_Og G) : ∀ q ∈ xp_43_0, xm_op xk_B G xd xk_N "LiarsCock" "common" prog_1_method_42_code 10 (some (FieldType.long)) q.1 q.2 :=
  xw_cons (xw_E xn_lload (xo_lload_n dX1_common_0 rfl)) <|
  xw_cons (xw_E xn_lstore (xo_lstore dX1_common_1)) <|
  xw_cons (xw_E xn_lload (xo_lload_n dX1_common_3 rfl)) <|
  xw_cons (xw_E xn_lstore (xo_lstore dX1_common_4)) <|
  xw_cons (xw_E xn_lload (xo_lload dX1_common_6)) <|
  xw_cons (xw_E xn_push (xo_lconst dX1_common_8 (by decide))) <|
  xw_cons (xw_E xn_lcmp (xo_lcmp dX1_common_9)) <|
  xw_cons (xw_E xn_if (xo_if_eq dX1_common_10 (by decide))) <|
  xw_cons (xw_E xn_lload (xo_lload dX1_common_13)) <|
  xw_cons (xw_E xn_lload (xo_lload dX1_common_15)) <|
  xw_cons (xw_E xn_lld (xo_lrem dX1_common_17)) <|
  xw_cons (xw_E xn_lstore (xo_lstore dX1_common_18)) <|
  xw_cons (xw_E xn_lload (xo_lload dX1_common_20)) <|
  xw_cons (xw_E xn_lstore (xo_lstore dX1_common_22)) <|
  xw_cons (xw_E xn_lload (xo_lload dX1_common_24)) <|
  xw_cons (xw_E xn_lstore (xo_lstore dX1_common_26)) <|
  xw_cons (xw_E xn_goto (xo_goto dX1_common_28 (by decide))) <|
  xw_cons (xw_E xn_lload (xo_lload dX1_common_31)) <|
  xw_cons (xw_R (xt_l dX1_common_33)) <|
  xw_nil _
def xp_43 : List (Nat × xm_O) := xp_43_0
theorem xq_43 {G : xm_G} (hG : xm_W xk_B G) (hO : xm_Og G) : ∀ q ∈ xp_43, xm_op xk_B G xd xk_N "LiarsCock" "common" prog_1_method_42_code 10 (some (FieldType.long)) q.1 q.2 := xq_43_0 hG hO
