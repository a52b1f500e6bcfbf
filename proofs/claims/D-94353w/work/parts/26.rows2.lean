/-! rows of methods, by program -/
set_option maxRecDepth 100000
/- 71: LiarsCock.everybody()I -/
def xp_71_0 : List (Nat × xm_O) := [
  (0, .inl (xe_push (.int 1) 1)),
  (1, .inl (xe_aload 0 2)),
  (2, .inl (xe_getf (xj_1 0 1) 5)),
  (5, .inl (xe_getf (xj_1 2 3) 8)),
  (8, .inr (.inr (.inl (xc_V (xj_1 25 280) [])))),
  (11, .inl (xe_ii (fun x y => x <<< (y &&& 31)) 12)),
  (12, .inl (xe_push (.int 1) 13)),
  (13, .inl (xe_ii (fun x y => x - y) 14)),
  (14, .inr (.inl xr_i))]
theorem xq_71_0 {G : xm_G} (hG : xm_W xk_B G) (hO : xm_Og G) : ∀ q ∈ xp_71_0, xm_op xk_B G xd xk_N "LiarsCock" "everybody" prog_1_method_73_code 1 (some (FieldType.int)) q.1 q.2 :=
  xw_cons (xw_E xn_push (xo_iconst dX1_everybody_0 (by decide))) <|
  xw_cons (xw_E xn_aload (xo_aload_n dX1_everybody_1 rfl)) <|
  xw_cons (xw_E xn_getf (xo_getf hG xg_0_20 dX1_everybody_2)) <|
  xw_cons (xw_E xn_getf (xo_getf hG xg_0_117 dX1_everybody_5)) <|
  xw_cons (xl_v_0_109 hG dX1_everybody_8) <|
  xw_cons (xw_E xn_ii (xo_ishl dX1_everybody_11)) <|
  xw_cons (xw_E xn_push (xo_iconst dX1_everybody_12 (by decide))) <|
  xw_cons (xw_E xn_ii (xo_isub dX1_everybody_13)) <|
  xw_cons (xw_R (xt_i dX1_everybody_14)) <|
  xw_nil _
def xp_71 : List (Nat × xm_O) := xp_71_0
theorem xq_71 {G : xm_G} (hG : xm_W xk_B G) (hO : xm_Og G) : ∀ q ∈ xp_71, xm_op xk_B G xd xk_N "LiarsCock" "everybody" prog_1_method_73_code 1 (some (FieldType.int)) q.1 q.2 := xq_71_0 hG hO
/- 72: LiarsCock.toldBy(I)I -/
def xp_72_0 : List (Nat × xm_O) := [
  (0, .inl (xe_aload 0 1)),
  (1, .inl (xe_getf (xj_1 0 1) 4)),
  (4, .inl (xe_getf (xj_1 2 8) 7)),
  (7, .inl (xe_aload 0 8)),
  (8, .inl (xe_getf (xj_1 0 1) 11)),
  (11, .inl (xe_aload 0 12)),
  (12, .inl (xe_getf (xj_1 0 2) 15)),
  (15, .inl (xe_aload 0 16)),
  (16, .inl (xe_iload 1 17)),
  (17, .inr (.inr (.inl (xc_V (xj_1 0 73) [0])))),
  (20, .inr (.inr (.inl (xc_V (xj_1 2 121) [0, 0])))),
  (23, .inl (xe_ll (fun x y => x &&& y) 24)),
  (24, .inl (xe_lstore 2 25)),
  (25, .inl (xe_push (.int 0) 26)),
  (26, .inl (xe_istore 4 28)),
  (28, .inl (xe_push (.int 0) 29)),
  (29, .inl (xe_istore 5 31)),
  (31, .inl (xe_iload 5 33)),
  (33, .inl (xe_aload 0 34)),
  (34, .inl (xe_getf (xj_1 0 1) 37)),
  (37, .inl (xe_getf (xj_1 2 0) 40)),
  (40, .inr (.inr (.inl (xc_V (xj_1 25 280) [])))),
  (43, .inl (xe_icmp (fun x y => decide (y ≤ x)) 81 46)),
  (46, .inl (xe_lload 2 47)),
  (47, .inl (xe_push (.long 0) 48)),
  (48, .inl (xe_lcmp 49)),
  (49, .inl (xe_if (fun x => decide (x = 0)) 81 52)),
  (52, .inl (xe_lload 2 53)),
  (53, .inl (xe_aload 0 54)),
  (54, .inl (xe_iload 5 56)),
  (56, .inr (.inr (.inl (xc_V (xj_1 0 34) [0])))),
  (59, .inr (.inr (.inl (xc_S 37 [1, 1])))),
  (62, .inl (xe_push (.int 2) 63)),
  (63, .inl (xe_icmp (fun x y => decide (y ≤ x)) 75 66)),
  (66, .inl (xe_iload 4 68)),
  (68, .inl (xe_push (.int 1) 69)),
  (69, .inl (xe_iload 5 71)),
  (71, .inl (xe_ii (fun x y => x <<< (y &&& 31)) 72)),
  (72, .inl (xe_ii (fun x y => x ||| y) 73)),
  (73, .inl (xe_istore 4 75)),
  (75, .inl (xe_iinc 5 1 78)),
  (78, .inl (xe_goto 31)),
  (81, .inl (xe_iload 4 83)),
  (83, .inr (.inl xr_i))]
theorem xq_72_0 {G : xm_G} (hG : xm_W xk_B G) (hO : xm_Og G) : ∀ q ∈ xp_72_0, xm_op xk_B G xd xk_N "LiarsCock" "toldBy" prog_1_method_72_code 6 (some (FieldType.int)) q.1 q.2 :=
  xw_cons (xw_E xn_aload (xo_aload_n dX1_toldBy_0 rfl)) <|
  xw_cons (xw_E xn_getf (xo_getf hG xg_0_20 dX1_toldBy_1)) <|
  xw_cons (xw_E xn_getf (xo_getf hG xg_0_81 dX1_toldBy_4)) <|
  xw_cons (xw_E xn_aload (xo_aload_n dX1_toldBy_7 rfl)) <|
  xw_cons (xw_E xn_getf (xo_getf hG xg_0_20 dX1_toldBy_8)) <|
  xw_cons (xw_E xn_aload (xo_aload_n dX1_toldBy_11 rfl)) <|
  xw_cons (xw_E xn_getf (xo_getf hG xg_0_95 dX1_toldBy_12)) <|
  xw_cons (xw_E xn_aload (xo_aload_n dX1_toldBy_15 rfl)) <|
  xw_cons (xw_E xn_iload (xo_iload_n dX1_toldBy_16 rfl)) <|
  xw_cons (xl_v_0_371 hG dX1_toldBy_17) <|
  xw_cons (xl_v_0_303 hG dX1_toldBy_20) <|
  xw_cons (xw_E xn_ll (xo_land dX1_toldBy_23)) <|
  xw_cons (xw_E xn_lstore (xo_lstore_n dX1_toldBy_24 rfl)) <|
  xw_cons (xw_E xn_push (xo_iconst dX1_toldBy_25 (by decide))) <|
  xw_cons (xw_E xn_istore (xo_istore dX1_toldBy_26)) <|
  xw_cons (xw_E xn_push (xo_iconst dX1_toldBy_28 (by decide))) <|
  xw_cons (xw_E xn_istore (xo_istore dX1_toldBy_29)) <|
  xw_cons (xw_E xn_iload (xo_iload dX1_toldBy_31)) <|
  xw_cons (xw_E xn_aload (xo_aload_n dX1_toldBy_33 rfl)) <|
  xw_cons (xw_E xn_getf (xo_getf hG xg_0_20 dX1_toldBy_34)) <|
  xw_cons (xw_E xn_getf (xo_getf hG xg_0_106 dX1_toldBy_37)) <|
  xw_cons (xl_v_0_109 hG dX1_toldBy_40) <|
  xw_cons (xw_E xn_icmp (xo_icmp_ge dX1_toldBy_43 (by decide))) <|
  xw_cons (xw_E xn_lload (xo_lload_n dX1_toldBy_46 rfl)) <|
  xw_cons (xw_E xn_push (xo_lconst dX1_toldBy_47 (by decide))) <|
  xw_cons (xw_E xn_lcmp (xo_lcmp dX1_toldBy_48)) <|
  xw_cons (xw_E xn_if (xo_if_eq dX1_toldBy_49 (by decide))) <|
  xw_cons (xw_E xn_lload (xo_lload_n dX1_toldBy_52 rfl)) <|
  xw_cons (xw_E xn_aload (xo_aload_n dX1_toldBy_53 rfl)) <|
  xw_cons (xw_E xn_iload (xo_iload dX1_toldBy_54)) <|
  xw_cons (xl_v_0_241 hG dX1_toldBy_56) <|
  xw_cons (xl_s_0_250 hG dX1_toldBy_59) <|
  xw_cons (xw_E xn_push (xo_iconst dX1_toldBy_62 (by decide))) <|
  xw_cons (xw_E xn_icmp (xo_icmp_ge dX1_toldBy_63 (by decide))) <|
  xw_cons (xw_E xn_iload (xo_iload dX1_toldBy_66)) <|
  xw_cons (xw_E xn_push (xo_iconst dX1_toldBy_68 (by decide))) <|
  xw_cons (xw_E xn_iload (xo_iload dX1_toldBy_69)) <|
  xw_cons (xw_E xn_ii (xo_ishl dX1_toldBy_71)) <|
  xw_cons (xw_E xn_ii (xo_ior dX1_toldBy_72)) <|
  xw_cons (xw_E xn_istore (xo_istore dX1_toldBy_73)) <|
  xw_cons (xw_E xn_iinc (xo_iinc dX1_toldBy_75 (by decide))) <|
  xw_cons (xw_E xn_goto (xo_goto dX1_toldBy_78 (by decide))) <|
  xw_cons (xw_E xn_iload (xo_iload dX1_toldBy_81)) <|
  xw_cons (xw_R (xt_i dX1_toldBy_83)) <|
  xw_nil _
def xp_72 : List (Nat × xm_O) := xp_72_0
theorem xq_72 {G : xm_G} (hG : xm_W xk_B G) (hO : xm_Og G) : ∀ q ∈ xp_72, xm_op xk_B G xd xk_N "LiarsCock" "toldBy" prog_1_method_72_code 6 (some (FieldType.int)) q.1 q.2 := xq_72_0 hG hO
/- 73: LiarsCock.knownBy(I)I -/
def xp_73_0 : List (Nat × xm_O) := [
  (0, .inl (xe_push (.int 0) 1)),
  (1, .inl (xe_istore 2 2)),
  (2, .inl (xe_push (.int 0) 3)),
  (3, .inl (xe_istore 3 4)),
  (4, .inl (xe_iload 3 5)),
  (5, .inl (xe_aload 0 6)),
  (6, .inl (xe_getf (xj_1 0 1) 9)),
  (9, .inl (xe_getf (xj_1 2 3) 12)),
  (12, .inr (.inr (.inl (xc_V (xj_1 25 280) [])))),
  (15, .inl (xe_icmp (fun x y => decide (y ≤ x)) 53 18)),
  (18, .inl (xe_iload 1 19)),
  (19, .inl (xe_i2l 20)),
  (20, .inl (xe_iload 3 21)),
  (21, .inr (.inr (.inl (xc_S 6 [0, 1])))),
  (24, .inl (xe_if (fun x => decide (x = 0)) 47 27)),
  (27, .inl (xe_iload 2 28)),
  (28, .inl (xe_aload 0 29)),
  (29, .inl (xe_getf (xj_1 0 1) 32)),
  (32, .inl (xe_getf (xj_1 2 3) 35)),
  (35, .inl (xe_iload 3 36)),
  (36, .inr (.inr (.inl (xc_V (xj_1 25 281) [0])))),
  (39, .inl (xe_cast (fun ci => ([10] : List Nat).elem ci) 42)),
  (42, .inl (xe_getf (xj_1 10 1) 45)),
  (45, .inl (xe_ii (fun x y => x ||| y) 46)),
  (46, .inl (xe_istore 2 47)),
  (47, .inl (xe_iinc 3 1 50)),
  (50, .inl (xe_goto 4)),
  (53, .inl (xe_iload 2 54)),
  (54, .inr (.inl xr_i))]
theorem xq_73_0 {G : xm_G} (hG : xm_W xk_B G) (hO : xm_Og G) : ∀ q ∈ xp_73_0, xm_op xk_B G xd xk_N "LiarsCock" "knownBy" prog_1_method_71_code 4 (some (FieldType.int)) q.1 q.2 :=
  xw_cons (xw_E xn_push (xo_iconst dX1_knownBy_0 (by decide))) <|
  xw_cons (xw_E xn_istore (xo_istore_n dX1_knownBy_1 rfl)) <|
  xw_cons (xw_E xn_push (xo_iconst dX1_knownBy_2 (by decide))) <|
  xw_cons (xw_E xn_istore (xo_istore_n dX1_knownBy_3 rfl)) <|
  xw_cons (xw_E xn_iload (xo_iload_n dX1_knownBy_4 rfl)) <|
  xw_cons (xw_E xn_aload (xo_aload_n dX1_knownBy_5 rfl)) <|
  xw_cons (xw_E xn_getf (xo_getf hG xg_0_20 dX1_knownBy_6)) <|
  xw_cons (xw_E xn_getf (xo_getf hG xg_0_117 dX1_knownBy_9)) <|
  xw_cons (xl_v_0_109 hG dX1_knownBy_12) <|
  xw_cons (xw_E xn_icmp (xo_icmp_ge dX1_knownBy_15 (by decide))) <|
  xw_cons (xw_E xn_iload (xo_iload_n dX1_knownBy_18 rfl)) <|
  xw_cons (xw_E xn_i2l (xo_i2l dX1_knownBy_19)) <|
  xw_cons (xw_E xn_iload (xo_iload_n dX1_knownBy_20 rfl)) <|
  xw_cons (xl_s_0_172 hG dX1_knownBy_21) <|
  xw_cons (xw_E xn_if (xo_if_eq dX1_knownBy_24 (by decide))) <|
  xw_cons (xw_E xn_iload (xo_iload_n dX1_knownBy_27 rfl)) <|
  xw_cons (xw_E xn_aload (xo_aload_n dX1_knownBy_28 rfl)) <|
  xw_cons (xw_E xn_getf (xo_getf hG xg_0_20 dX1_knownBy_29)) <|
  xw_cons (xw_E xn_getf (xo_getf hG xg_0_117 dX1_knownBy_32)) <|
  xw_cons (xw_E xn_iload (xo_iload_n dX1_knownBy_35 rfl)) <|
  xw_cons (xl_v_0_134 hG dX1_knownBy_36) <|
  xw_cons (xw_E xn_cast (xo_cast hG q1372 xca_0_298 dX1_knownBy_39)) <|
  xw_cons (xw_E xn_getf (xo_getf hG xg_0_300 dX1_knownBy_42)) <|
  xw_cons (xw_E xn_ii (xo_ior dX1_knownBy_45)) <|
  xw_cons (xw_E xn_istore (xo_istore_n dX1_knownBy_46 rfl)) <|
  xw_cons (xw_E xn_iinc (xo_iinc dX1_knownBy_47 (by decide))) <|
  xw_cons (xw_E xn_goto (xo_goto dX1_knownBy_50 (by decide))) <|
  xw_cons (xw_E xn_iload (xo_iload_n dX1_knownBy_53 rfl)) <|
  xw_cons (xw_R (xt_i dX1_knownBy_54)) <|
  xw_nil _
def xp_73 : List (Nat × xm_O) := xp_73_0
theorem xq_73 {G : xm_G} (hG : xm_W xk_B G) (hO : xm_Og G) : ∀ q ∈ xp_73, xm_op xk_B G xd xk_N "LiarsCock" "knownBy" prog_1_method_71_code 4 (some (FieldType.int)) q.1 q.2 := xq_73_0 hG hO
/- 74: LiarsCock.fewest(II)I -/
def xp_74_0 : List (Nat × xm_O) := [
  (0, .inl (xe_aload 0 1)),
  (1, .inl (xe_iload 1 2)),
  (2, .inr (.inr (.inl (xc_V (xj_1 0 33) [0])))),
  (5, .inl (xe_if (fun x => decide (x = 0)) 15 8)),
  (8, .inl (xe_iload 2 9)),
  (9, .inr (.inr (.inl (xc_S 40 [0])))),
  (12, .inl (xe_if (fun x => decide (¬ x = 0)) 17 15)),
  (15, .inl (xe_push (.int (-1)) 16)),
  (16, .inr (.inl xr_i)),
  (17, .inl (xe_push (.int (-1)) 18)),
  (18, .inl (xe_istore 3 19)),
  (19, .inl (xe_push (.int 0) 20)),
  (20, .inl (xe_istore 4 22)),
  (22, .inl (xe_iload 4 24)),
  (24, .inl (xe_aload 0 25)),
  (25, .inr (.inr (.inl (xc_V (xj_1 0 71) [])))),
  (28, .inl (xe_icmp (fun x y => decide (y < x)) 73 31)),
  (31, .inl (xe_iload 3 32)),
  (32, .inl (xe_push (.int (-1)) 33)),
  (33, .inl (xe_icmp (fun x y => decide (x = y)) 50 36)),
  (36, .inl (xe_iload 4 38)),
  (38, .inl (xe_i2l 39)),
  (39, .inr (.inr (.inl (xc_S 35 [1])))),
  (42, .inl (xe_iload 3 43)),
  (43, .inl (xe_i2l 44)),
  (44, .inr (.inr (.inl (xc_S 35 [1])))),
  (47, .inl (xe_icmp (fun x y => decide (y ≤ x)) 67 50)),
  (50, .inl (xe_aload 0 51)),
  (51, .inl (xe_iload 4 53)),
  (53, .inr (.inr (.inl (xc_V (xj_1 0 72) [0])))),
  (56, .inl (xe_i2l 57)),
  (57, .inl (xe_iload 1 58)),
  (58, .inr (.inr (.inl (xc_S 6 [0, 1])))),
  (61, .inl (xe_if (fun x => decide (x = 0)) 67 64)),
  (64, .inl (xe_iload 4 66)),
  (66, .inl (xe_istore 3 67)),
  (67, .inl (xe_iinc 4 1 70)),
  (70, .inl (xe_goto 22)),
  (73, .inl (xe_iload 3 74)),
  (74, .inl (xe_iload 2 75)),
  (75, .inr (.inr (.inl (xc_S 45 [0, 0])))),
  (78, .inr (.inl xr_i))]
theorem xq_74_0 {G : xm_G} (hG : xm_W xk_B G) (hO : xm_Og G) : ∀ q ∈ xp_74_0, xm_op xk_B G xd xk_N "LiarsCock" "fewest" prog_1_method_75_code 5 (some (FieldType.int)) q.1 q.2 :=
  xw_cons (xw_E xn_aload (xo_aload_n dX1_fewest_0 rfl)) <|
  xw_cons (xw_E xn_iload (xo_iload_n dX1_fewest_1 rfl)) <|
  xw_cons (xl_v_0_238 hG dX1_fewest_2) <|
  xw_cons (xw_E xn_if (xo_if_eq dX1_fewest_5 (by decide))) <|
  xw_cons (xw_E xn_iload (xo_iload_n dX1_fewest_8 rfl)) <|
  xw_cons (xl_s_0_261 hG dX1_fewest_9) <|
  xw_cons (xw_E xn_if (xo_if_ne dX1_fewest_12 (by decide))) <|
  xw_cons (xw_E xn_push (xo_iconst dX1_fewest_15 (by decide))) <|
  xw_cons (xw_R (xt_i dX1_fewest_16)) <|
  xw_cons (xw_E xn_push (xo_iconst dX1_fewest_17 (by decide))) <|
  xw_cons (xw_E xn_istore (xo_istore_n dX1_fewest_18 rfl)) <|
  xw_cons (xw_E xn_push (xo_iconst dX1_fewest_19 (by decide))) <|
  xw_cons (xw_E xn_istore (xo_istore dX1_fewest_20)) <|
  xw_cons (xw_E xn_iload (xo_iload dX1_fewest_22)) <|
  xw_cons (xw_E xn_aload (xo_aload_n dX1_fewest_24 rfl)) <|
  xw_cons (xl_v_0_374 hG dX1_fewest_25) <|
  xw_cons (xw_E xn_icmp (xo_icmp_gt dX1_fewest_28 (by decide))) <|
  xw_cons (xw_E xn_iload (xo_iload_n dX1_fewest_31 rfl)) <|
  xw_cons (xw_E xn_push (xo_iconst dX1_fewest_32 (by decide))) <|
  xw_cons (xw_E xn_icmp (xo_icmp_eq dX1_fewest_33 (by decide))) <|
  xw_cons (xw_E xn_iload (xo_iload dX1_fewest_36)) <|
  xw_cons (xw_E xn_i2l (xo_i2l dX1_fewest_38)) <|
  xw_cons (xl_s_0_244 hG dX1_fewest_39) <|
  xw_cons (xw_E xn_iload (xo_iload_n dX1_fewest_42 rfl)) <|
  xw_cons (xw_E xn_i2l (xo_i2l dX1_fewest_43)) <|
  xw_cons (xl_s_0_244 hG dX1_fewest_44) <|
  xw_cons (xw_E xn_icmp (xo_icmp_ge dX1_fewest_47 (by decide))) <|
  xw_cons (xw_E xn_aload (xo_aload_n dX1_fewest_50 rfl)) <|
  xw_cons (xw_E xn_iload (xo_iload dX1_fewest_51)) <|
  xw_cons (xl_v_0_377 hG dX1_fewest_53) <|
  xw_cons (xw_E xn_i2l (xo_i2l dX1_fewest_56)) <|
  xw_cons (xw_E xn_iload (xo_iload_n dX1_fewest_57 rfl)) <|
  xw_cons (xl_s_0_172 hG dX1_fewest_58) <|
  xw_cons (xw_E xn_if (xo_if_eq dX1_fewest_61 (by decide))) <|
  xw_cons (xw_E xn_iload (xo_iload dX1_fewest_64)) <|
  xw_cons (xw_E xn_istore (xo_istore_n dX1_fewest_66 rfl)) <|
  xw_cons (xw_E xn_iinc (xo_iinc dX1_fewest_67 (by decide))) <|
  xw_cons (xw_E xn_goto (xo_goto dX1_fewest_70 (by decide))) <|
  xw_cons (xw_E xn_iload (xo_iload_n dX1_fewest_73 rfl)) <|
  xw_cons (xw_E xn_iload (xo_iload_n dX1_fewest_74 rfl)) <|
  xw_cons (xl_s_0_278 hG dX1_fewest_75) <|
  xw_cons (xw_R (xt_i dX1_fewest_78)) <|
  xw_nil _
def xp_74 : List (Nat × xm_O) := xp_74_0
theorem xq_74 {G : xm_G} (hG : xm_W xk_B G) (hO : xm_Og G) : ∀ q ∈ xp_74, xm_op xk_B G xd xk_N "LiarsCock" "fewest" prog_1_method_75_code 5 (some (FieldType.int)) q.1 q.2 := xq_74_0 hG hO
/- 75: LiarsCock.person(II)I -/
def xp_75_0 : List (Nat × xm_O) := [
  (0, .inl (xe_aload 0 1)),
  (1, .inl (xe_iload 1 2)),
  (2, .inr (.inr (.inl (xc_V (xj_1 0 10) [0])))),
  (5, .inl (xe_if (fun x => decide (¬ x = 0)) 10 8)),
  (8, .inl (xe_push (.int (-1)) 9)),
  (9, .inr (.inl xr_i)),
  (10, .inl (xe_iload 2 11)),
  (11, .inl (xe_sw 0 [36, 54, 63] 81)),
  (36, .inl (xe_aload 0 37)),
  (37, .inl (xe_getf (xj_1 0 1) 40)),
  (40, .inl (xe_getf (xj_1 2 3) 43)),
  (43, .inl (xe_iload 1 44)),
  (44, .inr (.inr (.inl (xc_V (xj_1 25 281) [0])))),
  (47, .inl (xe_cast (fun ci => ([10] : List Nat).elem ci) 50)),
  (50, .inl (xe_getf (xj_1 10 0) 53)),
  (53, .inr (.inl xr_i)),
  (54, .inl (xe_aload 0 55)),
  (55, .inl (xe_getf (xj_1 0 1) 58)),
  (58, .inl (xe_iload 1 59)),
  (59, .inr (.inr (.inl (xc_V (xj_1 2 122) [0])))),
  (62, .inr (.inl xr_i)),
  (63, .inl (xe_aload 0 64)),
  (64, .inl (xe_getf (xj_1 0 1) 67)),
  (67, .inl (xe_getf (xj_1 2 3) 70)),
  (70, .inl (xe_iload 1 71)),
  (71, .inr (.inr (.inl (xc_V (xj_1 25 281) [0])))),
  (74, .inl (xe_cast (fun ci => ([10] : List Nat).elem ci) 77)),
  (77, .inl (xe_getf (xj_1 10 1) 80)),
  (80, .inr (.inl xr_i)),
  (81, .inl (xe_push (.int (-1)) 82)),
  (82, .inr (.inl xr_i))]
theorem xq_75_0 {G : xm_G} (hG : xm_W xk_B G) (hO : xm_Og G) : ∀ q ∈ xp_75_0, xm_op xk_B G xd xk_N "LiarsCock" "person" prog_1_method_76_code 3 (some (FieldType.int)) q.1 q.2 :=
  xw_cons (xw_E xn_aload (xo_aload_n dX1_person_0 rfl)) <|
  xw_cons (xw_E xn_iload (xo_iload_n dX1_person_1 rfl)) <|
  xw_cons (xl_v_0_154 hG dX1_person_2) <|
  xw_cons (xw_E xn_if (xo_if_ne dX1_person_5 (by decide))) <|
  xw_cons (xw_E xn_push (xo_iconst dX1_person_8 (by decide))) <|
  xw_cons (xw_R (xt_i dX1_person_9)) <|
  xw_cons (xw_E xn_iload (xo_iload_n dX1_person_10 rfl)) <|
  xw_cons (xw_E xn_sw (xo_switch2 (by decide) (by decide) (by decide) dX1_person_11)) <|
  xw_cons (xw_E xn_aload (xo_aload_n dX1_person_36 rfl)) <|
  xw_cons (xw_E xn_getf (xo_getf hG xg_0_20 dX1_person_37)) <|
  xw_cons (xw_E xn_getf (xo_getf hG xg_0_117 dX1_person_40)) <|
  xw_cons (xw_E xn_iload (xo_iload_n dX1_person_43 rfl)) <|
  xw_cons (xl_v_0_134 hG dX1_person_44) <|
  xw_cons (xw_E xn_cast (xo_cast hG q1372 xca_0_298 dX1_person_47)) <|
  xw_cons (xw_E xn_getf (xo_getf hG xg_0_380 dX1_person_50)) <|
  xw_cons (xw_R (xt_i dX1_person_53)) <|
  xw_cons (xw_E xn_aload (xo_aload_n dX1_person_54 rfl)) <|
  xw_cons (xw_E xn_getf (xo_getf hG xg_0_20 dX1_person_55)) <|
  xw_cons (xw_E xn_iload (xo_iload_n dX1_person_58 rfl)) <|
  xw_cons (xl_v_0_193 hG dX1_person_59) <|
  xw_cons (xw_R (xt_i dX1_person_62)) <|
  xw_cons (xw_E xn_aload (xo_aload_n dX1_person_63 rfl)) <|
  xw_cons (xw_E xn_getf (xo_getf hG xg_0_20 dX1_person_64)) <|
  xw_cons (xw_E xn_getf (xo_getf hG xg_0_117 dX1_person_67)) <|
  xw_cons (xw_E xn_iload (xo_iload_n dX1_person_70 rfl)) <|
  xw_cons (xl_v_0_134 hG dX1_person_71) <|
  xw_cons (xw_E xn_cast (xo_cast hG q1372 xca_0_298 dX1_person_74)) <|
  xw_cons (xw_E xn_getf (xo_getf hG xg_0_300 dX1_person_77)) <|
  xw_cons (xw_R (xt_i dX1_person_80)) <|
  xw_cons (xw_E xn_push (xo_iconst dX1_person_81 (by decide))) <|
  xw_cons (xw_R (xt_i dX1_person_82)) <|
  xw_nil _
def xp_75 : List (Nat × xm_O) := xp_75_0
theorem xq_75 {G : xm_G} (hG : xm_W xk_B G) (hO : xm_Og G) : ∀ q ∈ xp_75, xm_op xk_B G xd xk_N "LiarsCock" "person" prog_1_method_76_code 3 (some (FieldType.int)) q.1 q.2 := xq_75_0 hG hO
/- 76: LiarsCock.lookout(III)I -/
def xp_76_0 : List (Nat × xm_O) := [
  (0, .inl (xe_aload 0 1)),
  (1, .inl (xe_iload 1 2)),
  (2, .inr (.inr (.inl (xc_V (xj_1 0 16) [0])))),
  (5, .inl (xe_if (fun x => decide (x = 0)) 34 8)),
  (8, .inl (xe_aload 0 9)),
  (9, .inl (xe_iload 2 10)),
  (10, .inr (.inr (.inl (xc_V (xj_1 0 33) [0])))),
  (13, .inl (xe_if (fun x => decide (x = 0)) 34 16)),
  (16, .inl (xe_iload 3 17)),
  (17, .inl (xe_push (.int 0) 18)),
  (18, .inl (xe_push (.int 3) 19)),
  (19, .inr (.inr (.inl (xc_S 4 [0, 0, 0])))),
  (22, .inl (xe_if (fun x => decide (x = 0)) 34 25)),
  (25, .inl (xe_aload 0 26)),
  (26, .inr (.inr (.inl (xc_V (xj_1 0 26) [])))),
  (29, .inl (xe_push (.long 0) 30)),
  (30, .inl (xe_lcmp 31)),
  (31, .inl (xe_if (fun x => decide (¬ x = 0)) 36 34)),
  (34, .inl (xe_push (.int (-1)) 35)),
  (35, .inr (.inl xr_i)),
  (36, .inl (xe_aload 0 37)),
  (37, .inl (xe_getf (xj_1 0 9) 40)),
  (40, .inl (xe_iload 1 41)),
  (41, .inl (xe_aload 0 42)),
  (42, .inl (xe_iload 2 43)),
  (43, .inr (.inr (.inl (xc_V (xj_1 0 34) [0])))),
  (46, .inr (.inr (.inl (xc_V (xj_1 7 132) [1, 0])))),
  (49, .inl (xe_istore 4 51)),
  (51, .inl (xe_iload 3 52)),
  (52, .inl (xe_if (fun x => decide (x = 0)) 61 55)),
  (55, .inl (xe_iload 4 57)),
  (57, .inl (xe_push (.int (-1)) 58)),
  (58, .inl (xe_icmp (fun x y => decide (¬ x = y)) 66 61)),
  (61, .inl (xe_iload 4 63)),
  (63, .inl (xe_goto 87)),
  (66, .inl (xe_iload 3 67)),
  (67, .inl (xe_iload 4 69)),
  (69, .inl (xe_icmp (fun x y => decide (y < x)) 86 72)),
  (72, .inl (xe_aload 0 73)),
  (73, .inl (xe_getf (xj_1 0 9) 76)),
  (76, .inl (xe_getf (xj_1 7 2) 79)),
  (79, .inl (xe_iload 3 80)),
  (80, .inl (xe_push (.int 1) 81)),
  (81, .inl (xe_ii (fun x y => x - y) 82)),
  (82, .inl (xe_ald (fun t => t == 0) 83)),
  (83, .inl (xe_goto 87)),
  (86, .inl (xe_push (.int (-1)) 87)),
  (87, .inr (.inl xr_i))]
theorem xq_76_0 {G : xm_G} (hG : xm_W xk_B G) (hO : xm_Og G) : ∀ q ∈ xp_76_0, xm_op xk_B G xd xk_N "LiarsCock" "lookout" prog_1_method_77_code 5 (some (FieldType.int)) q.1 q.2 :=
  xw_cons (xw_E xn_aload (xo_aload_n dX1_lookout_0 rfl)) <|
  xw_cons (xw_E xn_iload (xo_iload_n dX1_lookout_1 rfl)) <|
  xw_cons (xl_v_0_197 hG dX1_lookout_2) <|
  xw_cons (xw_E xn_if (xo_if_eq dX1_lookout_5 (by decide))) <|
  xw_cons (xw_E xn_aload (xo_aload_n dX1_lookout_8 rfl)) <|
  xw_cons (xw_E xn_iload (xo_iload_n dX1_lookout_9 rfl)) <|
  xw_cons (xl_v_0_238 hG dX1_lookout_10) <|
  xw_cons (xw_E xn_if (xo_if_eq dX1_lookout_13 (by decide))) <|
  xw_cons (xw_E xn_iload (xo_iload_n dX1_lookout_16 rfl)) <|
  xw_cons (xw_E xn_push (xo_iconst dX1_lookout_17 (by decide))) <|
  xw_cons (xw_E xn_push (xo_iconst dX1_lookout_18 (by decide))) <|
  xw_cons (xl_s_0_113 hG dX1_lookout_19) <|
  xw_cons (xw_E xn_if (xo_if_eq dX1_lookout_22 (by decide))) <|
  xw_cons (xw_E xn_aload (xo_aload_n dX1_lookout_25 rfl)) <|
  xw_cons (xl_v_0_235 hG dX1_lookout_26) <|
  xw_cons (xw_E xn_push (xo_lconst dX1_lookout_29 (by decide))) <|
  xw_cons (xw_E xn_lcmp (xo_lcmp dX1_lookout_30)) <|
  xw_cons (xw_E xn_if (xo_if_ne dX1_lookout_31 (by decide))) <|
  xw_cons (xw_E xn_push (xo_iconst dX1_lookout_34 (by decide))) <|
  xw_cons (xw_R (xt_i dX1_lookout_35)) <|
  xw_cons (xw_E xn_aload (xo_aload_n dX1_lookout_36 rfl)) <|
  xw_cons (xw_E xn_getf (xo_getf hG xg_0_59 dX1_lookout_37)) <|
  xw_cons (xw_E xn_iload (xo_iload_n dX1_lookout_40 rfl)) <|
  xw_cons (xw_E xn_aload (xo_aload_n dX1_lookout_41 rfl)) <|
  xw_cons (xw_E xn_iload (xo_iload_n dX1_lookout_42 rfl)) <|
  xw_cons (xl_v_0_241 hG dX1_lookout_43) <|
  xw_cons (xl_v_0_383 hG dX1_lookout_46) <|
  xw_cons (xw_E xn_istore (xo_istore dX1_lookout_49)) <|
  xw_cons (xw_E xn_iload (xo_iload_n dX1_lookout_51 rfl)) <|
  xw_cons (xw_E xn_if (xo_if_eq dX1_lookout_52 (by decide))) <|
  xw_cons (xw_E xn_iload (xo_iload dX1_lookout_55)) <|
  xw_cons (xw_E xn_push (xo_iconst dX1_lookout_57 (by decide))) <|
  xw_cons (xw_E xn_icmp (xo_icmp_ne dX1_lookout_58 (by decide))) <|
  xw_cons (xw_E xn_iload (xo_iload dX1_lookout_61)) <|
  xw_cons (xw_E xn_goto (xo_goto dX1_lookout_63 (by decide))) <|
  xw_cons (xw_E xn_iload (xo_iload_n dX1_lookout_66 rfl)) <|
  xw_cons (xw_E xn_iload (xo_iload dX1_lookout_67)) <|
  xw_cons (xw_E xn_icmp (xo_icmp_gt dX1_lookout_69 (by decide))) <|
  xw_cons (xw_E xn_aload (xo_aload_n dX1_lookout_72 rfl)) <|
  xw_cons (xw_E xn_getf (xo_getf hG xg_0_59 dX1_lookout_73)) <|
  xw_cons (xw_E xn_getf (xo_getf hG xg_0_387 dX1_lookout_76)) <|
  xw_cons (xw_E xn_iload (xo_iload_n dX1_lookout_79 rfl)) <|
  xw_cons (xw_E xn_push (xo_iconst dX1_lookout_80 (by decide))) <|
  xw_cons (xw_E xn_ii (xo_isub dX1_lookout_81)) <|
  xw_cons (xw_E xn_ald (xo_iald xk_hB dX1_lookout_82)) <|
  xw_cons (xw_E xn_goto (xo_goto dX1_lookout_83 (by decide))) <|
  xw_cons (xw_E xn_push (xo_iconst dX1_lookout_86 (by decide))) <|
  xw_cons (xw_R (xt_i dX1_lookout_87)) <|
  xw_nil _
def xp_76 : List (Nat × xm_O) := xp_76_0
theorem xq_76 {G : xm_G} (hG : xm_W xk_B G) (hO : xm_Og G) : ∀ q ∈ xp_76, xm_op xk_B G xd xk_N "LiarsCock" "lookout" prog_1_method_77_code 5 (some (FieldType.int)) q.1 q.2 := xq_76_0 hG hO
/- 77: LiarsCock.move(II)I -/
def xp_77_0 : List (Nat × xm_O) := [
  (0, .inl (xe_aload 0 1)),
  (1, .inl (xe_iload 1 2)),
  (2, .inr (.inr (.inl (xc_V (xj_1 0 16) [0])))),
  (5, .inl (xe_if (fun x => decide (x = 0)) 21 8)),
  (8, .inl (xe_iload 2 9)),
  (9, .inl (xe_push (.int (-1)) 10)),
  (10, .inl (xe_icmp (fun x y => decide (x = y)) 23 13)),
  (13, .inl (xe_aload 0 14)),
  (14, .inl (xe_iload 2 15)),
  (15, .inr (.inr (.inl (xc_V (xj_1 0 10) [0])))),
  (18, .inl (xe_if (fun x => decide (¬ x = 0)) 23 21)),
  (21, .inl (xe_push (.int (-1)) 22)),
  (22, .inr (.inl xr_i)),
  (23, .inl (xe_push (.int 0) 24)),
  (24, .inl (xe_istore 3 25)),
  (25, .inl (xe_iload 3 26)),
  (26, .inl (xe_aload 0 27)),
  (27, .inl (xe_getf (xj_1 0 1) 30)),
  (30, .inl (xe_getf (xj_1 2 3) 33)),
  (33, .inr (.inr (.inl (xc_V (xj_1 25 280) [])))),
  (36, .inl (xe_icmp (fun x y => decide (y ≤ x)) 203 39)),
  (39, .inl (xe_push (.int 0) 40)),
  (40, .inl (xe_istore 4 42)),
  (42, .inl (xe_iload 4 44)),
  (44, .inl (xe_push (.int 2) 45)),
  (45, .inl (xe_aload 0 46)),
  (46, .inl (xe_getf (xj_1 0 1) 49)),
  (49, .inl (xe_getf (xj_1 2 0) 52)),
  (52, .inr (.inr (.inl (xc_V (xj_1 25 280) [])))),
  (55, .inl (xe_ii (fun x y => x * y) 56)),
  (56, .inl (xe_icmp (fun x y => decide (y ≤ x)) 197 59)),
  (59, .inl (xe_iload 3 60)),
  (60, .inl (xe_iload 2 61)),
  (61, .inl (xe_icmp (fun x y => decide (x = y)) 197 64)),
  (64, .inl (xe_iload 4 66)),
  (66, .inl (xe_push (.int 2) 67)),
  (67, .inl (xe_iid (fun x y => x - x / y * y) 68)),
  (68, .inl (xe_if (fun x => decide (¬ x = 0)) 82 71)),
  (71, .inl (xe_aload 0 72)),
  (72, .inl (xe_iload 4 74)),
  (74, .inl (xe_push (.int 2) 75)),
  (75, .inl (xe_iid (fun x y => x / y) 76)),
  (76, .inr (.inr (.inl (xc_V (xj_1 0 34) [0])))),
  (79, .inl (xe_goto 106)),
  (82, .inl (xe_aload 0 83)),
  (83, .inl (xe_iload 4 85)),
  (85, .inl (xe_push (.int 2) 86)),
  (86, .inl (xe_iid (fun x y => x / y) 87)),
  (87, .inr (.inr (.inl (xc_V (xj_1 0 34) [0])))),
  (90, .inl (xe_aload 0 91))]
theorem xq_77_0 {G : xm_G} (hG : xm_W xk_B G) (hO : xm_Og G) : ∀ q ∈ xp_77_0, xm_op xk_B G xd xk_N "LiarsCock" "move" prog_1_method_78_code 8 (some (FieldType.int)) q.1 q.2 :=
  xw_cons (xw_E xn_aload (xo_aload_n dX1_move_0 rfl)) <|
  xw_cons (xw_E xn_iload (xo_iload_n dX1_move_1 rfl)) <|
  xw_cons (xl_v_0_197 hG dX1_move_2) <|
  xw_cons (xw_E xn_if (xo_if_eq dX1_move_5 (by decide))) <|
  xw_cons (xw_E xn_iload (xo_iload_n dX1_move_8 rfl)) <|
  xw_cons (xw_E xn_push (xo_iconst dX1_move_9 (by decide))) <|
  xw_cons (xw_E xn_icmp (xo_icmp_eq dX1_move_10 (by decide))) <|
  xw_cons (xw_E xn_aload (xo_aload_n dX1_move_13 rfl)) <|
  xw_cons (xw_E xn_iload (xo_iload_n dX1_move_14 rfl)) <|
  xw_cons (xl_v_0_154 hG dX1_move_15) <|
  xw_cons (xw_E xn_if (xo_if_ne dX1_move_18 (by decide))) <|
  xw_cons (xw_E xn_push (xo_iconst dX1_move_21 (by decide))) <|
  xw_cons (xw_R (xt_i dX1_move_22)) <|
  xw_cons (xw_E xn_push (xo_iconst dX1_move_23 (by decide))) <|
  xw_cons (xw_E xn_istore (xo_istore_n dX1_move_24 rfl)) <|
  xw_cons (xw_E xn_iload (xo_iload_n dX1_move_25 rfl)) <|
  xw_cons (xw_E xn_aload (xo_aload_n dX1_move_26 rfl)) <|
  xw_cons (xw_E xn_getf (xo_getf hG xg_0_20 dX1_move_27)) <|
  xw_cons (xw_E xn_getf (xo_getf hG xg_0_117 dX1_move_30)) <|
  xw_cons (xl_v_0_109 hG dX1_move_33) <|
  xw_cons (xw_E xn_icmp (xo_icmp_ge dX1_move_36 (by decide))) <|
  xw_cons (xw_E xn_push (xo_iconst dX1_move_39 (by decide))) <|
  xw_cons (xw_E xn_istore (xo_istore dX1_move_40)) <|
  xw_cons (xw_E xn_iload (xo_iload dX1_move_42)) <|
  xw_cons (xw_E xn_push (xo_iconst dX1_move_44 (by decide))) <|
  xw_cons (xw_E xn_aload (xo_aload_n dX1_move_45 rfl)) <|
  xw_cons (xw_E xn_getf (xo_getf hG xg_0_20 dX1_move_46)) <|
  xw_cons (xw_E xn_getf (xo_getf hG xg_0_106 dX1_move_49)) <|
  xw_cons (xl_v_0_109 hG dX1_move_52) <|
  xw_cons (xw_E xn_ii (xo_imul dX1_move_55)) <|
  xw_cons (xw_E xn_icmp (xo_icmp_ge dX1_move_56 (by decide))) <|
  xw_cons (xw_E xn_iload (xo_iload_n dX1_move_59 rfl)) <|
  xw_cons (xw_E xn_iload (xo_iload_n dX1_move_60 rfl)) <|
  xw_cons (xw_E xn_icmp (xo_icmp_eq dX1_move_61 (by decide))) <|
  xw_cons (xw_E xn_iload (xo_iload dX1_move_64)) <|
  xw_cons (xw_E xn_push (xo_iconst dX1_move_66 (by decide))) <|
  xw_cons (xw_E xn_iid (xo_irem dX1_move_67)) <|
  xw_cons (xw_E xn_if (xo_if_ne dX1_move_68 (by decide))) <|
  xw_cons (xw_E xn_aload (xo_aload_n dX1_move_71 rfl)) <|
  xw_cons (xw_E xn_iload (xo_iload dX1_move_72)) <|
  xw_cons (xw_E xn_push (xo_iconst dX1_move_74 (by decide))) <|
  xw_cons (xw_E xn_iid (xo_idiv dX1_move_75)) <|
  xw_cons (xl_v_0_241 hG dX1_move_76) <|
  xw_cons (xw_E xn_goto (xo_goto dX1_move_79 (by decide))) <|
  xw_cons (xw_E xn_aload (xo_aload_n dX1_move_82 rfl)) <|
  xw_cons (xw_E xn_iload (xo_iload dX1_move_83)) <|
  xw_cons (xw_E xn_push (xo_iconst dX1_move_85 (by decide))) <|
  xw_cons (xw_E xn_iid (xo_idiv dX1_move_86)) <|
  xw_cons (xl_v_0_241 hG dX1_move_87) <|
  xw_cons (xw_E xn_aload (xo_aload_n dX1_move_90 rfl)) <|
  xw_nil _
def xp_77_1 : List (Nat × xm_O) := [
  (91, .inl (xe_getf (xj_1 0 1) 94)),
  (94, .inl (xe_new 12 1 xk_f12 97)),
  (97, .inl (xe_dup 98)),
  (98, .inl (xe_push (.int 1) 99)),
  (99, .inr (.inr (.inl (xc_I 247 [0])))),
  (102, .inr (.inr (.inl (xc_V (xj_1 2 118) [2])))),
  (105, .inl (xe_ll (fun x y => x ^^^ y) 106)),
  (106, .inl (xe_lstore 5 108)),
  (108, .inl (xe_aload 0 109)),
  (109, .inl (xe_getf (xj_1 0 1) 112)),
  (112, .inl (xe_getf (xj_1 2 6) 115)),
  (115, .inl (xe_iload 1 116)),
  (116, .inl (xe_ald (fun t => Nat.ble 4 t) 117)),
  (117, .inl (xe_getf (xj_1 4 0) 120)),
  (120, .inl (xe_if (fun x => decide (¬ x = 0)) 143 123)),
  (123, .inl (xe_lload 5 125)),
  (125, .inl (xe_aload 0 126)),
  (126, .inl (xe_getf (xj_1 0 2) 129)),
  (129, .inr (.inr (.inl (xc_S 6 [0, 1])))),
  (132, .inl (xe_if (fun x => decide (¬ x = 0)) 139 135)),
  (135, .inl (xe_push (.int 1) 136)),
  (136, .inl (xe_goto 176)),
  (139, .inl (xe_push (.int 0) 140)),
  (140, .inl (xe_goto 176)),
  (143, .inl (xe_aload 0 144)),
  (144, .inl (xe_getf (xj_1 0 1) 147)),
  (147, .inl (xe_lload 5 149)),
  (149, .inl (xe_aload 0 150)),
  (150, .inl (xe_getf (xj_1 0 1) 153)),
  (153, .inl (xe_getf (xj_1 2 3) 156)),
  (156, .inl (xe_iload 3 157)),
  (157, .inr (.inr (.inl (xc_V (xj_1 25 281) [0])))),
  (160, .inl (xe_cast (fun ci => ([10] : List Nat).elem ci) 163)),
  (163, .inl (xe_getf (xj_1 10 1) 166)),
  (166, .inr (.inr (.inl (xc_V (xj_1 2 120) [0, 1])))),
  (169, .inl (xe_aload 0 170)),
  (170, .inl (xe_getf (xj_1 0 2) 173)),
  (173, .inr (.inr (.inl (xc_S 6 [0, 1])))),
  (176, .inl (xe_istore 7 178)),
  (178, .inl (xe_iload 7 180)),
  (180, .inl (xe_if (fun x => decide (x = 0)) 191 183)),
  (183, .inl (xe_push (.int 12) 185)),
  (185, .inl (xe_iload 3 186)),
  (186, .inl (xe_ii (fun x y => x * y) 187)),
  (187, .inl (xe_iload 4 189)),
  (189, .inl (xe_ii (fun x y => x + y) 190)),
  (190, .inr (.inl xr_i)),
  (191, .inl (xe_iinc 4 1 194)),
  (194, .inl (xe_goto 42)),
  (197, .inl (xe_iinc 3 1 200))]
theorem xq_77_1 {G : xm_G} (hG : xm_W xk_B G) (hO : xm_Og G) : ∀ q ∈ xp_77_1, xm_op xk_B G xd xk_N "LiarsCock" "move" prog_1_method_78_code 8 (some (FieldType.int)) q.1 q.2 :=
  xw_cons (xw_E xn_getf (xo_getf hG xg_0_20 dX1_move_91)) <|
  xw_cons (xw_E xn_new (xo_new hG xnw_0_307 dX1_move_94)) <|
  xw_cons (xw_E xn_dup (xo_dup dX1_move_97)) <|
  xw_cons (xw_E xn_push (xo_iconst dX1_move_98 (by decide))) <|
  xw_cons (xl_s_0_309 hG dX1_move_99) <|
  xw_cons (xl_v_0_312 hG dX1_move_102) <|
  xw_cons (xw_E xn_ll (xo_lxor dX1_move_105)) <|
  xw_cons (xw_E xn_lstore (xo_lstore dX1_move_106)) <|
  xw_cons (xw_E xn_aload (xo_aload_n dX1_move_108 rfl)) <|
  xw_cons (xw_E xn_getf (xo_getf hG xg_0_20 dX1_move_109)) <|
  xw_cons (xw_E xn_getf (xo_getf hG xg_0_72 dX1_move_112)) <|
  xw_cons (xw_E xn_iload (xo_iload_n dX1_move_115 rfl)) <|
  xw_cons (xw_E xn_ald (xo_aald xk_hB dX1_move_116)) <|
  xw_cons (xw_E xn_getf (xo_getf hG xg_0_179 dX1_move_117)) <|
  xw_cons (xw_E xn_if (xo_if_ne dX1_move_120 (by decide))) <|
  xw_cons (xw_E xn_lload (xo_lload dX1_move_123)) <|
  xw_cons (xw_E xn_aload (xo_aload_n dX1_move_125 rfl)) <|
  xw_cons (xw_E xn_getf (xo_getf hG xg_0_95 dX1_move_126)) <|
  xw_cons (xl_s_0_172 hG dX1_move_129) <|
  xw_cons (xw_E xn_if (xo_if_ne dX1_move_132 (by decide))) <|
  xw_cons (xw_E xn_push (xo_iconst dX1_move_135 (by decide))) <|
  xw_cons (xw_E xn_goto (xo_goto dX1_move_136 (by decide))) <|
  xw_cons (xw_E xn_push (xo_iconst dX1_move_139 (by decide))) <|
  xw_cons (xw_E xn_goto (xo_goto dX1_move_140 (by decide))) <|
  xw_cons (xw_E xn_aload (xo_aload_n dX1_move_143 rfl)) <|
  xw_cons (xw_E xn_getf (xo_getf hG xg_0_20 dX1_move_144)) <|
  xw_cons (xw_E xn_lload (xo_lload dX1_move_147)) <|
  xw_cons (xw_E xn_aload (xo_aload_n dX1_move_149 rfl)) <|
  xw_cons (xw_E xn_getf (xo_getf hG xg_0_20 dX1_move_150)) <|
  xw_cons (xw_E xn_getf (xo_getf hG xg_0_117 dX1_move_153)) <|
  xw_cons (xw_E xn_iload (xo_iload_n dX1_move_156 rfl)) <|
  xw_cons (xl_v_0_134 hG dX1_move_157) <|
  xw_cons (xw_E xn_cast (xo_cast hG q1372 xca_0_298 dX1_move_160)) <|
  xw_cons (xw_E xn_getf (xo_getf hG xg_0_300 dX1_move_163)) <|
  xw_cons (xl_v_0_315 hG dX1_move_166) <|
  xw_cons (xw_E xn_aload (xo_aload_n dX1_move_169 rfl)) <|
  xw_cons (xw_E xn_getf (xo_getf hG xg_0_95 dX1_move_170)) <|
  xw_cons (xl_s_0_172 hG dX1_move_173) <|
  xw_cons (xw_E xn_istore (xo_istore dX1_move_176)) <|
  xw_cons (xw_E xn_iload (xo_iload dX1_move_178)) <|
  xw_cons (xw_E xn_if (xo_if_eq dX1_move_180 (by decide))) <|
  xw_cons (xw_E xn_push (xo_bipush dX1_move_183 (by decide))) <|
  xw_cons (xw_E xn_iload (xo_iload_n dX1_move_185 rfl)) <|
  xw_cons (xw_E xn_ii (xo_imul dX1_move_186)) <|
  xw_cons (xw_E xn_iload (xo_iload dX1_move_187)) <|
  xw_cons (xw_E xn_ii (xo_iadd dX1_move_189)) <|
  xw_cons (xw_R (xt_i dX1_move_190)) <|
  xw_cons (xw_E xn_iinc (xo_iinc dX1_move_191 (by decide))) <|
  xw_cons (xw_E xn_goto (xo_goto dX1_move_194 (by decide))) <|
  xw_cons (xw_E xn_iinc (xo_iinc dX1_move_197 (by decide))) <|
  xw_nil _
def xp_77_2 : List (Nat × xm_O) := [
  (200, .inl (xe_goto 25)),
  (203, .inl (xe_push (.int (-1)) 204)),
  (204, .inr (.inl xr_i))]
theorem xq_77_2 {G : xm_G} (hG : xm_W xk_B G) (hO : xm_Og G) : ∀ q ∈ xp_77_2, xm_op xk_B G xd xk_N "LiarsCock" "move" prog_1_method_78_code 8 (some (FieldType.int)) q.1 q.2 :=
  xw_cons (xw_E xn_goto (xo_goto dX1_move_200 (by decide))) <|
  xw_cons (xw_E xn_push (xo_iconst dX1_move_203 (by decide))) <|
  xw_cons (xw_R (xt_i dX1_move_204)) <|
  xw_nil _
def xp_77 : List (Nat × xm_O) := xp_77_0 ++ xp_77_1 ++ xp_77_2
theorem xq_77 {G : xm_G} (hG : xm_W xk_B G) (hO : xm_Og G) : ∀ q ∈ xp_77, xm_op xk_B G xd xk_N "LiarsCock" "move" prog_1_method_78_code 8 (some (FieldType.int)) q.1 q.2 := xw_app (xw_app (xq_77_0 hG hO) (xq_77_1 hG hO)) (xq_77_2 hG hO)
/- 78: LiarsCock.longest(IIII)I -/
def xp_78_0 : List (Nat × xm_O) := [
  (0, .inl (xe_aload 0 1)),
  (1, .inl (xe_iload 1 2)),
  (2, .inr (.inr (.inl (xc_V (xj_1 0 16) [0])))),
  (5, .inl (xe_if (fun x => decide (x = 0)) 24 8)),
  (8, .inl (xe_iload 2 9)),
  (9, .inl (xe_iload 3 10)),
  (10, .inr (.inr (.inl (xc_S 49 [0, 0])))),
  (13, .inl (xe_if (fun x => decide (x = 0)) 24 16)),
  (16, .inl (xe_iload 4 18)),
  (18, .inr (.inr (.inl (xc_S 40 [0])))),
  (21, .inl (xe_if (fun x => decide (¬ x = 0)) 26 24)),
  (24, .inl (xe_push (.int (-1)) 25)),
  (25, .inr (.inl xr_i)),
  (26, .inl (xe_push (.int 0) 27)),
  (27, .inl (xe_istore 5 29)),
  (29, .inl (xe_push (.int (-1)) 30)),
  (30, .inl (xe_istore 6 32)),
  (32, .inl (xe_push (.int 0) 33)),
  (33, .inl (xe_istore 7 35)),
  (35, .inl (xe_push (.int (-1)) 36)),
  (36, .inl (xe_istore 8 38)),
  (38, .inl (xe_iload 2 39)),
  (39, .inl (xe_istore 9 41)),
  (41, .inl (xe_iload 9 43)),
  (43, .inl (xe_iload 3 44)),
  (44, .inl (xe_icmp (fun x y => decide (y < x)) 115 47)),
  (47, .inl (xe_aload 0 48)),
  (48, .inl (xe_iload 1 49)),
  (49, .inl (xe_iload 9 51)),
  (51, .inl (xe_aload 0 52)),
  (52, .inl (xe_getf (xj_1 0 2) 55)),
  (55, .inr (.inr (.inl (xc_V (xj_1 0 17) [0, 0, 0])))),
  (58, .inl (xe_istore 10 60)),
  (60, .inl (xe_iload 10 62)),
  (62, .inl (xe_push (.int (-1)) 63)),
  (63, .inl (xe_icmp (fun x y => decide (¬ x = y)) 70 66)),
  (66, .inl (xe_push (.int 0) 67)),
  (67, .inl (xe_goto 85)),
  (70, .inl (xe_iload 10 72)),
  (72, .inl (xe_iload 8 74)),
  (74, .inl (xe_icmp (fun x y => decide (¬ x = y)) 84 77)),
  (77, .inl (xe_iload 7 79)),
  (79, .inl (xe_push (.int 1) 80)),
  (80, .inl (xe_ii (fun x y => x + y) 81)),
  (81, .inl (xe_goto 85)),
  (84, .inl (xe_push (.int 1) 85)),
  (85, .inl (xe_istore 7 87)),
  (87, .inl (xe_iload 10 89)),
  (89, .inl (xe_istore 8 91)),
  (91, .inl (xe_iload 7 93))]
theorem xq_78_0 {G : xm_G} (hG : xm_W xk_B G) (hO : xm_Og G) : ∀ q ∈ xp_78_0, xm_op xk_B G xd xk_N "LiarsCock" "longest" prog_1_method_79_code 11 (some (FieldType.int)) q.1 q.2 :=
  xw_cons (xw_E xn_aload (xo_aload_n dX1_longest_0 rfl)) <|
  xw_cons (xw_E xn_iload (xo_iload_n dX1_longest_1 rfl)) <|
  xw_cons (xl_v_0_197 hG dX1_longest_2) <|
  xw_cons (xw_E xn_if (xo_if_eq dX1_longest_5 (by decide))) <|
  xw_cons (xw_E xn_iload (xo_iload_n dX1_longest_8 rfl)) <|
  xw_cons (xw_E xn_iload (xo_iload_n dX1_longest_9 rfl)) <|
  xw_cons (xl_s_0_285 hG dX1_longest_10) <|
  xw_cons (xw_E xn_if (xo_if_eq dX1_longest_13 (by decide))) <|
  xw_cons (xw_E xn_iload (xo_iload dX1_longest_16)) <|
  xw_cons (xl_s_0_261 hG dX1_longest_18) <|
  xw_cons (xw_E xn_if (xo_if_ne dX1_longest_21 (by decide))) <|
  xw_cons (xw_E xn_push (xo_iconst dX1_longest_24 (by decide))) <|
  xw_cons (xw_R (xt_i dX1_longest_25)) <|
  xw_cons (xw_E xn_push (xo_iconst dX1_longest_26 (by decide))) <|
  xw_cons (xw_E xn_istore (xo_istore dX1_longest_27)) <|
  xw_cons (xw_E xn_push (xo_iconst dX1_longest_29 (by decide))) <|
  xw_cons (xw_E xn_istore (xo_istore dX1_longest_30)) <|
  xw_cons (xw_E xn_push (xo_iconst dX1_longest_32 (by decide))) <|
  xw_cons (xw_E xn_istore (xo_istore dX1_longest_33)) <|
  xw_cons (xw_E xn_push (xo_iconst dX1_longest_35 (by decide))) <|
  xw_cons (xw_E xn_istore (xo_istore dX1_longest_36)) <|
  xw_cons (xw_E xn_iload (xo_iload_n dX1_longest_38 rfl)) <|
  xw_cons (xw_E xn_istore (xo_istore dX1_longest_39)) <|
  xw_cons (xw_E xn_iload (xo_iload dX1_longest_41)) <|
  xw_cons (xw_E xn_iload (xo_iload_n dX1_longest_43 rfl)) <|
  xw_cons (xw_E xn_icmp (xo_icmp_gt dX1_longest_44 (by decide))) <|
  xw_cons (xw_E xn_aload (xo_aload_n dX1_longest_47 rfl)) <|
  xw_cons (xw_E xn_iload (xo_iload_n dX1_longest_48 rfl)) <|
  xw_cons (xw_E xn_iload (xo_iload dX1_longest_49)) <|
  xw_cons (xw_E xn_aload (xo_aload_n dX1_longest_51 rfl)) <|
  xw_cons (xw_E xn_getf (xo_getf hG xg_0_95 dX1_longest_52)) <|
  xw_cons (xl_v_0_189 hG dX1_longest_55) <|
  xw_cons (xw_E xn_istore (xo_istore dX1_longest_58)) <|
  xw_cons (xw_E xn_iload (xo_iload dX1_longest_60)) <|
  xw_cons (xw_E xn_push (xo_iconst dX1_longest_62 (by decide))) <|
  xw_cons (xw_E xn_icmp (xo_icmp_ne dX1_longest_63 (by decide))) <|
  xw_cons (xw_E xn_push (xo_iconst dX1_longest_66 (by decide))) <|
  xw_cons (xw_E xn_goto (xo_goto dX1_longest_67 (by decide))) <|
  xw_cons (xw_E xn_iload (xo_iload dX1_longest_70)) <|
  xw_cons (xw_E xn_iload (xo_iload dX1_longest_72)) <|
  xw_cons (xw_E xn_icmp (xo_icmp_ne dX1_longest_74 (by decide))) <|
  xw_cons (xw_E xn_iload (xo_iload dX1_longest_77)) <|
  xw_cons (xw_E xn_push (xo_iconst dX1_longest_79 (by decide))) <|
  xw_cons (xw_E xn_ii (xo_iadd dX1_longest_80)) <|
  xw_cons (xw_E xn_goto (xo_goto dX1_longest_81 (by decide))) <|
  xw_cons (xw_E xn_push (xo_iconst dX1_longest_84 (by decide))) <|
  xw_cons (xw_E xn_istore (xo_istore dX1_longest_85)) <|
  xw_cons (xw_E xn_iload (xo_iload dX1_longest_87)) <|
  xw_cons (xw_E xn_istore (xo_istore dX1_longest_89)) <|
  xw_cons (xw_E xn_iload (xo_iload dX1_longest_91)) <|
  xw_nil _
def xp_78_1 : List (Nat × xm_O) := [
  (93, .inl (xe_iload 5 95)),
  (95, .inl (xe_icmp (fun x y => decide (y < x)) 101 98)),
  (98, .inl (xe_goto 109)),
  (101, .inl (xe_iload 7 103)),
  (103, .inl (xe_istore 5 105)),
  (105, .inl (xe_iload 10 107)),
  (107, .inl (xe_istore 6 109)),
  (109, .inl (xe_iinc 9 1 112)),
  (112, .inl (xe_goto 41)),
  (115, .inl (xe_iload 5 117)),
  (117, .inl (xe_if (fun x => decide (¬ x = 0)) 124 120)),
  (120, .inl (xe_push (.int (-1)) 121)),
  (121, .inl (xe_goto 136)),
  (124, .inl (xe_iload 4 126)),
  (126, .inl (xe_if (fun x => decide (¬ x = 0)) 134 129)),
  (129, .inl (xe_iload 5 131)),
  (131, .inl (xe_goto 136)),
  (134, .inl (xe_iload 6 136)),
  (136, .inr (.inl xr_i))]
theorem xq_78_1 {G : xm_G} (hG : xm_W xk_B G) (hO : xm_Og G) : ∀ q ∈ xp_78_1, xm_op xk_B G xd xk_N "LiarsCock" "longest" prog_1_method_79_code 11 (some (FieldType.int)) q.1 q.2 :=
  xw_cons (xw_E xn_iload (xo_iload dX1_longest_93)) <|
  xw_cons (xw_E xn_icmp (xo_icmp_gt dX1_longest_95 (by decide))) <|
  xw_cons (xw_E xn_goto (xo_goto dX1_longest_98 (by decide))) <|
  xw_cons (xw_E xn_iload (xo_iload dX1_longest_101)) <|
  xw_cons (xw_E xn_istore (xo_istore dX1_longest_103)) <|
  xw_cons (xw_E xn_iload (xo_iload dX1_longest_105)) <|
  xw_cons (xw_E xn_istore (xo_istore dX1_longest_107)) <|
  xw_cons (xw_E xn_iinc (xo_iinc dX1_longest_109 (by decide))) <|
  xw_cons (xw_E xn_goto (xo_goto dX1_longest_112 (by decide))) <|
  xw_cons (xw_E xn_iload (xo_iload dX1_longest_115)) <|
  xw_cons (xw_E xn_if (xo_if_ne dX1_longest_117 (by decide))) <|
  xw_cons (xw_E xn_push (xo_iconst dX1_longest_120 (by decide))) <|
  xw_cons (xw_E xn_goto (xo_goto dX1_longest_121 (by decide))) <|
  xw_cons (xw_E xn_iload (xo_iload dX1_longest_124)) <|
  xw_cons (xw_E xn_if (xo_if_ne dX1_longest_126 (by decide))) <|
  xw_cons (xw_E xn_iload (xo_iload dX1_longest_129)) <|
  xw_cons (xw_E xn_goto (xo_goto dX1_longest_131 (by decide))) <|
  xw_cons (xw_E xn_iload (xo_iload dX1_longest_134)) <|
  xw_cons (xw_R (xt_i dX1_longest_136)) <|
  xw_nil _
def xp_78 : List (Nat × xm_O) := xp_78_0 ++ xp_78_1
theorem xq_78 {G : xm_G} (hG : xm_W xk_B G) (hO : xm_Og G) : ∀ q ∈ xp_78, xm_op xk_B G xd xk_N "LiarsCock" "longest" prog_1_method_79_code 11 (some (FieldType.int)) q.1 q.2 := xw_app (xq_78_0 hG hO) (xq_78_1 hG hO)
/- 79: LiarsCock.differ(II)I -/
def xp_79_0 : List (Nat × xm_O) := [
  (0, .inl (xe_aload 0 1)),
  (1, .inl (xe_push (.int 1) 2)),
  (2, .inr (.inr (.inl (xc_V (xj_1 0 16) [0])))),
  (5, .inl (xe_if (fun x => decide (x = 0)) 16 8)),
  (8, .inl (xe_iload 1 9)),
  (9, .inl (xe_iload 2 10)),
  (10, .inr (.inr (.inl (xc_S 49 [0, 0])))),
  (13, .inl (xe_if (fun x => decide (¬ x = 0)) 18 16)),
  (16, .inl (xe_push (.int (-1)) 17)),
  (17, .inr (.inl xr_i)),
  (18, .inl (xe_push (.int 0) 19)),
  (19, .inl (xe_istore 3 20)),
  (20, .inl (xe_iload 1 21)),
  (21, .inl (xe_istore 4 23)),
  (23, .inl (xe_iload 4 25)),
  (25, .inl (xe_iload 2 26)),
  (26, .inl (xe_icmp (fun x y => decide (y < x)) 63 29)),
  (29, .inl (xe_aload 0 30)),
  (30, .inl (xe_push (.int 0) 31)),
  (31, .inl (xe_iload 4 33)),
  (33, .inl (xe_aload 0 34)),
  (34, .inl (xe_getf (xj_1 0 2) 37)),
  (37, .inr (.inr (.inl (xc_V (xj_1 0 17) [0, 0, 0])))),
  (40, .inl (xe_aload 0 41)),
  (41, .inl (xe_push (.int 1) 42)),
  (42, .inl (xe_iload 4 44)),
  (44, .inl (xe_aload 0 45)),
  (45, .inl (xe_getf (xj_1 0 2) 48)),
  (48, .inr (.inr (.inl (xc_V (xj_1 0 17) [0, 0, 0])))),
  (51, .inl (xe_icmp (fun x y => decide (x = y)) 57 54)),
  (54, .inl (xe_iinc 3 1 57)),
  (57, .inl (xe_iinc 4 1 60)),
  (60, .inl (xe_goto 23)),
  (63, .inl (xe_iload 3 64)),
  (64, .inr (.inl xr_i))]
theorem xq_79_0 {G : xm_G} (hG : xm_W xk_B G) (hO : xm_Og G) : ∀ q ∈ xp_79_0, xm_op xk_B G xd xk_N "LiarsCock" "differ" prog_1_method_80_code 5 (some (FieldType.int)) q.1 q.2 :=
  xw_cons (xw_E xn_aload (xo_aload_n dX1_differ_0 rfl)) <|
  xw_cons (xw_E xn_push (xo_iconst dX1_differ_1 (by decide))) <|
  xw_cons (xl_v_0_197 hG dX1_differ_2) <|
  xw_cons (xw_E xn_if (xo_if_eq dX1_differ_5 (by decide))) <|
  xw_cons (xw_E xn_iload (xo_iload_n dX1_differ_8 rfl)) <|
  xw_cons (xw_E xn_iload (xo_iload_n dX1_differ_9 rfl)) <|
  xw_cons (xl_s_0_285 hG dX1_differ_10) <|
  xw_cons (xw_E xn_if (xo_if_ne dX1_differ_13 (by decide))) <|
  xw_cons (xw_E xn_push (xo_iconst dX1_differ_16 (by decide))) <|
  xw_cons (xw_R (xt_i dX1_differ_17)) <|
  xw_cons (xw_E xn_push (xo_iconst dX1_differ_18 (by decide))) <|
  xw_cons (xw_E xn_istore (xo_istore_n dX1_differ_19 rfl)) <|
  xw_cons (xw_E xn_iload (xo_iload_n dX1_differ_20 rfl)) <|
  xw_cons (xw_E xn_istore (xo_istore dX1_differ_21)) <|
  xw_cons (xw_E xn_iload (xo_iload dX1_differ_23)) <|
  xw_cons (xw_E xn_iload (xo_iload_n dX1_differ_25 rfl)) <|
  xw_cons (xw_E xn_icmp (xo_icmp_gt dX1_differ_26 (by decide))) <|
  xw_cons (xw_E xn_aload (xo_aload_n dX1_differ_29 rfl)) <|
  xw_cons (xw_E xn_push (xo_iconst dX1_differ_30 (by decide))) <|
  xw_cons (xw_E xn_iload (xo_iload dX1_differ_31)) <|
  xw_cons (xw_E xn_aload (xo_aload_n dX1_differ_33 rfl)) <|
  xw_cons (xw_E xn_getf (xo_getf hG xg_0_95 dX1_differ_34)) <|
  xw_cons (xl_v_0_189 hG dX1_differ_37) <|
  xw_cons (xw_E xn_aload (xo_aload_n dX1_differ_40 rfl)) <|
  xw_cons (xw_E xn_push (xo_iconst dX1_differ_41 (by decide))) <|
  xw_cons (xw_E xn_iload (xo_iload dX1_differ_42)) <|
  xw_cons (xw_E xn_aload (xo_aload_n dX1_differ_44 rfl)) <|
  xw_cons (xw_E xn_getf (xo_getf hG xg_0_95 dX1_differ_45)) <|
  xw_cons (xl_v_0_189 hG dX1_differ_48) <|
  xw_cons (xw_E xn_icmp (xo_icmp_eq dX1_differ_51 (by decide))) <|
  xw_cons (xw_E xn_iinc (xo_iinc dX1_differ_54 (by decide))) <|
  xw_cons (xw_E xn_iinc (xo_iinc dX1_differ_57 (by decide))) <|
  xw_cons (xw_E xn_goto (xo_goto dX1_differ_60 (by decide))) <|
  xw_cons (xw_E xn_iload (xo_iload_n dX1_differ_63 rfl)) <|
  xw_cons (xw_R (xt_i dX1_differ_64)) <|
  xw_nil _
def xp_79 : List (Nat × xm_O) := xp_79_0
theorem xq_79 {G : xm_G} (hG : xm_W xk_B G) (hO : xm_Og G) : ∀ q ∈ xp_79, xm_op xk_B G xd xk_N "LiarsCock" "differ" prog_1_method_80_code 5 (some (FieldType.int)) q.1 q.2 := xq_79_0 hG hO
/- 80: LiarsCock.mark(IZ)Z -/
def xp_80_0 : List (Nat × xm_O) := [
  (0, .inl (xe_iload 1 1)),
  (1, .inl (xe_push (.int 0) 2)),
  (2, .inl (xe_push (.int 3) 3)),
  (3, .inr (.inr (.inl (xc_S 4 [0, 0, 0])))),
  (6, .inl (xe_if (fun x => decide (x = 0)) 22 9)),
  (9, .inl (xe_iload 2 10)),
  (10, .inl (xe_if (fun x => decide (x = 0)) 24 13)),
  (13, .inl (xe_aload 0 14)),
  (14, .inl (xe_getf (xj_1 0 10) 17)),
  (17, .inl (xe_iload 1 18)),
  (18, .inl (xe_ald (fun t => Nat.ble 4 t) 19)),
  (19, .inl (xe_null 22 24)),
  (22, .inl (xe_push (.int 0) 23)),
  (23, .inr (.inl xr_z)),
  (24, .inl (xe_iload 2 25)),
  (25, .inl (xe_if (fun x => decide (¬ x = 0)) 44 28)),
  (28, .inl (xe_aload 0 29)),
  (29, .inl (xe_getf (xj_1 0 10) 32)),
  (32, .inl (xe_iload 1 33)),
  (33, .inl (xe_new 24 6 xk_f24 36)),
  (36, .inl (xe_dup 37)),
  (37, .inl (xe_aload 0 38)),
  (38, .inr (.inr (.inl (xc_I 273 [2])))),
  (41, .inl (xe_aast 300 xk_as 42)),
  (42, .inl (xe_push (.int 1) 43)),
  (43, .inr (.inl xr_z)),
  (44, .inl (xe_aload 0 45)),
  (45, .inl (xe_getf (xj_1 0 10) 48)),
  (48, .inl (xe_iload 1 49)),
  (49, .inl (xe_ald (fun t => Nat.ble 4 t) 50)),
  (50, .inl (xe_astore 3 51)),
  (51, .inl (xe_aload 0 52)),
  (52, .inl (xe_aload 3 53)),
  (53, .inl (xe_getf (xj_1 24 0) 56)),
  (56, .inl (xe_putf 300 2 (xj_1 0 1) 59)),
  (59, .inl (xe_aload 0 60)),
  (60, .inl (xe_aload 3 61)),
  (61, .inl (xe_getf (xj_1 24 1) 64)),
  (64, .inl (xe_putf 300 0 (xj_1 0 2) 67)),
  (67, .inl (xe_aload 3 68)),
  (68, .inl (xe_getf (xj_1 24 2) 71)),
  (71, .inl (xe_aload 0 72)),
  (72, .inl (xe_getf (xj_1 0 3) 75)),
  (75, .inr (.inr (.inl (xc_S 275 [2, 2])))),
  (78, .inl (xe_aload 3 79)),
  (79, .inl (xe_getf (xj_1 24 3) 82)),
  (82, .inl (xe_aload 0 83)),
  (83, .inl (xe_getf (xj_1 0 4) 86)),
  (86, .inr (.inr (.inl (xc_S 275 [2, 2])))),
  (89, .inl (xe_aload 3 90))]
theorem xq_80_0 {G : xm_G} (hG : xm_W xk_B G) (hO : xm_Og G) : ∀ q ∈ xp_80_0, xm_op xk_B G xd xk_N "LiarsCock" "mark" prog_1_method_81_code 4 (some (FieldType.boolean)) q.1 q.2 :=
  xw_cons (xw_E xn_iload (xo_iload_n dX1_mark_0 rfl)) <|
  xw_cons (xw_E xn_push (xo_iconst dX1_mark_1 (by decide))) <|
  xw_cons (xw_E xn_push (xo_iconst dX1_mark_2 (by decide))) <|
  xw_cons (xl_s_0_113 hG dX1_mark_3) <|
  xw_cons (xw_E xn_if (xo_if_eq dX1_mark_6 (by decide))) <|
  xw_cons (xw_E xn_iload (xo_iload_n dX1_mark_9 rfl)) <|
  xw_cons (xw_E xn_if (xo_if_eq dX1_mark_10 (by decide))) <|
  xw_cons (xw_E xn_aload (xo_aload_n dX1_mark_13 rfl)) <|
  xw_cons (xw_E xn_getf (xo_getf hG xg_0_65 dX1_mark_14)) <|
  xw_cons (xw_E xn_iload (xo_iload_n dX1_mark_17 rfl)) <|
  xw_cons (xw_E xn_ald (xo_aald xk_hB dX1_mark_18)) <|
  xw_cons (xw_E xn_null (xo_ifnonnull dX1_mark_19 (by decide))) <|
  xw_cons (xw_E xn_push (xo_iconst dX1_mark_22 (by decide))) <|
  xw_cons (xw_R (xt_z dX1_mark_23)) <|
  xw_cons (xw_E xn_iload (xo_iload_n dX1_mark_24 rfl)) <|
  xw_cons (xw_E xn_if (xo_if_ne dX1_mark_25 (by decide))) <|
  xw_cons (xw_E xn_aload (xo_aload_n dX1_mark_28 rfl)) <|
  xw_cons (xw_E xn_getf (xo_getf hG xg_0_65 dX1_mark_29)) <|
  xw_cons (xw_E xn_iload (xo_iload_n dX1_mark_32 rfl)) <|
  xw_cons (xw_E xn_new (xo_new hG xnw_0_63 dX1_mark_33)) <|
  xw_cons (xw_E xn_dup (xo_dup dX1_mark_36)) <|
  xw_cons (xw_E xn_aload (xo_aload_n dX1_mark_37 rfl)) <|
  xw_cons (xl_s_0_390 hG dX1_mark_38) <|
  xw_cons (xw_E xn_aast (xo_aast hG xk_hB rfl xk_as_ok dX1_mark_41)) <|
  xw_cons (xw_E xn_push (xo_iconst dX1_mark_42 (by decide))) <|
  xw_cons (xw_R (xt_z dX1_mark_43)) <|
  xw_cons (xw_E xn_aload (xo_aload_n dX1_mark_44 rfl)) <|
  xw_cons (xw_E xn_getf (xo_getf hG xg_0_65 dX1_mark_45)) <|
  xw_cons (xw_E xn_iload (xo_iload_n dX1_mark_48 rfl)) <|
  xw_cons (xw_E xn_ald (xo_aald xk_hB dX1_mark_49)) <|
  xw_cons (xw_E xn_astore (xo_astore_n dX1_mark_50 rfl)) <|
  xw_cons (xw_E xn_aload (xo_aload_n dX1_mark_51 rfl)) <|
  xw_cons (xw_E xn_aload (xo_aload_n dX1_mark_52 rfl)) <|
  xw_cons (xw_E xn_getf (xo_getf hG xg_0_391 dX1_mark_53)) <|
  xw_cons (xw_E xn_putf (xo_putf hG rfl xu_0_20 dX1_mark_56)) <|
  xw_cons (xw_E xn_aload (xo_aload_n dX1_mark_59 rfl)) <|
  xw_cons (xw_E xn_aload (xo_aload_n dX1_mark_60 rfl)) <|
  xw_cons (xw_E xn_getf (xo_getf hG xg_0_392 dX1_mark_61)) <|
  xw_cons (xw_E xn_putf (xo_putf hG rfl xu_0_95 dX1_mark_64)) <|
  xw_cons (xw_E xn_aload (xo_aload_n dX1_mark_67 rfl)) <|
  xw_cons (xw_E xn_getf (xo_getf hG xg_0_393 dX1_mark_68)) <|
  xw_cons (xw_E xn_aload (xo_aload_n dX1_mark_71 rfl)) <|
  xw_cons (xw_E xn_getf (xo_getf hG xg_0_27 dX1_mark_72)) <|
  xw_cons (xl_s_0_394 hG dX1_mark_75) <|
  xw_cons (xw_E xn_aload (xo_aload_n dX1_mark_78 rfl)) <|
  xw_cons (xw_E xn_getf (xo_getf hG xg_0_398 dX1_mark_79)) <|
  xw_cons (xw_E xn_aload (xo_aload_n dX1_mark_82 rfl)) <|
  xw_cons (xw_E xn_getf (xo_getf hG xg_0_31 dX1_mark_83)) <|
  xw_cons (xl_s_0_394 hG dX1_mark_86) <|
  xw_cons (xw_E xn_aload (xo_aload_n dX1_mark_89 rfl)) <|
  xw_nil _
def xp_80_1 : List (Nat × xm_O) := [
  (90, .inl (xe_getf (xj_1 24 4) 93)),
  (93, .inl (xe_aload 0 94)),
  (94, .inl (xe_getf (xj_1 0 5) 97)),
  (97, .inr (.inr (.inl (xc_S 275 [2, 2])))),
  (100, .inl (xe_aload 3 101)),
  (101, .inl (xe_getf (xj_1 24 5) 104)),
  (104, .inl (xe_aload 0 105)),
  (105, .inl (xe_getf (xj_1 0 6) 108)),
  (108, .inr (.inr (.inl (xc_S 275 [2, 2])))),
  (111, .inl (xe_push (.int 1) 112)),
  (112, .inr (.inl xr_z))]
theorem xq_80_1 {G : xm_G} (hG : xm_W xk_B G) (hO : xm_Og G) : ∀ q ∈ xp_80_1, xm_op xk_B G xd xk_N "LiarsCock" "mark" prog_1_method_81_code 4 (some (FieldType.boolean)) q.1 q.2 :=
  xw_cons (xw_E xn_getf (xo_getf hG xg_0_399 dX1_mark_90)) <|
  xw_cons (xw_E xn_aload (xo_aload_n dX1_mark_93 rfl)) <|
  xw_cons (xw_E xn_getf (xo_getf hG xg_0_34 dX1_mark_94)) <|
  xw_cons (xl_s_0_394 hG dX1_mark_97) <|
  xw_cons (xw_E xn_aload (xo_aload_n dX1_mark_100 rfl)) <|
  xw_cons (xw_E xn_getf (xo_getf hG xg_0_400 dX1_mark_101)) <|
  xw_cons (xw_E xn_aload (xo_aload_n dX1_mark_104 rfl)) <|
  xw_cons (xw_E xn_getf (xo_getf hG xg_0_37 dX1_mark_105)) <|
  xw_cons (xl_s_0_394 hG dX1_mark_108) <|
  xw_cons (xw_E xn_push (xo_iconst dX1_mark_111 (by decide))) <|
  xw_cons (xw_R (xt_z dX1_mark_112)) <|
  xw_nil _
def xp_80 : List (Nat × xm_O) := xp_80_0 ++ xp_80_1
theorem xq_80 {G : xm_G} (hG : xm_W xk_B G) (hO : xm_Og G) : ∀ q ∈ xp_80, xm_op xk_B G xd xk_N "LiarsCock" "mark" prog_1_method_81_code 4 (some (FieldType.boolean)) q.1 q.2 := xw_app (xq_80_0 hG hO) (xq_80_1 hG hO)
/- 81: LiarsCock.count(I)I -/
def xp_81_0 : List (Nat × xm_O) := [
  (0, .inl (xe_iload 1 1)),
  (1, .inl (xe_sw 0 [64, 75, 86, 97, 105, 123, 131, 139, 147, 155, 160, 168] 179)),
  (64, .inl (xe_aload 0 65)),
  (65, .inl (xe_getf (xj_1 0 1) 68)),
  (68, .inl (xe_getf (xj_1 2 0) 71)),
  (71, .inr (.inr (.inl (xc_V (xj_1 25 280) [])))),
  (74, .inr (.inl xr_i)),
  (75, .inl (xe_aload 0 76)),
  (76, .inl (xe_getf (xj_1 0 1) 79)),
  (79, .inl (xe_getf (xj_1 2 1) 82)),
  (82, .inr (.inr (.inl (xc_V (xj_1 25 280) [])))),
  (85, .inr (.inl xr_i)),
  (86, .inl (xe_aload 0 87)),
  (87, .inl (xe_getf (xj_1 0 1) 90)),
  (90, .inl (xe_getf (xj_1 2 3) 93)),
  (93, .inr (.inr (.inl (xc_V (xj_1 25 280) [])))),
  (96, .inr (.inl xr_i)),
  (97, .inl (xe_aload 0 98)),
  (98, .inl (xe_getf (xj_1 0 1) 101)),
  (101, .inl (xe_getf (xj_1 2 7) 104)),
  (104, .inr (.inl xr_i)),
  (105, .inl (xe_aload 0 106)),
  (106, .inl (xe_getf (xj_1 0 1) 109)),
  (109, .inl (xe_getf (xj_1 2 6) 112)),
  (112, .inl (xe_push (.int 1) 113)),
  (113, .inl (xe_ald (fun t => Nat.ble 4 t) 114)),
  (114, .inl (xe_null 117 121)),
  (117, .inl (xe_push (.int 1) 118)),
  (118, .inl (xe_goto 122)),
  (121, .inl (xe_push (.int 2) 122)),
  (122, .inr (.inl xr_i)),
  (123, .inl (xe_aload 0 124)),
  (124, .inl (xe_getf (xj_1 0 3) 127)),
  (127, .inr (.inr (.inl (xc_V (xj_1 25 280) [])))),
  (130, .inr (.inl xr_i)),
  (131, .inl (xe_aload 0 132)),
  (132, .inl (xe_getf (xj_1 0 5) 135)),
  (135, .inr (.inr (.inl (xc_V (xj_1 25 280) [])))),
  (138, .inr (.inl xr_i)),
  (139, .inl (xe_aload 0 140)),
  (140, .inl (xe_getf (xj_1 0 4) 143)),
  (143, .inr (.inr (.inl (xc_V (xj_1 25 280) [])))),
  (146, .inr (.inl xr_i)),
  (147, .inl (xe_aload 0 148)),
  (148, .inl (xe_getf (xj_1 0 6) 151)),
  (151, .inr (.inr (.inl (xc_V (xj_1 25 280) [])))),
  (154, .inr (.inl xr_i)),
  (155, .inl (xe_aload 0 156)),
  (156, .inl (xe_getf (xj_1 0 2) 159)),
  (159, .inr (.inl xr_i))]
theorem xq_81_0 {G : xm_G} (hG : xm_W xk_B G) (hO : xm_Og G) : ∀ q ∈ xp_81_0, xm_op xk_B G xd xk_N "LiarsCock" "count" prog_1_method_82_code 2 (some (FieldType.int)) q.1 q.2 :=
  xw_cons (xw_E xn_iload (xo_iload_n dX1_count_0 rfl)) <|
  xw_cons (xw_E xn_sw (xo_switch2 (by decide) (by decide) (by decide) dX1_count_1)) <|
  xw_cons (xw_E xn_aload (xo_aload_n dX1_count_64 rfl)) <|
  xw_cons (xw_E xn_getf (xo_getf hG xg_0_20 dX1_count_65)) <|
  xw_cons (xw_E xn_getf (xo_getf hG xg_0_106 dX1_count_68)) <|
  xw_cons (xl_v_0_109 hG dX1_count_71) <|
  xw_cons (xw_R (xt_i dX1_count_74)) <|
  xw_cons (xw_E xn_aload (xo_aload_n dX1_count_75 rfl)) <|
  xw_cons (xw_E xn_getf (xo_getf hG xg_0_20 dX1_count_76)) <|
  xw_cons (xw_E xn_getf (xo_getf hG xg_0_401 dX1_count_79)) <|
  xw_cons (xl_v_0_109 hG dX1_count_82) <|
  xw_cons (xw_R (xt_i dX1_count_85)) <|
  xw_cons (xw_E xn_aload (xo_aload_n dX1_count_86 rfl)) <|
  xw_cons (xw_E xn_getf (xo_getf hG xg_0_20 dX1_count_87)) <|
  xw_cons (xw_E xn_getf (xo_getf hG xg_0_117 dX1_count_90)) <|
  xw_cons (xl_v_0_109 hG dX1_count_93) <|
  xw_cons (xw_R (xt_i dX1_count_96)) <|
  xw_cons (xw_E xn_aload (xo_aload_n dX1_count_97 rfl)) <|
  xw_cons (xw_E xn_getf (xo_getf hG xg_0_20 dX1_count_98)) <|
  xw_cons (xw_E xn_getf (xo_getf hG xg_0_404 dX1_count_101)) <|
  xw_cons (xw_R (xt_i dX1_count_104)) <|
  xw_cons (xw_E xn_aload (xo_aload_n dX1_count_105 rfl)) <|
  xw_cons (xw_E xn_getf (xo_getf hG xg_0_20 dX1_count_106)) <|
  xw_cons (xw_E xn_getf (xo_getf hG xg_0_72 dX1_count_109)) <|
  xw_cons (xw_E xn_push (xo_iconst dX1_count_112 (by decide))) <|
  xw_cons (xw_E xn_ald (xo_aald xk_hB dX1_count_113)) <|
  xw_cons (xw_E xn_null (xo_ifnonnull dX1_count_114 (by decide))) <|
  xw_cons (xw_E xn_push (xo_iconst dX1_count_117 (by decide))) <|
  xw_cons (xw_E xn_goto (xo_goto dX1_count_118 (by decide))) <|
  xw_cons (xw_E xn_push (xo_iconst dX1_count_121 (by decide))) <|
  xw_cons (xw_R (xt_i dX1_count_122)) <|
  xw_cons (xw_E xn_aload (xo_aload_n dX1_count_123 rfl)) <|
  xw_cons (xw_E xn_getf (xo_getf hG xg_0_27 dX1_count_124)) <|
  xw_cons (xl_v_0_109 hG dX1_count_127) <|
  xw_cons (xw_R (xt_i dX1_count_130)) <|
  xw_cons (xw_E xn_aload (xo_aload_n dX1_count_131 rfl)) <|
  xw_cons (xw_E xn_getf (xo_getf hG xg_0_34 dX1_count_132)) <|
  xw_cons (xl_v_0_109 hG dX1_count_135) <|
  xw_cons (xw_R (xt_i dX1_count_138)) <|
  xw_cons (xw_E xn_aload (xo_aload_n dX1_count_139 rfl)) <|
  xw_cons (xw_E xn_getf (xo_getf hG xg_0_31 dX1_count_140)) <|
  xw_cons (xl_v_0_109 hG dX1_count_143) <|
  xw_cons (xw_R (xt_i dX1_count_146)) <|
  xw_cons (xw_E xn_aload (xo_aload_n dX1_count_147 rfl)) <|
  xw_cons (xw_E xn_getf (xo_getf hG xg_0_37 dX1_count_148)) <|
  xw_cons (xl_v_0_109 hG dX1_count_151) <|
  xw_cons (xw_R (xt_i dX1_count_154)) <|
  xw_cons (xw_E xn_aload (xo_aload_n dX1_count_155 rfl)) <|
  xw_cons (xw_E xn_getf (xo_getf hG xg_0_95 dX1_count_156)) <|
  xw_cons (xw_R (xt_i dX1_count_159)) <|
  xw_nil _
def xp_81_1 : List (Nat × xm_O) := [
  (160, .inl (xe_aload 0 161)),
  (161, .inl (xe_getf (xj_1 0 0) 164)),
  (164, .inl (xe_getf (xj_1 1 3) 167)),
  (167, .inr (.inl xr_i)),
  (168, .inl (xe_aload 0 169)),
  (169, .inl (xe_getf (xj_1 0 1) 172)),
  (172, .inl (xe_getf (xj_1 2 8) 175)),
  (175, .inr (.inr (.inl (xc_S 35 [1])))),
  (178, .inr (.inl xr_i)),
  (179, .inl (xe_push (.int (-1)) 180)),
  (180, .inr (.inl xr_i))]
theorem xq_81_1 {G : xm_G} (hG : xm_W xk_B G) (hO : xm_Og G) : ∀ q ∈ xp_81_1, xm_op xk_B G xd xk_N "LiarsCock" "count" prog_1_method_82_code 2 (some (FieldType.int)) q.1 q.2 :=
  xw_cons (xw_E xn_aload (xo_aload_n dX1_count_160 rfl)) <|
  xw_cons (xw_E xn_getf (xo_getf hG xg_0_10 dX1_count_161)) <|
  xw_cons (xw_E xn_getf (xo_getf hG xg_0_89 dX1_count_164)) <|
  xw_cons (xw_R (xt_i dX1_count_167)) <|
  xw_cons (xw_E xn_aload (xo_aload_n dX1_count_168 rfl)) <|
  xw_cons (xw_E xn_getf (xo_getf hG xg_0_20 dX1_count_169)) <|
  xw_cons (xw_E xn_getf (xo_getf hG xg_0_81 dX1_count_172)) <|
  xw_cons (xl_s_0_244 hG dX1_count_175) <|
  xw_cons (xw_R (xt_i dX1_count_178)) <|
  xw_cons (xw_E xn_push (xo_iconst dX1_count_179 (by decide))) <|
  xw_cons (xw_R (xt_i dX1_count_180)) <|
  xw_nil _
def xp_81 : List (Nat × xm_O) := xp_81_0 ++ xp_81_1
theorem xq_81 {G : xm_G} (hG : xm_W xk_B G) (hO : xm_Og G) : ∀ q ∈ xp_81, xm_op xk_B G xd xk_N "LiarsCock" "count" prog_1_method_82_code 2 (some (FieldType.int)) q.1 q.2 := xw_app (xq_81_0 hG hO) (xq_81_1 hG hO)
/- 82: LiarsCock.secret(IIIII)J -/
def xp_82_0 : List (Nat × xm_O) := [
  (0, .inl (xe_aload 0 1)),
  (1, .inl (xe_iload 1 2)),
  (2, .inr (.inr (.inl (xc_V (xj_1 0 21) [0])))),
  (5, .inl (xe_if (fun x => decide (x = 0)) 45 8)),
  (8, .inl (xe_aload 0 9)),
  (9, .inl (xe_iload 2 10)),
  (10, .inr (.inr (.inl (xc_V (xj_1 0 16) [0])))),
  (13, .inl (xe_if (fun x => decide (x = 0)) 45 16)),
  (16, .inl (xe_iload 3 17)),
  (17, .inl (xe_push (.int 1) 18)),
  (18, .inl (xe_push (.int 9) 20)),
  (20, .inr (.inr (.inl (xc_S 4 [0, 0, 0])))),
  (23, .inl (xe_if (fun x => decide (x = 0)) 45 26)),
  (26, .inl (xe_iload 4 28)),
  (28, .inl (xe_push (.int 1) 29)),
  (29, .inl (xe_push (.int 15) 31)),
  (31, .inr (.inr (.inl (xc_S 4 [0, 0, 0])))),
  (34, .inl (xe_if (fun x => decide (x = 0)) 45 37)),
  (37, .inl (xe_iload 5 39)),
  (39, .inr (.inr (.inl (xc_S 40 [0])))),
  (42, .inl (xe_if (fun x => decide (¬ x = 0)) 53 45)),
  (45, .inl (xe_new 28 6 xk_f28 48)),
  (48, .inl (xe_dup 49)),
  (52, .inr (.inr (.inr ()))),
  (53, .inl (xe_aload 0 54)),
  (54, .inl (xe_getf (xj_1 0 3) 57)),
  (57, .inl (xe_iload 1 58)),
  (58, .inr (.inr (.inl (xc_V (xj_1 25 281) [0])))),
  (61, .inl (xe_cast (fun ci => ([22] : List Nat).elem ci) 64)),
  (64, .inl (xe_astore 6 66)),
  (66, .inl (xe_aload 6 68)),
  (68, .inl (xe_getf (xj_1 22 1) 71)),
  (71, .inl (xe_aload 0 72)),
  (72, .inl (xe_getf (xj_1 0 1) 75)),
  (75, .inl (xe_getf (xj_1 2 6) 78)),
  (78, .inl (xe_iload 2 79)),
  (79, .inl (xe_ald (fun t => Nat.ble 4 t) 80)),
  (80, .inl (xe_getf (xj_1 4 1) 83)),
  (83, .inl (xe_ii (fun x y => x + y) 84)),
  (84, .inl (xe_istore 7 86)),
  (86, .inl (xe_aload 6 88)),
  (88, .inl (xe_aload 0 89)),
  (89, .inl (xe_getf (xj_1 0 1) 92)),
  (92, .inl (xe_getf (xj_1 2 6) 95)),
  (95, .inl (xe_iload 2 96)),
  (96, .inl (xe_ald (fun t => Nat.ble 4 t) 97)),
  (97, .inl (xe_getf (xj_1 4 0) 100)),
  (100, .inl (xe_aload 0 101)),
  (101, .inl (xe_getf (xj_1 0 2) 104)),
  (104, .inr (.inr (.inl (xc_V (xj_1 22 270) [0, 0]))))]
theorem xq_82_0 {G : xm_G} (hG : xm_W xk_B G) (hO : xm_Og G) : ∀ q ∈ xp_82_0, xm_op xk_B G xd xk_N "LiarsCock" "secret" prog_1_method_66_code 13 (some (FieldType.long)) q.1 q.2 :=
  xw_cons (xw_E xn_aload (xo_aload_n dX1_secret_0 rfl)) <|
  xw_cons (xw_E xn_iload (xo_iload_n dX1_secret_1 rfl)) <|
  xw_cons (xl_v_0_200 hG dX1_secret_2) <|
  xw_cons (xw_E xn_if (xo_if_eq dX1_secret_5 (by decide))) <|
  xw_cons (xw_E xn_aload (xo_aload_n dX1_secret_8 rfl)) <|
  xw_cons (xw_E xn_iload (xo_iload_n dX1_secret_9 rfl)) <|
  xw_cons (xl_v_0_197 hG dX1_secret_10) <|
  xw_cons (xw_E xn_if (xo_if_eq dX1_secret_13 (by decide))) <|
  xw_cons (xw_E xn_iload (xo_iload_n dX1_secret_16 rfl)) <|
  xw_cons (xw_E xn_push (xo_iconst dX1_secret_17 (by decide))) <|
  xw_cons (xw_E xn_push (xo_bipush dX1_secret_18 (by decide))) <|
  xw_cons (xl_s_0_113 hG dX1_secret_20) <|
  xw_cons (xw_E xn_if (xo_if_eq dX1_secret_23 (by decide))) <|
  xw_cons (xw_E xn_iload (xo_iload dX1_secret_26)) <|
  xw_cons (xw_E xn_push (xo_iconst dX1_secret_28 (by decide))) <|
  xw_cons (xw_E xn_push (xo_bipush dX1_secret_29 (by decide))) <|
  xw_cons (xl_s_0_113 hG dX1_secret_31) <|
  xw_cons (xw_E xn_if (xo_if_eq dX1_secret_34 (by decide))) <|
  xw_cons (xw_E xn_iload (xo_iload dX1_secret_37)) <|
  xw_cons (xl_s_0_261 hG dX1_secret_39) <|
  xw_cons (xw_E xn_if (xo_if_ne dX1_secret_42 (by decide))) <|
  xw_cons (xw_E xn_new (xo_new hG xnw_0_354 dX1_secret_45)) <|
  xw_cons (xw_E xn_dup (xo_dup dX1_secret_48)) <|
  xw_cons (xw_T dX1_secret_52) <|
  xw_cons (xw_E xn_aload (xo_aload_n dX1_secret_53 rfl)) <|
  xw_cons (xw_E xn_getf (xo_getf hG xg_0_27 dX1_secret_54)) <|
  xw_cons (xw_E xn_iload (xo_iload_n dX1_secret_57 rfl)) <|
  xw_cons (xl_v_0_134 hG dX1_secret_58) <|
  xw_cons (xw_E xn_cast (xo_cast hG q1123 xca_0_138 dX1_secret_61)) <|
  xw_cons (xw_E xn_astore (xo_astore dX1_secret_64)) <|
  xw_cons (xw_E xn_aload (xo_aload dX1_secret_66)) <|
  xw_cons (xw_E xn_getf (xo_getf hG xg_0_140 dX1_secret_68)) <|
  xw_cons (xw_E xn_aload (xo_aload_n dX1_secret_71 rfl)) <|
  xw_cons (xw_E xn_getf (xo_getf hG xg_0_20 dX1_secret_72)) <|
  xw_cons (xw_E xn_getf (xo_getf hG xg_0_72 dX1_secret_75)) <|
  xw_cons (xw_E xn_iload (xo_iload_n dX1_secret_78 rfl)) <|
  xw_cons (xw_E xn_ald (xo_aald xk_hB dX1_secret_79)) <|
  xw_cons (xw_E xn_getf (xo_getf hG xg_0_182 dX1_secret_80)) <|
  xw_cons (xw_E xn_ii (xo_iadd dX1_secret_83)) <|
  xw_cons (xw_E xn_istore (xo_istore dX1_secret_84)) <|
  xw_cons (xw_E xn_aload (xo_aload dX1_secret_86)) <|
  xw_cons (xw_E xn_aload (xo_aload_n dX1_secret_88 rfl)) <|
  xw_cons (xw_E xn_getf (xo_getf hG xg_0_20 dX1_secret_89)) <|
  xw_cons (xw_E xn_getf (xo_getf hG xg_0_72 dX1_secret_92)) <|
  xw_cons (xw_E xn_iload (xo_iload_n dX1_secret_95 rfl)) <|
  xw_cons (xw_E xn_ald (xo_aald xk_hB dX1_secret_96)) <|
  xw_cons (xw_E xn_getf (xo_getf hG xg_0_179 dX1_secret_97)) <|
  xw_cons (xw_E xn_aload (xo_aload_n dX1_secret_100 rfl)) <|
  xw_cons (xw_E xn_getf (xo_getf hG xg_0_95 dX1_secret_101)) <|
  xw_cons (xl_v_0_164 hG dX1_secret_104) <|
  xw_nil _
def xp_82_1 : List (Nat × xm_O) := [
  (107, .inl (xe_if (fun x => decide (x = 0)) 123 110)),
  (110, .inl (xe_iload 7 112)),
  (112, .inl (xe_iload 4 114)),
  (114, .inl (xe_ii (fun x y => x + y) 115)),
  (115, .inl (xe_push (.int 1) 116)),
  (116, .inl (xe_ii (fun x y => x - y) 117)),
  (117, .inl (xe_push (.int 1439) 120)),
  (120, .inl (xe_icmp (fun x y => decide (x ≤ y)) 131 123)),
  (123, .inl (xe_new 28 6 xk_f28 126)),
  (126, .inl (xe_dup 127)),
  (130, .inr (.inr (.inr ()))),
  (131, .inl (xe_push (.long 1) 132)),
  (132, .inl (xe_lstore 8 134)),
  (134, .inl (xe_push (.long 1) 135)),
  (135, .inl (xe_lstore 10 137)),
  (137, .inl (xe_iload 7 139)),
  (139, .inl (xe_istore 12 141)),
  (141, .inl (xe_iload 12 143)),
  (143, .inl (xe_iload 7 145)),
  (145, .inl (xe_iload 4 147)),
  (147, .inl (xe_ii (fun x y => x + y) 148)),
  (148, .inl (xe_icmp (fun x y => decide (y ≤ x)) 197 151)),
  (151, .inl (xe_aload 0 152)),
  (152, .inl (xe_iload 2 153)),
  (153, .inl (xe_iload 12 155)),
  (155, .inl (xe_aload 0 156)),
  (156, .inl (xe_getf (xj_1 0 2) 159)),
  (159, .inr (.inr (.inl (xc_V (xj_1 0 17) [0, 0, 0])))),
  (162, .inl (xe_aload 6 164)),
  (164, .inl (xe_getf (xj_1 22 0) 167)),
  (167, .inl (xe_icmp (fun x y => decide (x = y)) 173 170)),
  (170, .inl (xe_goto 191)),
  (173, .inl (xe_lload 8 175)),
  (175, .inl (xe_push (.int 10) 177)),
  (177, .inl (xe_iload 3 178)),
  (178, .inl (xe_ii (fun x y => x - y) 179)),
  (179, .inl (xe_i2l 180)),
  (180, .inl (xe_ll (fun x y => x * y) 181)),
  (181, .inl (xe_lstore 8 183)),
  (183, .inl (xe_lload 10 185)),
  (185, .inl (xe_push (.long (10 : Int64)) 188)),
  (188, .inl (xe_ll (fun x y => x * y) 189)),
  (189, .inl (xe_lstore 10 191)),
  (191, .inl (xe_iinc 12 1 194)),
  (194, .inl (xe_goto 141)),
  (197, .inl (xe_lload 8 199)),
  (199, .inl (xe_lload 10 201)),
  (201, .inl (xe_iload 5 203)),
  (203, .inr (.inr (.inl (xc_S 42 [0, 1, 1])))),
  (206, .inr (.inl xr_l))]
theorem xq_82_1 {G : xm_G} (hG : xm_W xk_B G) (hO : xm_Og G) : ∀ q ∈ xp_82_1, xm_op xk_B G xd xk_N "LiarsCock" "secret" prog_1_method_66_code 13 (some (FieldType.long)) q.1 q.2 :=
  xw_cons (xw_E xn_if (xo_if_eq dX1_secret_107 (by decide))) <|
  xw_cons (xw_E xn_iload (xo_iload dX1_secret_110)) <|
  xw_cons (xw_E xn_iload (xo_iload dX1_secret_112)) <|
  xw_cons (xw_E xn_ii (xo_iadd dX1_secret_114)) <|
  xw_cons (xw_E xn_push (xo_iconst dX1_secret_115 (by decide))) <|
  xw_cons (xw_E xn_ii (xo_isub dX1_secret_116)) <|
  xw_cons (xw_E xn_push (xo_sipush dX1_secret_117 (by decide))) <|
  xw_cons (xw_E xn_icmp (xo_icmp_le dX1_secret_120 (by decide))) <|
  xw_cons (xw_E xn_new (xo_new hG xnw_0_354 dX1_secret_123)) <|
  xw_cons (xw_E xn_dup (xo_dup dX1_secret_126)) <|
  xw_cons (xw_T dX1_secret_130) <|
  xw_cons (xw_E xn_push (xo_lconst dX1_secret_131 (by decide))) <|
  xw_cons (xw_E xn_lstore (xo_lstore dX1_secret_132)) <|
  xw_cons (xw_E xn_push (xo_lconst dX1_secret_134 (by decide))) <|
  xw_cons (xw_E xn_lstore (xo_lstore dX1_secret_135)) <|
  xw_cons (xw_E xn_iload (xo_iload dX1_secret_137)) <|
  xw_cons (xw_E xn_istore (xo_istore dX1_secret_139)) <|
  xw_cons (xw_E xn_iload (xo_iload dX1_secret_141)) <|
  xw_cons (xw_E xn_iload (xo_iload dX1_secret_143)) <|
  xw_cons (xw_E xn_iload (xo_iload dX1_secret_145)) <|
  xw_cons (xw_E xn_ii (xo_iadd dX1_secret_147)) <|
  xw_cons (xw_E xn_icmp (xo_icmp_ge dX1_secret_148 (by decide))) <|
  xw_cons (xw_E xn_aload (xo_aload_n dX1_secret_151 rfl)) <|
  xw_cons (xw_E xn_iload (xo_iload_n dX1_secret_152 rfl)) <|
  xw_cons (xw_E xn_iload (xo_iload dX1_secret_153)) <|
  xw_cons (xw_E xn_aload (xo_aload_n dX1_secret_155 rfl)) <|
  xw_cons (xw_E xn_getf (xo_getf hG xg_0_95 dX1_secret_156)) <|
  xw_cons (xl_v_0_189 hG dX1_secret_159) <|
  xw_cons (xw_E xn_aload (xo_aload dX1_secret_162)) <|
  xw_cons (xw_E xn_getf (xo_getf hG xg_0_176 dX1_secret_164)) <|
  xw_cons (xw_E xn_icmp (xo_icmp_eq dX1_secret_167 (by decide))) <|
  xw_cons (xw_E xn_goto (xo_goto dX1_secret_170 (by decide))) <|
  xw_cons (xw_E xn_lload (xo_lload dX1_secret_173)) <|
  xw_cons (xw_E xn_push (xo_bipush dX1_secret_175 (by decide))) <|
  xw_cons (xw_E xn_iload (xo_iload_n dX1_secret_177 rfl)) <|
  xw_cons (xw_E xn_ii (xo_isub dX1_secret_178)) <|
  xw_cons (xw_E xn_i2l (xo_i2l dX1_secret_179)) <|
  xw_cons (xw_E xn_ll (xo_lmul dX1_secret_180)) <|
  xw_cons (xw_E xn_lstore (xo_lstore dX1_secret_181)) <|
  xw_cons (xw_E xn_lload (xo_lload dX1_secret_183)) <|
  xw_cons (xw_E xn_push (xo_ldc2 hG q1603 dX1_secret_185)) <|
  xw_cons (xw_E xn_ll (xo_lmul dX1_secret_188)) <|
  xw_cons (xw_E xn_lstore (xo_lstore dX1_secret_189)) <|
  xw_cons (xw_E xn_iinc (xo_iinc dX1_secret_191 (by decide))) <|
  xw_cons (xw_E xn_goto (xo_goto dX1_secret_194 (by decide))) <|
  xw_cons (xw_E xn_lload (xo_lload dX1_secret_197)) <|
  xw_cons (xw_E xn_lload (xo_lload dX1_secret_199)) <|
  xw_cons (xw_E xn_iload (xo_iload dX1_secret_201)) <|
  xw_cons (xl_s_0_267 hG dX1_secret_203) <|
  xw_cons (xw_R (xt_l dX1_secret_206)) <|
  xw_nil _
def xp_82 : List (Nat × xm_O) := xp_82_0 ++ xp_82_1
theorem xq_82 {G : xm_G} (hG : xm_W xk_B G) (hO : xm_Og G) : ∀ q ∈ xp_82, xm_op xk_B G xd xk_N "LiarsCock" "secret" prog_1_method_66_code 13 (some (FieldType.long)) q.1 q.2 := xw_app (xq_82_0 hG hO) (xq_82_1 hG hO)
/- 83: LiarsCock$Reader.<init>()V -/
def xp_83_0 : List (Nat × xm_O) := [
  (0, .inl (xe_aload 0 1)),
  (1, .inl (xe_objInit 4)),
  (4, .inl (xe_aload 0 5)),
  (5, .inl (xe_push (.int 14) 7)),
  (7, .inl (xe_newa 5 .null 100000 10)),
  (10, .inl (xe_dup 11)),
  (11, .inl (xe_push (.int 0) 12)),
  (12, .inl (xe_push (.ref 4) 14)),
  (14, .inl (xe_aast 300 xk_as 15)),
  (15, .inl (xe_dup 16)),
  (16, .inl (xe_push (.int 1) 17)),
  (17, .inl (xe_push (.ref 5) 19)),
  (19, .inl (xe_aast 300 xk_as 20)),
  (20, .inl (xe_dup 21)),
  (21, .inl (xe_push (.int 2) 22)),
  (22, .inl (xe_push (.ref 6) 24)),
  (24, .inl (xe_aast 300 xk_as 25)),
  (25, .inl (xe_dup 26)),
  (26, .inl (xe_push (.int 3) 27)),
  (27, .inl (xe_push (.ref 7) 29)),
  (29, .inl (xe_aast 300 xk_as 30)),
  (30, .inl (xe_dup 31)),
  (31, .inl (xe_push (.int 4) 32)),
  (32, .inl (xe_push (.ref 8) 34)),
  (34, .inl (xe_aast 300 xk_as 35)),
  (35, .inl (xe_dup 36)),
  (36, .inl (xe_push (.int 5) 37)),
  (37, .inl (xe_push (.ref 9) 39)),
  (39, .inl (xe_aast 300 xk_as 40)),
  (40, .inl (xe_dup 41)),
  (41, .inl (xe_push (.int 6) 43)),
  (43, .inl (xe_push (.ref 10) 45)),
  (45, .inl (xe_aast 300 xk_as 46)),
  (46, .inl (xe_dup 47)),
  (47, .inl (xe_push (.int 7) 49)),
  (49, .inl (xe_push (.ref 11) 51)),
  (51, .inl (xe_aast 300 xk_as 52)),
  (52, .inl (xe_dup 53)),
  (53, .inl (xe_push (.int 8) 55)),
  (55, .inl (xe_push (.ref 12) 57)),
  (57, .inl (xe_aast 300 xk_as 58)),
  (58, .inl (xe_dup 59)),
  (59, .inl (xe_push (.int 9) 61)),
  (61, .inl (xe_push (.ref 13) 63)),
  (63, .inl (xe_aast 300 xk_as 64)),
  (64, .inl (xe_dup 65)),
  (65, .inl (xe_push (.int 10) 67)),
  (67, .inl (xe_push (.ref 14) 69)),
  (69, .inl (xe_aast 300 xk_as 70)),
  (70, .inl (xe_dup 71))]
theorem xq_83_0 {G : xm_G} (hG : xm_W xk_B G) (hO : xm_Og G) : ∀ q ∈ xp_83_0, xm_op xk_B G xd xk_N "LiarsCock$Reader" "<init>" prog_21_method_1_code 1 none q.1 q.2 :=
  xw_cons (xw_E xn_aload (xo_aload_n dX2_init_0 rfl)) <|
  xw_cons (xw_E xn_objInit (xo_objInit hG q179 q172 q173 dX2_init_1)) <|
  xw_cons (xw_E xn_aload (xo_aload_n dX2_init_4 rfl)) <|
  xw_cons (xw_E xn_push (xo_bipush dX2_init_5 (by decide))) <|
  xw_cons (xw_E xn_newa (xo_anewa hG (by decide) rfl (by decide) q180 q181 dX2_init_7)) <|
  xw_cons (xw_E xn_dup (xo_dup dX2_init_10)) <|
  xw_cons (xw_E xn_push (xo_iconst dX2_init_11 (by decide))) <|
  xw_cons (xw_E xn_push (xo_ldcS (xog_s4 hO) dX2_init_12)) <|
  xw_cons (xw_E xn_aast (xo_aast hG xk_hB rfl xk_as_ok dX2_init_14)) <|
  xw_cons (xw_E xn_dup (xo_dup dX2_init_15)) <|
  xw_cons (xw_E xn_push (xo_iconst dX2_init_16 (by decide))) <|
  xw_cons (xw_E xn_push (xo_ldcS (xog_s5 hO) dX2_init_17)) <|
  xw_cons (xw_E xn_aast (xo_aast hG xk_hB rfl xk_as_ok dX2_init_19)) <|
  xw_cons (xw_E xn_dup (xo_dup dX2_init_20)) <|
  xw_cons (xw_E xn_push (xo_iconst dX2_init_21 (by decide))) <|
  xw_cons (xw_E xn_push (xo_ldcS (xog_s6 hO) dX2_init_22)) <|
  xw_cons (xw_E xn_aast (xo_aast hG xk_hB rfl xk_as_ok dX2_init_24)) <|
  xw_cons (xw_E xn_dup (xo_dup dX2_init_25)) <|
  xw_cons (xw_E xn_push (xo_iconst dX2_init_26 (by decide))) <|
  xw_cons (xw_E xn_push (xo_ldcS (xog_s7 hO) dX2_init_27)) <|
  xw_cons (xw_E xn_aast (xo_aast hG xk_hB rfl xk_as_ok dX2_init_29)) <|
  xw_cons (xw_E xn_dup (xo_dup dX2_init_30)) <|
  xw_cons (xw_E xn_push (xo_iconst dX2_init_31 (by decide))) <|
  xw_cons (xw_E xn_push (xo_ldcS (xog_s8 hO) dX2_init_32)) <|
  xw_cons (xw_E xn_aast (xo_aast hG xk_hB rfl xk_as_ok dX2_init_34)) <|
  xw_cons (xw_E xn_dup (xo_dup dX2_init_35)) <|
  xw_cons (xw_E xn_push (xo_iconst dX2_init_36 (by decide))) <|
  xw_cons (xw_E xn_push (xo_ldcS (xog_s9 hO) dX2_init_37)) <|
  xw_cons (xw_E xn_aast (xo_aast hG xk_hB rfl xk_as_ok dX2_init_39)) <|
  xw_cons (xw_E xn_dup (xo_dup dX2_init_40)) <|
  xw_cons (xw_E xn_push (xo_bipush dX2_init_41 (by decide))) <|
  xw_cons (xw_E xn_push (xo_ldcS (xog_s10 hO) dX2_init_43)) <|
  xw_cons (xw_E xn_aast (xo_aast hG xk_hB rfl xk_as_ok dX2_init_45)) <|
  xw_cons (xw_E xn_dup (xo_dup dX2_init_46)) <|
  xw_cons (xw_E xn_push (xo_bipush dX2_init_47 (by decide))) <|
  xw_cons (xw_E xn_push (xo_ldcS (xog_s11 hO) dX2_init_49)) <|
  xw_cons (xw_E xn_aast (xo_aast hG xk_hB rfl xk_as_ok dX2_init_51)) <|
  xw_cons (xw_E xn_dup (xo_dup dX2_init_52)) <|
  xw_cons (xw_E xn_push (xo_bipush dX2_init_53 (by decide))) <|
  xw_cons (xw_E xn_push (xo_ldcS (xog_s12 hO) dX2_init_55)) <|
  xw_cons (xw_E xn_aast (xo_aast hG xk_hB rfl xk_as_ok dX2_init_57)) <|
  xw_cons (xw_E xn_dup (xo_dup dX2_init_58)) <|
  xw_cons (xw_E xn_push (xo_bipush dX2_init_59 (by decide))) <|
  xw_cons (xw_E xn_push (xo_ldcS (xog_s13 hO) dX2_init_61)) <|
  xw_cons (xw_E xn_aast (xo_aast hG xk_hB rfl xk_as_ok dX2_init_63)) <|
  xw_cons (xw_E xn_dup (xo_dup dX2_init_64)) <|
  xw_cons (xw_E xn_push (xo_bipush dX2_init_65 (by decide))) <|
  xw_cons (xw_E xn_push (xo_ldcS (xog_s14 hO) dX2_init_67)) <|
  xw_cons (xw_E xn_aast (xo_aast hG xk_hB rfl xk_as_ok dX2_init_69)) <|
  xw_cons (xw_E xn_dup (xo_dup dX2_init_70)) <|
  xw_nil _
def xp_83_1 : List (Nat × xm_O) := [
  (71, .inl (xe_push (.int 11) 73)),
  (73, .inl (xe_push (.ref 15) 75)),
  (75, .inl (xe_aast 300 xk_as 76)),
  (76, .inl (xe_dup 77)),
  (77, .inl (xe_push (.int 12) 79)),
  (79, .inl (xe_push (.ref 16) 81)),
  (81, .inl (xe_aast 300 xk_as 82)),
  (82, .inl (xe_dup 83)),
  (83, .inl (xe_push (.int 13) 85)),
  (85, .inl (xe_push (.ref 17) 87)),
  (87, .inl (xe_aast 300 xk_as 88)),
  (88, .inl (xe_putf 300 2 (xj_1 1 0) 91)),
  (91, .inl (xe_aload 0 92)),
  (92, .inl (xe_push (.int 1000) 95)),
  (95, .inl (xe_newa 0 (.int 0) 100000 97)),
  (97, .inl (xe_putf 300 2 (xj_1 1 2) 100)),
  (100, .inl (xe_aload 0 101)),
  (101, .inl (xe_push (.int 1001) 104)),
  (104, .inl (xe_newa 0 (.int 0) 100000 106)),
  (106, .inl (xe_putf 300 2 (xj_1 1 4) 109)),
  (109, .inl (xe_aload 0 110)),
  (110, .inl (xe_push (.int 1001) 113)),
  (113, .inl (xe_newa 1 (.long 0) 100000 115)),
  (115, .inl (xe_putf 300 2 (xj_1 1 5) 118)),
  (118, .inl (xe_aload 0 119)),
  (119, .inl (xe_push (.int 1001) 122)),
  (122, .inl (xe_newa 0 (.int 0) 100000 124)),
  (124, .inl (xe_putf 300 2 (xj_1 1 6) 127)),
  (127, .inr (.inl xr_v))]
theorem xq_83_1 {G : xm_G} (hG : xm_W xk_B G) (hO : xm_Og G) : ∀ q ∈ xp_83_1, xm_op xk_B G xd xk_N "LiarsCock$Reader" "<init>" prog_21_method_1_code 1 none q.1 q.2 :=
  xw_cons (xw_E xn_push (xo_bipush dX2_init_71 (by decide))) <|
  xw_cons (xw_E xn_push (xo_ldcS (xog_s15 hO) dX2_init_73)) <|
  xw_cons (xw_E xn_aast (xo_aast hG xk_hB rfl xk_as_ok dX2_init_75)) <|
  xw_cons (xw_E xn_dup (xo_dup dX2_init_76)) <|
  xw_cons (xw_E xn_push (xo_bipush dX2_init_77 (by decide))) <|
  xw_cons (xw_E xn_push (xo_ldcS (xog_s16 hO) dX2_init_79)) <|
  xw_cons (xw_E xn_aast (xo_aast hG xk_hB rfl xk_as_ok dX2_init_81)) <|
  xw_cons (xw_E xn_dup (xo_dup dX2_init_82)) <|
  xw_cons (xw_E xn_push (xo_bipush dX2_init_83 (by decide))) <|
  xw_cons (xw_E xn_push (xo_ldcS (xog_s17 hO) dX2_init_85)) <|
  xw_cons (xw_E xn_aast (xo_aast hG xk_hB rfl xk_as_ok dX2_init_87)) <|
  xw_cons (xw_E xn_putf (xo_putf hG rfl xu_20_39 dX2_init_88)) <|
  xw_cons (xw_E xn_aload (xo_aload_n dX2_init_91 rfl)) <|
  xw_cons (xw_E xn_push (xo_sipush dX2_init_92 (by decide))) <|
  xw_cons (xw_E xn_newa (xo_newa (at0 := .int) hG (by decide) rfl rfl (by decide) q226 dX2_init_95)) <|
  xw_cons (xw_E xn_putf (xo_putf hG rfl xu_20_45 dX2_init_97)) <|
  xw_cons (xw_E xn_aload (xo_aload_n dX2_init_100 rfl)) <|
  xw_cons (xw_E xn_push (xo_sipush dX2_init_101 (by decide))) <|
  xw_cons (xw_E xn_newa (xo_newa (at0 := .int) hG (by decide) rfl rfl (by decide) q226 dX2_init_104)) <|
  xw_cons (xw_E xn_putf (xo_putf hG rfl xu_20_49 dX2_init_106)) <|
  xw_cons (xw_E xn_aload (xo_aload_n dX2_init_109 rfl)) <|
  xw_cons (xw_E xn_push (xo_sipush dX2_init_110 (by decide))) <|
  xw_cons (xw_E xn_newa (xo_newa (at0 := .long) hG (by decide) rfl rfl (by decide) q227 dX2_init_113)) <|
  xw_cons (xw_E xn_putf (xo_putf hG rfl xu_20_52 dX2_init_115)) <|
  xw_cons (xw_E xn_aload (xo_aload_n dX2_init_118 rfl)) <|
  xw_cons (xw_E xn_push (xo_sipush dX2_init_119 (by decide))) <|
  xw_cons (xw_E xn_newa (xo_newa (at0 := .int) hG (by decide) rfl rfl (by decide) q226 dX2_init_122)) <|
  xw_cons (xw_E xn_putf (xo_putf hG rfl xu_20_56 dX2_init_124)) <|
  xw_cons (xw_R (xt_v dX2_init_127)) <|
  xw_nil _
def xp_83 : List (Nat × xm_O) := xp_83_0 ++ xp_83_1
theorem xq_83 {G : xm_G} (hG : xm_W xk_B G) (hO : xm_Og G) : ∀ q ∈ xp_83, xm_op xk_B G xd xk_N "LiarsCock$Reader" "<init>" prog_21_method_1_code 1 none q.1 q.2 := xw_app (xq_83_0 hG hO) (xq_83_1 hG hO)
/- 84: LiarsCock$Reader.feed(J)V -/
def xp_84_0 : List (Nat × xm_O) := [
  (0, .inl (xe_push (.int 56) 2)),
  (2, .inl (xe_istore 3 3)),
  (3, .inl (xe_iload 3 4)),
  (4, .inl (xe_if (fun x => decide (x < 0)) 73 7)),
  (7, .inl (xe_lload 1 8)),
  (8, .inl (xe_iload 3 9)),
  (9, .inl (xe_li (fun x y => (x.toUInt64 >>> (y.toInt64.toUInt64 &&& Int64.toUInt64 63)).toInt64) 10)),
  (10, .inl (xe_push (.long (255 : Int64)) 13)),
  (13, .inl (xe_ll (fun x y => x &&& y) 14)),
  (14, .inl (xe_l2i 15)),
  (15, .inl (xe_istore 4 17)),
  (17, .inl (xe_iload 4 19)),
  (19, .inl (xe_push (.int 10) 21)),
  (21, .inl (xe_icmp (fun x y => decide (x = y)) 36 24)),
  (24, .inl (xe_iload 4 26)),
  (26, .inl (xe_push (.int 32) 28)),
  (28, .inl (xe_push (.int 126) 30)),
  (30, .inr (.inr (.inl (xc_S 4 [0, 0, 0])))),
  (33, .inl (xe_if (fun x => decide (x = 0)) 67 36)),
  (36, .inl (xe_aload 0 37)),
  (37, .inl (xe_getf (xj_1 1 3) 40)),
  (40, .inl (xe_push (.int 1000) 43)),
  (43, .inl (xe_icmp (fun x y => decide (y ≤ x)) 67 46)),
  (46, .inl (xe_aload 0 47)),
  (47, .inl (xe_getf (xj_1 1 2) 50)),
  (50, .inl (xe_aload 0 51)),
  (51, .inl (xe_getf (xj_1 1 3) 54)),
  (54, .inl (xe_iload 4 56)),
  (56, .inl (xe_ast 300 0 (xm_kd 0) 57)),
  (57, .inl (xe_aload 0 58)),
  (58, .inl (xe_dup 59)),
  (59, .inl (xe_getf (xj_1 1 3) 62)),
  (62, .inl (xe_push (.int 1) 63)),
  (63, .inl (xe_ii (fun x y => x + y) 64)),
  (64, .inl (xe_putf 300 0 (xj_1 1 3) 67)),
  (67, .inl (xe_iinc 3 (-8) 70)),
  (70, .inl (xe_goto 3)),
  (73, .inr (.inl xr_v))]
theorem xq_84_0 {G : xm_G} (hG : xm_W xk_B G) (hO : xm_Og G) : ∀ q ∈ xp_84_0, xm_op xk_B G xd xk_N "LiarsCock$Reader" "feed" prog_21_method_2_code 5 none q.1 q.2 :=
  xw_cons (xw_E xn_push (xo_bipush dX2_feed_0 (by decide))) <|
  xw_cons (xw_E xn_istore (xo_istore_n dX2_feed_2 rfl)) <|
  xw_cons (xw_E xn_iload (xo_iload_n dX2_feed_3 rfl)) <|
  xw_cons (xw_E xn_if (xo_if_lt dX2_feed_4 (by decide))) <|
  xw_cons (xw_E xn_lload (xo_lload_n dX2_feed_7 rfl)) <|
  xw_cons (xw_E xn_iload (xo_iload_n dX2_feed_8 rfl)) <|
  xw_cons (xw_E xn_li (xo_lushr dX2_feed_9)) <|
  xw_cons (xw_E xn_push (xo_ldc2 hG q467 dX2_feed_10)) <|
  xw_cons (xw_E xn_ll (xo_land dX2_feed_13)) <|
  xw_cons (xw_E xn_l2i (xo_l2i dX2_feed_14)) <|
  xw_cons (xw_E xn_istore (xo_istore dX2_feed_15)) <|
  xw_cons (xw_E xn_iload (xo_iload dX2_feed_17)) <|
  xw_cons (xw_E xn_push (xo_bipush dX2_feed_19 (by decide))) <|
  xw_cons (xw_E xn_icmp (xo_icmp_eq dX2_feed_21 (by decide))) <|
  xw_cons (xw_E xn_iload (xo_iload dX2_feed_24)) <|
  xw_cons (xw_E xn_push (xo_bipush dX2_feed_26 (by decide))) <|
  xw_cons (xw_E xn_push (xo_bipush dX2_feed_28 (by decide))) <|
  xw_cons (xl_s_20_60 hG dX2_feed_30) <|
  xw_cons (xw_E xn_if (xo_if_eq dX2_feed_33 (by decide))) <|
  xw_cons (xw_E xn_aload (xo_aload_n dX2_feed_36 rfl)) <|
  xw_cons (xw_E xn_getf (xo_getf hG xg_20_64 dX2_feed_37)) <|
  xw_cons (xw_E xn_push (xo_sipush dX2_feed_40 (by decide))) <|
  xw_cons (xw_E xn_icmp (xo_icmp_ge dX2_feed_43 (by decide))) <|
  xw_cons (xw_E xn_aload (xo_aload_n dX2_feed_46 rfl)) <|
  xw_cons (xw_E xn_getf (xo_getf hG xg_20_45 dX2_feed_47)) <|
  xw_cons (xw_E xn_aload (xo_aload_n dX2_feed_50 rfl)) <|
  xw_cons (xw_E xn_getf (xo_getf hG xg_20_64 dX2_feed_51)) <|
  xw_cons (xw_E xn_iload (xo_iload dX2_feed_54)) <|
  xw_cons (xw_E xn_ast (xo_iast hG xk_hB rfl dX2_feed_56)) <|
  xw_cons (xw_E xn_aload (xo_aload_n dX2_feed_57 rfl)) <|
  xw_cons (xw_E xn_dup (xo_dup dX2_feed_58)) <|
  xw_cons (xw_E xn_getf (xo_getf hG xg_20_64 dX2_feed_59)) <|
  xw_cons (xw_E xn_push (xo_iconst dX2_feed_62 (by decide))) <|
  xw_cons (xw_E xn_ii (xo_iadd dX2_feed_63)) <|
  xw_cons (xw_E xn_putf (xo_putf hG rfl xu_20_64 dX2_feed_64)) <|
  xw_cons (xw_E xn_iinc (xo_iinc dX2_feed_67 (by decide))) <|
  xw_cons (xw_E xn_goto (xo_goto dX2_feed_70 (by decide))) <|
  xw_cons (xw_R (xt_v dX2_feed_73)) <|
  xw_nil _
def xp_84 : List (Nat × xm_O) := xp_84_0
theorem xq_84 {G : xm_G} (hG : xm_W xk_B G) (hO : xm_Og G) : ∀ q ∈ xp_84, xm_op xk_B G xd xk_N "LiarsCock$Reader" "feed" prog_21_method_2_code 5 none q.1 q.2 := xq_84_0 hG hO
/- 85: LiarsCock$Reader.parish()LLiarsCock$Parish; -/
def xp_85_0 : List (Nat × xm_O) := [
  (0, .inl (xe_aload 0 1)),
  (1, .inr (.inr (.inl (xc_V (xj_1 1 86) [])))),
  (4, .inl (xe_aload 0 5)),
  (5, .inl (xe_new 2 10 xk_f2 8)),
  (8, .inl (xe_dup 9)),
  (9, .inr (.inr (.inl (xc_I 115 [])))),
  (12, .inl (xe_putf 300 2 (xj_1 1 1) 15)),
  (15, .inl (xe_new 25 3 xk_f25 18)),
  (18, .inl (xe_dup 19)),
  (19, .inl (xe_push (.int 1) 20)),
  (20, .inr (.inr (.inl (xc_I 278 [0])))),
  (23, .inl (xe_astore 1 24)),
  (24, .inl (xe_aload 0 25)),
  (25, .inl (xe_getf (xj_1 1 4) 28)),
  (28, .inl (xe_aload 0 29)),
  (29, .inl (xe_getf (xj_1 1 7) 32)),
  (32, .inl (xe_ald (fun t => t == 0) 33)),
  (33, .inl (xe_if (fun x => decide (x = 0)) 132 36)),
  (36, .inl (xe_aload 0 37)),
  (37, .inl (xe_push (.ref 4) 39)),
  (39, .inr (.inr (.inl (xc_V (xj_1 1 89) [2])))),
  (42, .inl (xe_if (fun x => decide (x = 0)) 52 45)),
  (45, .inl (xe_aload 0 46)),
  (46, .inr (.inr (.inl (xc_V (xj_1 1 91) [])))),
  (49, .inl (xe_goto 123)),
  (52, .inl (xe_aload 0 53)),
  (53, .inl (xe_push (.ref 6) 55)),
  (55, .inr (.inr (.inl (xc_V (xj_1 1 89) [2])))),
  (58, .inl (xe_if (fun x => decide (x = 0)) 68 61)),
  (61, .inl (xe_aload 0 62)),
  (62, .inr (.inr (.inl (xc_V (xj_1 1 97) [])))),
  (65, .inl (xe_goto 123)),
  (68, .inl (xe_aload 0 69)),
  (69, .inl (xe_push (.ref 8) 71)),
  (71, .inr (.inr (.inl (xc_V (xj_1 1 89) [2])))),
  (74, .inl (xe_if (fun x => decide (x = 0)) 84 77)),
  (77, .inl (xe_aload 0 78)),
  (78, .inr (.inr (.inl (xc_V (xj_1 1 100) [])))),
  (81, .inl (xe_goto 123)),
  (84, .inl (xe_aload 0 85)),
  (85, .inl (xe_push (.ref 11) 87)),
  (87, .inr (.inr (.inl (xc_V (xj_1 1 89) [2])))),
  (90, .inl (xe_if (fun x => decide (x = 0)) 101 93)),
  (93, .inl (xe_aload 0 94)),
  (94, .inl (xe_aload 1 95)),
  (95, .inr (.inr (.inl (xc_V (xj_1 1 102) [2])))),
  (98, .inl (xe_goto 123)),
  (101, .inl (xe_aload 0 102)),
  (102, .inl (xe_push (.ref 12) 104)),
  (104, .inr (.inr (.inl (xc_V (xj_1 1 89) [2]))))]
theorem xq_85_0 {G : xm_G} (hG : xm_W xk_B G) (hO : xm_Og G) : ∀ q ∈ xp_85_0, xm_op xk_B G xd xk_N "LiarsCock$Reader" "parish" prog_21_method_16_code 3 (some ((FieldType.object "LiarsCock$Parish"))) q.1 q.2 :=
  xw_cons (xw_E xn_aload (xo_aload_n dX2_parish_0 rfl)) <|
  xw_cons (xl_v_20_126 hG dX2_parish_1) <|
  xw_cons (xw_E xn_aload (xo_aload_n dX2_parish_4 rfl)) <|
  xw_cons (xw_E xn_new (xo_new hG xnw_20_129 dX2_parish_5)) <|
  xw_cons (xw_E xn_dup (xo_dup dX2_parish_8)) <|
  xw_cons (xl_s_20_131 hG dX2_parish_9) <|
  xw_cons (xw_E xn_putf (xo_putf hG rfl xu_20_132 dX2_parish_12)) <|
  xw_cons (xw_E xn_new (xo_new hG xnw_20_136 dX2_parish_15)) <|
  xw_cons (xw_E xn_dup (xo_dup dX2_parish_18)) <|
  xw_cons (xw_E xn_push (xo_iconst dX2_parish_19 (by decide))) <|
  xw_cons (xl_s_20_138 hG dX2_parish_20) <|
  xw_cons (xw_E xn_astore (xo_astore_n dX2_parish_23 rfl)) <|
  xw_cons (xw_E xn_aload (xo_aload_n dX2_parish_24 rfl)) <|
  xw_cons (xw_E xn_getf (xo_getf hG xg_20_49 dX2_parish_25)) <|
  xw_cons (xw_E xn_aload (xo_aload_n dX2_parish_28 rfl)) <|
  xw_cons (xw_E xn_getf (xo_getf hG xg_20_97 dX2_parish_29)) <|
  xw_cons (xw_E xn_ald (xo_iald xk_hB dX2_parish_32)) <|
  xw_cons (xw_E xn_if (xo_if_eq dX2_parish_33 (by decide))) <|
  xw_cons (xw_E xn_aload (xo_aload_n dX2_parish_36 rfl)) <|
  xw_cons (xw_E xn_push (xo_ldcS (xog_s4 hO) dX2_parish_37)) <|
  xw_cons (xl_v_20_108 hG dX2_parish_39) <|
  xw_cons (xw_E xn_if (xo_if_eq dX2_parish_42 (by decide))) <|
  xw_cons (xw_E xn_aload (xo_aload_n dX2_parish_45 rfl)) <|
  xw_cons (xl_v_20_139 hG dX2_parish_46) <|
  xw_cons (xw_E xn_goto (xo_goto dX2_parish_49 (by decide))) <|
  xw_cons (xw_E xn_aload (xo_aload_n dX2_parish_52 rfl)) <|
  xw_cons (xw_E xn_push (xo_ldcS (xog_s6 hO) dX2_parish_53)) <|
  xw_cons (xl_v_20_108 hG dX2_parish_55) <|
  xw_cons (xw_E xn_if (xo_if_eq dX2_parish_58 (by decide))) <|
  xw_cons (xw_E xn_aload (xo_aload_n dX2_parish_61 rfl)) <|
  xw_cons (xl_v_20_141 hG dX2_parish_62) <|
  xw_cons (xw_E xn_goto (xo_goto dX2_parish_65 (by decide))) <|
  xw_cons (xw_E xn_aload (xo_aload_n dX2_parish_68 rfl)) <|
  xw_cons (xw_E xn_push (xo_ldcS (xog_s8 hO) dX2_parish_69)) <|
  xw_cons (xl_v_20_108 hG dX2_parish_71) <|
  xw_cons (xw_E xn_if (xo_if_eq dX2_parish_74 (by decide))) <|
  xw_cons (xw_E xn_aload (xo_aload_n dX2_parish_77 rfl)) <|
  xw_cons (xl_v_20_143 hG dX2_parish_78) <|
  xw_cons (xw_E xn_goto (xo_goto dX2_parish_81 (by decide))) <|
  xw_cons (xw_E xn_aload (xo_aload_n dX2_parish_84 rfl)) <|
  xw_cons (xw_E xn_push (xo_ldcS (xog_s11 hO) dX2_parish_85)) <|
  xw_cons (xl_v_20_108 hG dX2_parish_87) <|
  xw_cons (xw_E xn_if (xo_if_eq dX2_parish_90 (by decide))) <|
  xw_cons (xw_E xn_aload (xo_aload_n dX2_parish_93 rfl)) <|
  xw_cons (xw_E xn_aload (xo_aload_n dX2_parish_94 rfl)) <|
  xw_cons (xl_v_20_145 hG dX2_parish_95) <|
  xw_cons (xw_E xn_goto (xo_goto dX2_parish_98 (by decide))) <|
  xw_cons (xw_E xn_aload (xo_aload_n dX2_parish_101 rfl)) <|
  xw_cons (xw_E xn_push (xo_ldcS (xog_s12 hO) dX2_parish_102)) <|
  xw_cons (xl_v_20_108 hG dX2_parish_104) <|
  xw_nil _
def xp_85_1 : List (Nat × xm_O) := [
  (107, .inl (xe_if (fun x => decide (x = 0)) 117 110)),
  (110, .inl (xe_aload 0 111)),
  (111, .inr (.inr (.inl (xc_V (xj_1 1 113) [])))),
  (114, .inl (xe_goto 123)),
  (117, .inl (xe_aload 0 118)),
  (118, .inl (xe_push (.int 1) 119)),
  (119, .inr (.inr (.inl (xc_V (xj_1 1 93) [0])))),
  (122, .inr (.inr (.inr ()))),
  (123, .inl (xe_aload 0 124)),
  (124, .inl (xe_push (.int 59) 126)),
  (126, .inr (.inr (.inl (xc_V (xj_1 1 110) [0])))),
  (129, .inl (xe_goto 24)),
  (132, .inl (xe_aload 0 133)),
  (133, .inl (xe_getf (xj_1 1 1) 136)),
  (136, .inl (xe_getf (xj_1 2 6) 139)),
  (139, .inl (xe_push (.int 0) 140)),
  (140, .inl (xe_ald (fun t => Nat.ble 4 t) 141)),
  (141, .inl (xe_null 144 162)),
  (144, .inl (xe_aload 0 145)),
  (145, .inl (xe_getf (xj_1 1 1) 148)),
  (148, .inl (xe_getf (xj_1 2 6) 151)),
  (151, .inl (xe_push (.int 0) 152)),
  (152, .inl (xe_new 4 2 xk_f4 155)),
  (155, .inl (xe_dup 156)),
  (156, .inl (xe_push (.int 0) 157)),
  (157, .inl (xe_push (.int 0) 158)),
  (158, .inr (.inr (.inl (xc_I 125 [0, 0])))),
  (161, .inl (xe_aast 300 xk_as 162)),
  (162, .inl (xe_aload 0 163)),
  (163, .inl (xe_getf (xj_1 1 1) 166)),
  (166, .inl (xe_aload 1 167)),
  (167, .inr (.inr (.inl (xc_V (xj_1 25 280) [])))),
  (170, .inl (xe_putf 300 0 (xj_1 2 7) 173)),
  (173, .inl (xe_aload 0 174)),
  (174, .inl (xe_getf (xj_1 1 1) 177)),
  (177, .inl (xe_aload 0 178)),
  (178, .inl (xe_getf (xj_1 1 1) 181)),
  (181, .inl (xe_new 12 1 xk_f12 184)),
  (184, .inl (xe_dup 185)),
  (185, .inl (xe_push (.int 1) 186)),
  (186, .inr (.inr (.inl (xc_I 247 [0])))),
  (189, .inr (.inr (.inl (xc_V (xj_1 2 118) [2])))),
  (192, .inl (xe_putf 300 1 (xj_1 2 8) 195)),
  (195, .inl (xe_push (.int 0) 196)),
  (196, .inl (xe_istore 2 197)),
  (197, .inl (xe_iload 2 198)),
  (198, .inl (xe_aload 1 199)),
  (199, .inr (.inr (.inl (xc_V (xj_1 25 280) [])))),
  (202, .inl (xe_icmp (fun x y => decide (y ≤ x)) 238 205)),
  (205, .inl (xe_aload 0 206))]
theorem xq_85_1 {G : xm_G} (hG : xm_W xk_B G) (hO : xm_Og G) : ∀ q ∈ xp_85_1, xm_op xk_B G xd xk_N "LiarsCock$Reader" "parish" prog_21_method_16_code 3 (some ((FieldType.object "LiarsCock$Parish"))) q.1 q.2 :=
  xw_cons (xw_E xn_if (xo_if_eq dX2_parish_107 (by decide))) <|
  xw_cons (xw_E xn_aload (xo_aload_n dX2_parish_110 rfl)) <|
  xw_cons (xl_v_20_148 hG dX2_parish_111) <|
  xw_cons (xw_E xn_goto (xo_goto dX2_parish_114 (by decide))) <|
  xw_cons (xw_E xn_aload (xo_aload_n dX2_parish_117 rfl)) <|
  xw_cons (xw_E xn_push (xo_iconst dX2_parish_118 (by decide))) <|
  xw_cons (xl_v_20_118 hG dX2_parish_119) <|
  xw_cons (xw_T dX2_parish_122) <|
  xw_cons (xw_E xn_aload (xo_aload_n dX2_parish_123 rfl)) <|
  xw_cons (xw_E xn_push (xo_bipush dX2_parish_124 (by decide))) <|
  xw_cons (xl_v_20_150 hG dX2_parish_126) <|
  xw_cons (xw_E xn_goto (xo_goto dX2_parish_129 (by decide))) <|
  xw_cons (xw_E xn_aload (xo_aload_n dX2_parish_132 rfl)) <|
  xw_cons (xw_E xn_getf (xo_getf hG xg_20_132 dX2_parish_133)) <|
  xw_cons (xw_E xn_getf (xo_getf hG xg_20_153 dX2_parish_136)) <|
  xw_cons (xw_E xn_push (xo_iconst dX2_parish_139 (by decide))) <|
  xw_cons (xw_E xn_ald (xo_aald xk_hB dX2_parish_140)) <|
  xw_cons (xw_E xn_null (xo_ifnonnull dX2_parish_141 (by decide))) <|
  xw_cons (xw_E xn_aload (xo_aload_n dX2_parish_144 rfl)) <|
  xw_cons (xw_E xn_getf (xo_getf hG xg_20_132 dX2_parish_145)) <|
  xw_cons (xw_E xn_getf (xo_getf hG xg_20_153 dX2_parish_148)) <|
  xw_cons (xw_E xn_push (xo_iconst dX2_parish_151 (by decide))) <|
  xw_cons (xw_E xn_new (xo_new hG xnw_20_157 dX2_parish_152)) <|
  xw_cons (xw_E xn_dup (xo_dup dX2_parish_155)) <|
  xw_cons (xw_E xn_push (xo_iconst dX2_parish_156 (by decide))) <|
  xw_cons (xw_E xn_push (xo_iconst dX2_parish_157 (by decide))) <|
  xw_cons (xl_s_20_159 hG dX2_parish_158) <|
  xw_cons (xw_E xn_aast (xo_aast hG xk_hB rfl xk_as_ok dX2_parish_161)) <|
  xw_cons (xw_E xn_aload (xo_aload_n dX2_parish_162 rfl)) <|
  xw_cons (xw_E xn_getf (xo_getf hG xg_20_132 dX2_parish_163)) <|
  xw_cons (xw_E xn_aload (xo_aload_n dX2_parish_166 rfl)) <|
  xw_cons (xl_v_20_162 hG dX2_parish_167) <|
  xw_cons (xw_E xn_putf (xo_putf hG rfl xu_20_165 dX2_parish_170)) <|
  xw_cons (xw_E xn_aload (xo_aload_n dX2_parish_173 rfl)) <|
  xw_cons (xw_E xn_getf (xo_getf hG xg_20_132 dX2_parish_174)) <|
  xw_cons (xw_E xn_aload (xo_aload_n dX2_parish_177 rfl)) <|
  xw_cons (xw_E xn_getf (xo_getf hG xg_20_132 dX2_parish_178)) <|
  xw_cons (xw_E xn_new (xo_new hG xnw_20_168 dX2_parish_181)) <|
  xw_cons (xw_E xn_dup (xo_dup dX2_parish_184)) <|
  xw_cons (xw_E xn_push (xo_iconst dX2_parish_185 (by decide))) <|
  xw_cons (xl_s_20_170 hG dX2_parish_186) <|
  xw_cons (xl_v_20_171 hG dX2_parish_189) <|
  xw_cons (xw_E xn_putf (xo_putf hG rfl xu_20_175 dX2_parish_192)) <|
  xw_cons (xw_E xn_push (xo_iconst dX2_parish_195 (by decide))) <|
  xw_cons (xw_E xn_istore (xo_istore_n dX2_parish_196 rfl)) <|
  xw_cons (xw_E xn_iload (xo_iload_n dX2_parish_197 rfl)) <|
  xw_cons (xw_E xn_aload (xo_aload_n dX2_parish_198 rfl)) <|
  xw_cons (xl_v_20_162 hG dX2_parish_199) <|
  xw_cons (xw_E xn_icmp (xo_icmp_ge dX2_parish_202 (by decide))) <|
  xw_cons (xw_E xn_aload (xo_aload_n dX2_parish_205 rfl)) <|
  xw_nil _
def xp_85_2 : List (Nat × xm_O) := [
  (206, .inl (xe_getf (xj_1 1 1) 209)),
  (209, .inl (xe_dup 210)),
  (210, .inl (xe_getf (xj_1 2 8) 213)),
  (213, .inl (xe_aload 0 214)),
  (214, .inl (xe_getf (xj_1 1 1) 217)),
  (217, .inl (xe_aload 1 218)),
  (218, .inl (xe_iload 2 219)),
  (219, .inr (.inr (.inl (xc_V (xj_1 25 281) [0])))),
  (222, .inl (xe_cast (fun ci => ([11, 12, 13, 14] : List Nat).elem ci) 225)),
  (225, .inr (.inr (.inl (xc_V (xj_1 2 118) [2])))),
  (228, .inl (xe_ll (fun x y => x &&& y) 229)),
  (229, .inl (xe_putf 300 1 (xj_1 2 8) 232)),
  (232, .inl (xe_iinc 2 1 235)),
  (235, .inl (xe_goto 197)),
  (238, .inl (xe_aload 0 239)),
  (239, .inl (xe_getf (xj_1 1 1) 242)),
  (242, .inr (.inl xr_a))]
theorem xq_85_2 {G : xm_G} (hG : xm_W xk_B G) (hO : xm_Og G) : ∀ q ∈ xp_85_2, xm_op xk_B G xd xk_N "LiarsCock$Reader" "parish" prog_21_method_16_code 3 (some ((FieldType.object "LiarsCock$Parish"))) q.1 q.2 :=
  xw_cons (xw_E xn_getf (xo_getf hG xg_20_132 dX2_parish_206)) <|
  xw_cons (xw_E xn_dup (xo_dup dX2_parish_209)) <|
  xw_cons (xw_E xn_getf (xo_getf hG xg_20_175 dX2_parish_210)) <|
  xw_cons (xw_E xn_aload (xo_aload_n dX2_parish_213 rfl)) <|
  xw_cons (xw_E xn_getf (xo_getf hG xg_20_132 dX2_parish_214)) <|
  xw_cons (xw_E xn_aload (xo_aload_n dX2_parish_217 rfl)) <|
  xw_cons (xw_E xn_iload (xo_iload_n dX2_parish_218 rfl)) <|
  xw_cons (xl_v_20_178 hG dX2_parish_219) <|
  xw_cons (xw_E xn_cast (xo_cast hG q1087 xca_20_182 dX2_parish_222)) <|
  xw_cons (xl_v_20_171 hG dX2_parish_225) <|
  xw_cons (xw_E xn_ll (xo_land dX2_parish_228)) <|
  xw_cons (xw_E xn_putf (xo_putf hG rfl xu_20_175 dX2_parish_229)) <|
  xw_cons (xw_E xn_iinc (xo_iinc dX2_parish_232 (by decide))) <|
  xw_cons (xw_E xn_goto (xo_goto dX2_parish_235 (by decide))) <|
  xw_cons (xw_E xn_aload (xo_aload_n dX2_parish_238 rfl)) <|
  xw_cons (xw_E xn_getf (xo_getf hG xg_20_132 dX2_parish_239)) <|
  xw_cons (xw_R (xt_a (Or.inl ⟨_, rfl⟩) dX2_parish_242)) <|
  xw_nil _
def xp_85 : List (Nat × xm_O) := xp_85_0 ++ xp_85_1 ++ xp_85_2
theorem xq_85 {G : xm_G} (hG : xm_W xk_B G) (hO : xm_Og G) : ∀ q ∈ xp_85, xm_op xk_B G xd xk_N "LiarsCock$Reader" "parish" prog_21_method_16_code 3 (some ((FieldType.object "LiarsCock$Parish"))) q.1 q.2 := xw_app (xw_app (xq_85_0 hG hO) (xq_85_1 hG hO)) (xq_85_2 hG hO)
