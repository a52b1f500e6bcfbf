/-! rows of methods, by program -/
set_option maxRecDepth 100000
/- 314: LiarsCockLaw.law([I)Z -/
def xp_314_0 : List (Nat × xm_O) := [
  (0, .inl (xe_new 0 11 xk_f0 3)),
  (3, .inl (xe_dup 4)),
  (4, .inr (.inr (.inl (xc_I 1 [])))),
  (7, .inl (xe_astore 1 8)),
  (8, .inl (xe_new 8 69 xk_f8 11)),
  (11, .inl (xe_dup 12)),
  (12, .inr (.inr (.inl (xc_I 138 [])))),
  (15, .inl (xe_astore 2 16)),
  (16, .inl (xe_push (.int 1) 17)),
  (17, .inl (xe_newa 1 (.long 0) 100000 19)),
  (19, .inl (xe_astore 3 20)),
  (20, .inl (xe_push (.int 0) 21)),
  (21, .inl (xe_istore 4 23)),
  (23, .inl (xe_iload 4 25)),
  (25, .inl (xe_aload 0 26)),
  (26, .inl (xe_alen 27)),
  (27, .inl (xe_push (.int 7) 29)),
  (29, .inl (xe_ii (fun x y => x - y) 30)),
  (30, .inl (xe_icmp (fun x y => decide (y < x)) 1824 33)),
  (33, .inl (xe_aload 0 34)),
  (34, .inl (xe_iload 4 36)),
  (36, .inl (xe_ald (fun t => t == 0) 37)),
  (37, .inl (xe_push (.int 63) 39)),
  (39, .inl (xe_ii (fun x y => x &&& y) 40)),
  (40, .inl (xe_sw 0 [204, 351, 364, 401, 438, 463, 524, 561, 586, 623, 672, 697, 722, 747, 785, 822, 847, 908, 969, 1058, 1071, 1108, 1169, 1206, 1243, 1280, 1383, 1420, 1457, 1482, 1519, 1556, 1605, 1642, 1703, 1740, 1793] 1818)),
  (204, .inl (xe_aload 1 205)),
  (205, .inl (xe_aload 0 206)),
  (206, .inl (xe_iload 4 208)),
  (208, .inl (xe_push (.int 1) 209)),
  (209, .inl (xe_ii (fun x y => x + y) 210)),
  (210, .inl (xe_ald (fun t => t == 0) 211)),
  (211, .inl (xe_i2l 212)),
  (212, .inl (xe_push (.int 32) 214)),
  (214, .inl (xe_li (fun x y => x <<< (y.toInt64 &&& 63)) 215)),
  (215, .inl (xe_aload 0 216)),
  (216, .inl (xe_iload 4 218)),
  (218, .inl (xe_push (.int 2) 219)),
  (219, .inl (xe_ii (fun x y => x + y) 220)),
  (220, .inl (xe_ald (fun t => t == 0) 221)),
  (221, .inl (xe_i2l 222)),
  (222, .inl (xe_push (.long (4294967295 : Int64)) 225)),
  (225, .inl (xe_ll (fun x y => x &&& y) 226)),
  (226, .inl (xe_ll (fun x y => x ||| y) 227)),
  (227, .inl (xe_aload 0 228)),
  (228, .inl (xe_iload 4 230)),
  (230, .inl (xe_push (.int 3) 231)),
  (231, .inl (xe_ii (fun x y => x + y) 232)),
  (232, .inl (xe_ald (fun t => t == 0) 233)),
  (233, .inl (xe_i2l 234)),
  (234, .inl (xe_push (.int 32) 236))]
theorem xq_314_0 {G : xm_G} (hG : xm_W xk_B G) (hO : xm_Og G) : ∀ q ∈ xp_314_0, xm_op xk_B G xd xk_N "LiarsCockLaw" "law" code 8 (some (FieldType.boolean)) q.1 q.2 :=
  xw_cons (xw_E xn_new (xo_new hG xnw_26_8 dL_law_0)) <|
  xw_cons (xw_E xn_dup (xo_dup dL_law_3)) <|
  xw_cons (xl_s_26_15 hG dL_law_4) <|
  xw_cons (xw_E xn_astore (xo_astore_n dL_law_7 rfl)) <|
  xw_cons (xw_E xn_new (xo_new hG xnw_26_16 dL_law_8)) <|
  xw_cons (xw_E xn_dup (xo_dup dL_law_11)) <|
  xw_cons (xl_s_26_18 hG dL_law_12) <|
  xw_cons (xw_E xn_astore (xo_astore_n dL_law_15 rfl)) <|
  xw_cons (xw_E xn_push (xo_iconst dL_law_16 (by decide))) <|
  xw_cons (xw_E xn_newa (xo_newa (at0 := .long) hG (by decide) rfl rfl (by decide) q227 dL_law_17)) <|
  xw_cons (xw_E xn_astore (xo_astore_n dL_law_19 rfl)) <|
  xw_cons (xw_E xn_push (xo_iconst dL_law_20 (by decide))) <|
  xw_cons (xw_E xn_istore (xo_istore dL_law_21)) <|
  xw_cons (xw_E xn_iload (xo_iload dL_law_23)) <|
  xw_cons (xw_E xn_aload (xo_aload_n dL_law_25 rfl)) <|
  xw_cons (xw_E xn_alen (xo_alen dL_law_26)) <|
  xw_cons (xw_E xn_push (xo_bipush dL_law_27 (by decide))) <|
  xw_cons (xw_E xn_ii (xo_isub dL_law_29)) <|
  xw_cons (xw_E xn_icmp (xo_icmp_gt dL_law_30 (by decide))) <|
  xw_cons (xw_E xn_aload (xo_aload_n dL_law_33 rfl)) <|
  xw_cons (xw_E xn_iload (xo_iload dL_law_34)) <|
  xw_cons (xw_E xn_ald (xo_iald xk_hB dL_law_36)) <|
  xw_cons (xw_E xn_push (xo_bipush dL_law_37 (by decide))) <|
  xw_cons (xw_E xn_ii (xo_iand dL_law_39)) <|
  xw_cons (xw_E xn_sw (xo_switch2 (by decide) (by decide) (by decide) dL_law_40)) <|
  xw_cons (xw_E xn_aload (xo_aload_n dL_law_204 rfl)) <|
  xw_cons (xw_E xn_aload (xo_aload_n dL_law_205 rfl)) <|
  xw_cons (xw_E xn_iload (xo_iload dL_law_206)) <|
  xw_cons (xw_E xn_push (xo_iconst dL_law_208 (by decide))) <|
  xw_cons (xw_E xn_ii (xo_iadd dL_law_209)) <|
  xw_cons (xw_E xn_ald (xo_iald xk_hB dL_law_210)) <|
  xw_cons (xw_E xn_i2l (xo_i2l dL_law_211)) <|
  xw_cons (xw_E xn_push (xo_bipush dL_law_212 (by decide))) <|
  xw_cons (xw_E xn_li (xo_lshl dL_law_214)) <|
  xw_cons (xw_E xn_aload (xo_aload_n dL_law_215 rfl)) <|
  xw_cons (xw_E xn_iload (xo_iload dL_law_216)) <|
  xw_cons (xw_E xn_push (xo_iconst dL_law_218 (by decide))) <|
  xw_cons (xw_E xn_ii (xo_iadd dL_law_219)) <|
  xw_cons (xw_E xn_ald (xo_iald xk_hB dL_law_220)) <|
  xw_cons (xw_E xn_i2l (xo_i2l dL_law_221)) <|
  xw_cons (xw_E xn_push (xo_ldc2 hG q2243 dL_law_222)) <|
  xw_cons (xw_E xn_ll (xo_land dL_law_225)) <|
  xw_cons (xw_E xn_ll (xo_lor dL_law_226)) <|
  xw_cons (xw_E xn_aload (xo_aload_n dL_law_227 rfl)) <|
  xw_cons (xw_E xn_iload (xo_iload dL_law_228)) <|
  xw_cons (xw_E xn_push (xo_iconst dL_law_230 (by decide))) <|
  xw_cons (xw_E xn_ii (xo_iadd dL_law_231)) <|
  xw_cons (xw_E xn_ald (xo_iald xk_hB dL_law_232)) <|
  xw_cons (xw_E xn_i2l (xo_i2l dL_law_233)) <|
  xw_cons (xw_E xn_push (xo_bipush dL_law_234 (by decide))) <|
  xw_nil _
def xp_314_1 : List (Nat × xm_O) := [
  (236, .inl (xe_li (fun x y => x <<< (y.toInt64 &&& 63)) 237)),
  (237, .inl (xe_aload 0 238)),
  (238, .inl (xe_iload 4 240)),
  (240, .inl (xe_push (.int 4) 241)),
  (241, .inl (xe_ii (fun x y => x + y) 242)),
  (242, .inl (xe_ald (fun t => t == 0) 243)),
  (243, .inl (xe_i2l 244)),
  (244, .inl (xe_push (.long (4294967295 : Int64)) 247)),
  (247, .inl (xe_ll (fun x y => x &&& y) 248)),
  (248, .inl (xe_ll (fun x y => x ||| y) 249)),
  (249, .inl (xe_aload 0 250)),
  (250, .inl (xe_iload 4 252)),
  (252, .inl (xe_push (.int 5) 253)),
  (253, .inl (xe_ii (fun x y => x + y) 254)),
  (254, .inl (xe_ald (fun t => t == 0) 255)),
  (255, .inl (xe_i2l 256)),
  (256, .inl (xe_push (.int 32) 258)),
  (258, .inl (xe_li (fun x y => x <<< (y.toInt64 &&& 63)) 259)),
  (259, .inl (xe_aload 0 260)),
  (260, .inl (xe_iload 4 262)),
  (262, .inl (xe_push (.int 6) 264)),
  (264, .inl (xe_ii (fun x y => x + y) 265)),
  (265, .inl (xe_ald (fun t => t == 0) 266)),
  (266, .inl (xe_i2l 267)),
  (267, .inl (xe_push (.long (4294967295 : Int64)) 270)),
  (270, .inl (xe_ll (fun x y => x &&& y) 271)),
  (271, .inl (xe_ll (fun x y => x ||| y) 272)),
  (272, .inr (.inr (.inl (xc_V (xj_1 0 3) [1, 1, 1])))),
  (275, .inl (xe_aload 2 276)),
  (276, .inl (xe_aload 0 277)),
  (277, .inl (xe_iload 4 279)),
  (279, .inl (xe_push (.int 1) 280)),
  (280, .inl (xe_ii (fun x y => x + y) 281)),
  (281, .inl (xe_ald (fun t => t == 0) 282)),
  (282, .inl (xe_i2l 283)),
  (283, .inl (xe_push (.int 32) 285)),
  (285, .inl (xe_li (fun x y => x <<< (y.toInt64 &&& 63)) 286)),
  (286, .inl (xe_aload 0 287)),
  (287, .inl (xe_iload 4 289)),
  (289, .inl (xe_push (.int 2) 290)),
  (290, .inl (xe_ii (fun x y => x + y) 291)),
  (291, .inl (xe_ald (fun t => t == 0) 292)),
  (292, .inl (xe_i2l 293)),
  (293, .inl (xe_push (.long (4294967295 : Int64)) 296)),
  (296, .inl (xe_ll (fun x y => x &&& y) 297)),
  (297, .inl (xe_ll (fun x y => x ||| y) 298)),
  (298, .inl (xe_aload 0 299)),
  (299, .inl (xe_iload 4 301)),
  (301, .inl (xe_push (.int 3) 302)),
  (302, .inl (xe_ii (fun x y => x + y) 303))]
theorem xq_314_1 {G : xm_G} (hG : xm_W xk_B G) (hO : xm_Og G) : ∀ q ∈ xp_314_1, xm_op xk_B G xd xk_N "LiarsCockLaw" "law" code 8 (some (FieldType.boolean)) q.1 q.2 :=
  xw_cons (xw_E xn_li (xo_lshl dL_law_236)) <|
  xw_cons (xw_E xn_aload (xo_aload_n dL_law_237 rfl)) <|
  xw_cons (xw_E xn_iload (xo_iload dL_law_238)) <|
  xw_cons (xw_E xn_push (xo_iconst dL_law_240 (by decide))) <|
  xw_cons (xw_E xn_ii (xo_iadd dL_law_241)) <|
  xw_cons (xw_E xn_ald (xo_iald xk_hB dL_law_242)) <|
  xw_cons (xw_E xn_i2l (xo_i2l dL_law_243)) <|
  xw_cons (xw_E xn_push (xo_ldc2 hG q2243 dL_law_244)) <|
  xw_cons (xw_E xn_ll (xo_land dL_law_247)) <|
  xw_cons (xw_E xn_ll (xo_lor dL_law_248)) <|
  xw_cons (xw_E xn_aload (xo_aload_n dL_law_249 rfl)) <|
  xw_cons (xw_E xn_iload (xo_iload dL_law_250)) <|
  xw_cons (xw_E xn_push (xo_iconst dL_law_252 (by decide))) <|
  xw_cons (xw_E xn_ii (xo_iadd dL_law_253)) <|
  xw_cons (xw_E xn_ald (xo_iald xk_hB dL_law_254)) <|
  xw_cons (xw_E xn_i2l (xo_i2l dL_law_255)) <|
  xw_cons (xw_E xn_push (xo_bipush dL_law_256 (by decide))) <|
  xw_cons (xw_E xn_li (xo_lshl dL_law_258)) <|
  xw_cons (xw_E xn_aload (xo_aload_n dL_law_259 rfl)) <|
  xw_cons (xw_E xn_iload (xo_iload dL_law_260)) <|
  xw_cons (xw_E xn_push (xo_bipush dL_law_262 (by decide))) <|
  xw_cons (xw_E xn_ii (xo_iadd dL_law_264)) <|
  xw_cons (xw_E xn_ald (xo_iald xk_hB dL_law_265)) <|
  xw_cons (xw_E xn_i2l (xo_i2l dL_law_266)) <|
  xw_cons (xw_E xn_push (xo_ldc2 hG q2243 dL_law_267)) <|
  xw_cons (xw_E xn_ll (xo_land dL_law_270)) <|
  xw_cons (xw_E xn_ll (xo_lor dL_law_271)) <|
  xw_cons (xl_v_26_21 hG dL_law_272) <|
  xw_cons (xw_E xn_aload (xo_aload_n dL_law_275 rfl)) <|
  xw_cons (xw_E xn_aload (xo_aload_n dL_law_276 rfl)) <|
  xw_cons (xw_E xn_iload (xo_iload dL_law_277)) <|
  xw_cons (xw_E xn_push (xo_iconst dL_law_279 (by decide))) <|
  xw_cons (xw_E xn_ii (xo_iadd dL_law_280)) <|
  xw_cons (xw_E xn_ald (xo_iald xk_hB dL_law_281)) <|
  xw_cons (xw_E xn_i2l (xo_i2l dL_law_282)) <|
  xw_cons (xw_E xn_push (xo_bipush dL_law_283 (by decide))) <|
  xw_cons (xw_E xn_li (xo_lshl dL_law_285)) <|
  xw_cons (xw_E xn_aload (xo_aload_n dL_law_286 rfl)) <|
  xw_cons (xw_E xn_iload (xo_iload dL_law_287)) <|
  xw_cons (xw_E xn_push (xo_iconst dL_law_289 (by decide))) <|
  xw_cons (xw_E xn_ii (xo_iadd dL_law_290)) <|
  xw_cons (xw_E xn_ald (xo_iald xk_hB dL_law_291)) <|
  xw_cons (xw_E xn_i2l (xo_i2l dL_law_292)) <|
  xw_cons (xw_E xn_push (xo_ldc2 hG q2243 dL_law_293)) <|
  xw_cons (xw_E xn_ll (xo_land dL_law_296)) <|
  xw_cons (xw_E xn_ll (xo_lor dL_law_297)) <|
  xw_cons (xw_E xn_aload (xo_aload_n dL_law_298 rfl)) <|
  xw_cons (xw_E xn_iload (xo_iload dL_law_299)) <|
  xw_cons (xw_E xn_push (xo_iconst dL_law_301 (by decide))) <|
  xw_cons (xw_E xn_ii (xo_iadd dL_law_302)) <|
  xw_nil _
def xp_314_2 : List (Nat × xm_O) := [
  (303, .inl (xe_ald (fun t => t == 0) 304)),
  (304, .inl (xe_i2l 305)),
  (305, .inl (xe_push (.int 32) 307)),
  (307, .inl (xe_li (fun x y => x <<< (y.toInt64 &&& 63)) 308)),
  (308, .inl (xe_aload 0 309)),
  (309, .inl (xe_iload 4 311)),
  (311, .inl (xe_push (.int 4) 312)),
  (312, .inl (xe_ii (fun x y => x + y) 313)),
  (313, .inl (xe_ald (fun t => t == 0) 314)),
  (314, .inl (xe_i2l 315)),
  (315, .inl (xe_push (.long (4294967295 : Int64)) 318)),
  (318, .inl (xe_ll (fun x y => x &&& y) 319)),
  (319, .inl (xe_ll (fun x y => x ||| y) 320)),
  (320, .inl (xe_aload 0 321)),
  (321, .inl (xe_iload 4 323)),
  (323, .inl (xe_push (.int 5) 324)),
  (324, .inl (xe_ii (fun x y => x + y) 325)),
  (325, .inl (xe_ald (fun t => t == 0) 326)),
  (326, .inl (xe_i2l 327)),
  (327, .inl (xe_push (.int 32) 329)),
  (329, .inl (xe_li (fun x y => x <<< (y.toInt64 &&& 63)) 330)),
  (330, .inl (xe_aload 0 331)),
  (331, .inl (xe_iload 4 333)),
  (333, .inl (xe_push (.int 6) 335)),
  (335, .inl (xe_ii (fun x y => x + y) 336)),
  (336, .inl (xe_ald (fun t => t == 0) 337)),
  (337, .inl (xe_i2l 338)),
  (338, .inl (xe_push (.long (4294967295 : Int64)) 341)),
  (341, .inl (xe_ll (fun x y => x &&& y) 342)),
  (342, .inl (xe_ll (fun x y => x ||| y) 343)),
  (343, .inr (.inr (.inl (xc_V (xj_1 8 141) [1, 1, 1])))),
  (346, .inl (xe_icmp (fun x y => decide (x = y)) 1818 349)),
  (349, .inl (xe_push (.int 0) 350)),
  (350, .inr (.inl xr_z)),
  (351, .inl (xe_aload 1 352)),
  (352, .inr (.inr (.inl (xc_V (xj_1 0 5) [])))),
  (355, .inl (xe_aload 2 356)),
  (356, .inr (.inr (.inl (xc_V (xj_1 8 142) [])))),
  (359, .inl (xe_icmp (fun x y => decide (x = y)) 1818 362)),
  (362, .inl (xe_push (.int 0) 363)),
  (363, .inr (.inl xr_z)),
  (364, .inl (xe_aload 1 365)),
  (365, .inl (xe_aload 0 366)),
  (366, .inl (xe_iload 4 368)),
  (368, .inl (xe_push (.int 1) 369)),
  (369, .inl (xe_ii (fun x y => x + y) 370)),
  (370, .inl (xe_ald (fun t => t == 0) 371)),
  (371, .inl (xe_aload 0 372)),
  (372, .inl (xe_iload 4 374)),
  (374, .inl (xe_push (.int 2) 375))]
theorem xq_314_2 {G : xm_G} (hG : xm_W xk_B G) (hO : xm_Og G) : ∀ q ∈ xp_314_2, xm_op xk_B G xd xk_N "LiarsCockLaw" "law" code 8 (some (FieldType.boolean)) q.1 q.2 :=
  xw_cons (xw_E xn_ald (xo_iald xk_hB dL_law_303)) <|
  xw_cons (xw_E xn_i2l (xo_i2l dL_law_304)) <|
  xw_cons (xw_E xn_push (xo_bipush dL_law_305 (by decide))) <|
  xw_cons (xw_E xn_li (xo_lshl dL_law_307)) <|
  xw_cons (xw_E xn_aload (xo_aload_n dL_law_308 rfl)) <|
  xw_cons (xw_E xn_iload (xo_iload dL_law_309)) <|
  xw_cons (xw_E xn_push (xo_iconst dL_law_311 (by decide))) <|
  xw_cons (xw_E xn_ii (xo_iadd dL_law_312)) <|
  xw_cons (xw_E xn_ald (xo_iald xk_hB dL_law_313)) <|
  xw_cons (xw_E xn_i2l (xo_i2l dL_law_314)) <|
  xw_cons (xw_E xn_push (xo_ldc2 hG q2243 dL_law_315)) <|
  xw_cons (xw_E xn_ll (xo_land dL_law_318)) <|
  xw_cons (xw_E xn_ll (xo_lor dL_law_319)) <|
  xw_cons (xw_E xn_aload (xo_aload_n dL_law_320 rfl)) <|
  xw_cons (xw_E xn_iload (xo_iload dL_law_321)) <|
  xw_cons (xw_E xn_push (xo_iconst dL_law_323 (by decide))) <|
  xw_cons (xw_E xn_ii (xo_iadd dL_law_324)) <|
  xw_cons (xw_E xn_ald (xo_iald xk_hB dL_law_325)) <|
  xw_cons (xw_E xn_i2l (xo_i2l dL_law_326)) <|
  xw_cons (xw_E xn_push (xo_bipush dL_law_327 (by decide))) <|
  xw_cons (xw_E xn_li (xo_lshl dL_law_329)) <|
  xw_cons (xw_E xn_aload (xo_aload_n dL_law_330 rfl)) <|
  xw_cons (xw_E xn_iload (xo_iload dL_law_331)) <|
  xw_cons (xw_E xn_push (xo_bipush dL_law_333 (by decide))) <|
  xw_cons (xw_E xn_ii (xo_iadd dL_law_335)) <|
  xw_cons (xw_E xn_ald (xo_iald xk_hB dL_law_336)) <|
  xw_cons (xw_E xn_i2l (xo_i2l dL_law_337)) <|
  xw_cons (xw_E xn_push (xo_ldc2 hG q2243 dL_law_338)) <|
  xw_cons (xw_E xn_ll (xo_land dL_law_341)) <|
  xw_cons (xw_E xn_ll (xo_lor dL_law_342)) <|
  xw_cons (xl_v_26_25 hG dL_law_343) <|
  xw_cons (xw_E xn_icmp (xo_icmp_eq dL_law_346 (by decide))) <|
  xw_cons (xw_E xn_push (xo_iconst dL_law_349 (by decide))) <|
  xw_cons (xw_R (xt_z dL_law_350)) <|
  xw_cons (xw_E xn_aload (xo_aload_n dL_law_351 rfl)) <|
  xw_cons (xl_v_26_26 hG dL_law_352) <|
  xw_cons (xw_E xn_aload (xo_aload_n dL_law_355 rfl)) <|
  xw_cons (xl_v_26_30 hG dL_law_356) <|
  xw_cons (xw_E xn_icmp (xo_icmp_eq dL_law_359 (by decide))) <|
  xw_cons (xw_E xn_push (xo_iconst dL_law_362 (by decide))) <|
  xw_cons (xw_R (xt_z dL_law_363)) <|
  xw_cons (xw_E xn_aload (xo_aload_n dL_law_364 rfl)) <|
  xw_cons (xw_E xn_aload (xo_aload_n dL_law_365 rfl)) <|
  xw_cons (xw_E xn_iload (xo_iload dL_law_366)) <|
  xw_cons (xw_E xn_push (xo_iconst dL_law_368 (by decide))) <|
  xw_cons (xw_E xn_ii (xo_iadd dL_law_369)) <|
  xw_cons (xw_E xn_ald (xo_iald xk_hB dL_law_370)) <|
  xw_cons (xw_E xn_aload (xo_aload_n dL_law_371 rfl)) <|
  xw_cons (xw_E xn_iload (xo_iload dL_law_372)) <|
  xw_cons (xw_E xn_push (xo_iconst dL_law_374 (by decide))) <|
  xw_nil _
def xp_314_3 : List (Nat × xm_O) := [
  (375, .inl (xe_ii (fun x y => x + y) 376)),
  (376, .inl (xe_ald (fun t => t == 0) 377)),
  (377, .inr (.inr (.inl (xc_V (xj_1 0 9) [0, 0])))),
  (380, .inl (xe_aload 2 381)),
  (381, .inl (xe_aload 0 382)),
  (382, .inl (xe_iload 4 384)),
  (384, .inl (xe_push (.int 1) 385)),
  (385, .inl (xe_ii (fun x y => x + y) 386)),
  (386, .inl (xe_ald (fun t => t == 0) 387)),
  (387, .inl (xe_aload 0 388)),
  (388, .inl (xe_iload 4 390)),
  (390, .inl (xe_push (.int 2) 391)),
  (391, .inl (xe_ii (fun x y => x + y) 392)),
  (392, .inl (xe_ald (fun t => t == 0) 393)),
  (393, .inr (.inr (.inl (xc_V (xj_1 8 169) [0, 0])))),
  (396, .inl (xe_icmp (fun x y => decide (x = y)) 1818 399)),
  (399, .inl (xe_push (.int 0) 400)),
  (400, .inr (.inl xr_z)),
  (401, .inl (xe_aload 1 402)),
  (402, .inl (xe_aload 0 403)),
  (403, .inl (xe_iload 4 405)),
  (405, .inl (xe_push (.int 1) 406)),
  (406, .inl (xe_ii (fun x y => x + y) 407)),
  (407, .inl (xe_ald (fun t => t == 0) 408)),
  (408, .inl (xe_aload 0 409)),
  (409, .inl (xe_iload 4 411)),
  (411, .inl (xe_push (.int 2) 412)),
  (412, .inl (xe_ii (fun x y => x + y) 413)),
  (413, .inl (xe_ald (fun t => t == 0) 414)),
  (414, .inr (.inr (.inl (xc_V (xj_1 0 14) [0, 0])))),
  (417, .inl (xe_aload 2 418)),
  (418, .inl (xe_aload 0 419)),
  (419, .inl (xe_iload 4 421)),
  (421, .inl (xe_push (.int 1) 422)),
  (422, .inl (xe_ii (fun x y => x + y) 423)),
  (423, .inl (xe_ald (fun t => t == 0) 424)),
  (424, .inl (xe_aload 0 425)),
  (425, .inl (xe_iload 4 427)),
  (427, .inl (xe_push (.int 2) 428)),
  (428, .inl (xe_ii (fun x y => x + y) 429)),
  (429, .inl (xe_ald (fun t => t == 0) 430)),
  (430, .inr (.inr (.inl (xc_V (xj_1 8 173) [0, 0])))),
  (433, .inl (xe_icmp (fun x y => decide (x = y)) 1818 436)),
  (436, .inl (xe_push (.int 0) 437)),
  (437, .inr (.inl xr_z)),
  (438, .inl (xe_aload 1 439)),
  (439, .inl (xe_aload 0 440)),
  (440, .inl (xe_iload 4 442)),
  (442, .inl (xe_push (.int 1) 443)),
  (443, .inl (xe_ii (fun x y => x + y) 444))]
theorem xq_314_3 {G : xm_G} (hG : xm_W xk_B G) (hO : xm_Og G) : ∀ q ∈ xp_314_3, xm_op xk_B G xd xk_N "LiarsCockLaw" "law" code 8 (some (FieldType.boolean)) q.1 q.2 :=
  xw_cons (xw_E xn_ii (xo_iadd dL_law_375)) <|
  xw_cons (xw_E xn_ald (xo_iald xk_hB dL_law_376)) <|
  xw_cons (xl_v_26_31 hG dL_law_377) <|
  xw_cons (xw_E xn_aload (xo_aload_n dL_law_380 rfl)) <|
  xw_cons (xw_E xn_aload (xo_aload_n dL_law_381 rfl)) <|
  xw_cons (xw_E xn_iload (xo_iload dL_law_382)) <|
  xw_cons (xw_E xn_push (xo_iconst dL_law_384 (by decide))) <|
  xw_cons (xw_E xn_ii (xo_iadd dL_law_385)) <|
  xw_cons (xw_E xn_ald (xo_iald xk_hB dL_law_386)) <|
  xw_cons (xw_E xn_aload (xo_aload_n dL_law_387 rfl)) <|
  xw_cons (xw_E xn_iload (xo_iload dL_law_388)) <|
  xw_cons (xw_E xn_push (xo_iconst dL_law_390 (by decide))) <|
  xw_cons (xw_E xn_ii (xo_iadd dL_law_391)) <|
  xw_cons (xw_E xn_ald (xo_iald xk_hB dL_law_392)) <|
  xw_cons (xl_v_26_35 hG dL_law_393) <|
  xw_cons (xw_E xn_icmp (xo_icmp_eq dL_law_396 (by decide))) <|
  xw_cons (xw_E xn_push (xo_iconst dL_law_399 (by decide))) <|
  xw_cons (xw_R (xt_z dL_law_400)) <|
  xw_cons (xw_E xn_aload (xo_aload_n dL_law_401 rfl)) <|
  xw_cons (xw_E xn_aload (xo_aload_n dL_law_402 rfl)) <|
  xw_cons (xw_E xn_iload (xo_iload dL_law_403)) <|
  xw_cons (xw_E xn_push (xo_iconst dL_law_405 (by decide))) <|
  xw_cons (xw_E xn_ii (xo_iadd dL_law_406)) <|
  xw_cons (xw_E xn_ald (xo_iald xk_hB dL_law_407)) <|
  xw_cons (xw_E xn_aload (xo_aload_n dL_law_408 rfl)) <|
  xw_cons (xw_E xn_iload (xo_iload dL_law_409)) <|
  xw_cons (xw_E xn_push (xo_iconst dL_law_411 (by decide))) <|
  xw_cons (xw_E xn_ii (xo_iadd dL_law_412)) <|
  xw_cons (xw_E xn_ald (xo_iald xk_hB dL_law_413)) <|
  xw_cons (xl_v_26_36 hG dL_law_414) <|
  xw_cons (xw_E xn_aload (xo_aload_n dL_law_417 rfl)) <|
  xw_cons (xw_E xn_aload (xo_aload_n dL_law_418 rfl)) <|
  xw_cons (xw_E xn_iload (xo_iload dL_law_419)) <|
  xw_cons (xw_E xn_push (xo_iconst dL_law_421 (by decide))) <|
  xw_cons (xw_E xn_ii (xo_iadd dL_law_422)) <|
  xw_cons (xw_E xn_ald (xo_iald xk_hB dL_law_423)) <|
  xw_cons (xw_E xn_aload (xo_aload_n dL_law_424 rfl)) <|
  xw_cons (xw_E xn_iload (xo_iload dL_law_425)) <|
  xw_cons (xw_E xn_push (xo_iconst dL_law_427 (by decide))) <|
  xw_cons (xw_E xn_ii (xo_iadd dL_law_428)) <|
  xw_cons (xw_E xn_ald (xo_iald xk_hB dL_law_429)) <|
  xw_cons (xl_v_26_39 hG dL_law_430) <|
  xw_cons (xw_E xn_icmp (xo_icmp_eq dL_law_433 (by decide))) <|
  xw_cons (xw_E xn_push (xo_iconst dL_law_436 (by decide))) <|
  xw_cons (xw_R (xt_z dL_law_437)) <|
  xw_cons (xw_E xn_aload (xo_aload_n dL_law_438 rfl)) <|
  xw_cons (xw_E xn_aload (xo_aload_n dL_law_439 rfl)) <|
  xw_cons (xw_E xn_iload (xo_iload dL_law_440)) <|
  xw_cons (xw_E xn_push (xo_iconst dL_law_442 (by decide))) <|
  xw_cons (xw_E xn_ii (xo_iadd dL_law_443)) <|
  xw_nil _
def xp_314_4 : List (Nat × xm_O) := [
  (444, .inl (xe_ald (fun t => t == 0) 445)),
  (445, .inr (.inr (.inl (xc_V (xj_1 0 7) [0])))),
  (448, .inl (xe_aload 2 449)),
  (449, .inl (xe_aload 0 450)),
  (450, .inl (xe_iload 4 452)),
  (452, .inl (xe_push (.int 1) 453)),
  (453, .inl (xe_ii (fun x y => x + y) 454)),
  (454, .inl (xe_ald (fun t => t == 0) 455)),
  (455, .inr (.inr (.inl (xc_V (xj_1 8 174) [0])))),
  (458, .inl (xe_icmp (fun x y => decide (x = y)) 1818 461)),
  (461, .inl (xe_push (.int 0) 462)),
  (462, .inr (.inl xr_z)),
  (463, .inl (xe_aload 1 464)),
  (464, .inl (xe_aload 0 465)),
  (465, .inl (xe_iload 4 467)),
  (467, .inl (xe_push (.int 1) 468)),
  (468, .inl (xe_ii (fun x y => x + y) 469)),
  (469, .inl (xe_ald (fun t => t == 0) 470)),
  (470, .inl (xe_aload 0 471)),
  (471, .inl (xe_iload 4 473)),
  (473, .inl (xe_push (.int 2) 474)),
  (474, .inl (xe_ii (fun x y => x + y) 475)),
  (475, .inl (xe_ald (fun t => t == 0) 476)),
  (476, .inl (xe_aload 0 477)),
  (477, .inl (xe_iload 4 479)),
  (479, .inl (xe_push (.int 3) 480)),
  (480, .inl (xe_ii (fun x y => x + y) 481)),
  (481, .inl (xe_ald (fun t => t == 0) 482)),
  (482, .inl (xe_aload 0 483)),
  (483, .inl (xe_iload 4 485)),
  (485, .inl (xe_push (.int 4) 486)),
  (486, .inl (xe_ii (fun x y => x + y) 487)),
  (487, .inl (xe_ald (fun t => t == 0) 488)),
  (488, .inr (.inr (.inl (xc_V (xj_1 0 22) [0, 0, 0, 0])))),
  (491, .inl (xe_aload 2 492)),
  (492, .inl (xe_aload 0 493)),
  (493, .inl (xe_iload 4 495)),
  (495, .inl (xe_push (.int 1) 496)),
  (496, .inl (xe_ii (fun x y => x + y) 497)),
  (497, .inl (xe_ald (fun t => t == 0) 498)),
  (498, .inl (xe_aload 0 499)),
  (499, .inl (xe_iload 4 501)),
  (501, .inl (xe_push (.int 2) 502)),
  (502, .inl (xe_ii (fun x y => x + y) 503)),
  (503, .inl (xe_ald (fun t => t == 0) 504)),
  (504, .inl (xe_aload 0 505)),
  (505, .inl (xe_iload 4 507)),
  (507, .inl (xe_push (.int 3) 508)),
  (508, .inl (xe_ii (fun x y => x + y) 509)),
  (509, .inl (xe_ald (fun t => t == 0) 510))]
theorem xq_314_4 {G : xm_G} (hG : xm_W xk_B G) (hO : xm_Og G) : ∀ q ∈ xp_314_4, xm_op xk_B G xd xk_N "LiarsCockLaw" "law" code 8 (some (FieldType.boolean)) q.1 q.2 :=
  xw_cons (xw_E xn_ald (xo_iald xk_hB dL_law_444)) <|
  xw_cons (xl_v_26_40 hG dL_law_445) <|
  xw_cons (xw_E xn_aload (xo_aload_n dL_law_448 rfl)) <|
  xw_cons (xw_E xn_aload (xo_aload_n dL_law_449 rfl)) <|
  xw_cons (xw_E xn_iload (xo_iload dL_law_450)) <|
  xw_cons (xw_E xn_push (xo_iconst dL_law_452 (by decide))) <|
  xw_cons (xw_E xn_ii (xo_iadd dL_law_453)) <|
  xw_cons (xw_E xn_ald (xo_iald xk_hB dL_law_454)) <|
  xw_cons (xl_v_26_44 hG dL_law_455) <|
  xw_cons (xw_E xn_icmp (xo_icmp_eq dL_law_458 (by decide))) <|
  xw_cons (xw_E xn_push (xo_iconst dL_law_461 (by decide))) <|
  xw_cons (xw_R (xt_z dL_law_462)) <|
  xw_cons (xw_E xn_aload (xo_aload_n dL_law_463 rfl)) <|
  xw_cons (xw_E xn_aload (xo_aload_n dL_law_464 rfl)) <|
  xw_cons (xw_E xn_iload (xo_iload dL_law_465)) <|
  xw_cons (xw_E xn_push (xo_iconst dL_law_467 (by decide))) <|
  xw_cons (xw_E xn_ii (xo_iadd dL_law_468)) <|
  xw_cons (xw_E xn_ald (xo_iald xk_hB dL_law_469)) <|
  xw_cons (xw_E xn_aload (xo_aload_n dL_law_470 rfl)) <|
  xw_cons (xw_E xn_iload (xo_iload dL_law_471)) <|
  xw_cons (xw_E xn_push (xo_iconst dL_law_473 (by decide))) <|
  xw_cons (xw_E xn_ii (xo_iadd dL_law_474)) <|
  xw_cons (xw_E xn_ald (xo_iald xk_hB dL_law_475)) <|
  xw_cons (xw_E xn_aload (xo_aload_n dL_law_476 rfl)) <|
  xw_cons (xw_E xn_iload (xo_iload dL_law_477)) <|
  xw_cons (xw_E xn_push (xo_iconst dL_law_479 (by decide))) <|
  xw_cons (xw_E xn_ii (xo_iadd dL_law_480)) <|
  xw_cons (xw_E xn_ald (xo_iald xk_hB dL_law_481)) <|
  xw_cons (xw_E xn_aload (xo_aload_n dL_law_482 rfl)) <|
  xw_cons (xw_E xn_iload (xo_iload dL_law_483)) <|
  xw_cons (xw_E xn_push (xo_iconst dL_law_485 (by decide))) <|
  xw_cons (xw_E xn_ii (xo_iadd dL_law_486)) <|
  xw_cons (xw_E xn_ald (xo_iald xk_hB dL_law_487)) <|
  xw_cons (xl_v_26_45 hG dL_law_488) <|
  xw_cons (xw_E xn_aload (xo_aload_n dL_law_491 rfl)) <|
  xw_cons (xw_E xn_aload (xo_aload_n dL_law_492 rfl)) <|
  xw_cons (xw_E xn_iload (xo_iload dL_law_493)) <|
  xw_cons (xw_E xn_push (xo_iconst dL_law_495 (by decide))) <|
  xw_cons (xw_E xn_ii (xo_iadd dL_law_496)) <|
  xw_cons (xw_E xn_ald (xo_iald xk_hB dL_law_497)) <|
  xw_cons (xw_E xn_aload (xo_aload_n dL_law_498 rfl)) <|
  xw_cons (xw_E xn_iload (xo_iload dL_law_499)) <|
  xw_cons (xw_E xn_push (xo_iconst dL_law_501 (by decide))) <|
  xw_cons (xw_E xn_ii (xo_iadd dL_law_502)) <|
  xw_cons (xw_E xn_ald (xo_iald xk_hB dL_law_503)) <|
  xw_cons (xw_E xn_aload (xo_aload_n dL_law_504 rfl)) <|
  xw_cons (xw_E xn_iload (xo_iload dL_law_505)) <|
  xw_cons (xw_E xn_push (xo_iconst dL_law_507 (by decide))) <|
  xw_cons (xw_E xn_ii (xo_iadd dL_law_508)) <|
  xw_cons (xw_E xn_ald (xo_iald xk_hB dL_law_509)) <|
  xw_nil _
def xp_314_5 : List (Nat × xm_O) := [
  (510, .inl (xe_aload 0 511)),
  (511, .inl (xe_iload 4 513)),
  (513, .inl (xe_push (.int 4) 514)),
  (514, .inl (xe_ii (fun x y => x + y) 515)),
  (515, .inl (xe_ald (fun t => t == 0) 516)),
  (516, .inr (.inr (.inl (xc_V (xj_1 8 185) [0, 0, 0, 0])))),
  (519, .inl (xe_icmp (fun x y => decide (x = y)) 1818 522)),
  (522, .inl (xe_push (.int 0) 523)),
  (523, .inr (.inl xr_z)),
  (524, .inl (xe_aload 1 525)),
  (525, .inl (xe_aload 0 526)),
  (526, .inl (xe_iload 4 528)),
  (528, .inl (xe_push (.int 1) 529)),
  (529, .inl (xe_ii (fun x y => x + y) 530)),
  (530, .inl (xe_ald (fun t => t == 0) 531)),
  (531, .inl (xe_aload 0 532)),
  (532, .inl (xe_iload 4 534)),
  (534, .inl (xe_push (.int 2) 535)),
  (535, .inl (xe_ii (fun x y => x + y) 536)),
  (536, .inl (xe_ald (fun t => t == 0) 537)),
  (537, .inr (.inr (.inl (xc_V (xj_1 0 24) [0, 0])))),
  (540, .inl (xe_aload 2 541)),
  (541, .inl (xe_aload 0 542)),
  (542, .inl (xe_iload 4 544)),
  (544, .inl (xe_push (.int 1) 545)),
  (545, .inl (xe_ii (fun x y => x + y) 546)),
  (546, .inl (xe_ald (fun t => t == 0) 547)),
  (547, .inl (xe_aload 0 548)),
  (548, .inl (xe_iload 4 550)),
  (550, .inl (xe_push (.int 2) 551)),
  (551, .inl (xe_ii (fun x y => x + y) 552)),
  (552, .inl (xe_ald (fun t => t == 0) 553)),
  (553, .inr (.inr (.inl (xc_V (xj_1 8 217) [0, 0])))),
  (556, .inl (xe_icmp (fun x y => decide (x = y)) 1818 559)),
  (559, .inl (xe_push (.int 0) 560)),
  (560, .inr (.inl xr_z)),
  (561, .inl (xe_aload 1 562)),
  (562, .inl (xe_aload 0 563)),
  (563, .inl (xe_iload 4 565)),
  (565, .inl (xe_push (.int 1) 566)),
  (566, .inl (xe_ii (fun x y => x + y) 567)),
  (567, .inl (xe_ald (fun t => t == 0) 568)),
  (568, .inr (.inr (.inl (xc_V (xj_1 0 25) [0])))),
  (571, .inl (xe_aload 2 572)),
  (572, .inl (xe_aload 0 573)),
  (573, .inl (xe_iload 4 575)),
  (575, .inl (xe_push (.int 1) 576)),
  (576, .inl (xe_ii (fun x y => x + y) 577)),
  (577, .inl (xe_ald (fun t => t == 0) 578)),
  (578, .inr (.inr (.inl (xc_V (xj_1 8 187) [0]))))]
theorem xq_314_5 {G : xm_G} (hG : xm_W xk_B G) (hO : xm_Og G) : ∀ q ∈ xp_314_5, xm_op xk_B G xd xk_N "LiarsCockLaw" "law" code 8 (some (FieldType.boolean)) q.1 q.2 :=
  xw_cons (xw_E xn_aload (xo_aload_n dL_law_510 rfl)) <|
  xw_cons (xw_E xn_iload (xo_iload dL_law_511)) <|
  xw_cons (xw_E xn_push (xo_iconst dL_law_513 (by decide))) <|
  xw_cons (xw_E xn_ii (xo_iadd dL_law_514)) <|
  xw_cons (xw_E xn_ald (xo_iald xk_hB dL_law_515)) <|
  xw_cons (xl_v_26_49 hG dL_law_516) <|
  xw_cons (xw_E xn_icmp (xo_icmp_eq dL_law_519 (by decide))) <|
  xw_cons (xw_E xn_push (xo_iconst dL_law_522 (by decide))) <|
  xw_cons (xw_R (xt_z dL_law_523)) <|
  xw_cons (xw_E xn_aload (xo_aload_n dL_law_524 rfl)) <|
  xw_cons (xw_E xn_aload (xo_aload_n dL_law_525 rfl)) <|
  xw_cons (xw_E xn_iload (xo_iload dL_law_526)) <|
  xw_cons (xw_E xn_push (xo_iconst dL_law_528 (by decide))) <|
  xw_cons (xw_E xn_ii (xo_iadd dL_law_529)) <|
  xw_cons (xw_E xn_ald (xo_iald xk_hB dL_law_530)) <|
  xw_cons (xw_E xn_aload (xo_aload_n dL_law_531 rfl)) <|
  xw_cons (xw_E xn_iload (xo_iload dL_law_532)) <|
  xw_cons (xw_E xn_push (xo_iconst dL_law_534 (by decide))) <|
  xw_cons (xw_E xn_ii (xo_iadd dL_law_535)) <|
  xw_cons (xw_E xn_ald (xo_iald xk_hB dL_law_536)) <|
  xw_cons (xl_v_26_50 hG dL_law_537) <|
  xw_cons (xw_E xn_aload (xo_aload_n dL_law_540 rfl)) <|
  xw_cons (xw_E xn_aload (xo_aload_n dL_law_541 rfl)) <|
  xw_cons (xw_E xn_iload (xo_iload dL_law_542)) <|
  xw_cons (xw_E xn_push (xo_iconst dL_law_544 (by decide))) <|
  xw_cons (xw_E xn_ii (xo_iadd dL_law_545)) <|
  xw_cons (xw_E xn_ald (xo_iald xk_hB dL_law_546)) <|
  xw_cons (xw_E xn_aload (xo_aload_n dL_law_547 rfl)) <|
  xw_cons (xw_E xn_iload (xo_iload dL_law_548)) <|
  xw_cons (xw_E xn_push (xo_iconst dL_law_550 (by decide))) <|
  xw_cons (xw_E xn_ii (xo_iadd dL_law_551)) <|
  xw_cons (xw_E xn_ald (xo_iald xk_hB dL_law_552)) <|
  xw_cons (xl_v_26_53 hG dL_law_553) <|
  xw_cons (xw_E xn_icmp (xo_icmp_eq dL_law_556 (by decide))) <|
  xw_cons (xw_E xn_push (xo_iconst dL_law_559 (by decide))) <|
  xw_cons (xw_R (xt_z dL_law_560)) <|
  xw_cons (xw_E xn_aload (xo_aload_n dL_law_561 rfl)) <|
  xw_cons (xw_E xn_aload (xo_aload_n dL_law_562 rfl)) <|
  xw_cons (xw_E xn_iload (xo_iload dL_law_563)) <|
  xw_cons (xw_E xn_push (xo_iconst dL_law_565 (by decide))) <|
  xw_cons (xw_E xn_ii (xo_iadd dL_law_566)) <|
  xw_cons (xw_E xn_ald (xo_iald xk_hB dL_law_567)) <|
  xw_cons (xl_v_26_54 hG dL_law_568) <|
  xw_cons (xw_E xn_aload (xo_aload_n dL_law_571 rfl)) <|
  xw_cons (xw_E xn_aload (xo_aload_n dL_law_572 rfl)) <|
  xw_cons (xw_E xn_iload (xo_iload dL_law_573)) <|
  xw_cons (xw_E xn_push (xo_iconst dL_law_575 (by decide))) <|
  xw_cons (xw_E xn_ii (xo_iadd dL_law_576)) <|
  xw_cons (xw_E xn_ald (xo_iald xk_hB dL_law_577)) <|
  xw_cons (xl_v_26_58 hG dL_law_578) <|
  xw_nil _
def xp_314_6 : List (Nat × xm_O) := [
  (581, .inl (xe_icmp (fun x y => decide (x = y)) 1818 584)),
  (584, .inl (xe_push (.int 0) 585)),
  (585, .inr (.inl xr_z)),
  (586, .inl (xe_aload 1 587)),
  (587, .inl (xe_aload 0 588)),
  (588, .inl (xe_iload 4 590)),
  (590, .inl (xe_push (.int 1) 591)),
  (591, .inl (xe_ii (fun x y => x + y) 592)),
  (592, .inl (xe_ald (fun t => t == 0) 593)),
  (593, .inl (xe_aload 0 594)),
  (594, .inl (xe_iload 4 596)),
  (596, .inl (xe_push (.int 2) 597)),
  (597, .inl (xe_ii (fun x y => x + y) 598)),
  (598, .inl (xe_ald (fun t => t == 0) 599)),
  (599, .inr (.inr (.inl (xc_V (xj_1 0 20) [0, 0])))),
  (602, .inl (xe_aload 2 603)),
  (603, .inl (xe_aload 0 604)),
  (604, .inl (xe_iload 4 606)),
  (606, .inl (xe_push (.int 1) 607)),
  (607, .inl (xe_ii (fun x y => x + y) 608)),
  (608, .inl (xe_ald (fun t => t == 0) 609)),
  (609, .inl (xe_aload 0 610)),
  (610, .inl (xe_iload 4 612)),
  (612, .inl (xe_push (.int 2) 613)),
  (613, .inl (xe_ii (fun x y => x + y) 614)),
  (614, .inl (xe_ald (fun t => t == 0) 615)),
  (615, .inr (.inr (.inl (xc_V (xj_1 8 176) [0, 0])))),
  (618, .inl (xe_icmp (fun x y => decide (x = y)) 1818 621)),
  (621, .inl (xe_push (.int 0) 622)),
  (622, .inr (.inl xr_z)),
  (623, .inl (xe_aload 1 624)),
  (624, .inl (xe_aload 0 625)),
  (625, .inl (xe_iload 4 627)),
  (627, .inl (xe_push (.int 1) 628)),
  (628, .inl (xe_ii (fun x y => x + y) 629)),
  (629, .inl (xe_ald (fun t => t == 0) 630)),
  (630, .inl (xe_aload 0 631)),
  (631, .inl (xe_iload 4 633)),
  (633, .inl (xe_push (.int 2) 634)),
  (634, .inl (xe_ii (fun x y => x + y) 635)),
  (635, .inl (xe_ald (fun t => t == 0) 636)),
  (636, .inl (xe_aload 0 637)),
  (637, .inl (xe_iload 4 639)),
  (639, .inl (xe_push (.int 3) 640)),
  (640, .inl (xe_ii (fun x y => x + y) 641)),
  (641, .inl (xe_ald (fun t => t == 0) 642)),
  (642, .inr (.inr (.inl (xc_V (xj_1 0 15) [0, 0, 0])))),
  (645, .inl (xe_aload 2 646)),
  (646, .inl (xe_aload 0 647)),
  (647, .inl (xe_iload 4 649))]
theorem xq_314_6 {G : xm_G} (hG : xm_W xk_B G) (hO : xm_Og G) : ∀ q ∈ xp_314_6, xm_op xk_B G xd xk_N "LiarsCockLaw" "law" code 8 (some (FieldType.boolean)) q.1 q.2 :=
  xw_cons (xw_E xn_icmp (xo_icmp_eq dL_law_581 (by decide))) <|
  xw_cons (xw_E xn_push (xo_iconst dL_law_584 (by decide))) <|
  xw_cons (xw_R (xt_z dL_law_585)) <|
  xw_cons (xw_E xn_aload (xo_aload_n dL_law_586 rfl)) <|
  xw_cons (xw_E xn_aload (xo_aload_n dL_law_587 rfl)) <|
  xw_cons (xw_E xn_iload (xo_iload dL_law_588)) <|
  xw_cons (xw_E xn_push (xo_iconst dL_law_590 (by decide))) <|
  xw_cons (xw_E xn_ii (xo_iadd dL_law_591)) <|
  xw_cons (xw_E xn_ald (xo_iald xk_hB dL_law_592)) <|
  xw_cons (xw_E xn_aload (xo_aload_n dL_law_593 rfl)) <|
  xw_cons (xw_E xn_iload (xo_iload dL_law_594)) <|
  xw_cons (xw_E xn_push (xo_iconst dL_law_596 (by decide))) <|
  xw_cons (xw_E xn_ii (xo_iadd dL_law_597)) <|
  xw_cons (xw_E xn_ald (xo_iald xk_hB dL_law_598)) <|
  xw_cons (xl_v_26_59 hG dL_law_599) <|
  xw_cons (xw_E xn_aload (xo_aload_n dL_law_602 rfl)) <|
  xw_cons (xw_E xn_aload (xo_aload_n dL_law_603 rfl)) <|
  xw_cons (xw_E xn_iload (xo_iload dL_law_604)) <|
  xw_cons (xw_E xn_push (xo_iconst dL_law_606 (by decide))) <|
  xw_cons (xw_E xn_ii (xo_iadd dL_law_607)) <|
  xw_cons (xw_E xn_ald (xo_iald xk_hB dL_law_608)) <|
  xw_cons (xw_E xn_aload (xo_aload_n dL_law_609 rfl)) <|
  xw_cons (xw_E xn_iload (xo_iload dL_law_610)) <|
  xw_cons (xw_E xn_push (xo_iconst dL_law_612 (by decide))) <|
  xw_cons (xw_E xn_ii (xo_iadd dL_law_613)) <|
  xw_cons (xw_E xn_ald (xo_iald xk_hB dL_law_614)) <|
  xw_cons (xl_v_26_62 hG dL_law_615) <|
  xw_cons (xw_E xn_icmp (xo_icmp_eq dL_law_618 (by decide))) <|
  xw_cons (xw_E xn_push (xo_iconst dL_law_621 (by decide))) <|
  xw_cons (xw_R (xt_z dL_law_622)) <|
  xw_cons (xw_E xn_aload (xo_aload_n dL_law_623 rfl)) <|
  xw_cons (xw_E xn_aload (xo_aload_n dL_law_624 rfl)) <|
  xw_cons (xw_E xn_iload (xo_iload dL_law_625)) <|
  xw_cons (xw_E xn_push (xo_iconst dL_law_627 (by decide))) <|
  xw_cons (xw_E xn_ii (xo_iadd dL_law_628)) <|
  xw_cons (xw_E xn_ald (xo_iald xk_hB dL_law_629)) <|
  xw_cons (xw_E xn_aload (xo_aload_n dL_law_630 rfl)) <|
  xw_cons (xw_E xn_iload (xo_iload dL_law_631)) <|
  xw_cons (xw_E xn_push (xo_iconst dL_law_633 (by decide))) <|
  xw_cons (xw_E xn_ii (xo_iadd dL_law_634)) <|
  xw_cons (xw_E xn_ald (xo_iald xk_hB dL_law_635)) <|
  xw_cons (xw_E xn_aload (xo_aload_n dL_law_636 rfl)) <|
  xw_cons (xw_E xn_iload (xo_iload dL_law_637)) <|
  xw_cons (xw_E xn_push (xo_iconst dL_law_639 (by decide))) <|
  xw_cons (xw_E xn_ii (xo_iadd dL_law_640)) <|
  xw_cons (xw_E xn_ald (xo_iald xk_hB dL_law_641)) <|
  xw_cons (xl_v_26_63 hG dL_law_642) <|
  xw_cons (xw_E xn_aload (xo_aload_n dL_law_645 rfl)) <|
  xw_cons (xw_E xn_aload (xo_aload_n dL_law_646 rfl)) <|
  xw_cons (xw_E xn_iload (xo_iload dL_law_647)) <|
  xw_nil _
def xp_314_7 : List (Nat × xm_O) := [
  (649, .inl (xe_push (.int 1) 650)),
  (650, .inl (xe_ii (fun x y => x + y) 651)),
  (651, .inl (xe_ald (fun t => t == 0) 652)),
  (652, .inl (xe_aload 0 653)),
  (653, .inl (xe_iload 4 655)),
  (655, .inl (xe_push (.int 2) 656)),
  (656, .inl (xe_ii (fun x y => x + y) 657)),
  (657, .inl (xe_ald (fun t => t == 0) 658)),
  (658, .inl (xe_aload 0 659)),
  (659, .inl (xe_iload 4 661)),
  (661, .inl (xe_push (.int 3) 662)),
  (662, .inl (xe_ii (fun x y => x + y) 663)),
  (663, .inl (xe_ald (fun t => t == 0) 664)),
  (664, .inr (.inr (.inl (xc_V (xj_1 8 180) [0, 0, 0])))),
  (667, .inl (xe_icmp (fun x y => decide (x = y)) 1818 670)),
  (670, .inl (xe_push (.int 0) 671)),
  (671, .inr (.inl xr_z)),
  (672, .inl (xe_aload 1 673)),
  (673, .inl (xe_aload 0 674)),
  (674, .inl (xe_iload 4 676)),
  (676, .inl (xe_push (.int 1) 677)),
  (677, .inl (xe_ii (fun x y => x + y) 678)),
  (678, .inl (xe_ald (fun t => t == 0) 679)),
  (679, .inr (.inr (.inl (xc_V (xj_1 0 32) [0])))),
  (682, .inl (xe_aload 2 683)),
  (683, .inl (xe_aload 0 684)),
  (684, .inl (xe_iload 4 686)),
  (686, .inl (xe_push (.int 1) 687)),
  (687, .inl (xe_ii (fun x y => x + y) 688)),
  (688, .inl (xe_ald (fun t => t == 0) 689)),
  (689, .inr (.inr (.inl (xc_V (xj_1 8 192) [0])))),
  (692, .inl (xe_icmp (fun x y => decide (x = y)) 1818 695)),
  (695, .inl (xe_push (.int 0) 696)),
  (696, .inr (.inl xr_z)),
  (697, .inl (xe_aload 1 698)),
  (698, .inl (xe_aload 0 699)),
  (699, .inl (xe_iload 4 701)),
  (701, .inl (xe_push (.int 1) 702)),
  (702, .inl (xe_ii (fun x y => x + y) 703)),
  (703, .inl (xe_ald (fun t => t == 0) 704)),
  (704, .inr (.inr (.inl (xc_V (xj_1 0 36) [0])))),
  (707, .inl (xe_aload 2 708)),
  (708, .inl (xe_aload 0 709)),
  (709, .inl (xe_iload 4 711)),
  (711, .inl (xe_push (.int 1) 712)),
  (712, .inl (xe_ii (fun x y => x + y) 713)),
  (713, .inl (xe_ald (fun t => t == 0) 714)),
  (714, .inr (.inr (.inl (xc_V (xj_1 8 196) [0])))),
  (717, .inl (xe_icmp (fun x y => decide (x = y)) 1818 720)),
  (720, .inl (xe_push (.int 0) 721))]
theorem xq_314_7 {G : xm_G} (hG : xm_W xk_B G) (hO : xm_Og G) : ∀ q ∈ xp_314_7, xm_op xk_B G xd xk_N "LiarsCockLaw" "law" code 8 (some (FieldType.boolean)) q.1 q.2 :=
  xw_cons (xw_E xn_push (xo_iconst dL_law_649 (by decide))) <|
  xw_cons (xw_E xn_ii (xo_iadd dL_law_650)) <|
  xw_cons (xw_E xn_ald (xo_iald xk_hB dL_law_651)) <|
  xw_cons (xw_E xn_aload (xo_aload_n dL_law_652 rfl)) <|
  xw_cons (xw_E xn_iload (xo_iload dL_law_653)) <|
  xw_cons (xw_E xn_push (xo_iconst dL_law_655 (by decide))) <|
  xw_cons (xw_E xn_ii (xo_iadd dL_law_656)) <|
  xw_cons (xw_E xn_ald (xo_iald xk_hB dL_law_657)) <|
  xw_cons (xw_E xn_aload (xo_aload_n dL_law_658 rfl)) <|
  xw_cons (xw_E xn_iload (xo_iload dL_law_659)) <|
  xw_cons (xw_E xn_push (xo_iconst dL_law_661 (by decide))) <|
  xw_cons (xw_E xn_ii (xo_iadd dL_law_662)) <|
  xw_cons (xw_E xn_ald (xo_iald xk_hB dL_law_663)) <|
  xw_cons (xl_v_26_67 hG dL_law_664) <|
  xw_cons (xw_E xn_icmp (xo_icmp_eq dL_law_667 (by decide))) <|
  xw_cons (xw_E xn_push (xo_iconst dL_law_670 (by decide))) <|
  xw_cons (xw_R (xt_z dL_law_671)) <|
  xw_cons (xw_E xn_aload (xo_aload_n dL_law_672 rfl)) <|
  xw_cons (xw_E xn_aload (xo_aload_n dL_law_673 rfl)) <|
  xw_cons (xw_E xn_iload (xo_iload dL_law_674)) <|
  xw_cons (xw_E xn_push (xo_iconst dL_law_676 (by decide))) <|
  xw_cons (xw_E xn_ii (xo_iadd dL_law_677)) <|
  xw_cons (xw_E xn_ald (xo_iald xk_hB dL_law_678)) <|
  xw_cons (xl_v_26_68 hG dL_law_679) <|
  xw_cons (xw_E xn_aload (xo_aload_n dL_law_682 rfl)) <|
  xw_cons (xw_E xn_aload (xo_aload_n dL_law_683 rfl)) <|
  xw_cons (xw_E xn_iload (xo_iload dL_law_684)) <|
  xw_cons (xw_E xn_push (xo_iconst dL_law_686 (by decide))) <|
  xw_cons (xw_E xn_ii (xo_iadd dL_law_687)) <|
  xw_cons (xw_E xn_ald (xo_iald xk_hB dL_law_688)) <|
  xw_cons (xl_v_26_71 hG dL_law_689) <|
  xw_cons (xw_E xn_icmp (xo_icmp_eq dL_law_692 (by decide))) <|
  xw_cons (xw_E xn_push (xo_iconst dL_law_695 (by decide))) <|
  xw_cons (xw_R (xt_z dL_law_696)) <|
  xw_cons (xw_E xn_aload (xo_aload_n dL_law_697 rfl)) <|
  xw_cons (xw_E xn_aload (xo_aload_n dL_law_698 rfl)) <|
  xw_cons (xw_E xn_iload (xo_iload dL_law_699)) <|
  xw_cons (xw_E xn_push (xo_iconst dL_law_701 (by decide))) <|
  xw_cons (xw_E xn_ii (xo_iadd dL_law_702)) <|
  xw_cons (xw_E xn_ald (xo_iald xk_hB dL_law_703)) <|
  xw_cons (xl_v_26_72 hG dL_law_704) <|
  xw_cons (xw_E xn_aload (xo_aload_n dL_law_707 rfl)) <|
  xw_cons (xw_E xn_aload (xo_aload_n dL_law_708 rfl)) <|
  xw_cons (xw_E xn_iload (xo_iload dL_law_709)) <|
  xw_cons (xw_E xn_push (xo_iconst dL_law_711 (by decide))) <|
  xw_cons (xw_E xn_ii (xo_iadd dL_law_712)) <|
  xw_cons (xw_E xn_ald (xo_iald xk_hB dL_law_713)) <|
  xw_cons (xl_v_26_75 hG dL_law_714) <|
  xw_cons (xw_E xn_icmp (xo_icmp_eq dL_law_717 (by decide))) <|
  xw_cons (xw_E xn_push (xo_iconst dL_law_720 (by decide))) <|
  xw_nil _
def xp_314_8 : List (Nat × xm_O) := [
  (721, .inr (.inl xr_z)),
  (722, .inl (xe_aload 1 723)),
  (723, .inl (xe_aload 0 724)),
  (724, .inl (xe_iload 4 726)),
  (726, .inl (xe_push (.int 1) 727)),
  (727, .inl (xe_ii (fun x y => x + y) 728)),
  (728, .inl (xe_ald (fun t => t == 0) 729)),
  (729, .inr (.inr (.inl (xc_V (xj_1 0 38) [0])))),
  (732, .inl (xe_aload 2 733)),
  (733, .inl (xe_aload 0 734)),
  (734, .inl (xe_iload 4 736)),
  (736, .inl (xe_push (.int 1) 737)),
  (737, .inl (xe_ii (fun x y => x + y) 738)),
  (738, .inl (xe_ald (fun t => t == 0) 739)),
  (739, .inr (.inr (.inl (xc_V (xj_1 8 198) [0])))),
  (742, .inl (xe_icmp (fun x y => decide (x = y)) 1818 745)),
  (745, .inl (xe_push (.int 0) 746)),
  (746, .inr (.inl xr_z)),
  (747, .inl (xe_aload 1 748)),
  (748, .inl (xe_aload 0 749)),
  (749, .inl (xe_iload 4 751)),
  (751, .inl (xe_push (.int 1) 752)),
  (752, .inl (xe_ii (fun x y => x + y) 753)),
  (753, .inl (xe_ald (fun t => t == 0) 754)),
  (754, .inl (xe_aload 0 755)),
  (755, .inl (xe_iload 4 757)),
  (757, .inl (xe_push (.int 2) 758)),
  (758, .inl (xe_ii (fun x y => x + y) 759)),
  (759, .inl (xe_ald (fun t => t == 0) 760)),
  (760, .inr (.inr (.inl (xc_V (xj_1 0 39) [0, 0])))),
  (763, .inl (xe_aload 2 764)),
  (764, .inl (xe_aload 0 765)),
  (765, .inl (xe_iload 4 767)),
  (767, .inl (xe_push (.int 1) 768)),
  (768, .inl (xe_ii (fun x y => x + y) 769)),
  (769, .inl (xe_ald (fun t => t == 0) 770)),
  (770, .inl (xe_aload 0 771)),
  (771, .inl (xe_iload 4 773)),
  (773, .inl (xe_push (.int 2) 774)),
  (774, .inl (xe_ii (fun x y => x + y) 775)),
  (775, .inl (xe_ald (fun t => t == 0) 776)),
  (776, .inr (.inr (.inl (xc_V (xj_1 8 199) [0, 0])))),
  (779, .inl (xe_lcmp 780)),
  (780, .inl (xe_if (fun x => decide (x = 0)) 1818 783)),
  (783, .inl (xe_push (.int 0) 784)),
  (784, .inr (.inl xr_z)),
  (785, .inl (xe_aload 1 786)),
  (786, .inl (xe_aload 0 787)),
  (787, .inl (xe_iload 4 789)),
  (789, .inl (xe_push (.int 1) 790))]
theorem xq_314_8 {G : xm_G} (hG : xm_W xk_B G) (hO : xm_Og G) : ∀ q ∈ xp_314_8, xm_op xk_B G xd xk_N "LiarsCockLaw" "law" code 8 (some (FieldType.boolean)) q.1 q.2 :=
  xw_cons (xw_R (xt_z dL_law_721)) <|
  xw_cons (xw_E xn_aload (xo_aload_n dL_law_722 rfl)) <|
  xw_cons (xw_E xn_aload (xo_aload_n dL_law_723 rfl)) <|
  xw_cons (xw_E xn_iload (xo_iload dL_law_724)) <|
  xw_cons (xw_E xn_push (xo_iconst dL_law_726 (by decide))) <|
  xw_cons (xw_E xn_ii (xo_iadd dL_law_727)) <|
  xw_cons (xw_E xn_ald (xo_iald xk_hB dL_law_728)) <|
  xw_cons (xl_v_26_76 hG dL_law_729) <|
  xw_cons (xw_E xn_aload (xo_aload_n dL_law_732 rfl)) <|
  xw_cons (xw_E xn_aload (xo_aload_n dL_law_733 rfl)) <|
  xw_cons (xw_E xn_iload (xo_iload dL_law_734)) <|
  xw_cons (xw_E xn_push (xo_iconst dL_law_736 (by decide))) <|
  xw_cons (xw_E xn_ii (xo_iadd dL_law_737)) <|
  xw_cons (xw_E xn_ald (xo_iald xk_hB dL_law_738)) <|
  xw_cons (xl_v_26_79 hG dL_law_739) <|
  xw_cons (xw_E xn_icmp (xo_icmp_eq dL_law_742 (by decide))) <|
  xw_cons (xw_E xn_push (xo_iconst dL_law_745 (by decide))) <|
  xw_cons (xw_R (xt_z dL_law_746)) <|
  xw_cons (xw_E xn_aload (xo_aload_n dL_law_747 rfl)) <|
  xw_cons (xw_E xn_aload (xo_aload_n dL_law_748 rfl)) <|
  xw_cons (xw_E xn_iload (xo_iload dL_law_749)) <|
  xw_cons (xw_E xn_push (xo_iconst dL_law_751 (by decide))) <|
  xw_cons (xw_E xn_ii (xo_iadd dL_law_752)) <|
  xw_cons (xw_E xn_ald (xo_iald xk_hB dL_law_753)) <|
  xw_cons (xw_E xn_aload (xo_aload_n dL_law_754 rfl)) <|
  xw_cons (xw_E xn_iload (xo_iload dL_law_755)) <|
  xw_cons (xw_E xn_push (xo_iconst dL_law_757 (by decide))) <|
  xw_cons (xw_E xn_ii (xo_iadd dL_law_758)) <|
  xw_cons (xw_E xn_ald (xo_iald xk_hB dL_law_759)) <|
  xw_cons (xl_v_26_80 hG dL_law_760) <|
  xw_cons (xw_E xn_aload (xo_aload_n dL_law_763 rfl)) <|
  xw_cons (xw_E xn_aload (xo_aload_n dL_law_764 rfl)) <|
  xw_cons (xw_E xn_iload (xo_iload dL_law_765)) <|
  xw_cons (xw_E xn_push (xo_iconst dL_law_767 (by decide))) <|
  xw_cons (xw_E xn_ii (xo_iadd dL_law_768)) <|
  xw_cons (xw_E xn_ald (xo_iald xk_hB dL_law_769)) <|
  xw_cons (xw_E xn_aload (xo_aload_n dL_law_770 rfl)) <|
  xw_cons (xw_E xn_iload (xo_iload dL_law_771)) <|
  xw_cons (xw_E xn_push (xo_iconst dL_law_773 (by decide))) <|
  xw_cons (xw_E xn_ii (xo_iadd dL_law_774)) <|
  xw_cons (xw_E xn_ald (xo_iald xk_hB dL_law_775)) <|
  xw_cons (xl_v_26_84 hG dL_law_776) <|
  xw_cons (xw_E xn_lcmp (xo_lcmp dL_law_779)) <|
  xw_cons (xw_E xn_if (xo_if_eq dL_law_780 (by decide))) <|
  xw_cons (xw_E xn_push (xo_iconst dL_law_783 (by decide))) <|
  xw_cons (xw_R (xt_z dL_law_784)) <|
  xw_cons (xw_E xn_aload (xo_aload_n dL_law_785 rfl)) <|
  xw_cons (xw_E xn_aload (xo_aload_n dL_law_786 rfl)) <|
  xw_cons (xw_E xn_iload (xo_iload dL_law_787)) <|
  xw_cons (xw_E xn_push (xo_iconst dL_law_789 (by decide))) <|
  xw_nil _
def xp_314_9 : List (Nat × xm_O) := [
  (790, .inl (xe_ii (fun x y => x + y) 791)),
  (791, .inl (xe_ald (fun t => t == 0) 792)),
  (792, .inl (xe_aload 0 793)),
  (793, .inl (xe_iload 4 795)),
  (795, .inl (xe_push (.int 2) 796)),
  (796, .inl (xe_ii (fun x y => x + y) 797)),
  (797, .inl (xe_ald (fun t => t == 0) 798)),
  (798, .inr (.inr (.inl (xc_V (xj_1 0 44) [0, 0])))),
  (801, .inl (xe_aload 2 802)),
  (802, .inl (xe_aload 0 803)),
  (803, .inl (xe_iload 4 805)),
  (805, .inl (xe_push (.int 1) 806)),
  (806, .inl (xe_ii (fun x y => x + y) 807)),
  (807, .inl (xe_ald (fun t => t == 0) 808)),
  (808, .inl (xe_aload 0 809)),
  (809, .inl (xe_iload 4 811)),
  (811, .inl (xe_push (.int 2) 812)),
  (812, .inl (xe_ii (fun x y => x + y) 813)),
  (813, .inl (xe_ald (fun t => t == 0) 814)),
  (814, .inr (.inr (.inl (xc_V (xj_1 8 203) [0, 0])))),
  (817, .inl (xe_icmp (fun x y => decide (x = y)) 1818 820)),
  (820, .inl (xe_push (.int 0) 821)),
  (821, .inr (.inl xr_z)),
  (822, .inl (xe_aload 1 823)),
  (823, .inl (xe_aload 0 824)),
  (824, .inl (xe_iload 4 826)),
  (826, .inl (xe_push (.int 1) 827)),
  (827, .inl (xe_ii (fun x y => x + y) 828)),
  (828, .inl (xe_ald (fun t => t == 0) 829)),
  (829, .inr (.inr (.inl (xc_V (xj_1 0 46) [0])))),
  (832, .inl (xe_aload 2 833)),
  (833, .inl (xe_aload 0 834)),
  (834, .inl (xe_iload 4 836)),
  (836, .inl (xe_push (.int 1) 837)),
  (837, .inl (xe_ii (fun x y => x + y) 838)),
  (838, .inl (xe_ald (fun t => t == 0) 839)),
  (839, .inr (.inr (.inl (xc_V (xj_1 8 205) [0])))),
  (842, .inl (xe_icmp (fun x y => decide (x = y)) 1818 845)),
  (845, .inl (xe_push (.int 0) 846)),
  (846, .inr (.inl xr_z)),
  (847, .inl (xe_aload 1 848)),
  (848, .inl (xe_aload 0 849)),
  (849, .inl (xe_iload 4 851)),
  (851, .inl (xe_push (.int 1) 852)),
  (852, .inl (xe_ii (fun x y => x + y) 853)),
  (853, .inl (xe_ald (fun t => t == 0) 854)),
  (854, .inl (xe_aload 0 855)),
  (855, .inl (xe_iload 4 857)),
  (857, .inl (xe_push (.int 2) 858)),
  (858, .inl (xe_ii (fun x y => x + y) 859))]
theorem xq_314_9 {G : xm_G} (hG : xm_W xk_B G) (hO : xm_Og G) : ∀ q ∈ xp_314_9, xm_op xk_B G xd xk_N "LiarsCockLaw" "law" code 8 (some (FieldType.boolean)) q.1 q.2 :=
  xw_cons (xw_E xn_ii (xo_iadd dL_law_790)) <|
  xw_cons (xw_E xn_ald (xo_iald xk_hB dL_law_791)) <|
  xw_cons (xw_E xn_aload (xo_aload_n dL_law_792 rfl)) <|
  xw_cons (xw_E xn_iload (xo_iload dL_law_793)) <|
  xw_cons (xw_E xn_push (xo_iconst dL_law_795 (by decide))) <|
  xw_cons (xw_E xn_ii (xo_iadd dL_law_796)) <|
  xw_cons (xw_E xn_ald (xo_iald xk_hB dL_law_797)) <|
  xw_cons (xl_v_26_85 hG dL_law_798) <|
  xw_cons (xw_E xn_aload (xo_aload_n dL_law_801 rfl)) <|
  xw_cons (xw_E xn_aload (xo_aload_n dL_law_802 rfl)) <|
  xw_cons (xw_E xn_iload (xo_iload dL_law_803)) <|
  xw_cons (xw_E xn_push (xo_iconst dL_law_805 (by decide))) <|
  xw_cons (xw_E xn_ii (xo_iadd dL_law_806)) <|
  xw_cons (xw_E xn_ald (xo_iald xk_hB dL_law_807)) <|
  xw_cons (xw_E xn_aload (xo_aload_n dL_law_808 rfl)) <|
  xw_cons (xw_E xn_iload (xo_iload dL_law_809)) <|
  xw_cons (xw_E xn_push (xo_iconst dL_law_811 (by decide))) <|
  xw_cons (xw_E xn_ii (xo_iadd dL_law_812)) <|
  xw_cons (xw_E xn_ald (xo_iald xk_hB dL_law_813)) <|
  xw_cons (xl_v_26_88 hG dL_law_814) <|
  xw_cons (xw_E xn_icmp (xo_icmp_eq dL_law_817 (by decide))) <|
  xw_cons (xw_E xn_push (xo_iconst dL_law_820 (by decide))) <|
  xw_cons (xw_R (xt_z dL_law_821)) <|
  xw_cons (xw_E xn_aload (xo_aload_n dL_law_822 rfl)) <|
  xw_cons (xw_E xn_aload (xo_aload_n dL_law_823 rfl)) <|
  xw_cons (xw_E xn_iload (xo_iload dL_law_824)) <|
  xw_cons (xw_E xn_push (xo_iconst dL_law_826 (by decide))) <|
  xw_cons (xw_E xn_ii (xo_iadd dL_law_827)) <|
  xw_cons (xw_E xn_ald (xo_iald xk_hB dL_law_828)) <|
  xw_cons (xl_v_26_89 hG dL_law_829) <|
  xw_cons (xw_E xn_aload (xo_aload_n dL_law_832 rfl)) <|
  xw_cons (xw_E xn_aload (xo_aload_n dL_law_833 rfl)) <|
  xw_cons (xw_E xn_iload (xo_iload dL_law_834)) <|
  xw_cons (xw_E xn_push (xo_iconst dL_law_836 (by decide))) <|
  xw_cons (xw_E xn_ii (xo_iadd dL_law_837)) <|
  xw_cons (xw_E xn_ald (xo_iald xk_hB dL_law_838)) <|
  xw_cons (xl_v_26_92 hG dL_law_839) <|
  xw_cons (xw_E xn_icmp (xo_icmp_eq dL_law_842 (by decide))) <|
  xw_cons (xw_E xn_push (xo_iconst dL_law_845 (by decide))) <|
  xw_cons (xw_R (xt_z dL_law_846)) <|
  xw_cons (xw_E xn_aload (xo_aload_n dL_law_847 rfl)) <|
  xw_cons (xw_E xn_aload (xo_aload_n dL_law_848 rfl)) <|
  xw_cons (xw_E xn_iload (xo_iload dL_law_849)) <|
  xw_cons (xw_E xn_push (xo_iconst dL_law_851 (by decide))) <|
  xw_cons (xw_E xn_ii (xo_iadd dL_law_852)) <|
  xw_cons (xw_E xn_ald (xo_iald xk_hB dL_law_853)) <|
  xw_cons (xw_E xn_aload (xo_aload_n dL_law_854 rfl)) <|
  xw_cons (xw_E xn_iload (xo_iload dL_law_855)) <|
  xw_cons (xw_E xn_push (xo_iconst dL_law_857 (by decide))) <|
  xw_cons (xw_E xn_ii (xo_iadd dL_law_858)) <|
  xw_nil _
def xp_314_10 : List (Nat × xm_O) := [
  (859, .inl (xe_ald (fun t => t == 0) 860)),
  (860, .inl (xe_aload 0 861)),
  (861, .inl (xe_iload 4 863)),
  (863, .inl (xe_push (.int 3) 864)),
  (864, .inl (xe_ii (fun x y => x + y) 865)),
  (865, .inl (xe_ald (fun t => t == 0) 866)),
  (866, .inl (xe_aload 0 867)),
  (867, .inl (xe_iload 4 869)),
  (869, .inl (xe_push (.int 4) 870)),
  (870, .inl (xe_ii (fun x y => x + y) 871)),
  (871, .inl (xe_ald (fun t => t == 0) 872)),
  (872, .inr (.inr (.inl (xc_V (xj_1 0 47) [0, 0, 0, 0])))),
  (875, .inl (xe_aload 2 876)),
  (876, .inl (xe_aload 0 877)),
  (877, .inl (xe_iload 4 879)),
  (879, .inl (xe_push (.int 1) 880)),
  (880, .inl (xe_ii (fun x y => x + y) 881)),
  (881, .inl (xe_ald (fun t => t == 0) 882)),
  (882, .inl (xe_aload 0 883)),
  (883, .inl (xe_iload 4 885)),
  (885, .inl (xe_push (.int 2) 886)),
  (886, .inl (xe_ii (fun x y => x + y) 887)),
  (887, .inl (xe_ald (fun t => t == 0) 888)),
  (888, .inl (xe_aload 0 889)),
  (889, .inl (xe_iload 4 891)),
  (891, .inl (xe_push (.int 3) 892)),
  (892, .inl (xe_ii (fun x y => x + y) 893)),
  (893, .inl (xe_ald (fun t => t == 0) 894)),
  (894, .inl (xe_aload 0 895)),
  (895, .inl (xe_iload 4 897)),
  (897, .inl (xe_push (.int 4) 898)),
  (898, .inl (xe_ii (fun x y => x + y) 899)),
  (899, .inl (xe_ald (fun t => t == 0) 900)),
  (900, .inr (.inr (.inl (xc_V (xj_1 8 206) [0, 0, 0, 0])))),
  (903, .inl (xe_icmp (fun x y => decide (x = y)) 1818 906)),
  (906, .inl (xe_push (.int 0) 907)),
  (907, .inr (.inl xr_z)),
  (908, .inl (xe_aload 1 909)),
  (909, .inl (xe_aload 0 910)),
  (910, .inl (xe_iload 4 912)),
  (912, .inl (xe_push (.int 1) 913)),
  (913, .inl (xe_ii (fun x y => x + y) 914)),
  (914, .inl (xe_ald (fun t => t == 0) 915)),
  (915, .inl (xe_aload 0 916)),
  (916, .inl (xe_iload 4 918)),
  (918, .inl (xe_push (.int 2) 919)),
  (919, .inl (xe_ii (fun x y => x + y) 920)),
  (920, .inl (xe_ald (fun t => t == 0) 921)),
  (921, .inl (xe_aload 0 922)),
  (922, .inl (xe_iload 4 924))]
theorem xq_314_10 {G : xm_G} (hG : xm_W xk_B G) (hO : xm_Og G) : ∀ q ∈ xp_314_10, xm_op xk_B G xd xk_N "LiarsCockLaw" "law" code 8 (some (FieldType.boolean)) q.1 q.2 :=
  xw_cons (xw_E xn_ald (xo_iald xk_hB dL_law_859)) <|
  xw_cons (xw_E xn_aload (xo_aload_n dL_law_860 rfl)) <|
  xw_cons (xw_E xn_iload (xo_iload dL_law_861)) <|
  xw_cons (xw_E xn_push (xo_iconst dL_law_863 (by decide))) <|
  xw_cons (xw_E xn_ii (xo_iadd dL_law_864)) <|
  xw_cons (xw_E xn_ald (xo_iald xk_hB dL_law_865)) <|
  xw_cons (xw_E xn_aload (xo_aload_n dL_law_866 rfl)) <|
  xw_cons (xw_E xn_iload (xo_iload dL_law_867)) <|
  xw_cons (xw_E xn_push (xo_iconst dL_law_869 (by decide))) <|
  xw_cons (xw_E xn_ii (xo_iadd dL_law_870)) <|
  xw_cons (xw_E xn_ald (xo_iald xk_hB dL_law_871)) <|
  xw_cons (xl_v_26_93 hG dL_law_872) <|
  xw_cons (xw_E xn_aload (xo_aload_n dL_law_875 rfl)) <|
  xw_cons (xw_E xn_aload (xo_aload_n dL_law_876 rfl)) <|
  xw_cons (xw_E xn_iload (xo_iload dL_law_877)) <|
  xw_cons (xw_E xn_push (xo_iconst dL_law_879 (by decide))) <|
  xw_cons (xw_E xn_ii (xo_iadd dL_law_880)) <|
  xw_cons (xw_E xn_ald (xo_iald xk_hB dL_law_881)) <|
  xw_cons (xw_E xn_aload (xo_aload_n dL_law_882 rfl)) <|
  xw_cons (xw_E xn_iload (xo_iload dL_law_883)) <|
  xw_cons (xw_E xn_push (xo_iconst dL_law_885 (by decide))) <|
  xw_cons (xw_E xn_ii (xo_iadd dL_law_886)) <|
  xw_cons (xw_E xn_ald (xo_iald xk_hB dL_law_887)) <|
  xw_cons (xw_E xn_aload (xo_aload_n dL_law_888 rfl)) <|
  xw_cons (xw_E xn_iload (xo_iload dL_law_889)) <|
  xw_cons (xw_E xn_push (xo_iconst dL_law_891 (by decide))) <|
  xw_cons (xw_E xn_ii (xo_iadd dL_law_892)) <|
  xw_cons (xw_E xn_ald (xo_iald xk_hB dL_law_893)) <|
  xw_cons (xw_E xn_aload (xo_aload_n dL_law_894 rfl)) <|
  xw_cons (xw_E xn_iload (xo_iload dL_law_895)) <|
  xw_cons (xw_E xn_push (xo_iconst dL_law_897 (by decide))) <|
  xw_cons (xw_E xn_ii (xo_iadd dL_law_898)) <|
  xw_cons (xw_E xn_ald (xo_iald xk_hB dL_law_899)) <|
  xw_cons (xl_v_26_96 hG dL_law_900) <|
  xw_cons (xw_E xn_icmp (xo_icmp_eq dL_law_903 (by decide))) <|
  xw_cons (xw_E xn_push (xo_iconst dL_law_906 (by decide))) <|
  xw_cons (xw_R (xt_z dL_law_907)) <|
  xw_cons (xw_E xn_aload (xo_aload_n dL_law_908 rfl)) <|
  xw_cons (xw_E xn_aload (xo_aload_n dL_law_909 rfl)) <|
  xw_cons (xw_E xn_iload (xo_iload dL_law_910)) <|
  xw_cons (xw_E xn_push (xo_iconst dL_law_912 (by decide))) <|
  xw_cons (xw_E xn_ii (xo_iadd dL_law_913)) <|
  xw_cons (xw_E xn_ald (xo_iald xk_hB dL_law_914)) <|
  xw_cons (xw_E xn_aload (xo_aload_n dL_law_915 rfl)) <|
  xw_cons (xw_E xn_iload (xo_iload dL_law_916)) <|
  xw_cons (xw_E xn_push (xo_iconst dL_law_918 (by decide))) <|
  xw_cons (xw_E xn_ii (xo_iadd dL_law_919)) <|
  xw_cons (xw_E xn_ald (xo_iald xk_hB dL_law_920)) <|
  xw_cons (xw_E xn_aload (xo_aload_n dL_law_921 rfl)) <|
  xw_cons (xw_E xn_iload (xo_iload dL_law_922)) <|
  xw_nil _
def xp_314_11 : List (Nat × xm_O) := [
  (924, .inl (xe_push (.int 3) 925)),
  (925, .inl (xe_ii (fun x y => x + y) 926)),
  (926, .inl (xe_ald (fun t => t == 0) 927)),
  (927, .inl (xe_aload 0 928)),
  (928, .inl (xe_iload 4 930)),
  (930, .inl (xe_push (.int 4) 931)),
  (931, .inl (xe_ii (fun x y => x + y) 932)),
  (932, .inl (xe_ald (fun t => t == 0) 933)),
  (933, .inr (.inr (.inl (xc_V (xj_1 0 50) [0, 0, 0, 0])))),
  (936, .inl (xe_aload 2 937)),
  (937, .inl (xe_aload 0 938)),
  (938, .inl (xe_iload 4 940)),
  (940, .inl (xe_push (.int 1) 941)),
  (941, .inl (xe_ii (fun x y => x + y) 942)),
  (942, .inl (xe_ald (fun t => t == 0) 943)),
  (943, .inl (xe_aload 0 944)),
  (944, .inl (xe_iload 4 946)),
  (946, .inl (xe_push (.int 2) 947)),
  (947, .inl (xe_ii (fun x y => x + y) 948)),
  (948, .inl (xe_ald (fun t => t == 0) 949)),
  (949, .inl (xe_aload 0 950)),
  (950, .inl (xe_iload 4 952)),
  (952, .inl (xe_push (.int 3) 953)),
  (953, .inl (xe_ii (fun x y => x + y) 954)),
  (954, .inl (xe_ald (fun t => t == 0) 955)),
  (955, .inl (xe_aload 0 956)),
  (956, .inl (xe_iload 4 958)),
  (958, .inl (xe_push (.int 4) 959)),
  (959, .inl (xe_ii (fun x y => x + y) 960)),
  (960, .inl (xe_ald (fun t => t == 0) 961)),
  (961, .inr (.inr (.inl (xc_V (xj_1 8 210) [0, 0, 0, 0])))),
  (964, .inl (xe_icmp (fun x y => decide (x = y)) 1818 967)),
  (967, .inl (xe_push (.int 0) 968)),
  (968, .inr (.inl xr_z)),
  (969, .inl (xe_aload 1 970)),
  (970, .inl (xe_aload 0 971)),
  (971, .inl (xe_iload 4 973)),
  (973, .inl (xe_push (.int 1) 974)),
  (974, .inl (xe_ii (fun x y => x + y) 975)),
  (975, .inl (xe_ald (fun t => t == 0) 976)),
  (976, .inl (xe_aload 0 977)),
  (977, .inl (xe_iload 4 979)),
  (979, .inl (xe_push (.int 2) 980)),
  (980, .inl (xe_ii (fun x y => x + y) 981)),
  (981, .inl (xe_ald (fun t => t == 0) 982)),
  (982, .inl (xe_aload 0 983)),
  (983, .inl (xe_iload 4 985)),
  (985, .inl (xe_push (.int 3) 986)),
  (986, .inl (xe_ii (fun x y => x + y) 987)),
  (987, .inl (xe_ald (fun t => t == 0) 988))]
theorem xq_314_11 {G : xm_G} (hG : xm_W xk_B G) (hO : xm_Og G) : ∀ q ∈ xp_314_11, xm_op xk_B G xd xk_N "LiarsCockLaw" "law" code 8 (some (FieldType.boolean)) q.1 q.2 :=
  xw_cons (xw_E xn_push (xo_iconst dL_law_924 (by decide))) <|
  xw_cons (xw_E xn_ii (xo_iadd dL_law_925)) <|
  xw_cons (xw_E xn_ald (xo_iald xk_hB dL_law_926)) <|
  xw_cons (xw_E xn_aload (xo_aload_n dL_law_927 rfl)) <|
  xw_cons (xw_E xn_iload (xo_iload dL_law_928)) <|
  xw_cons (xw_E xn_push (xo_iconst dL_law_930 (by decide))) <|
  xw_cons (xw_E xn_ii (xo_iadd dL_law_931)) <|
  xw_cons (xw_E xn_ald (xo_iald xk_hB dL_law_932)) <|
  xw_cons (xl_v_26_97 hG dL_law_933) <|
  xw_cons (xw_E xn_aload (xo_aload_n dL_law_936 rfl)) <|
  xw_cons (xw_E xn_aload (xo_aload_n dL_law_937 rfl)) <|
  xw_cons (xw_E xn_iload (xo_iload dL_law_938)) <|
  xw_cons (xw_E xn_push (xo_iconst dL_law_940 (by decide))) <|
  xw_cons (xw_E xn_ii (xo_iadd dL_law_941)) <|
  xw_cons (xw_E xn_ald (xo_iald xk_hB dL_law_942)) <|
  xw_cons (xw_E xn_aload (xo_aload_n dL_law_943 rfl)) <|
  xw_cons (xw_E xn_iload (xo_iload dL_law_944)) <|
  xw_cons (xw_E xn_push (xo_iconst dL_law_946 (by decide))) <|
  xw_cons (xw_E xn_ii (xo_iadd dL_law_947)) <|
  xw_cons (xw_E xn_ald (xo_iald xk_hB dL_law_948)) <|
  xw_cons (xw_E xn_aload (xo_aload_n dL_law_949 rfl)) <|
  xw_cons (xw_E xn_iload (xo_iload dL_law_950)) <|
  xw_cons (xw_E xn_push (xo_iconst dL_law_952 (by decide))) <|
  xw_cons (xw_E xn_ii (xo_iadd dL_law_953)) <|
  xw_cons (xw_E xn_ald (xo_iald xk_hB dL_law_954)) <|
  xw_cons (xw_E xn_aload (xo_aload_n dL_law_955 rfl)) <|
  xw_cons (xw_E xn_iload (xo_iload dL_law_956)) <|
  xw_cons (xw_E xn_push (xo_iconst dL_law_958 (by decide))) <|
  xw_cons (xw_E xn_ii (xo_iadd dL_law_959)) <|
  xw_cons (xw_E xn_ald (xo_iald xk_hB dL_law_960)) <|
  xw_cons (xl_v_26_100 hG dL_law_961) <|
  xw_cons (xw_E xn_icmp (xo_icmp_eq dL_law_964 (by decide))) <|
  xw_cons (xw_E xn_push (xo_iconst dL_law_967 (by decide))) <|
  xw_cons (xw_R (xt_z dL_law_968)) <|
  xw_cons (xw_E xn_aload (xo_aload_n dL_law_969 rfl)) <|
  xw_cons (xw_E xn_aload (xo_aload_n dL_law_970 rfl)) <|
  xw_cons (xw_E xn_iload (xo_iload dL_law_971)) <|
  xw_cons (xw_E xn_push (xo_iconst dL_law_973 (by decide))) <|
  xw_cons (xw_E xn_ii (xo_iadd dL_law_974)) <|
  xw_cons (xw_E xn_ald (xo_iald xk_hB dL_law_975)) <|
  xw_cons (xw_E xn_aload (xo_aload_n dL_law_976 rfl)) <|
  xw_cons (xw_E xn_iload (xo_iload dL_law_977)) <|
  xw_cons (xw_E xn_push (xo_iconst dL_law_979 (by decide))) <|
  xw_cons (xw_E xn_ii (xo_iadd dL_law_980)) <|
  xw_cons (xw_E xn_ald (xo_iald xk_hB dL_law_981)) <|
  xw_cons (xw_E xn_aload (xo_aload_n dL_law_982 rfl)) <|
  xw_cons (xw_E xn_iload (xo_iload dL_law_983)) <|
  xw_cons (xw_E xn_push (xo_iconst dL_law_985 (by decide))) <|
  xw_cons (xw_E xn_ii (xo_iadd dL_law_986)) <|
  xw_cons (xw_E xn_ald (xo_iald xk_hB dL_law_987)) <|
  xw_nil _
def xp_314_12 : List (Nat × xm_O) := [
  (988, .inl (xe_if (fun x => decide (x = 0)) 995 991)),
  (991, .inl (xe_push (.int 1) 992)),
  (992, .inl (xe_goto 996)),
  (995, .inl (xe_push (.int 0) 996)),
  (996, .inl (xe_aload 0 997)),
  (997, .inl (xe_iload 4 999)),
  (999, .inl (xe_push (.int 4) 1000)),
  (1000, .inl (xe_ii (fun x y => x + y) 1001)),
  (1001, .inl (xe_ald (fun t => t == 0) 1002)),
  (1002, .inl (xe_aload 0 1003)),
  (1003, .inl (xe_iload 4 1005)),
  (1005, .inl (xe_push (.int 5) 1006)),
  (1006, .inl (xe_ii (fun x y => x + y) 1007)),
  (1007, .inl (xe_ald (fun t => t == 0) 1008)),
  (1008, .inr (.inr (.inl (xc_V (xj_1 0 51) [0, 0, 0, 0, 0])))),
  (1011, .inl (xe_aload 2 1012)),
  (1012, .inl (xe_aload 0 1013)),
  (1013, .inl (xe_iload 4 1015)),
  (1015, .inl (xe_push (.int 1) 1016)),
  (1016, .inl (xe_ii (fun x y => x + y) 1017)),
  (1017, .inl (xe_ald (fun t => t == 0) 1018)),
  (1018, .inl (xe_aload 0 1019)),
  (1019, .inl (xe_iload 4 1021)),
  (1021, .inl (xe_push (.int 2) 1022)),
  (1022, .inl (xe_ii (fun x y => x + y) 1023)),
  (1023, .inl (xe_ald (fun t => t == 0) 1024)),
  (1024, .inl (xe_aload 0 1025)),
  (1025, .inl (xe_iload 4 1027)),
  (1027, .inl (xe_push (.int 3) 1028)),
  (1028, .inl (xe_ii (fun x y => x + y) 1029)),
  (1029, .inl (xe_ald (fun t => t == 0) 1030)),
  (1030, .inl (xe_if (fun x => decide (x = 0)) 1037 1033)),
  (1033, .inl (xe_push (.int 1) 1034)),
  (1034, .inl (xe_goto 1038)),
  (1037, .inl (xe_push (.int 0) 1038)),
  (1038, .inl (xe_aload 0 1039)),
  (1039, .inl (xe_iload 4 1041)),
  (1041, .inl (xe_push (.int 4) 1042)),
  (1042, .inl (xe_ii (fun x y => x + y) 1043)),
  (1043, .inl (xe_ald (fun t => t == 0) 1044)),
  (1044, .inl (xe_aload 0 1045)),
  (1045, .inl (xe_iload 4 1047)),
  (1047, .inl (xe_push (.int 5) 1048)),
  (1048, .inl (xe_ii (fun x y => x + y) 1049)),
  (1049, .inl (xe_ald (fun t => t == 0) 1050)),
  (1050, .inr (.inr (.inl (xc_V (xj_1 8 211) [0, 0, 0, 0, 0])))),
  (1053, .inl (xe_icmp (fun x y => decide (x = y)) 1818 1056)),
  (1056, .inl (xe_push (.int 0) 1057)),
  (1057, .inr (.inl xr_z)),
  (1058, .inl (xe_aload 1 1059))]
theorem xq_314_12 {G : xm_G} (hG : xm_W xk_B G) (hO : xm_Og G) : ∀ q ∈ xp_314_12, xm_op xk_B G xd xk_N "LiarsCockLaw" "law" code 8 (some (FieldType.boolean)) q.1 q.2 :=
  xw_cons (xw_E xn_if (xo_if_eq dL_law_988 (by decide))) <|
  xw_cons (xw_E xn_push (xo_iconst dL_law_991 (by decide))) <|
  xw_cons (xw_E xn_goto (xo_goto dL_law_992 (by decide))) <|
  xw_cons (xw_E xn_push (xo_iconst dL_law_995 (by decide))) <|
  xw_cons (xw_E xn_aload (xo_aload_n dL_law_996 rfl)) <|
  xw_cons (xw_E xn_iload (xo_iload dL_law_997)) <|
  xw_cons (xw_E xn_push (xo_iconst dL_law_999 (by decide))) <|
  xw_cons (xw_E xn_ii (xo_iadd dL_law_1000)) <|
  xw_cons (xw_E xn_ald (xo_iald xk_hB dL_law_1001)) <|
  xw_cons (xw_E xn_aload (xo_aload_n dL_law_1002 rfl)) <|
  xw_cons (xw_E xn_iload (xo_iload dL_law_1003)) <|
  xw_cons (xw_E xn_push (xo_iconst dL_law_1005 (by decide))) <|
  xw_cons (xw_E xn_ii (xo_iadd dL_law_1006)) <|
  xw_cons (xw_E xn_ald (xo_iald xk_hB dL_law_1007)) <|
  xw_cons (xl_v_26_101 hG dL_law_1008) <|
  xw_cons (xw_E xn_aload (xo_aload_n dL_law_1011 rfl)) <|
  xw_cons (xw_E xn_aload (xo_aload_n dL_law_1012 rfl)) <|
  xw_cons (xw_E xn_iload (xo_iload dL_law_1013)) <|
  xw_cons (xw_E xn_push (xo_iconst dL_law_1015 (by decide))) <|
  xw_cons (xw_E xn_ii (xo_iadd dL_law_1016)) <|
  xw_cons (xw_E xn_ald (xo_iald xk_hB dL_law_1017)) <|
  xw_cons (xw_E xn_aload (xo_aload_n dL_law_1018 rfl)) <|
  xw_cons (xw_E xn_iload (xo_iload dL_law_1019)) <|
  xw_cons (xw_E xn_push (xo_iconst dL_law_1021 (by decide))) <|
  xw_cons (xw_E xn_ii (xo_iadd dL_law_1022)) <|
  xw_cons (xw_E xn_ald (xo_iald xk_hB dL_law_1023)) <|
  xw_cons (xw_E xn_aload (xo_aload_n dL_law_1024 rfl)) <|
  xw_cons (xw_E xn_iload (xo_iload dL_law_1025)) <|
  xw_cons (xw_E xn_push (xo_iconst dL_law_1027 (by decide))) <|
  xw_cons (xw_E xn_ii (xo_iadd dL_law_1028)) <|
  xw_cons (xw_E xn_ald (xo_iald xk_hB dL_law_1029)) <|
  xw_cons (xw_E xn_if (xo_if_eq dL_law_1030 (by decide))) <|
  xw_cons (xw_E xn_push (xo_iconst dL_law_1033 (by decide))) <|
  xw_cons (xw_E xn_goto (xo_goto dL_law_1034 (by decide))) <|
  xw_cons (xw_E xn_push (xo_iconst dL_law_1037 (by decide))) <|
  xw_cons (xw_E xn_aload (xo_aload_n dL_law_1038 rfl)) <|
  xw_cons (xw_E xn_iload (xo_iload dL_law_1039)) <|
  xw_cons (xw_E xn_push (xo_iconst dL_law_1041 (by decide))) <|
  xw_cons (xw_E xn_ii (xo_iadd dL_law_1042)) <|
  xw_cons (xw_E xn_ald (xo_iald xk_hB dL_law_1043)) <|
  xw_cons (xw_E xn_aload (xo_aload_n dL_law_1044 rfl)) <|
  xw_cons (xw_E xn_iload (xo_iload dL_law_1045)) <|
  xw_cons (xw_E xn_push (xo_iconst dL_law_1047 (by decide))) <|
  xw_cons (xw_E xn_ii (xo_iadd dL_law_1048)) <|
  xw_cons (xw_E xn_ald (xo_iald xk_hB dL_law_1049)) <|
  xw_cons (xl_v_26_105 hG dL_law_1050) <|
  xw_cons (xw_E xn_icmp (xo_icmp_eq dL_law_1053 (by decide))) <|
  xw_cons (xw_E xn_push (xo_iconst dL_law_1056 (by decide))) <|
  xw_cons (xw_R (xt_z dL_law_1057)) <|
  xw_cons (xw_E xn_aload (xo_aload_n dL_law_1058 rfl)) <|
  xw_nil _
def xp_314_13 : List (Nat × xm_O) := [
  (1059, .inr (.inr (.inl (xc_V (xj_1 0 53) [])))),
  (1062, .inl (xe_aload 2 1063)),
  (1063, .inr (.inr (.inl (xc_V (xj_1 8 212) [])))),
  (1066, .inl (xe_icmp (fun x y => decide (x = y)) 1818 1069)),
  (1069, .inl (xe_push (.int 0) 1070)),
  (1070, .inr (.inl xr_z)),
  (1071, .inl (xe_aload 1 1072)),
  (1072, .inl (xe_aload 0 1073)),
  (1073, .inl (xe_iload 4 1075)),
  (1075, .inl (xe_push (.int 1) 1076)),
  (1076, .inl (xe_ii (fun x y => x + y) 1077)),
  (1077, .inl (xe_ald (fun t => t == 0) 1078)),
  (1078, .inl (xe_aload 0 1079)),
  (1079, .inl (xe_iload 4 1081)),
  (1081, .inl (xe_push (.int 2) 1082)),
  (1082, .inl (xe_ii (fun x y => x + y) 1083)),
  (1083, .inl (xe_ald (fun t => t == 0) 1084)),
  (1084, .inr (.inr (.inl (xc_V (xj_1 0 54) [0, 0])))),
  (1087, .inl (xe_aload 2 1088)),
  (1088, .inl (xe_aload 0 1089)),
  (1089, .inl (xe_iload 4 1091)),
  (1091, .inl (xe_push (.int 1) 1092)),
  (1092, .inl (xe_ii (fun x y => x + y) 1093)),
  (1093, .inl (xe_ald (fun t => t == 0) 1094)),
  (1094, .inl (xe_aload 0 1095)),
  (1095, .inl (xe_iload 4 1097)),
  (1097, .inl (xe_push (.int 2) 1098)),
  (1098, .inl (xe_ii (fun x y => x + y) 1099)),
  (1099, .inl (xe_ald (fun t => t == 0) 1100)),
  (1100, .inr (.inr (.inl (xc_V (xj_1 8 213) [0, 0])))),
  (1103, .inl (xe_icmp (fun x y => decide (x = y)) 1818 1106)),
  (1106, .inl (xe_push (.int 0) 1107)),
  (1107, .inr (.inl xr_z)),
  (1108, .inl (xe_aload 1 1109)),
  (1109, .inl (xe_aload 0 1110)),
  (1110, .inl (xe_iload 4 1112)),
  (1112, .inl (xe_push (.int 1) 1113)),
  (1113, .inl (xe_ii (fun x y => x + y) 1114)),
  (1114, .inl (xe_ald (fun t => t == 0) 1115)),
  (1115, .inl (xe_aload 0 1116)),
  (1116, .inl (xe_iload 4 1118)),
  (1118, .inl (xe_push (.int 2) 1119)),
  (1119, .inl (xe_ii (fun x y => x + y) 1120)),
  (1120, .inl (xe_ald (fun t => t == 0) 1121)),
  (1121, .inl (xe_aload 0 1122)),
  (1122, .inl (xe_iload 4 1124)),
  (1124, .inl (xe_push (.int 3) 1125)),
  (1125, .inl (xe_ii (fun x y => x + y) 1126)),
  (1126, .inl (xe_ald (fun t => t == 0) 1127)),
  (1127, .inl (xe_aload 0 1128))]
theorem xq_314_13 {G : xm_G} (hG : xm_W xk_B G) (hO : xm_Og G) : ∀ q ∈ xp_314_13, xm_op xk_B G xd xk_N "LiarsCockLaw" "law" code 8 (some (FieldType.boolean)) q.1 q.2 :=
  xw_cons (xl_v_26_106 hG dL_law_1059) <|
  xw_cons (xw_E xn_aload (xo_aload_n dL_law_1062 rfl)) <|
  xw_cons (xl_v_26_109 hG dL_law_1063) <|
  xw_cons (xw_E xn_icmp (xo_icmp_eq dL_law_1066 (by decide))) <|
  xw_cons (xw_E xn_push (xo_iconst dL_law_1069 (by decide))) <|
  xw_cons (xw_R (xt_z dL_law_1070)) <|
  xw_cons (xw_E xn_aload (xo_aload_n dL_law_1071 rfl)) <|
  xw_cons (xw_E xn_aload (xo_aload_n dL_law_1072 rfl)) <|
  xw_cons (xw_E xn_iload (xo_iload dL_law_1073)) <|
  xw_cons (xw_E xn_push (xo_iconst dL_law_1075 (by decide))) <|
  xw_cons (xw_E xn_ii (xo_iadd dL_law_1076)) <|
  xw_cons (xw_E xn_ald (xo_iald xk_hB dL_law_1077)) <|
  xw_cons (xw_E xn_aload (xo_aload_n dL_law_1078 rfl)) <|
  xw_cons (xw_E xn_iload (xo_iload dL_law_1079)) <|
  xw_cons (xw_E xn_push (xo_iconst dL_law_1081 (by decide))) <|
  xw_cons (xw_E xn_ii (xo_iadd dL_law_1082)) <|
  xw_cons (xw_E xn_ald (xo_iald xk_hB dL_law_1083)) <|
  xw_cons (xl_v_26_110 hG dL_law_1084) <|
  xw_cons (xw_E xn_aload (xo_aload_n dL_law_1087 rfl)) <|
  xw_cons (xw_E xn_aload (xo_aload_n dL_law_1088 rfl)) <|
  xw_cons (xw_E xn_iload (xo_iload dL_law_1089)) <|
  xw_cons (xw_E xn_push (xo_iconst dL_law_1091 (by decide))) <|
  xw_cons (xw_E xn_ii (xo_iadd dL_law_1092)) <|
  xw_cons (xw_E xn_ald (xo_iald xk_hB dL_law_1093)) <|
  xw_cons (xw_E xn_aload (xo_aload_n dL_law_1094 rfl)) <|
  xw_cons (xw_E xn_iload (xo_iload dL_law_1095)) <|
  xw_cons (xw_E xn_push (xo_iconst dL_law_1097 (by decide))) <|
  xw_cons (xw_E xn_ii (xo_iadd dL_law_1098)) <|
  xw_cons (xw_E xn_ald (xo_iald xk_hB dL_law_1099)) <|
  xw_cons (xl_v_26_113 hG dL_law_1100) <|
  xw_cons (xw_E xn_icmp (xo_icmp_eq dL_law_1103 (by decide))) <|
  xw_cons (xw_E xn_push (xo_iconst dL_law_1106 (by decide))) <|
  xw_cons (xw_R (xt_z dL_law_1107)) <|
  xw_cons (xw_E xn_aload (xo_aload_n dL_law_1108 rfl)) <|
  xw_cons (xw_E xn_aload (xo_aload_n dL_law_1109 rfl)) <|
  xw_cons (xw_E xn_iload (xo_iload dL_law_1110)) <|
  xw_cons (xw_E xn_push (xo_iconst dL_law_1112 (by decide))) <|
  xw_cons (xw_E xn_ii (xo_iadd dL_law_1113)) <|
  xw_cons (xw_E xn_ald (xo_iald xk_hB dL_law_1114)) <|
  xw_cons (xw_E xn_aload (xo_aload_n dL_law_1115 rfl)) <|
  xw_cons (xw_E xn_iload (xo_iload dL_law_1116)) <|
  xw_cons (xw_E xn_push (xo_iconst dL_law_1118 (by decide))) <|
  xw_cons (xw_E xn_ii (xo_iadd dL_law_1119)) <|
  xw_cons (xw_E xn_ald (xo_iald xk_hB dL_law_1120)) <|
  xw_cons (xw_E xn_aload (xo_aload_n dL_law_1121 rfl)) <|
  xw_cons (xw_E xn_iload (xo_iload dL_law_1122)) <|
  xw_cons (xw_E xn_push (xo_iconst dL_law_1124 (by decide))) <|
  xw_cons (xw_E xn_ii (xo_iadd dL_law_1125)) <|
  xw_cons (xw_E xn_ald (xo_iald xk_hB dL_law_1126)) <|
  xw_cons (xw_E xn_aload (xo_aload_n dL_law_1127 rfl)) <|
  xw_nil _
def xp_314_14 : List (Nat × xm_O) := [
  (1128, .inl (xe_iload 4 1130)),
  (1130, .inl (xe_push (.int 4) 1131)),
  (1131, .inl (xe_ii (fun x y => x + y) 1132)),
  (1132, .inl (xe_ald (fun t => t == 0) 1133)),
  (1133, .inr (.inr (.inl (xc_V (xj_1 0 55) [0, 0, 0, 0])))),
  (1136, .inl (xe_aload 2 1137)),
  (1137, .inl (xe_aload 0 1138)),
  (1138, .inl (xe_iload 4 1140)),
  (1140, .inl (xe_push (.int 1) 1141)),
  (1141, .inl (xe_ii (fun x y => x + y) 1142)),
  (1142, .inl (xe_ald (fun t => t == 0) 1143)),
  (1143, .inl (xe_aload 0 1144)),
  (1144, .inl (xe_iload 4 1146)),
  (1146, .inl (xe_push (.int 2) 1147)),
  (1147, .inl (xe_ii (fun x y => x + y) 1148)),
  (1148, .inl (xe_ald (fun t => t == 0) 1149)),
  (1149, .inl (xe_aload 0 1150)),
  (1150, .inl (xe_iload 4 1152)),
  (1152, .inl (xe_push (.int 3) 1153)),
  (1153, .inl (xe_ii (fun x y => x + y) 1154)),
  (1154, .inl (xe_ald (fun t => t == 0) 1155)),
  (1155, .inl (xe_aload 0 1156)),
  (1156, .inl (xe_iload 4 1158)),
  (1158, .inl (xe_push (.int 4) 1159)),
  (1159, .inl (xe_ii (fun x y => x + y) 1160)),
  (1160, .inl (xe_ald (fun t => t == 0) 1161)),
  (1161, .inr (.inr (.inl (xc_V (xj_1 8 214) [0, 0, 0, 0])))),
  (1164, .inl (xe_icmp (fun x y => decide (x = y)) 1818 1167)),
  (1167, .inl (xe_push (.int 0) 1168)),
  (1168, .inr (.inl xr_z)),
  (1169, .inl (xe_aload 1 1170)),
  (1170, .inl (xe_aload 0 1171)),
  (1171, .inl (xe_iload 4 1173)),
  (1173, .inl (xe_push (.int 1) 1174)),
  (1174, .inl (xe_ii (fun x y => x + y) 1175)),
  (1175, .inl (xe_ald (fun t => t == 0) 1176)),
  (1176, .inl (xe_aload 0 1177)),
  (1177, .inl (xe_iload 4 1179)),
  (1179, .inl (xe_push (.int 2) 1180)),
  (1180, .inl (xe_ii (fun x y => x + y) 1181)),
  (1181, .inl (xe_ald (fun t => t == 0) 1182)),
  (1182, .inr (.inr (.inl (xc_V (xj_1 0 56) [0, 0])))),
  (1185, .inl (xe_aload 2 1186)),
  (1186, .inl (xe_aload 0 1187)),
  (1187, .inl (xe_iload 4 1189)),
  (1189, .inl (xe_push (.int 1) 1190)),
  (1190, .inl (xe_ii (fun x y => x + y) 1191)),
  (1191, .inl (xe_ald (fun t => t == 0) 1192)),
  (1192, .inl (xe_aload 0 1193)),
  (1193, .inl (xe_iload 4 1195))]
theorem xq_314_14 {G : xm_G} (hG : xm_W xk_B G) (hO : xm_Og G) : ∀ q ∈ xp_314_14, xm_op xk_B G xd xk_N "LiarsCockLaw" "law" code 8 (some (FieldType.boolean)) q.1 q.2 :=
  xw_cons (xw_E xn_iload (xo_iload dL_law_1128)) <|
  xw_cons (xw_E xn_push (xo_iconst dL_law_1130 (by decide))) <|
  xw_cons (xw_E xn_ii (xo_iadd dL_law_1131)) <|
  xw_cons (xw_E xn_ald (xo_iald xk_hB dL_law_1132)) <|
  xw_cons (xl_v_26_114 hG dL_law_1133) <|
  xw_cons (xw_E xn_aload (xo_aload_n dL_law_1136 rfl)) <|
  xw_cons (xw_E xn_aload (xo_aload_n dL_law_1137 rfl)) <|
  xw_cons (xw_E xn_iload (xo_iload dL_law_1138)) <|
  xw_cons (xw_E xn_push (xo_iconst dL_law_1140 (by decide))) <|
  xw_cons (xw_E xn_ii (xo_iadd dL_law_1141)) <|
  xw_cons (xw_E xn_ald (xo_iald xk_hB dL_law_1142)) <|
  xw_cons (xw_E xn_aload (xo_aload_n dL_law_1143 rfl)) <|
  xw_cons (xw_E xn_iload (xo_iload dL_law_1144)) <|
  xw_cons (xw_E xn_push (xo_iconst dL_law_1146 (by decide))) <|
  xw_cons (xw_E xn_ii (xo_iadd dL_law_1147)) <|
  xw_cons (xw_E xn_ald (xo_iald xk_hB dL_law_1148)) <|
  xw_cons (xw_E xn_aload (xo_aload_n dL_law_1149 rfl)) <|
  xw_cons (xw_E xn_iload (xo_iload dL_law_1150)) <|
  xw_cons (xw_E xn_push (xo_iconst dL_law_1152 (by decide))) <|
  xw_cons (xw_E xn_ii (xo_iadd dL_law_1153)) <|
  xw_cons (xw_E xn_ald (xo_iald xk_hB dL_law_1154)) <|
  xw_cons (xw_E xn_aload (xo_aload_n dL_law_1155 rfl)) <|
  xw_cons (xw_E xn_iload (xo_iload dL_law_1156)) <|
  xw_cons (xw_E xn_push (xo_iconst dL_law_1158 (by decide))) <|
  xw_cons (xw_E xn_ii (xo_iadd dL_law_1159)) <|
  xw_cons (xw_E xn_ald (xo_iald xk_hB dL_law_1160)) <|
  xw_cons (xl_v_26_117 hG dL_law_1161) <|
  xw_cons (xw_E xn_icmp (xo_icmp_eq dL_law_1164 (by decide))) <|
  xw_cons (xw_E xn_push (xo_iconst dL_law_1167 (by decide))) <|
  xw_cons (xw_R (xt_z dL_law_1168)) <|
  xw_cons (xw_E xn_aload (xo_aload_n dL_law_1169 rfl)) <|
  xw_cons (xw_E xn_aload (xo_aload_n dL_law_1170 rfl)) <|
  xw_cons (xw_E xn_iload (xo_iload dL_law_1171)) <|
  xw_cons (xw_E xn_push (xo_iconst dL_law_1173 (by decide))) <|
  xw_cons (xw_E xn_ii (xo_iadd dL_law_1174)) <|
  xw_cons (xw_E xn_ald (xo_iald xk_hB dL_law_1175)) <|
  xw_cons (xw_E xn_aload (xo_aload_n dL_law_1176 rfl)) <|
  xw_cons (xw_E xn_iload (xo_iload dL_law_1177)) <|
  xw_cons (xw_E xn_push (xo_iconst dL_law_1179 (by decide))) <|
  xw_cons (xw_E xn_ii (xo_iadd dL_law_1180)) <|
  xw_cons (xw_E xn_ald (xo_iald xk_hB dL_law_1181)) <|
  xw_cons (xl_v_26_118 hG dL_law_1182) <|
  xw_cons (xw_E xn_aload (xo_aload_n dL_law_1185 rfl)) <|
  xw_cons (xw_E xn_aload (xo_aload_n dL_law_1186 rfl)) <|
  xw_cons (xw_E xn_iload (xo_iload dL_law_1187)) <|
  xw_cons (xw_E xn_push (xo_iconst dL_law_1189 (by decide))) <|
  xw_cons (xw_E xn_ii (xo_iadd dL_law_1190)) <|
  xw_cons (xw_E xn_ald (xo_iald xk_hB dL_law_1191)) <|
  xw_cons (xw_E xn_aload (xo_aload_n dL_law_1192 rfl)) <|
  xw_cons (xw_E xn_iload (xo_iload dL_law_1193)) <|
  xw_nil _
def xp_314_15 : List (Nat × xm_O) := [
  (1195, .inl (xe_push (.int 2) 1196)),
  (1196, .inl (xe_ii (fun x y => x + y) 1197)),
  (1197, .inl (xe_ald (fun t => t == 0) 1198)),
  (1198, .inr (.inr (.inl (xc_V (xj_1 8 215) [0, 0])))),
  (1201, .inl (xe_icmp (fun x y => decide (x = y)) 1818 1204)),
  (1204, .inl (xe_push (.int 0) 1205)),
  (1205, .inr (.inl xr_z)),
  (1206, .inl (xe_aload 1 1207)),
  (1207, .inl (xe_aload 0 1208)),
  (1208, .inl (xe_iload 4 1210)),
  (1210, .inl (xe_push (.int 1) 1211)),
  (1211, .inl (xe_ii (fun x y => x + y) 1212)),
  (1212, .inl (xe_ald (fun t => t == 0) 1213)),
  (1213, .inl (xe_aload 0 1214)),
  (1214, .inl (xe_iload 4 1216)),
  (1216, .inl (xe_push (.int 2) 1217)),
  (1217, .inl (xe_ii (fun x y => x + y) 1218)),
  (1218, .inl (xe_ald (fun t => t == 0) 1219)),
  (1219, .inr (.inr (.inl (xc_V (xj_1 0 58) [0, 0])))),
  (1222, .inl (xe_aload 2 1223)),
  (1223, .inl (xe_aload 0 1224)),
  (1224, .inl (xe_iload 4 1226)),
  (1226, .inl (xe_push (.int 1) 1227)),
  (1227, .inl (xe_ii (fun x y => x + y) 1228)),
  (1228, .inl (xe_ald (fun t => t == 0) 1229)),
  (1229, .inl (xe_aload 0 1230)),
  (1230, .inl (xe_iload 4 1232)),
  (1232, .inl (xe_push (.int 2) 1233)),
  (1233, .inl (xe_ii (fun x y => x + y) 1234)),
  (1234, .inl (xe_ald (fun t => t == 0) 1235)),
  (1235, .inr (.inr (.inl (xc_V (xj_1 8 218) [0, 0])))),
  (1238, .inl (xe_icmp (fun x y => decide (x = y)) 1818 1241)),
  (1241, .inl (xe_push (.int 0) 1242)),
  (1242, .inr (.inl xr_z)),
  (1243, .inl (xe_aload 1 1244)),
  (1244, .inl (xe_aload 0 1245)),
  (1245, .inl (xe_iload 4 1247)),
  (1247, .inl (xe_push (.int 1) 1248)),
  (1248, .inl (xe_ii (fun x y => x + y) 1249)),
  (1249, .inl (xe_ald (fun t => t == 0) 1250)),
  (1250, .inl (xe_aload 0 1251)),
  (1251, .inl (xe_iload 4 1253)),
  (1253, .inl (xe_push (.int 2) 1254)),
  (1254, .inl (xe_ii (fun x y => x + y) 1255)),
  (1255, .inl (xe_ald (fun t => t == 0) 1256)),
  (1256, .inr (.inr (.inl (xc_V (xj_1 0 65) [0, 0])))),
  (1259, .inl (xe_aload 2 1260)),
  (1260, .inl (xe_aload 0 1261)),
  (1261, .inl (xe_iload 4 1263)),
  (1263, .inl (xe_push (.int 1) 1264))]
theorem xq_314_15 {G : xm_G} (hG : xm_W xk_B G) (hO : xm_Og G) : ∀ q ∈ xp_314_15, xm_op xk_B G xd xk_N "LiarsCockLaw" "law" code 8 (some (FieldType.boolean)) q.1 q.2 :=
  xw_cons (xw_E xn_push (xo_iconst dL_law_1195 (by decide))) <|
  xw_cons (xw_E xn_ii (xo_iadd dL_law_1196)) <|
  xw_cons (xw_E xn_ald (xo_iald xk_hB dL_law_1197)) <|
  xw_cons (xl_v_26_121 hG dL_law_1198) <|
  xw_cons (xw_E xn_icmp (xo_icmp_eq dL_law_1201 (by decide))) <|
  xw_cons (xw_E xn_push (xo_iconst dL_law_1204 (by decide))) <|
  xw_cons (xw_R (xt_z dL_law_1205)) <|
  xw_cons (xw_E xn_aload (xo_aload_n dL_law_1206 rfl)) <|
  xw_cons (xw_E xn_aload (xo_aload_n dL_law_1207 rfl)) <|
  xw_cons (xw_E xn_iload (xo_iload dL_law_1208)) <|
  xw_cons (xw_E xn_push (xo_iconst dL_law_1210 (by decide))) <|
  xw_cons (xw_E xn_ii (xo_iadd dL_law_1211)) <|
  xw_cons (xw_E xn_ald (xo_iald xk_hB dL_law_1212)) <|
  xw_cons (xw_E xn_aload (xo_aload_n dL_law_1213 rfl)) <|
  xw_cons (xw_E xn_iload (xo_iload dL_law_1214)) <|
  xw_cons (xw_E xn_push (xo_iconst dL_law_1216 (by decide))) <|
  xw_cons (xw_E xn_ii (xo_iadd dL_law_1217)) <|
  xw_cons (xw_E xn_ald (xo_iald xk_hB dL_law_1218)) <|
  xw_cons (xl_v_26_122 hG dL_law_1219) <|
  xw_cons (xw_E xn_aload (xo_aload_n dL_law_1222 rfl)) <|
  xw_cons (xw_E xn_aload (xo_aload_n dL_law_1223 rfl)) <|
  xw_cons (xw_E xn_iload (xo_iload dL_law_1224)) <|
  xw_cons (xw_E xn_push (xo_iconst dL_law_1226 (by decide))) <|
  xw_cons (xw_E xn_ii (xo_iadd dL_law_1227)) <|
  xw_cons (xw_E xn_ald (xo_iald xk_hB dL_law_1228)) <|
  xw_cons (xw_E xn_aload (xo_aload_n dL_law_1229 rfl)) <|
  xw_cons (xw_E xn_iload (xo_iload dL_law_1230)) <|
  xw_cons (xw_E xn_push (xo_iconst dL_law_1232 (by decide))) <|
  xw_cons (xw_E xn_ii (xo_iadd dL_law_1233)) <|
  xw_cons (xw_E xn_ald (xo_iald xk_hB dL_law_1234)) <|
  xw_cons (xl_v_26_125 hG dL_law_1235) <|
  xw_cons (xw_E xn_icmp (xo_icmp_eq dL_law_1238 (by decide))) <|
  xw_cons (xw_E xn_push (xo_iconst dL_law_1241 (by decide))) <|
  xw_cons (xw_R (xt_z dL_law_1242)) <|
  xw_cons (xw_E xn_aload (xo_aload_n dL_law_1243 rfl)) <|
  xw_cons (xw_E xn_aload (xo_aload_n dL_law_1244 rfl)) <|
  xw_cons (xw_E xn_iload (xo_iload dL_law_1245)) <|
  xw_cons (xw_E xn_push (xo_iconst dL_law_1247 (by decide))) <|
  xw_cons (xw_E xn_ii (xo_iadd dL_law_1248)) <|
  xw_cons (xw_E xn_ald (xo_iald xk_hB dL_law_1249)) <|
  xw_cons (xw_E xn_aload (xo_aload_n dL_law_1250 rfl)) <|
  xw_cons (xw_E xn_iload (xo_iload dL_law_1251)) <|
  xw_cons (xw_E xn_push (xo_iconst dL_law_1253 (by decide))) <|
  xw_cons (xw_E xn_ii (xo_iadd dL_law_1254)) <|
  xw_cons (xw_E xn_ald (xo_iald xk_hB dL_law_1255)) <|
  xw_cons (xl_v_26_126 hG dL_law_1256) <|
  xw_cons (xw_E xn_aload (xo_aload_n dL_law_1259 rfl)) <|
  xw_cons (xw_E xn_aload (xo_aload_n dL_law_1260 rfl)) <|
  xw_cons (xw_E xn_iload (xo_iload dL_law_1261)) <|
  xw_cons (xw_E xn_push (xo_iconst dL_law_1263 (by decide))) <|
  xw_nil _
def xp_314_16 : List (Nat × xm_O) := [
  (1264, .inl (xe_ii (fun x y => x + y) 1265)),
  (1265, .inl (xe_ald (fun t => t == 0) 1266)),
  (1266, .inl (xe_aload 0 1267)),
  (1267, .inl (xe_iload 4 1269)),
  (1269, .inl (xe_push (.int 2) 1270)),
  (1270, .inl (xe_ii (fun x y => x + y) 1271)),
  (1271, .inl (xe_ald (fun t => t == 0) 1272)),
  (1272, .inr (.inr (.inl (xc_V (xj_1 8 221) [0, 0])))),
  (1275, .inl (xe_icmp (fun x y => decide (x = y)) 1818 1278)),
  (1278, .inl (xe_push (.int 0) 1279)),
  (1279, .inr (.inl xr_z)),
  (1280, .inl (xe_aload 1 1281)),
  (1281, .inl (xe_aload 0 1282)),
  (1282, .inl (xe_iload 4 1284)),
  (1284, .inl (xe_push (.int 1) 1285)),
  (1285, .inl (xe_ii (fun x y => x + y) 1286)),
  (1286, .inl (xe_ald (fun t => t == 0) 1287)),
  (1287, .inl (xe_aload 0 1288)),
  (1288, .inl (xe_iload 4 1290)),
  (1290, .inl (xe_push (.int 2) 1291)),
  (1291, .inl (xe_ii (fun x y => x + y) 1292)),
  (1292, .inl (xe_ald (fun t => t == 0) 1293)),
  (1293, .inl (xe_aload 0 1294)),
  (1294, .inl (xe_iload 4 1296)),
  (1296, .inl (xe_push (.int 3) 1297)),
  (1297, .inl (xe_ii (fun x y => x + y) 1298)),
  (1298, .inl (xe_ald (fun t => t == 0) 1299)),
  (1299, .inl (xe_aload 0 1300)),
  (1300, .inl (xe_iload 4 1302)),
  (1302, .inl (xe_push (.int 4) 1303)),
  (1303, .inl (xe_ii (fun x y => x + y) 1304)),
  (1304, .inl (xe_ald (fun t => t == 0) 1305)),
  (1305, .inl (xe_aload 0 1306)),
  (1306, .inl (xe_iload 4 1308)),
  (1308, .inl (xe_push (.int 5) 1309)),
  (1309, .inl (xe_ii (fun x y => x + y) 1310)),
  (1310, .inl (xe_ald (fun t => t == 0) 1311)),
  (1311, .inl (xe_aload 3 1312)),
  (1312, .inr (.inr (.inl (xc_S 0 [2, 0, 0, 0, 0, 0, 2])))),
  (1315, .inl (xe_istore 5 1317)),
  (1317, .inl (xe_aload 2 1318)),
  (1318, .inl (xe_aload 0 1319)),
  (1319, .inl (xe_iload 4 1321)),
  (1321, .inl (xe_push (.int 1) 1322)),
  (1322, .inl (xe_ii (fun x y => x + y) 1323)),
  (1323, .inl (xe_ald (fun t => t == 0) 1324)),
  (1324, .inl (xe_aload 0 1325)),
  (1325, .inl (xe_iload 4 1327)),
  (1327, .inl (xe_push (.int 2) 1328)),
  (1328, .inl (xe_ii (fun x y => x + y) 1329))]
theorem xq_314_16 {G : xm_G} (hG : xm_W xk_B G) (hO : xm_Og G) : ∀ q ∈ xp_314_16, xm_op xk_B G xd xk_N "LiarsCockLaw" "law" code 8 (some (FieldType.boolean)) q.1 q.2 :=
  xw_cons (xw_E xn_ii (xo_iadd dL_law_1264)) <|
  xw_cons (xw_E xn_ald (xo_iald xk_hB dL_law_1265)) <|
  xw_cons (xw_E xn_aload (xo_aload_n dL_law_1266 rfl)) <|
  xw_cons (xw_E xn_iload (xo_iload dL_law_1267)) <|
  xw_cons (xw_E xn_push (xo_iconst dL_law_1269 (by decide))) <|
  xw_cons (xw_E xn_ii (xo_iadd dL_law_1270)) <|
  xw_cons (xw_E xn_ald (xo_iald xk_hB dL_law_1271)) <|
  xw_cons (xl_v_26_129 hG dL_law_1272) <|
  xw_cons (xw_E xn_icmp (xo_icmp_eq dL_law_1275 (by decide))) <|
  xw_cons (xw_E xn_push (xo_iconst dL_law_1278 (by decide))) <|
  xw_cons (xw_R (xt_z dL_law_1279)) <|
  xw_cons (xw_E xn_aload (xo_aload_n dL_law_1280 rfl)) <|
  xw_cons (xw_E xn_aload (xo_aload_n dL_law_1281 rfl)) <|
  xw_cons (xw_E xn_iload (xo_iload dL_law_1282)) <|
  xw_cons (xw_E xn_push (xo_iconst dL_law_1284 (by decide))) <|
  xw_cons (xw_E xn_ii (xo_iadd dL_law_1285)) <|
  xw_cons (xw_E xn_ald (xo_iald xk_hB dL_law_1286)) <|
  xw_cons (xw_E xn_aload (xo_aload_n dL_law_1287 rfl)) <|
  xw_cons (xw_E xn_iload (xo_iload dL_law_1288)) <|
  xw_cons (xw_E xn_push (xo_iconst dL_law_1290 (by decide))) <|
  xw_cons (xw_E xn_ii (xo_iadd dL_law_1291)) <|
  xw_cons (xw_E xn_ald (xo_iald xk_hB dL_law_1292)) <|
  xw_cons (xw_E xn_aload (xo_aload_n dL_law_1293 rfl)) <|
  xw_cons (xw_E xn_iload (xo_iload dL_law_1294)) <|
  xw_cons (xw_E xn_push (xo_iconst dL_law_1296 (by decide))) <|
  xw_cons (xw_E xn_ii (xo_iadd dL_law_1297)) <|
  xw_cons (xw_E xn_ald (xo_iald xk_hB dL_law_1298)) <|
  xw_cons (xw_E xn_aload (xo_aload_n dL_law_1299 rfl)) <|
  xw_cons (xw_E xn_iload (xo_iload dL_law_1300)) <|
  xw_cons (xw_E xn_push (xo_iconst dL_law_1302 (by decide))) <|
  xw_cons (xw_E xn_ii (xo_iadd dL_law_1303)) <|
  xw_cons (xw_E xn_ald (xo_iald xk_hB dL_law_1304)) <|
  xw_cons (xw_E xn_aload (xo_aload_n dL_law_1305 rfl)) <|
  xw_cons (xw_E xn_iload (xo_iload dL_law_1306)) <|
  xw_cons (xw_E xn_push (xo_iconst dL_law_1308 (by decide))) <|
  xw_cons (xw_E xn_ii (xo_iadd dL_law_1309)) <|
  xw_cons (xw_E xn_ald (xo_iald xk_hB dL_law_1310)) <|
  xw_cons (xw_E xn_aload (xo_aload_n dL_law_1311 rfl)) <|
  xw_cons (xl_s_26_130 hG dL_law_1312) <|
  xw_cons (xw_E xn_istore (xo_istore dL_law_1315)) <|
  xw_cons (xw_E xn_aload (xo_aload_n dL_law_1317 rfl)) <|
  xw_cons (xw_E xn_aload (xo_aload_n dL_law_1318 rfl)) <|
  xw_cons (xw_E xn_iload (xo_iload dL_law_1319)) <|
  xw_cons (xw_E xn_push (xo_iconst dL_law_1321 (by decide))) <|
  xw_cons (xw_E xn_ii (xo_iadd dL_law_1322)) <|
  xw_cons (xw_E xn_ald (xo_iald xk_hB dL_law_1323)) <|
  xw_cons (xw_E xn_aload (xo_aload_n dL_law_1324 rfl)) <|
  xw_cons (xw_E xn_iload (xo_iload dL_law_1325)) <|
  xw_cons (xw_E xn_push (xo_iconst dL_law_1327 (by decide))) <|
  xw_cons (xw_E xn_ii (xo_iadd dL_law_1328)) <|
  xw_nil _
def xp_314_17 : List (Nat × xm_O) := [
  (1329, .inl (xe_ald (fun t => t == 0) 1330)),
  (1330, .inl (xe_aload 0 1331)),
  (1331, .inl (xe_iload 4 1333)),
  (1333, .inl (xe_push (.int 3) 1334)),
  (1334, .inl (xe_ii (fun x y => x + y) 1335)),
  (1335, .inl (xe_ald (fun t => t == 0) 1336)),
  (1336, .inl (xe_aload 0 1337)),
  (1337, .inl (xe_iload 4 1339)),
  (1339, .inl (xe_push (.int 4) 1340)),
  (1340, .inl (xe_ii (fun x y => x + y) 1341)),
  (1341, .inl (xe_ald (fun t => t == 0) 1342)),
  (1342, .inl (xe_aload 0 1343)),
  (1343, .inl (xe_iload 4 1345)),
  (1345, .inl (xe_push (.int 5) 1346)),
  (1346, .inl (xe_ii (fun x y => x + y) 1347)),
  (1347, .inl (xe_ald (fun t => t == 0) 1348)),
  (1348, .inr (.inr (.inl (xc_V (xj_1 8 222) [0, 0, 0, 0, 0])))),
  (1351, .inl (xe_lstore 6 1353)),
  (1353, .inl (xe_aload 2 1354)),
  (1354, .inr (.inr (.inl (xc_V (xj_1 8 140) [])))),
  (1357, .inl (xe_iload 5 1359)),
  (1359, .inl (xe_icmp (fun x y => decide (x = y)) 1364 1362)),
  (1362, .inl (xe_push (.int 0) 1363)),
  (1363, .inr (.inl xr_z)),
  (1364, .inl (xe_iload 5 1366)),
  (1366, .inl (xe_if (fun x => decide (¬ x = 0)) 1380 1369)),
  (1369, .inl (xe_aload 3 1370)),
  (1370, .inl (xe_push (.int 0) 1371)),
  (1371, .inl (xe_ald (fun t => t == 1) 1372)),
  (1372, .inl (xe_lload 6 1374)),
  (1374, .inl (xe_lcmp 1375)),
  (1375, .inl (xe_if (fun x => decide (x = 0)) 1380 1378)),
  (1378, .inl (xe_push (.int 0) 1379)),
  (1379, .inr (.inl xr_z)),
  (1380, .inl (xe_goto 1818)),
  (1383, .inl (xe_aload 1 1384)),
  (1384, .inl (xe_aload 0 1385)),
  (1385, .inl (xe_iload 4 1387)),
  (1387, .inl (xe_push (.int 1) 1388)),
  (1388, .inl (xe_ii (fun x y => x + y) 1389)),
  (1389, .inl (xe_ald (fun t => t == 0) 1390)),
  (1390, .inl (xe_aload 0 1391)),
  (1391, .inl (xe_iload 4 1393)),
  (1393, .inl (xe_push (.int 2) 1394)),
  (1394, .inl (xe_ii (fun x y => x + y) 1395)),
  (1395, .inl (xe_ald (fun t => t == 0) 1396)),
  (1396, .inr (.inr (.inl (xc_V (xj_1 0 66) [0, 0])))),
  (1399, .inl (xe_aload 2 1400)),
  (1400, .inl (xe_aload 0 1401)),
  (1401, .inl (xe_iload 4 1403))]
theorem xq_314_17 {G : xm_G} (hG : xm_W xk_B G) (hO : xm_Og G) : ∀ q ∈ xp_314_17, xm_op xk_B G xd xk_N "LiarsCockLaw" "law" code 8 (some (FieldType.boolean)) q.1 q.2 :=
  xw_cons (xw_E xn_ald (xo_iald xk_hB dL_law_1329)) <|
  xw_cons (xw_E xn_aload (xo_aload_n dL_law_1330 rfl)) <|
  xw_cons (xw_E xn_iload (xo_iload dL_law_1331)) <|
  xw_cons (xw_E xn_push (xo_iconst dL_law_1333 (by decide))) <|
  xw_cons (xw_E xn_ii (xo_iadd dL_law_1334)) <|
  xw_cons (xw_E xn_ald (xo_iald xk_hB dL_law_1335)) <|
  xw_cons (xw_E xn_aload (xo_aload_n dL_law_1336 rfl)) <|
  xw_cons (xw_E xn_iload (xo_iload dL_law_1337)) <|
  xw_cons (xw_E xn_push (xo_iconst dL_law_1339 (by decide))) <|
  xw_cons (xw_E xn_ii (xo_iadd dL_law_1340)) <|
  xw_cons (xw_E xn_ald (xo_iald xk_hB dL_law_1341)) <|
  xw_cons (xw_E xn_aload (xo_aload_n dL_law_1342 rfl)) <|
  xw_cons (xw_E xn_iload (xo_iload dL_law_1343)) <|
  xw_cons (xw_E xn_push (xo_iconst dL_law_1345 (by decide))) <|
  xw_cons (xw_E xn_ii (xo_iadd dL_law_1346)) <|
  xw_cons (xw_E xn_ald (xo_iald xk_hB dL_law_1347)) <|
  xw_cons (xl_v_26_135 hG dL_law_1348) <|
  xw_cons (xw_E xn_lstore (xo_lstore dL_law_1351)) <|
  xw_cons (xw_E xn_aload (xo_aload_n dL_law_1353 rfl)) <|
  xw_cons (xl_v_26_136 hG dL_law_1354) <|
  xw_cons (xw_E xn_iload (xo_iload dL_law_1357)) <|
  xw_cons (xw_E xn_icmp (xo_icmp_eq dL_law_1359 (by decide))) <|
  xw_cons (xw_E xn_push (xo_iconst dL_law_1362 (by decide))) <|
  xw_cons (xw_R (xt_z dL_law_1363)) <|
  xw_cons (xw_E xn_iload (xo_iload dL_law_1364)) <|
  xw_cons (xw_E xn_if (xo_if_ne dL_law_1366 (by decide))) <|
  xw_cons (xw_E xn_aload (xo_aload_n dL_law_1369 rfl)) <|
  xw_cons (xw_E xn_push (xo_iconst dL_law_1370 (by decide))) <|
  xw_cons (xw_E xn_ald (xo_lald xk_hB dL_law_1371)) <|
  xw_cons (xw_E xn_lload (xo_lload dL_law_1372)) <|
  xw_cons (xw_E xn_lcmp (xo_lcmp dL_law_1374)) <|
  xw_cons (xw_E xn_if (xo_if_eq dL_law_1375 (by decide))) <|
  xw_cons (xw_E xn_push (xo_iconst dL_law_1378 (by decide))) <|
  xw_cons (xw_R (xt_z dL_law_1379)) <|
  xw_cons (xw_E xn_goto (xo_goto dL_law_1380 (by decide))) <|
  xw_cons (xw_E xn_aload (xo_aload_n dL_law_1383 rfl)) <|
  xw_cons (xw_E xn_aload (xo_aload_n dL_law_1384 rfl)) <|
  xw_cons (xw_E xn_iload (xo_iload dL_law_1385)) <|
  xw_cons (xw_E xn_push (xo_iconst dL_law_1387 (by decide))) <|
  xw_cons (xw_E xn_ii (xo_iadd dL_law_1388)) <|
  xw_cons (xw_E xn_ald (xo_iald xk_hB dL_law_1389)) <|
  xw_cons (xw_E xn_aload (xo_aload_n dL_law_1390 rfl)) <|
  xw_cons (xw_E xn_iload (xo_iload dL_law_1391)) <|
  xw_cons (xw_E xn_push (xo_iconst dL_law_1393 (by decide))) <|
  xw_cons (xw_E xn_ii (xo_iadd dL_law_1394)) <|
  xw_cons (xw_E xn_ald (xo_iald xk_hB dL_law_1395)) <|
  xw_cons (xl_v_26_139 hG dL_law_1396) <|
  xw_cons (xw_E xn_aload (xo_aload_n dL_law_1399 rfl)) <|
  xw_cons (xw_E xn_aload (xo_aload_n dL_law_1400 rfl)) <|
  xw_cons (xw_E xn_iload (xo_iload dL_law_1401)) <|
  xw_nil _
def xp_314_18 : List (Nat × xm_O) := [
  (1403, .inl (xe_push (.int 1) 1404)),
  (1404, .inl (xe_ii (fun x y => x + y) 1405)),
  (1405, .inl (xe_ald (fun t => t == 0) 1406)),
  (1406, .inl (xe_aload 0 1407)),
  (1407, .inl (xe_iload 4 1409)),
  (1409, .inl (xe_push (.int 2) 1410)),
  (1410, .inl (xe_ii (fun x y => x + y) 1411)),
  (1411, .inl (xe_ald (fun t => t == 0) 1412)),
  (1412, .inr (.inr (.inl (xc_V (xj_1 8 223) [0, 0])))),
  (1415, .inl (xe_icmp (fun x y => decide (x = y)) 1818 1418)),
  (1418, .inl (xe_push (.int 0) 1419)),
  (1419, .inr (.inl xr_z)),
  (1420, .inl (xe_aload 1 1421)),
  (1421, .inl (xe_aload 0 1422)),
  (1422, .inl (xe_iload 4 1424)),
  (1424, .inl (xe_push (.int 1) 1425)),
  (1425, .inl (xe_ii (fun x y => x + y) 1426)),
  (1426, .inl (xe_ald (fun t => t == 0) 1427)),
  (1427, .inl (xe_aload 0 1428)),
  (1428, .inl (xe_iload 4 1430)),
  (1430, .inl (xe_push (.int 2) 1431)),
  (1431, .inl (xe_ii (fun x y => x + y) 1432)),
  (1432, .inl (xe_ald (fun t => t == 0) 1433)),
  (1433, .inr (.inr (.inl (xc_V (xj_1 0 67) [0, 0])))),
  (1436, .inl (xe_aload 2 1437)),
  (1437, .inl (xe_aload 0 1438)),
  (1438, .inl (xe_iload 4 1440)),
  (1440, .inl (xe_push (.int 1) 1441)),
  (1441, .inl (xe_ii (fun x y => x + y) 1442)),
  (1442, .inl (xe_ald (fun t => t == 0) 1443)),
  (1443, .inl (xe_aload 0 1444)),
  (1444, .inl (xe_iload 4 1446)),
  (1446, .inl (xe_push (.int 2) 1447)),
  (1447, .inl (xe_ii (fun x y => x + y) 1448)),
  (1448, .inl (xe_ald (fun t => t == 0) 1449)),
  (1449, .inr (.inr (.inl (xc_V (xj_1 8 224) [0, 0])))),
  (1452, .inl (xe_icmp (fun x y => decide (x = y)) 1818 1455)),
  (1455, .inl (xe_push (.int 0) 1456)),
  (1456, .inr (.inl xr_z)),
  (1457, .inl (xe_aload 1 1458)),
  (1458, .inl (xe_aload 0 1459)),
  (1459, .inl (xe_iload 4 1461)),
  (1461, .inl (xe_push (.int 1) 1462)),
  (1462, .inl (xe_ii (fun x y => x + y) 1463)),
  (1463, .inl (xe_ald (fun t => t == 0) 1464)),
  (1464, .inr (.inr (.inl (xc_V (xj_1 0 70) [0])))),
  (1467, .inl (xe_aload 2 1468)),
  (1468, .inl (xe_aload 0 1469)),
  (1469, .inl (xe_iload 4 1471)),
  (1471, .inl (xe_push (.int 1) 1472))]
theorem xq_314_18 {G : xm_G} (hG : xm_W xk_B G) (hO : xm_Og G) : ∀ q ∈ xp_314_18, xm_op xk_B G xd xk_N "LiarsCockLaw" "law" code 8 (some (FieldType.boolean)) q.1 q.2 :=
  xw_cons (xw_E xn_push (xo_iconst dL_law_1403 (by decide))) <|
  xw_cons (xw_E xn_ii (xo_iadd dL_law_1404)) <|
  xw_cons (xw_E xn_ald (xo_iald xk_hB dL_law_1405)) <|
  xw_cons (xw_E xn_aload (xo_aload_n dL_law_1406 rfl)) <|
  xw_cons (xw_E xn_iload (xo_iload dL_law_1407)) <|
  xw_cons (xw_E xn_push (xo_iconst dL_law_1409 (by decide))) <|
  xw_cons (xw_E xn_ii (xo_iadd dL_law_1410)) <|
  xw_cons (xw_E xn_ald (xo_iald xk_hB dL_law_1411)) <|
  xw_cons (xl_v_26_142 hG dL_law_1412) <|
  xw_cons (xw_E xn_icmp (xo_icmp_eq dL_law_1415 (by decide))) <|
  xw_cons (xw_E xn_push (xo_iconst dL_law_1418 (by decide))) <|
  xw_cons (xw_R (xt_z dL_law_1419)) <|
  xw_cons (xw_E xn_aload (xo_aload_n dL_law_1420 rfl)) <|
  xw_cons (xw_E xn_aload (xo_aload_n dL_law_1421 rfl)) <|
  xw_cons (xw_E xn_iload (xo_iload dL_law_1422)) <|
  xw_cons (xw_E xn_push (xo_iconst dL_law_1424 (by decide))) <|
  xw_cons (xw_E xn_ii (xo_iadd dL_law_1425)) <|
  xw_cons (xw_E xn_ald (xo_iald xk_hB dL_law_1426)) <|
  xw_cons (xw_E xn_aload (xo_aload_n dL_law_1427 rfl)) <|
  xw_cons (xw_E xn_iload (xo_iload dL_law_1428)) <|
  xw_cons (xw_E xn_push (xo_iconst dL_law_1430 (by decide))) <|
  xw_cons (xw_E xn_ii (xo_iadd dL_law_1431)) <|
  xw_cons (xw_E xn_ald (xo_iald xk_hB dL_law_1432)) <|
  xw_cons (xl_v_26_143 hG dL_law_1433) <|
  xw_cons (xw_E xn_aload (xo_aload_n dL_law_1436 rfl)) <|
  xw_cons (xw_E xn_aload (xo_aload_n dL_law_1437 rfl)) <|
  xw_cons (xw_E xn_iload (xo_iload dL_law_1438)) <|
  xw_cons (xw_E xn_push (xo_iconst dL_law_1440 (by decide))) <|
  xw_cons (xw_E xn_ii (xo_iadd dL_law_1441)) <|
  xw_cons (xw_E xn_ald (xo_iald xk_hB dL_law_1442)) <|
  xw_cons (xw_E xn_aload (xo_aload_n dL_law_1443 rfl)) <|
  xw_cons (xw_E xn_iload (xo_iload dL_law_1444)) <|
  xw_cons (xw_E xn_push (xo_iconst dL_law_1446 (by decide))) <|
  xw_cons (xw_E xn_ii (xo_iadd dL_law_1447)) <|
  xw_cons (xw_E xn_ald (xo_iald xk_hB dL_law_1448)) <|
  xw_cons (xl_v_26_146 hG dL_law_1449) <|
  xw_cons (xw_E xn_icmp (xo_icmp_eq dL_law_1452 (by decide))) <|
  xw_cons (xw_E xn_push (xo_iconst dL_law_1455 (by decide))) <|
  xw_cons (xw_R (xt_z dL_law_1456)) <|
  xw_cons (xw_E xn_aload (xo_aload_n dL_law_1457 rfl)) <|
  xw_cons (xw_E xn_aload (xo_aload_n dL_law_1458 rfl)) <|
  xw_cons (xw_E xn_iload (xo_iload dL_law_1459)) <|
  xw_cons (xw_E xn_push (xo_iconst dL_law_1461 (by decide))) <|
  xw_cons (xw_E xn_ii (xo_iadd dL_law_1462)) <|
  xw_cons (xw_E xn_ald (xo_iald xk_hB dL_law_1463)) <|
  xw_cons (xl_v_26_147 hG dL_law_1464) <|
  xw_cons (xw_E xn_aload (xo_aload_n dL_law_1467 rfl)) <|
  xw_cons (xw_E xn_aload (xo_aload_n dL_law_1468 rfl)) <|
  xw_cons (xw_E xn_iload (xo_iload dL_law_1469)) <|
  xw_cons (xw_E xn_push (xo_iconst dL_law_1471 (by decide))) <|
  xw_nil _
def xp_314_19 : List (Nat × xm_O) := [
  (1472, .inl (xe_ii (fun x y => x + y) 1473)),
  (1473, .inl (xe_ald (fun t => t == 0) 1474)),
  (1474, .inr (.inr (.inl (xc_V (xj_1 8 225) [0])))),
  (1477, .inl (xe_icmp (fun x y => decide (x = y)) 1818 1480)),
  (1480, .inl (xe_push (.int 0) 1481)),
  (1481, .inr (.inl xr_z)),
  (1482, .inl (xe_aload 1 1483)),
  (1483, .inl (xe_aload 0 1484)),
  (1484, .inl (xe_iload 4 1486)),
  (1486, .inl (xe_push (.int 1) 1487)),
  (1487, .inl (xe_ii (fun x y => x + y) 1488)),
  (1488, .inl (xe_ald (fun t => t == 0) 1489)),
  (1489, .inl (xe_aload 0 1490)),
  (1490, .inl (xe_iload 4 1492)),
  (1492, .inl (xe_push (.int 2) 1493)),
  (1493, .inl (xe_ii (fun x y => x + y) 1494)),
  (1494, .inl (xe_ald (fun t => t == 0) 1495)),
  (1495, .inr (.inr (.inl (xc_V (xj_1 0 74) [0, 0])))),
  (1498, .inl (xe_aload 2 1499)),
  (1499, .inl (xe_aload 0 1500)),
  (1500, .inl (xe_iload 4 1502)),
  (1502, .inl (xe_push (.int 1) 1503)),
  (1503, .inl (xe_ii (fun x y => x + y) 1504)),
  (1504, .inl (xe_ald (fun t => t == 0) 1505)),
  (1505, .inl (xe_aload 0 1506)),
  (1506, .inl (xe_iload 4 1508)),
  (1508, .inl (xe_push (.int 2) 1509)),
  (1509, .inl (xe_ii (fun x y => x + y) 1510)),
  (1510, .inl (xe_ald (fun t => t == 0) 1511)),
  (1511, .inr (.inr (.inl (xc_V (xj_1 8 227) [0, 0])))),
  (1514, .inl (xe_icmp (fun x y => decide (x = y)) 1818 1517)),
  (1517, .inl (xe_push (.int 0) 1518)),
  (1518, .inr (.inl xr_z)),
  (1519, .inl (xe_aload 1 1520)),
  (1520, .inl (xe_aload 0 1521)),
  (1521, .inl (xe_iload 4 1523)),
  (1523, .inl (xe_push (.int 1) 1524)),
  (1524, .inl (xe_ii (fun x y => x + y) 1525)),
  (1525, .inl (xe_ald (fun t => t == 0) 1526)),
  (1526, .inl (xe_aload 0 1527)),
  (1527, .inl (xe_iload 4 1529)),
  (1529, .inl (xe_push (.int 2) 1530)),
  (1530, .inl (xe_ii (fun x y => x + y) 1531)),
  (1531, .inl (xe_ald (fun t => t == 0) 1532)),
  (1532, .inr (.inr (.inl (xc_V (xj_1 0 75) [0, 0])))),
  (1535, .inl (xe_aload 2 1536)),
  (1536, .inl (xe_aload 0 1537)),
  (1537, .inl (xe_iload 4 1539)),
  (1539, .inl (xe_push (.int 1) 1540)),
  (1540, .inl (xe_ii (fun x y => x + y) 1541))]
theorem xq_314_19 {G : xm_G} (hG : xm_W xk_B G) (hO : xm_Og G) : ∀ q ∈ xp_314_19, xm_op xk_B G xd xk_N "LiarsCockLaw" "law" code 8 (some (FieldType.boolean)) q.1 q.2 :=
  xw_cons (xw_E xn_ii (xo_iadd dL_law_1472)) <|
  xw_cons (xw_E xn_ald (xo_iald xk_hB dL_law_1473)) <|
  xw_cons (xl_v_26_150 hG dL_law_1474) <|
  xw_cons (xw_E xn_icmp (xo_icmp_eq dL_law_1477 (by decide))) <|
  xw_cons (xw_E xn_push (xo_iconst dL_law_1480 (by decide))) <|
  xw_cons (xw_R (xt_z dL_law_1481)) <|
  xw_cons (xw_E xn_aload (xo_aload_n dL_law_1482 rfl)) <|
  xw_cons (xw_E xn_aload (xo_aload_n dL_law_1483 rfl)) <|
  xw_cons (xw_E xn_iload (xo_iload dL_law_1484)) <|
  xw_cons (xw_E xn_push (xo_iconst dL_law_1486 (by decide))) <|
  xw_cons (xw_E xn_ii (xo_iadd dL_law_1487)) <|
  xw_cons (xw_E xn_ald (xo_iald xk_hB dL_law_1488)) <|
  xw_cons (xw_E xn_aload (xo_aload_n dL_law_1489 rfl)) <|
  xw_cons (xw_E xn_iload (xo_iload dL_law_1490)) <|
  xw_cons (xw_E xn_push (xo_iconst dL_law_1492 (by decide))) <|
  xw_cons (xw_E xn_ii (xo_iadd dL_law_1493)) <|
  xw_cons (xw_E xn_ald (xo_iald xk_hB dL_law_1494)) <|
  xw_cons (xl_v_26_151 hG dL_law_1495) <|
  xw_cons (xw_E xn_aload (xo_aload_n dL_law_1498 rfl)) <|
  xw_cons (xw_E xn_aload (xo_aload_n dL_law_1499 rfl)) <|
  xw_cons (xw_E xn_iload (xo_iload dL_law_1500)) <|
  xw_cons (xw_E xn_push (xo_iconst dL_law_1502 (by decide))) <|
  xw_cons (xw_E xn_ii (xo_iadd dL_law_1503)) <|
  xw_cons (xw_E xn_ald (xo_iald xk_hB dL_law_1504)) <|
  xw_cons (xw_E xn_aload (xo_aload_n dL_law_1505 rfl)) <|
  xw_cons (xw_E xn_iload (xo_iload dL_law_1506)) <|
  xw_cons (xw_E xn_push (xo_iconst dL_law_1508 (by decide))) <|
  xw_cons (xw_E xn_ii (xo_iadd dL_law_1509)) <|
  xw_cons (xw_E xn_ald (xo_iald xk_hB dL_law_1510)) <|
  xw_cons (xl_v_26_154 hG dL_law_1511) <|
  xw_cons (xw_E xn_icmp (xo_icmp_eq dL_law_1514 (by decide))) <|
  xw_cons (xw_E xn_push (xo_iconst dL_law_1517 (by decide))) <|
  xw_cons (xw_R (xt_z dL_law_1518)) <|
  xw_cons (xw_E xn_aload (xo_aload_n dL_law_1519 rfl)) <|
  xw_cons (xw_E xn_aload (xo_aload_n dL_law_1520 rfl)) <|
  xw_cons (xw_E xn_iload (xo_iload dL_law_1521)) <|
  xw_cons (xw_E xn_push (xo_iconst dL_law_1523 (by decide))) <|
  xw_cons (xw_E xn_ii (xo_iadd dL_law_1524)) <|
  xw_cons (xw_E xn_ald (xo_iald xk_hB dL_law_1525)) <|
  xw_cons (xw_E xn_aload (xo_aload_n dL_law_1526 rfl)) <|
  xw_cons (xw_E xn_iload (xo_iload dL_law_1527)) <|
  xw_cons (xw_E xn_push (xo_iconst dL_law_1529 (by decide))) <|
  xw_cons (xw_E xn_ii (xo_iadd dL_law_1530)) <|
  xw_cons (xw_E xn_ald (xo_iald xk_hB dL_law_1531)) <|
  xw_cons (xl_v_26_155 hG dL_law_1532) <|
  xw_cons (xw_E xn_aload (xo_aload_n dL_law_1535 rfl)) <|
  xw_cons (xw_E xn_aload (xo_aload_n dL_law_1536 rfl)) <|
  xw_cons (xw_E xn_iload (xo_iload dL_law_1537)) <|
  xw_cons (xw_E xn_push (xo_iconst dL_law_1539 (by decide))) <|
  xw_cons (xw_E xn_ii (xo_iadd dL_law_1540)) <|
  xw_nil _
def xp_314_20 : List (Nat × xm_O) := [
  (1541, .inl (xe_ald (fun t => t == 0) 1542)),
  (1542, .inl (xe_aload 0 1543)),
  (1543, .inl (xe_iload 4 1545)),
  (1545, .inl (xe_push (.int 2) 1546)),
  (1546, .inl (xe_ii (fun x y => x + y) 1547)),
  (1547, .inl (xe_ald (fun t => t == 0) 1548)),
  (1548, .inr (.inr (.inl (xc_V (xj_1 8 228) [0, 0])))),
  (1551, .inl (xe_icmp (fun x y => decide (x = y)) 1818 1554)),
  (1554, .inl (xe_push (.int 0) 1555)),
  (1555, .inr (.inl xr_z)),
  (1556, .inl (xe_aload 1 1557)),
  (1557, .inl (xe_aload 0 1558)),
  (1558, .inl (xe_iload 4 1560)),
  (1560, .inl (xe_push (.int 1) 1561)),
  (1561, .inl (xe_ii (fun x y => x + y) 1562)),
  (1562, .inl (xe_ald (fun t => t == 0) 1563)),
  (1563, .inl (xe_aload 0 1564)),
  (1564, .inl (xe_iload 4 1566)),
  (1566, .inl (xe_push (.int 2) 1567)),
  (1567, .inl (xe_ii (fun x y => x + y) 1568)),
  (1568, .inl (xe_ald (fun t => t == 0) 1569)),
  (1569, .inl (xe_aload 0 1570)),
  (1570, .inl (xe_iload 4 1572)),
  (1572, .inl (xe_push (.int 3) 1573)),
  (1573, .inl (xe_ii (fun x y => x + y) 1574)),
  (1574, .inl (xe_ald (fun t => t == 0) 1575)),
  (1575, .inr (.inr (.inl (xc_V (xj_1 0 76) [0, 0, 0])))),
  (1578, .inl (xe_aload 2 1579)),
  (1579, .inl (xe_aload 0 1580)),
  (1580, .inl (xe_iload 4 1582)),
  (1582, .inl (xe_push (.int 1) 1583)),
  (1583, .inl (xe_ii (fun x y => x + y) 1584)),
  (1584, .inl (xe_ald (fun t => t == 0) 1585)),
  (1585, .inl (xe_aload 0 1586)),
  (1586, .inl (xe_iload 4 1588)),
  (1588, .inl (xe_push (.int 2) 1589)),
  (1589, .inl (xe_ii (fun x y => x + y) 1590)),
  (1590, .inl (xe_ald (fun t => t == 0) 1591)),
  (1591, .inl (xe_aload 0 1592)),
  (1592, .inl (xe_iload 4 1594)),
  (1594, .inl (xe_push (.int 3) 1595)),
  (1595, .inl (xe_ii (fun x y => x + y) 1596)),
  (1596, .inl (xe_ald (fun t => t == 0) 1597)),
  (1597, .inr (.inr (.inl (xc_V (xj_1 8 229) [0, 0, 0])))),
  (1600, .inl (xe_icmp (fun x y => decide (x = y)) 1818 1603)),
  (1603, .inl (xe_push (.int 0) 1604)),
  (1604, .inr (.inl xr_z)),
  (1605, .inl (xe_aload 1 1606)),
  (1606, .inl (xe_aload 0 1607)),
  (1607, .inl (xe_iload 4 1609))]
theorem xq_314_20 {G : xm_G} (hG : xm_W xk_B G) (hO : xm_Og G) : ∀ q ∈ xp_314_20, xm_op xk_B G xd xk_N "LiarsCockLaw" "law" code 8 (some (FieldType.boolean)) q.1 q.2 :=
  xw_cons (xw_E xn_ald (xo_iald xk_hB dL_law_1541)) <|
  xw_cons (xw_E xn_aload (xo_aload_n dL_law_1542 rfl)) <|
  xw_cons (xw_E xn_iload (xo_iload dL_law_1543)) <|
  xw_cons (xw_E xn_push (xo_iconst dL_law_1545 (by decide))) <|
  xw_cons (xw_E xn_ii (xo_iadd dL_law_1546)) <|
  xw_cons (xw_E xn_ald (xo_iald xk_hB dL_law_1547)) <|
  xw_cons (xl_v_26_158 hG dL_law_1548) <|
  xw_cons (xw_E xn_icmp (xo_icmp_eq dL_law_1551 (by decide))) <|
  xw_cons (xw_E xn_push (xo_iconst dL_law_1554 (by decide))) <|
  xw_cons (xw_R (xt_z dL_law_1555)) <|
  xw_cons (xw_E xn_aload (xo_aload_n dL_law_1556 rfl)) <|
  xw_cons (xw_E xn_aload (xo_aload_n dL_law_1557 rfl)) <|
  xw_cons (xw_E xn_iload (xo_iload dL_law_1558)) <|
  xw_cons (xw_E xn_push (xo_iconst dL_law_1560 (by decide))) <|
  xw_cons (xw_E xn_ii (xo_iadd dL_law_1561)) <|
  xw_cons (xw_E xn_ald (xo_iald xk_hB dL_law_1562)) <|
  xw_cons (xw_E xn_aload (xo_aload_n dL_law_1563 rfl)) <|
  xw_cons (xw_E xn_iload (xo_iload dL_law_1564)) <|
  xw_cons (xw_E xn_push (xo_iconst dL_law_1566 (by decide))) <|
  xw_cons (xw_E xn_ii (xo_iadd dL_law_1567)) <|
  xw_cons (xw_E xn_ald (xo_iald xk_hB dL_law_1568)) <|
  xw_cons (xw_E xn_aload (xo_aload_n dL_law_1569 rfl)) <|
  xw_cons (xw_E xn_iload (xo_iload dL_law_1570)) <|
  xw_cons (xw_E xn_push (xo_iconst dL_law_1572 (by decide))) <|
  xw_cons (xw_E xn_ii (xo_iadd dL_law_1573)) <|
  xw_cons (xw_E xn_ald (xo_iald xk_hB dL_law_1574)) <|
  xw_cons (xl_v_26_159 hG dL_law_1575) <|
  xw_cons (xw_E xn_aload (xo_aload_n dL_law_1578 rfl)) <|
  xw_cons (xw_E xn_aload (xo_aload_n dL_law_1579 rfl)) <|
  xw_cons (xw_E xn_iload (xo_iload dL_law_1580)) <|
  xw_cons (xw_E xn_push (xo_iconst dL_law_1582 (by decide))) <|
  xw_cons (xw_E xn_ii (xo_iadd dL_law_1583)) <|
  xw_cons (xw_E xn_ald (xo_iald xk_hB dL_law_1584)) <|
  xw_cons (xw_E xn_aload (xo_aload_n dL_law_1585 rfl)) <|
  xw_cons (xw_E xn_iload (xo_iload dL_law_1586)) <|
  xw_cons (xw_E xn_push (xo_iconst dL_law_1588 (by decide))) <|
  xw_cons (xw_E xn_ii (xo_iadd dL_law_1589)) <|
  xw_cons (xw_E xn_ald (xo_iald xk_hB dL_law_1590)) <|
  xw_cons (xw_E xn_aload (xo_aload_n dL_law_1591 rfl)) <|
  xw_cons (xw_E xn_iload (xo_iload dL_law_1592)) <|
  xw_cons (xw_E xn_push (xo_iconst dL_law_1594 (by decide))) <|
  xw_cons (xw_E xn_ii (xo_iadd dL_law_1595)) <|
  xw_cons (xw_E xn_ald (xo_iald xk_hB dL_law_1596)) <|
  xw_cons (xl_v_26_162 hG dL_law_1597) <|
  xw_cons (xw_E xn_icmp (xo_icmp_eq dL_law_1600 (by decide))) <|
  xw_cons (xw_E xn_push (xo_iconst dL_law_1603 (by decide))) <|
  xw_cons (xw_R (xt_z dL_law_1604)) <|
  xw_cons (xw_E xn_aload (xo_aload_n dL_law_1605 rfl)) <|
  xw_cons (xw_E xn_aload (xo_aload_n dL_law_1606 rfl)) <|
  xw_cons (xw_E xn_iload (xo_iload dL_law_1607)) <|
  xw_nil _
def xp_314_21 : List (Nat × xm_O) := [
  (1609, .inl (xe_push (.int 1) 1610)),
  (1610, .inl (xe_ii (fun x y => x + y) 1611)),
  (1611, .inl (xe_ald (fun t => t == 0) 1612)),
  (1612, .inl (xe_aload 0 1613)),
  (1613, .inl (xe_iload 4 1615)),
  (1615, .inl (xe_push (.int 2) 1616)),
  (1616, .inl (xe_ii (fun x y => x + y) 1617)),
  (1617, .inl (xe_ald (fun t => t == 0) 1618)),
  (1618, .inr (.inr (.inl (xc_V (xj_1 0 77) [0, 0])))),
  (1621, .inl (xe_aload 2 1622)),
  (1622, .inl (xe_aload 0 1623)),
  (1623, .inl (xe_iload 4 1625)),
  (1625, .inl (xe_push (.int 1) 1626)),
  (1626, .inl (xe_ii (fun x y => x + y) 1627)),
  (1627, .inl (xe_ald (fun t => t == 0) 1628)),
  (1628, .inl (xe_aload 0 1629)),
  (1629, .inl (xe_iload 4 1631)),
  (1631, .inl (xe_push (.int 2) 1632)),
  (1632, .inl (xe_ii (fun x y => x + y) 1633)),
  (1633, .inl (xe_ald (fun t => t == 0) 1634)),
  (1634, .inr (.inr (.inl (xc_V (xj_1 8 234) [0, 0])))),
  (1637, .inl (xe_icmp (fun x y => decide (x = y)) 1818 1640)),
  (1640, .inl (xe_push (.int 0) 1641)),
  (1641, .inr (.inl xr_z)),
  (1642, .inl (xe_aload 1 1643)),
  (1643, .inl (xe_aload 0 1644)),
  (1644, .inl (xe_iload 4 1646)),
  (1646, .inl (xe_push (.int 1) 1647)),
  (1647, .inl (xe_ii (fun x y => x + y) 1648)),
  (1648, .inl (xe_ald (fun t => t == 0) 1649)),
  (1649, .inl (xe_aload 0 1650)),
  (1650, .inl (xe_iload 4 1652)),
  (1652, .inl (xe_push (.int 2) 1653)),
  (1653, .inl (xe_ii (fun x y => x + y) 1654)),
  (1654, .inl (xe_ald (fun t => t == 0) 1655)),
  (1655, .inl (xe_aload 0 1656)),
  (1656, .inl (xe_iload 4 1658)),
  (1658, .inl (xe_push (.int 3) 1659)),
  (1659, .inl (xe_ii (fun x y => x + y) 1660)),
  (1660, .inl (xe_ald (fun t => t == 0) 1661)),
  (1661, .inl (xe_aload 0 1662)),
  (1662, .inl (xe_iload 4 1664)),
  (1664, .inl (xe_push (.int 4) 1665)),
  (1665, .inl (xe_ii (fun x y => x + y) 1666)),
  (1666, .inl (xe_ald (fun t => t == 0) 1667)),
  (1667, .inr (.inr (.inl (xc_V (xj_1 0 78) [0, 0, 0, 0])))),
  (1670, .inl (xe_aload 2 1671)),
  (1671, .inl (xe_aload 0 1672)),
  (1672, .inl (xe_iload 4 1674)),
  (1674, .inl (xe_push (.int 1) 1675))]
theorem xq_314_21 {G : xm_G} (hG : xm_W xk_B G) (hO : xm_Og G) : ∀ q ∈ xp_314_21, xm_op xk_B G xd xk_N "LiarsCockLaw" "law" code 8 (some (FieldType.boolean)) q.1 q.2 :=
  xw_cons (xw_E xn_push (xo_iconst dL_law_1609 (by decide))) <|
  xw_cons (xw_E xn_ii (xo_iadd dL_law_1610)) <|
  xw_cons (xw_E xn_ald (xo_iald xk_hB dL_law_1611)) <|
  xw_cons (xw_E xn_aload (xo_aload_n dL_law_1612 rfl)) <|
  xw_cons (xw_E xn_iload (xo_iload dL_law_1613)) <|
  xw_cons (xw_E xn_push (xo_iconst dL_law_1615 (by decide))) <|
  xw_cons (xw_E xn_ii (xo_iadd dL_law_1616)) <|
  xw_cons (xw_E xn_ald (xo_iald xk_hB dL_law_1617)) <|
  xw_cons (xl_v_26_163 hG dL_law_1618) <|
  xw_cons (xw_E xn_aload (xo_aload_n dL_law_1621 rfl)) <|
  xw_cons (xw_E xn_aload (xo_aload_n dL_law_1622 rfl)) <|
  xw_cons (xw_E xn_iload (xo_iload dL_law_1623)) <|
  xw_cons (xw_E xn_push (xo_iconst dL_law_1625 (by decide))) <|
  xw_cons (xw_E xn_ii (xo_iadd dL_law_1626)) <|
  xw_cons (xw_E xn_ald (xo_iald xk_hB dL_law_1627)) <|
  xw_cons (xw_E xn_aload (xo_aload_n dL_law_1628 rfl)) <|
  xw_cons (xw_E xn_iload (xo_iload dL_law_1629)) <|
  xw_cons (xw_E xn_push (xo_iconst dL_law_1631 (by decide))) <|
  xw_cons (xw_E xn_ii (xo_iadd dL_law_1632)) <|
  xw_cons (xw_E xn_ald (xo_iald xk_hB dL_law_1633)) <|
  xw_cons (xl_v_26_166 hG dL_law_1634) <|
  xw_cons (xw_E xn_icmp (xo_icmp_eq dL_law_1637 (by decide))) <|
  xw_cons (xw_E xn_push (xo_iconst dL_law_1640 (by decide))) <|
  xw_cons (xw_R (xt_z dL_law_1641)) <|
  xw_cons (xw_E xn_aload (xo_aload_n dL_law_1642 rfl)) <|
  xw_cons (xw_E xn_aload (xo_aload_n dL_law_1643 rfl)) <|
  xw_cons (xw_E xn_iload (xo_iload dL_law_1644)) <|
  xw_cons (xw_E xn_push (xo_iconst dL_law_1646 (by decide))) <|
  xw_cons (xw_E xn_ii (xo_iadd dL_law_1647)) <|
  xw_cons (xw_E xn_ald (xo_iald xk_hB dL_law_1648)) <|
  xw_cons (xw_E xn_aload (xo_aload_n dL_law_1649 rfl)) <|
  xw_cons (xw_E xn_iload (xo_iload dL_law_1650)) <|
  xw_cons (xw_E xn_push (xo_iconst dL_law_1652 (by decide))) <|
  xw_cons (xw_E xn_ii (xo_iadd dL_law_1653)) <|
  xw_cons (xw_E xn_ald (xo_iald xk_hB dL_law_1654)) <|
  xw_cons (xw_E xn_aload (xo_aload_n dL_law_1655 rfl)) <|
  xw_cons (xw_E xn_iload (xo_iload dL_law_1656)) <|
  xw_cons (xw_E xn_push (xo_iconst dL_law_1658 (by decide))) <|
  xw_cons (xw_E xn_ii (xo_iadd dL_law_1659)) <|
  xw_cons (xw_E xn_ald (xo_iald xk_hB dL_law_1660)) <|
  xw_cons (xw_E xn_aload (xo_aload_n dL_law_1661 rfl)) <|
  xw_cons (xw_E xn_iload (xo_iload dL_law_1662)) <|
  xw_cons (xw_E xn_push (xo_iconst dL_law_1664 (by decide))) <|
  xw_cons (xw_E xn_ii (xo_iadd dL_law_1665)) <|
  xw_cons (xw_E xn_ald (xo_iald xk_hB dL_law_1666)) <|
  xw_cons (xl_v_26_167 hG dL_law_1667) <|
  xw_cons (xw_E xn_aload (xo_aload_n dL_law_1670 rfl)) <|
  xw_cons (xw_E xn_aload (xo_aload_n dL_law_1671 rfl)) <|
  xw_cons (xw_E xn_iload (xo_iload dL_law_1672)) <|
  xw_cons (xw_E xn_push (xo_iconst dL_law_1674 (by decide))) <|
  xw_nil _
def xp_314_22 : List (Nat × xm_O) := [
  (1675, .inl (xe_ii (fun x y => x + y) 1676)),
  (1676, .inl (xe_ald (fun t => t == 0) 1677)),
  (1677, .inl (xe_aload 0 1678)),
  (1678, .inl (xe_iload 4 1680)),
  (1680, .inl (xe_push (.int 2) 1681)),
  (1681, .inl (xe_ii (fun x y => x + y) 1682)),
  (1682, .inl (xe_ald (fun t => t == 0) 1683)),
  (1683, .inl (xe_aload 0 1684)),
  (1684, .inl (xe_iload 4 1686)),
  (1686, .inl (xe_push (.int 3) 1687)),
  (1687, .inl (xe_ii (fun x y => x + y) 1688)),
  (1688, .inl (xe_ald (fun t => t == 0) 1689)),
  (1689, .inl (xe_aload 0 1690)),
  (1690, .inl (xe_iload 4 1692)),
  (1692, .inl (xe_push (.int 4) 1693)),
  (1693, .inl (xe_ii (fun x y => x + y) 1694)),
  (1694, .inl (xe_ald (fun t => t == 0) 1695)),
  (1695, .inr (.inr (.inl (xc_V (xj_1 8 235) [0, 0, 0, 0])))),
  (1698, .inl (xe_icmp (fun x y => decide (x = y)) 1818 1701)),
  (1701, .inl (xe_push (.int 0) 1702)),
  (1702, .inr (.inl xr_z)),
  (1703, .inl (xe_aload 1 1704)),
  (1704, .inl (xe_aload 0 1705)),
  (1705, .inl (xe_iload 4 1707)),
  (1707, .inl (xe_push (.int 1) 1708)),
  (1708, .inl (xe_ii (fun x y => x + y) 1709)),
  (1709, .inl (xe_ald (fun t => t == 0) 1710)),
  (1710, .inl (xe_aload 0 1711)),
  (1711, .inl (xe_iload 4 1713)),
  (1713, .inl (xe_push (.int 2) 1714)),
  (1714, .inl (xe_ii (fun x y => x + y) 1715)),
  (1715, .inl (xe_ald (fun t => t == 0) 1716)),
  (1716, .inr (.inr (.inl (xc_V (xj_1 0 79) [0, 0])))),
  (1719, .inl (xe_aload 2 1720)),
  (1720, .inl (xe_aload 0 1721)),
  (1721, .inl (xe_iload 4 1723)),
  (1723, .inl (xe_push (.int 1) 1724)),
  (1724, .inl (xe_ii (fun x y => x + y) 1725)),
  (1725, .inl (xe_ald (fun t => t == 0) 1726)),
  (1726, .inl (xe_aload 0 1727)),
  (1727, .inl (xe_iload 4 1729)),
  (1729, .inl (xe_push (.int 2) 1730)),
  (1730, .inl (xe_ii (fun x y => x + y) 1731)),
  (1731, .inl (xe_ald (fun t => t == 0) 1732)),
  (1732, .inr (.inr (.inl (xc_V (xj_1 8 236) [0, 0])))),
  (1735, .inl (xe_icmp (fun x y => decide (x = y)) 1818 1738)),
  (1738, .inl (xe_push (.int 0) 1739)),
  (1739, .inr (.inl xr_z)),
  (1740, .inl (xe_aload 1 1741)),
  (1741, .inl (xe_aload 0 1742))]
theorem xq_314_22 {G : xm_G} (hG : xm_W xk_B G) (hO : xm_Og G) : ∀ q ∈ xp_314_22, xm_op xk_B G xd xk_N "LiarsCockLaw" "law" code 8 (some (FieldType.boolean)) q.1 q.2 :=
  xw_cons (xw_E xn_ii (xo_iadd dL_law_1675)) <|
  xw_cons (xw_E xn_ald (xo_iald xk_hB dL_law_1676)) <|
  xw_cons (xw_E xn_aload (xo_aload_n dL_law_1677 rfl)) <|
  xw_cons (xw_E xn_iload (xo_iload dL_law_1678)) <|
  xw_cons (xw_E xn_push (xo_iconst dL_law_1680 (by decide))) <|
  xw_cons (xw_E xn_ii (xo_iadd dL_law_1681)) <|
  xw_cons (xw_E xn_ald (xo_iald xk_hB dL_law_1682)) <|
  xw_cons (xw_E xn_aload (xo_aload_n dL_law_1683 rfl)) <|
  xw_cons (xw_E xn_iload (xo_iload dL_law_1684)) <|
  xw_cons (xw_E xn_push (xo_iconst dL_law_1686 (by decide))) <|
  xw_cons (xw_E xn_ii (xo_iadd dL_law_1687)) <|
  xw_cons (xw_E xn_ald (xo_iald xk_hB dL_law_1688)) <|
  xw_cons (xw_E xn_aload (xo_aload_n dL_law_1689 rfl)) <|
  xw_cons (xw_E xn_iload (xo_iload dL_law_1690)) <|
  xw_cons (xw_E xn_push (xo_iconst dL_law_1692 (by decide))) <|
  xw_cons (xw_E xn_ii (xo_iadd dL_law_1693)) <|
  xw_cons (xw_E xn_ald (xo_iald xk_hB dL_law_1694)) <|
  xw_cons (xl_v_26_170 hG dL_law_1695) <|
  xw_cons (xw_E xn_icmp (xo_icmp_eq dL_law_1698 (by decide))) <|
  xw_cons (xw_E xn_push (xo_iconst dL_law_1701 (by decide))) <|
  xw_cons (xw_R (xt_z dL_law_1702)) <|
  xw_cons (xw_E xn_aload (xo_aload_n dL_law_1703 rfl)) <|
  xw_cons (xw_E xn_aload (xo_aload_n dL_law_1704 rfl)) <|
  xw_cons (xw_E xn_iload (xo_iload dL_law_1705)) <|
  xw_cons (xw_E xn_push (xo_iconst dL_law_1707 (by decide))) <|
  xw_cons (xw_E xn_ii (xo_iadd dL_law_1708)) <|
  xw_cons (xw_E xn_ald (xo_iald xk_hB dL_law_1709)) <|
  xw_cons (xw_E xn_aload (xo_aload_n dL_law_1710 rfl)) <|
  xw_cons (xw_E xn_iload (xo_iload dL_law_1711)) <|
  xw_cons (xw_E xn_push (xo_iconst dL_law_1713 (by decide))) <|
  xw_cons (xw_E xn_ii (xo_iadd dL_law_1714)) <|
  xw_cons (xw_E xn_ald (xo_iald xk_hB dL_law_1715)) <|
  xw_cons (xl_v_26_171 hG dL_law_1716) <|
  xw_cons (xw_E xn_aload (xo_aload_n dL_law_1719 rfl)) <|
  xw_cons (xw_E xn_aload (xo_aload_n dL_law_1720 rfl)) <|
  xw_cons (xw_E xn_iload (xo_iload dL_law_1721)) <|
  xw_cons (xw_E xn_push (xo_iconst dL_law_1723 (by decide))) <|
  xw_cons (xw_E xn_ii (xo_iadd dL_law_1724)) <|
  xw_cons (xw_E xn_ald (xo_iald xk_hB dL_law_1725)) <|
  xw_cons (xw_E xn_aload (xo_aload_n dL_law_1726 rfl)) <|
  xw_cons (xw_E xn_iload (xo_iload dL_law_1727)) <|
  xw_cons (xw_E xn_push (xo_iconst dL_law_1729 (by decide))) <|
  xw_cons (xw_E xn_ii (xo_iadd dL_law_1730)) <|
  xw_cons (xw_E xn_ald (xo_iald xk_hB dL_law_1731)) <|
  xw_cons (xl_v_26_174 hG dL_law_1732) <|
  xw_cons (xw_E xn_icmp (xo_icmp_eq dL_law_1735 (by decide))) <|
  xw_cons (xw_E xn_push (xo_iconst dL_law_1738 (by decide))) <|
  xw_cons (xw_R (xt_z dL_law_1739)) <|
  xw_cons (xw_E xn_aload (xo_aload_n dL_law_1740 rfl)) <|
  xw_cons (xw_E xn_aload (xo_aload_n dL_law_1741 rfl)) <|
  xw_nil _
def xp_314_23 : List (Nat × xm_O) := [
  (1742, .inl (xe_iload 4 1744)),
  (1744, .inl (xe_push (.int 1) 1745)),
  (1745, .inl (xe_ii (fun x y => x + y) 1746)),
  (1746, .inl (xe_ald (fun t => t == 0) 1747)),
  (1747, .inl (xe_aload 0 1748)),
  (1748, .inl (xe_iload 4 1750)),
  (1750, .inl (xe_push (.int 2) 1751)),
  (1751, .inl (xe_ii (fun x y => x + y) 1752)),
  (1752, .inl (xe_ald (fun t => t == 0) 1753)),
  (1753, .inl (xe_if (fun x => decide (x = 0)) 1760 1756)),
  (1756, .inl (xe_push (.int 1) 1757)),
  (1757, .inl (xe_goto 1761)),
  (1760, .inl (xe_push (.int 0) 1761)),
  (1761, .inr (.inr (.inl (xc_V (xj_1 0 80) [0, 0])))),
  (1764, .inl (xe_aload 2 1765)),
  (1765, .inl (xe_aload 0 1766)),
  (1766, .inl (xe_iload 4 1768)),
  (1768, .inl (xe_push (.int 1) 1769)),
  (1769, .inl (xe_ii (fun x y => x + y) 1770)),
  (1770, .inl (xe_ald (fun t => t == 0) 1771)),
  (1771, .inl (xe_aload 0 1772)),
  (1772, .inl (xe_iload 4 1774)),
  (1774, .inl (xe_push (.int 2) 1775)),
  (1775, .inl (xe_ii (fun x y => x + y) 1776)),
  (1776, .inl (xe_ald (fun t => t == 0) 1777)),
  (1777, .inl (xe_if (fun x => decide (x = 0)) 1784 1780)),
  (1780, .inl (xe_push (.int 1) 1781)),
  (1781, .inl (xe_goto 1785)),
  (1784, .inl (xe_push (.int 0) 1785)),
  (1785, .inr (.inr (.inl (xc_V (xj_1 8 237) [0, 0])))),
  (1788, .inl (xe_icmp (fun x y => decide (x = y)) 1818 1791)),
  (1791, .inl (xe_push (.int 0) 1792)),
  (1792, .inr (.inl xr_z)),
  (1793, .inl (xe_aload 1 1794)),
  (1794, .inl (xe_aload 0 1795)),
  (1795, .inl (xe_iload 4 1797)),
  (1797, .inl (xe_push (.int 1) 1798)),
  (1798, .inl (xe_ii (fun x y => x + y) 1799)),
  (1799, .inl (xe_ald (fun t => t == 0) 1800)),
  (1800, .inr (.inr (.inl (xc_V (xj_1 0 81) [0])))),
  (1803, .inl (xe_aload 2 1804)),
  (1804, .inl (xe_aload 0 1805)),
  (1805, .inl (xe_iload 4 1807)),
  (1807, .inl (xe_push (.int 1) 1808)),
  (1808, .inl (xe_ii (fun x y => x + y) 1809)),
  (1809, .inl (xe_ald (fun t => t == 0) 1810)),
  (1810, .inr (.inr (.inl (xc_V (xj_1 8 241) [0])))),
  (1813, .inl (xe_icmp (fun x y => decide (x = y)) 1818 1816)),
  (1816, .inl (xe_push (.int 0) 1817)),
  (1817, .inr (.inl xr_z))]
theorem xq_314_23 {G : xm_G} (hG : xm_W xk_B G) (hO : xm_Og G) : ∀ q ∈ xp_314_23, xm_op xk_B G xd xk_N "LiarsCockLaw" "law" code 8 (some (FieldType.boolean)) q.1 q.2 :=
  xw_cons (xw_E xn_iload (xo_iload dL_law_1742)) <|
  xw_cons (xw_E xn_push (xo_iconst dL_law_1744 (by decide))) <|
  xw_cons (xw_E xn_ii (xo_iadd dL_law_1745)) <|
  xw_cons (xw_E xn_ald (xo_iald xk_hB dL_law_1746)) <|
  xw_cons (xw_E xn_aload (xo_aload_n dL_law_1747 rfl)) <|
  xw_cons (xw_E xn_iload (xo_iload dL_law_1748)) <|
  xw_cons (xw_E xn_push (xo_iconst dL_law_1750 (by decide))) <|
  xw_cons (xw_E xn_ii (xo_iadd dL_law_1751)) <|
  xw_cons (xw_E xn_ald (xo_iald xk_hB dL_law_1752)) <|
  xw_cons (xw_E xn_if (xo_if_eq dL_law_1753 (by decide))) <|
  xw_cons (xw_E xn_push (xo_iconst dL_law_1756 (by decide))) <|
  xw_cons (xw_E xn_goto (xo_goto dL_law_1757 (by decide))) <|
  xw_cons (xw_E xn_push (xo_iconst dL_law_1760 (by decide))) <|
  xw_cons (xl_v_26_175 hG dL_law_1761) <|
  xw_cons (xw_E xn_aload (xo_aload_n dL_law_1764 rfl)) <|
  xw_cons (xw_E xn_aload (xo_aload_n dL_law_1765 rfl)) <|
  xw_cons (xw_E xn_iload (xo_iload dL_law_1766)) <|
  xw_cons (xw_E xn_push (xo_iconst dL_law_1768 (by decide))) <|
  xw_cons (xw_E xn_ii (xo_iadd dL_law_1769)) <|
  xw_cons (xw_E xn_ald (xo_iald xk_hB dL_law_1770)) <|
  xw_cons (xw_E xn_aload (xo_aload_n dL_law_1771 rfl)) <|
  xw_cons (xw_E xn_iload (xo_iload dL_law_1772)) <|
  xw_cons (xw_E xn_push (xo_iconst dL_law_1774 (by decide))) <|
  xw_cons (xw_E xn_ii (xo_iadd dL_law_1775)) <|
  xw_cons (xw_E xn_ald (xo_iald xk_hB dL_law_1776)) <|
  xw_cons (xw_E xn_if (xo_if_eq dL_law_1777 (by decide))) <|
  xw_cons (xw_E xn_push (xo_iconst dL_law_1780 (by decide))) <|
  xw_cons (xw_E xn_goto (xo_goto dL_law_1781 (by decide))) <|
  xw_cons (xw_E xn_push (xo_iconst dL_law_1784 (by decide))) <|
  xw_cons (xl_v_26_179 hG dL_law_1785) <|
  xw_cons (xw_E xn_icmp (xo_icmp_eq dL_law_1788 (by decide))) <|
  xw_cons (xw_E xn_push (xo_iconst dL_law_1791 (by decide))) <|
  xw_cons (xw_R (xt_z dL_law_1792)) <|
  xw_cons (xw_E xn_aload (xo_aload_n dL_law_1793 rfl)) <|
  xw_cons (xw_E xn_aload (xo_aload_n dL_law_1794 rfl)) <|
  xw_cons (xw_E xn_iload (xo_iload dL_law_1795)) <|
  xw_cons (xw_E xn_push (xo_iconst dL_law_1797 (by decide))) <|
  xw_cons (xw_E xn_ii (xo_iadd dL_law_1798)) <|
  xw_cons (xw_E xn_ald (xo_iald xk_hB dL_law_1799)) <|
  xw_cons (xl_v_26_180 hG dL_law_1800) <|
  xw_cons (xw_E xn_aload (xo_aload_n dL_law_1803 rfl)) <|
  xw_cons (xw_E xn_aload (xo_aload_n dL_law_1804 rfl)) <|
  xw_cons (xw_E xn_iload (xo_iload dL_law_1805)) <|
  xw_cons (xw_E xn_push (xo_iconst dL_law_1807 (by decide))) <|
  xw_cons (xw_E xn_ii (xo_iadd dL_law_1808)) <|
  xw_cons (xw_E xn_ald (xo_iald xk_hB dL_law_1809)) <|
  xw_cons (xl_v_26_183 hG dL_law_1810) <|
  xw_cons (xw_E xn_icmp (xo_icmp_eq dL_law_1813 (by decide))) <|
  xw_cons (xw_E xn_push (xo_iconst dL_law_1816 (by decide))) <|
  xw_cons (xw_R (xt_z dL_law_1817)) <|
  xw_nil _
def xp_314_24 : List (Nat × xm_O) := [
  (1818, .inl (xe_iinc 4 7 1821)),
  (1821, .inl (xe_goto 23)),
  (1824, .inl (xe_push (.int 1) 1825)),
  (1825, .inr (.inl xr_z))]
theorem xq_314_24 {G : xm_G} (hG : xm_W xk_B G) (hO : xm_Og G) : ∀ q ∈ xp_314_24, xm_op xk_B G xd xk_N "LiarsCockLaw" "law" code 8 (some (FieldType.boolean)) q.1 q.2 :=
  xw_cons (xw_E xn_iinc (xo_iinc dL_law_1818 (by decide))) <|
  xw_cons (xw_E xn_goto (xo_goto dL_law_1821 (by decide))) <|
  xw_cons (xw_E xn_push (xo_iconst dL_law_1824 (by decide))) <|
  xw_cons (xw_R (xt_z dL_law_1825)) <|
  xw_nil _
def xp_314 : List (Nat × xm_O) := xp_314_0 ++ xp_314_1 ++ xp_314_2 ++ xp_314_3 ++ xp_314_4 ++ xp_314_5 ++ xp_314_6 ++ xp_314_7 ++ xp_314_8 ++ xp_314_9 ++ xp_314_10 ++ xp_314_11 ++ xp_314_12 ++ xp_314_13 ++ xp_314_14 ++ xp_314_15 ++ xp_314_16 ++ xp_314_17 ++ xp_314_18 ++ xp_314_19 ++ xp_314_20 ++ xp_314_21 ++ xp_314_22 ++ xp_314_23 ++ xp_314_24
theorem xq_314 {G : xm_G} (hG : xm_W xk_B G) (hO : xm_Og G) : ∀ q ∈ xp_314, xm_op xk_B G xd xk_N "LiarsCockLaw" "law" code 8 (some (FieldType.boolean)) q.1 q.2 := xw_app (xw_app (xw_app (xw_app (xw_app (xw_app (xw_app (xw_app (xw_app (xw_app (xw_app (xw_app (xw_app (xw_app (xw_app (xw_app (xw_app (xw_app (xw_app (xw_app (xw_app (xw_app (xw_app (xw_app (xq_314_0 hG hO) (xq_314_1 hG hO)) (xq_314_2 hG hO)) (xq_314_3 hG hO)) (xq_314_4 hG hO)) (xq_314_5 hG hO)) (xq_314_6 hG hO)) (xq_314_7 hG hO)) (xq_314_8 hG hO)) (xq_314_9 hG hO)) (xq_314_10 hG hO)) (xq_314_11 hG hO)) (xq_314_12 hG hO)) (xq_314_13 hG hO)) (xq_314_14 hG hO)) (xq_314_15 hG hO)) (xq_314_16 hG hO)) (xq_314_17 hG hO)) (xq_314_18 hG hO)) (xq_314_19 hG hO)) (xq_314_20 hG hO)) (xq_314_21 hG hO)) (xq_314_22 hG hO)) (xq_314_23 hG hO)) (xq_314_24 hG hO)
