/-! SMALL METHODS of the model -/
theorem lp_set {β : Type} (F : Nat → Int64 → β) (p : Nat → Bool) (n : Nat) (hs : ∀ w s, w < n → F w s = F (w + 1) (if p w = true then s ||| bt w else s)) : F 0 0 = F n (mkS n p) := lp_up0 F _ n 0 hs
theorem m171 (d : Nat) (x : Int32) (h : xm_H) : xr d 171 [.int x] h = some (.returned (some (.int (tb (ir x 1440)))), h) := by
  simp only [n171, e171_0, e171_1, e171_4, e171_5, e171_8, e171_11, e171_12, e171_15, e171_16, x_push_some, x_heap_some, x_made_some, x_call_v, x_call_n, xs_cl_i, xs_cl_r, xs_cl_n, xs_cl_u, xs_cl_l, Nat.reduceAdd, eq_self, true_or, or_true, b01_1, if_true, if_false]
  rw [← ir_m (y := 1440) (by decide)]
  by_cases h1 : x < 0 <;> by_cases h2 : 1440 ≤ x <;> simp [h1, h2, ← Int32.not_lt, ← Int32.not_le, tb]
theorem m186 (d : Nat) (x : Int32) (h : xm_H) : xr d 186 [.int x] h = some (.returned (some (.int (tb (ir x 360)))), h) := by
  simp only [n186, e186_0, e186_1, e186_4, e186_5, e186_8, e186_11, e186_12, e186_15, e186_16, x_push_some, x_heap_some, x_made_some, x_call_v, x_call_n, xs_cl_i, xs_cl_r, xs_cl_n, xs_cl_u, xs_cl_l, Nat.reduceAdd, eq_self, true_or, or_true, b01_1, if_true, if_false]
  rw [← ir_m (y := 360) (by decide)]
  by_cases h1 : x < 0 <;> by_cases h2 : 360 ≤ x <;> simp [h1, h2, ← Int32.not_lt, ← Int32.not_le, tb]
theorem m191 (d : Nat) (b f t : Int32) (h : xm_H) : xr d 191 [.int b, .int f, .int t] h = some (.returned (some (.int (tb (gIn b f t)))), h) := by
  simp only [n191, e191_0, e191_1, e191_2, e191_5, e191_6, e191_7, e191_10, e191_11, e191_12, e191_15, e191_16, e191_19, e191_20, e191_23, e191_24, e191_25, e191_28, e191_29, e191_30, e191_33, e191_34, e191_37, e191_38, x_push_some, x_heap_some, x_made_some, x_call_v, x_call_n, xs_cl_i, xs_cl_r, xs_cl_n, xs_cl_u, xs_cl_l, Nat.reduceAdd, eq_self, true_or, or_true, b01_1, if_true, if_false]
  unfold gIn
  by_cases h1 : t < f
  · have h2 : ¬ f ≤ t := by rw [Int32.not_le]; exact h1
    by_cases h3 : b < f <;> by_cases h4 : t < b <;> simp [h1, h2, h3, h4, ← Int32.not_lt, tb]
  · have h2 : f ≤ t := by rw [← Int32.not_lt]; exact h1
    by_cases h3 : b < f <;> by_cases h4 : t < b <;> simp [h1, h2, h3, h4, ← Int32.not_lt, tb]
theorem not_m1 (b : Int64) : b ^^^ (-1) = ~~~ b := by
  apply hb_ext; intro k hk
  rw [hb_xor, hb_not b hk]
  have : hb (-1) k = true := by unfold hb; rw [Int64.toBitVec_neg]; simp [hk]
  rw [this]; simp
theorem m197 (d : Nat) (a b : Int64) (h : xm_H) : xr d 197 [.long a, .long b] h = some (.returned (some (.int (gSure a b))), h) := by
  simp only [n197, e197_0, e197_1, e197_2, e197_3, e197_6, e197_7, e197_10, e197_11, e197_12, e197_15, e197_16, e197_17, e197_18, e197_19, e197_22, e197_23, e197_26, e197_27, e197_28, e197_29, e197_30, e197_31, e197_34, e197_35, e197_38, e197_39, x_push_some, x_heap_some, x_made_some, x_call_v, x_call_n, xs_cl_i, xs_cl_r, xs_cl_n, xs_cl_u, xs_cl_l, Nat.reduceAdd, eq_self, true_or, or_true, b01_1, if_true, if_false, lcz, not_m1]
  unfold gSure
  by_cases h1 : a = 0 <;> by_cases h2 : a &&& ~~~ b = 0 <;> by_cases h3 : a &&& b = 0 <;> simp [h1, h2, h3]
section MM
variable {n u : Nat} {c : Nat → Option xm_C} {I P : Nat → Nat → Int32} {L Q : Nat → Nat → Int64}
theorem m170 (d : Nat) (w : WF P Q) (hI : nz I = P) (x : Int32) : xr d 170 [.ref 335, .int x] (hM n u c I L) = some (.returned (some (.int (tb (ir x (nP P))))), hM n u c I L) := by
  simp only [n170, e170_0, e170_1, e170_4, e170_5, e170_6, e170_9, e170_10, e170_11, e170_14, e170_15, e170_18, e170_19, x_push_some, x_heap_some, x_made_some, x_call_v, x_call_n, xs_cl_i, xs_cl_r, xs_cl_n, xs_cl_u, xs_cl_l, Nat.reduceAdd, eq_self, true_or, or_true, b01_1, if_true, if_false, mf10, r10_2 hI, (wf_nP w).1]
  rw [← ir_m (i_toInt (show nP P < 2147483648 by have := (wf_nP w).2; omega))]
  by_cases h1 : x < 0 <;> by_cases h2 : Int32.ofNat (nP P) ≤ x <;> simp [h1, h2, ← Int32.not_lt, ← Int32.not_le, tb]
theorem m193 (d : Nat) (w : WF P Q) (hI : nz I = P) (x : Int32) : xr d 193 [.ref 335, .int x] (hM n u c I L) = some (.returned (some (.int (tb (ir x (nF P))))), hM n u c I L) := by
  simp only [n193, e193_0, e193_1, e193_4, e193_5, e193_6, e193_9, e193_10, e193_11, e193_14, e193_15, e193_18, e193_19, x_push_some, x_heap_some, x_made_some, x_call_v, x_call_n, xs_cl_i, xs_cl_r, xs_cl_n, xs_cl_u, xs_cl_l, Nat.reduceAdd, eq_self, true_or, or_true, b01_1, if_true, if_false, mf10, r10_0 hI, (wf_nF w).1]
  rw [← ir_m (i_toInt (show nF P < 2147483648 by have := (wf_nF w).2; omega))]
  by_cases h1 : x < 0 <;> by_cases h2 : Int32.ofNat (nF P) ≤ x <;> simp [h1, h2, ← Int32.not_lt, ← Int32.not_le, tb]
theorem m175 (d : Nat) (w : WF P Q) (hI : nz I = P) (x : Int32) : xr d 175 [.ref 335, .int x] (hM n u c I L) = some (.returned (some (.int (tb (ir x (wW P))))), hM n u c I L) := by
  simp only [n175, e175_0, e175_1, e175_4, e175_5, e175_6, e175_7, e175_10, e175_11, e175_12, e175_13, e175_16, e175_17, e175_20, e175_21, x_push_some, x_heap_some, x_made_some, x_call_v, x_call_n, xs_cl_i, xs_cl_r, xs_cl_n, xs_cl_u, xs_cl_l, Nat.reduceAdd, eq_self, true_or, or_true, b01_1, if_true, if_false, mf10, r10_0 hI, wf_sh w]
  rw [← ir_m (i_toInt (show wW P < 2147483648 by have := wf_W w; omega))]
  by_cases h1 : x < 0 <;> by_cases h2 : Int32.ofNat (wW P) ≤ x <;> simp [h1, h2, ← Int32.not_lt, ← Int32.not_le, tb]
theorem wf_c01 (w : WF P Q) {k : Nat} (hk : k < 2) : P 18 k = 0 ∨ P 18 k = 1 := by
  have : k = 0 ∨ k = 1 := by omega
  rcases this with h0 | h0
  · rw [h0]; exact Or.inr (wf_cock0 w)
  · rw [h0]; exact wf_cock1 w
theorem m181 (d : Nat) (w : WF P Q) (hI : nz I = P) (x : Int32) : xr d 181 [.ref 335, .int x] (hM n u c I L) = some (.returned (some (.int (tb (gCock P x)))), hM n u c I L) := by
  simp only [n181, e181_0, e181_1, e181_4, e181_5, e181_6, e181_9, e181_10, e181_13, e181_14, e181_15, e181_18, e181_19, e181_22, e181_23, x_push_some, x_heap_some, x_made_some, x_call_v, x_call_n, xs_cl_i, xs_cl_r, xs_cl_n, xs_cl_u, xs_cl_l, Nat.reduceAdd, eq_self, true_or, or_true, b01_1, if_true, if_false, mf18]
  unfold gCock
  have hx := ir_m (x := x) (y := 2) (n := 2) (by decide)
  by_cases h1 : x < 0
  · have : ir x 2 = false := by rw [← hx]; simp [h1, ← Int32.not_lt]
    simp [h1, this, tb]
  by_cases h2 : (2 : Int32) ≤ x
  · have : ir x 2 = false := by rw [← hx]; simp [h2, ← Int32.not_le]
    simp [h1, h2, this, tb]
  have h3 : ir x 2 = true := by rw [← hx]; simp [← Int32.not_lt, h1, ← Int32.not_le, h2]
  have h4 := ir_nb h3
  have h5 := nb_lt h4
  have h6 := rn18 (n := n) (u := u) (c := c) (L := L) hI (k := nN x) (by omega) (by unfold pers; simp; omega)
  rw [← nb_eq h4] at h6
  rcases wf_c01 w h5 with h0 | h0 <;> simp [h1, h2, h3, h6, h0, x_push_some, n181, e181_0, e181_1, e181_4, e181_5, e181_6, e181_9, e181_10, e181_13, e181_14, e181_15, e181_18, e181_19, e181_22, e181_23, tb]
theorem m194 (d : Nat) (w : WF P Q) (hI : nz I = P) {f : Nat} (hf : f < 6) : xr d 194 [.ref 335, .int (Int32.ofNat f)] (hM n u c I L) = some (.returned (some (.long (gWith P f))), hM n u c I L) := by
  have hW := wf_W w
  simp only [n194, e194_0, e194_1, e194_2, e194_3, e194_7, e194_8, e194_9, e194_12, e194_13, e194_14, e194_15, e194_18, e194_19, e194_21, e194_22, e194_23, e194_24, e194_25, e194_26, e194_28, e194_29, e194_30, e194_31, e194_34, e194_37, e194_38, x_push_some, x_heap_some, x_made_some, x_call_v, x_call_n, xs_cl_i, xs_cl_r, xs_cl_n, xs_cl_u, xs_cl_l, Nat.reduceAdd, eq_self, true_or, or_true, b01_1, if_true, if_false]
  have h1 := lp_set (fun k s => xa d 194 5 [.ref 335, .int (Int32.ofNat f), .long s, .retAddr 0, .int (Int32.ofNat k)] [] (hM n u c I L)) (fun w => w.testBit f) (wW P) (by
    intro k s hk
    simp only
    rw [e194_5]
    simp only [n194, e194_0, e194_1, e194_2, e194_3, e194_7, e194_8, e194_9, e194_12, e194_13, e194_14, e194_15, e194_18, e194_19, e194_21, e194_22, e194_23, e194_24, e194_25, e194_26, e194_28, e194_29, e194_30, e194_31, e194_34, e194_37, e194_38, x_push_some, x_heap_some, x_made_some, x_call_v, x_call_n, xs_cl_i, xs_cl_r, xs_cl_n, xs_cl_u, xs_cl_l, Nat.reduceAdd, eq_self, true_or, or_true, b01_1, if_true, if_false, mf10, r10_0 hI, wf_sh w, i_le (show wW P < 2147483648 by omega) (show k < 2147483648 by omega), bitI _ (show f < 32 by omega), hbI_nat (show k < 4294967296 by omega), bt_tb, i_inc]
    rw [if_neg (by omega)]
    cases k.testBit f <;> simp)
  simp only at h1
  rw [show (0 : Int32) = Int32.ofNat 0 from rfl, h1, e194_5]
  simp only [n194, e194_0, e194_1, e194_2, e194_3, e194_7, e194_8, e194_9, e194_12, e194_13, e194_14, e194_15, e194_18, e194_19, e194_21, e194_22, e194_23, e194_24, e194_25, e194_26, e194_28, e194_29, e194_30, e194_31, e194_34, e194_37, e194_38, x_push_some, x_heap_some, x_made_some, x_call_v, x_call_n, xs_cl_i, xs_cl_r, xs_cl_n, xs_cl_u, xs_cl_l, Nat.reduceAdd, eq_self, true_or, or_true, b01_1, if_true, if_false, mf10, r10_0 hI, wf_sh w, i_le (show wW P < 2147483648 by omega) (show wW P < 2147483648 by omega)]
  simp
  rfl
theorem m179 (d : Nat) (w : WF P Q) (hI : nz I = P) (hL : nzL L = Q) (facts : Int32) (z : Nat) : xr (d + 1) 179 [.ref 335, .int facts, .int (Int32.ofNat z)] (hM n u c I L) = some (.returned (some (.long (gLike P Q facts z))), hM n u c I L) := by
  have hW := wf_W w
  simp only [n179, e179_0, e179_1, e179_2, e179_3, e179_7, e179_8, e179_9, e179_12, e179_13, e179_14, e179_15, e179_18, e179_19, e179_22, e179_23, e179_24, e179_26, e179_29, e179_32, e179_34, e179_35, e179_36, e179_37, e179_38, e179_41, e179_42, e179_43, e179_45, e179_46, e179_47, e179_48, e179_51, e179_54, e179_55, x_push_some, x_heap_some, x_made_some, x_call_v, x_call_n, xs_cl_i, xs_cl_r, xs_cl_n, xs_cl_u, xs_cl_l, Nat.reduceAdd, eq_self, true_or, or_true, b01_1, if_true, if_false]
  have h1 := lp_set (fun k s => xa (d + 1) 179 5 [.ref 335, .int facts, .int (Int32.ofNat z), .long s, .retAddr 0, .int (Int32.ofNat k)] [] (hM n u c I L)) (fun v => hb (Q 19 0) v && decide (((Int32.ofNat v ^^^ Int32.ofNat z) &&& facts) = 0)) (wW P) (by
    intro k s hk
    simp only
    rw [e179_5]
    simp only [n179, e179_0, e179_1, e179_2, e179_3, e179_7, e179_8, e179_9, e179_12, e179_13, e179_14, e179_15, e179_18, e179_19, e179_22, e179_23, e179_24, e179_26, e179_29, e179_32, e179_34, e179_35, e179_36, e179_37, e179_38, e179_41, e179_42, e179_43, e179_45, e179_46, e179_47, e179_48, e179_51, e179_54, e179_55, x_push_some, x_heap_some, x_made_some, x_call_v, x_call_n, xs_cl_i, xs_cl_r, xs_cl_n, xs_cl_u, xs_cl_l, Nat.reduceAdd, eq_self, true_or, or_true, b01_1, if_true, if_false, mf10, mf19, r10_0 hI, r19_0 hL, wf_sh w, i_le (show wW P < 2147483648 by omega) (show k < 2147483648 by omega), m177 _ _ (show k < 64 by omega), i_inc, if_tb]
    rw [if_neg (by omega)]
    cases hb (Q 19 0) k <;> by_cases h2 : (Int32.ofNat k ^^^ Int32.ofNat z) &&& facts = 0 <;> simp [h2, bt])
  simp only at h1
  rw [show (0 : Int32) = Int32.ofNat 0 from rfl, h1, e179_5]
  simp only [n179, e179_0, e179_1, e179_2, e179_3, e179_7, e179_8, e179_9, e179_12, e179_13, e179_14, e179_15, e179_18, e179_19, e179_22, e179_23, e179_24, e179_26, e179_29, e179_32, e179_34, e179_35, e179_36, e179_37, e179_38, e179_41, e179_42, e179_43, e179_45, e179_46, e179_47, e179_48, e179_51, e179_54, e179_55, x_push_some, x_heap_some, x_made_some, x_call_v, x_call_n, xs_cl_i, xs_cl_r, xs_cl_n, xs_cl_u, xs_cl_l, Nat.reduceAdd, eq_self, true_or, or_true, b01_1, if_true, if_false, mf10, r10_0 hI, wf_sh w, i_le (show wW P < 2147483648 by omega) (show wW P < 2147483648 by omega)]
  simp
  rfl
end MM
