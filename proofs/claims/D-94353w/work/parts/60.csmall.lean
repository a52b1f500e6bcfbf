/-! SMALL METHODS of the component -/
theorem ir_c {x y : Int32} {n : Nat} (hy : y.toInt = (n : Int) - 1) : (decide ((0 : Int32) ≤ x) && decide (x ≤ y)) = ir x n := by
  unfold ir
  have h1 : ((0 : Int32) ≤ x) = (0 ≤ x.toInt) := by rw [Int32.le_iff_toInt_le]; rfl
  have h2 : (x ≤ y) = (x.toInt < (n : Int)) := by rw [Int32.le_iff_toInt_le, hy]; apply propext; omega
  simp only [h1, h2]
theorem ir_m {x y : Int32} {n : Nat} (hy : y.toInt = (n : Int)) : (decide ((0 : Int32) ≤ x) && decide (x < y)) = ir x n := by
  unfold ir
  have h1 : ((0 : Int32) ≤ x) = (0 ≤ x.toInt) := by rw [Int32.le_iff_toInt_le]; rfl
  have h2 : (x < y) = (x.toInt < (n : Int)) := by rw [Int32.lt_iff_toInt_lt, hy]
  simp only [h1, h2]
theorem i_pred {n : Nat} (hn : n < 2147483648) : (Int32.ofNat n - 1).toInt = (n : Int) - 1 := by
  cases n with
  | zero => decide
  | succ k => rw [i_dec, i_toInt (by omega)]; omega
/-- two branches into one -/
theorem if_tb {β : Type} (b : Bool) (x y : β) : (if tb b = 0 then x else y) = if b = true then y else x := by cases b <;> rfl
theorem if_tb' {β : Type} (b : Bool) (x y : β) : (if ¬ tb b = 0 then x else y) = if b = true then x else y := by cases b <;> rfl
theorem c11 (d : Nat) (m : Int32) (h : xm_H) : xr (d + 1) 11 [.int m] h = some (.returned (some (.int (tb (ir m 1440)))), h) := by
  simp only [n11, e11_0, e11_1, e11_2, e11_5, e11_8, x_push_some, x_heap_some, x_made_some, x_call_v, x_call_n, xs_cl_i, xs_cl_r, xs_cl_n, xs_cl_u, xs_cl_l, Nat.reduceAdd, eq_self, true_or, or_true, b01_1, if_true, if_false, c4, tb_ok]
  rw [ir_c (n := 1440) (by decide)]
theorem c23 (d : Nat) (m : Int32) (h : xm_H) : xr (d + 1) 23 [.int m] h = some (.returned (some (.int (tb (ir m 360)))), h) := by
  simp only [n23, e23_0, e23_1, e23_2, e23_5, e23_8, x_push_some, x_heap_some, x_made_some, x_call_v, x_call_n, xs_cl_i, xs_cl_r, xs_cl_n, xs_cl_u, xs_cl_l, Nat.reduceAdd, eq_self, true_or, or_true, b01_1, if_true, if_false, c4, tb_ok]
  rw [ir_c (n := 360) (by decide)]
theorem c40 (d : Nat) (m : Int32) (h : xm_H) : xr (d + 1) 40 [.int m] h = some (.returned (some (.int (tb (ir m 2)))), h) := by
  simp only [n40, e40_0, e40_1, e40_2, e40_3, e40_6, x_push_some, x_heap_some, x_made_some, x_call_v, x_call_n, xs_cl_i, xs_cl_r, xs_cl_n, xs_cl_u, xs_cl_l, Nat.reduceAdd, eq_self, true_or, or_true, b01_1, if_true, if_false, c4, tb_ok]
  rw [ir_c (n := 2) (by decide)]
/-- a span of minutes -/
def gSpan (a b : Int32) : Bool := ir a 1440 && (ir b 1440 && decide (a ≤ b))
theorem c49 (d : Nat) (a b : Int32) (h : xm_H) : xr (d + 2) 49 [.int a, .int b] h = some (.returned (some (.int (tb (gSpan a b)))), h) := by
  simp only [n49, e49_0, e49_1, e49_4, e49_7, e49_8, e49_11, e49_14, e49_15, e49_16, e49_19, e49_20, e49_23, e49_24, x_push_some, x_heap_some, x_made_some, x_call_v, x_call_n, xs_cl_i, xs_cl_r, xs_cl_n, xs_cl_u, xs_cl_l, Nat.reduceAdd, eq_self, true_or, or_true, b01_1, if_true, if_false, c11, if_tb]
  unfold gSpan
  cases h1 : ir a 1440 <;> cases h2 : ir b 1440 <;> by_cases h3 : b < a <;> simp [h3, ← Int32.not_lt, tb]
theorem c31 (d : Nat) (b f t : Int32) (h : xm_H) : xr (d + 1) 31 [.int b, .int f, .int t] h = some (.returned (some (.int (tb (gIn b f t)))), h) := by
  simp only [n31, e31_0, e31_1, e31_2, e31_5, e31_6, e31_7, e31_8, e31_11, e31_14, e31_15, e31_16, e31_19, e31_20, e31_21, e31_24, e31_25, e31_28, e31_29, x_push_some, x_heap_some, x_made_some, x_call_v, x_call_n, xs_cl_i, xs_cl_r, xs_cl_n, xs_cl_u, xs_cl_l, Nat.reduceAdd, eq_self, true_or, or_true, b01_1, if_true, if_false, c4, tb_ok]
  unfold gIn
  by_cases h1 : t < f
  · have h2 : ¬ f ≤ t := by rw [Int32.not_le]; exact h1
    by_cases h3 : b < f <;> by_cases h4 : t < b <;> simp [h1, h2, h3, h4, ← Int32.not_lt, tb]
  · have h2 : f ≤ t := by rw [← Int32.not_lt]; exact h1
    simp [h1, h2]
theorem c37 (d : Nat) (a b : Int64) (h : xm_H) : xr d 37 [.long a, .long b] h = some (.returned (some (.int (gSure a b))), h) := by
  simp only [n37, e37_0, e37_1, e37_2, e37_3, e37_6, e37_7, e37_8, e37_9, e37_10, e37_13, e37_14, e37_15, e37_16, e37_17, e37_20, e37_21, e37_24, e37_25, e37_26, e37_27, e37_28, e37_29, e37_32, e37_33, e37_36, e37_37, x_push_some, x_heap_some, x_made_some, x_call_v, x_call_n, xs_cl_i, xs_cl_r, xs_cl_n, xs_cl_u, xs_cl_l, Nat.reduceAdd, eq_self, true_or, or_true, b01_1, if_true, if_false, lcz]
  unfold gSure
  have hx : b ^^^ (-1) = ~~~ b := by
    apply hb_ext; intro k hk
    rw [hb_xor, hb_not b hk]
    have : hb (-1) k = true := by unfold hb; rw [Int64.toBitVec_neg]; simp [hk]
    rw [this]; simp
  by_cases h1 : a = 0 <;> by_cases h2 : a &&& ~~~ b = 0 <;> by_cases h3 : a &&& b = 0 <;> simp [h1, h2, h3, hx]
theorem c301 (d : Nat) (a b : Int32) (h : xm_H) : xr d 301 [.int a, .int b] h = some (.returned (some (.int (if a < b then b else a))), h) := by
  simp only [n301, e301_0, e301_1, e301_2, e301_5, e301_6, e301_9, e301_10, x_push_some, x_heap_some, x_made_some, x_call_v, x_call_n, xs_cl_i, xs_cl_r, xs_cl_n, xs_cl_u, xs_cl_l, Nat.reduceAdd, eq_self, true_or, or_true, b01_1, if_true, if_false]
  by_cases h1 : a < b <;> simp [h1]
theorem c302 (d : Nat) (a b : Int32) (h : xm_H) : xr d 302 [.int a, .int b] h = some (.returned (some (.int (if b < a then b else a))), h) := by
  simp only [n302, e302_0, e302_1, e302_2, e302_5, e302_6, e302_9, e302_10, x_push_some, x_heap_some, x_made_some, x_call_v, x_call_n, xs_cl_i, xs_cl_r, xs_cl_n, xs_cl_u, xs_cl_l, Nat.reduceAdd, eq_self, true_or, or_true, b01_1, if_true, if_false]
  by_cases h1 : b < a <;> simp [h1]
theorem c303 (d : Nat) (a : Int32) (h : xm_H) : xr d 303 [.int a] h = some (.returned (some (.int (if a < 0 then -a else a))), h) := by
  simp only [n303, e303_0, e303_1, e303_4, e303_5, e303_6, e303_9, e303_10, x_push_some, x_heap_some, x_made_some, x_call_v, x_call_n, xs_cl_i, xs_cl_r, xs_cl_n, xs_cl_u, xs_cl_l, Nat.reduceAdd, eq_self, true_or, or_true, b01_1, if_true, if_false]
  by_cases h1 : a < 0 <;> simp [h1]
def gTold (s w : Int32) : Int32 := if s = -1 then -1 else if w = 0 then Int32.ofNat (bc s.toInt64) else s
theorem c45 (d : Nat) (s w : Int32) (h : xm_H) : xr (d + 1) 45 [.int s, .int w] h = some (.returned (some (.int (gTold s w))), h) := by
  simp only [n45, e45_0, e45_1, e45_2, e45_5, e45_6, e45_9, e45_10, e45_13, e45_14, e45_15, e45_18, e45_21, e45_22, x_push_some, x_heap_some, x_made_some, x_call_v, x_call_n, xs_cl_i, xs_cl_r, xs_cl_n, xs_cl_u, xs_cl_l, Nat.reduceAdd, eq_self, true_or, or_true, b01_1, if_true, if_false, c35]
  unfold gTold
  by_cases h1 : s = -1 <;> by_cases h2 : w = 0 <;> simp [h1, h2]
/-! with the heap read -/
section CR
variable {h : xm_H} {P : Nat → Nat → Int32} {Q : Nat → Nat → Int64} {e : Nat → Nat → Nat}
theorem c33 (d : Nat) (w : WF P Q) (v : CV h P Q e) (x : Int32) : xr (d + 1) 33 [.ref 300, .int x] h = some (.returned (some (.int (tb (ir x (nF P))))), h) := by
  simp only [n33, e33_0, e33_1, e33_2, e33_3, e33_6, e33_9, e33_12, e33_13, e33_14, e33_17, x_push_some, x_heap_some, x_made_some, x_call_v, x_call_n, xs_cl_i, xs_cl_r, xs_cl_n, xs_cl_u, xs_cl_l, Nat.reduceAdd, eq_self, true_or, or_true, b01_1, if_true, if_false, cv_cls v, cv_parish v, cv_facts v, (cv_lF v).1, c280 _ (cv_lF v), c4, tb_ok]
  rw [ir_c (i_pred (by have := (wf_nF w).2; omega))]
theorem c10 (d : Nat) (w : WF P Q) (v : CV h P Q e) (x : Int32) : xr (d + 1) 10 [.ref 300, .int x] h = some (.returned (some (.int (tb (ir x (nP P))))), h) := by
  simp only [n10, e10_0, e10_1, e10_2, e10_3, e10_6, e10_9, e10_12, e10_13, e10_14, e10_17, x_push_some, x_heap_some, x_made_some, x_call_v, x_call_n, xs_cl_i, xs_cl_r, xs_cl_n, xs_cl_u, xs_cl_l, Nat.reduceAdd, eq_self, true_or, or_true, b01_1, if_true, if_false, cv_cls v, cv_parish v, cv_people v, (cv_lP v).1, c280 _ (cv_lP v), c4, tb_ok]
  rw [ir_c (i_pred (by have := (wf_nP w).2; omega))]
theorem c21 (d : Nat) (w : WF P Q) (v : CV h P Q e) (x : Int32) : xr (d + 1) 21 [.ref 300, .int x] h = some (.returned (some (.int (tb (ir x (nS P))))), h) := by
  simp only [n21, e21_0, e21_1, e21_2, e21_3, e21_6, e21_9, e21_10, e21_11, e21_14, x_push_some, x_heap_some, x_made_some, x_call_v, x_call_n, xs_cl_i, xs_cl_r, xs_cl_n, xs_cl_u, xs_cl_l, Nat.reduceAdd, eq_self, true_or, or_true, b01_1, if_true, if_false, cv_cls v, cv_sayings v, (cv_lS v).1, c280 _ (cv_lS v), c4, tb_ok]
  rw [ir_c (i_pred (by have := (wf_nS w).2; omega))]
theorem c119 (d : Nat) (w : WF P Q) (v : CV h P Q e) : xr (d + 1) 119 [.ref (e 0 0)] h = some (.returned (some (.int (Int32.ofNat (wW P)))), h) := by
  simp only [n119, e119_0, e119_1, e119_2, e119_5, e119_8, e119_9, x_push_some, x_heap_some, x_made_some, x_call_v, x_call_n, xs_cl_i, xs_cl_r, xs_cl_n, xs_cl_u, xs_cl_l, Nat.reduceAdd, eq_self, true_or, or_true, b01_1, if_true, if_false, cv_pcls v, cv_facts v, (cv_lF v).1, c280 _ (cv_lF v)]
  rw [shl_1 (by have := (wf_nF w).2; omega)]
  rfl
theorem c8 (d : Nat) (w : WF P Q) (v : CV h P Q e) (x : Int32) : xr (d + 2) 8 [.ref 300, .int x] h = some (.returned (some (.int (tb (ir x (wW P))))), h) := by
  simp only [n8, e8_0, e8_1, e8_2, e8_3, e8_6, e8_9, e8_10, e8_11, e8_14, x_push_some, x_heap_some, x_made_some, x_call_v, x_call_n, xs_cl_i, xs_cl_r, xs_cl_n, xs_cl_u, xs_cl_l, Nat.reduceAdd, eq_self, true_or, or_true, b01_1, if_true, if_false, cv_cls v, cv_parish v, cv_pcls v, c119 _ w v, c4, tb_ok]
  rw [ir_c (i_pred (by have := wf_W w; omega))]
/-- which cock is there -/
def gCock (P : Nat → Nat → Int32) (x : Int32) : Bool := ir x 2 && decide (P 18 (nN x) = 1)
theorem c16 (d : Nat) (w : WF P Q) (v : CV h P Q e) (x : Int32) : xr (d + 1) 16 [.ref 300, .int x] h = some (.returned (some (.int (tb (gCock P x)))), h) := by
  simp only [n16, e16_0, e16_1, e16_2, e16_3, e16_6, e16_9, e16_10, e16_13, e16_16, e16_17, e16_18n, e16_18, e16_21, e16_22, e16_25, e16_26, x_push_some, x_heap_some, x_made_some, x_call_v, x_call_n, xs_cl_i, xs_cl_r, xs_cl_n, xs_cl_u, xs_cl_l, Nat.reduceAdd, eq_self, true_or, or_true, b01_1, if_true, if_false, cv_cls v, cv_parish v, cv_cocks v, c4, if_tb]
  rw [ir_c (n := 2) (by decide)]
  unfold gCock
  cases h1 : ir x 2 with
  | false => simp [tb]
  | true =>
    have hx := ir_nb h1
    have hx2 := nb_lt hx
    have h01 : P 18 (nN x) = 0 ∨ P 18 (nN x) = 1 := by
      have : nN x = 0 ∨ nN x = 1 := by omega
      rcases this with h0 | h0
      · rw [h0]; exact Or.inr (wf_cock0 w)
      · rw [h0]; exact wf_cock1 w
    simp only [if_true]
    rcases h01 with h0 | h0
    · have := cv_cockN v _ hx2 h0
      rw [← nb_eq hx] at this
      rw [this]
      simp only [n16, e16_0, e16_1, e16_2, e16_3, e16_6, e16_9, e16_10, e16_13, e16_16, e16_17, e16_18n, e16_18, e16_21, e16_22, e16_25, e16_26, x_push_some, x_heap_some, x_made_some, x_call_v, x_call_n, xs_cl_i, xs_cl_r, xs_cl_n, xs_cl_u, xs_cl_l, Nat.reduceAdd, eq_self, true_or, or_true, b01_1, if_true, if_false, h0]
      rfl
    · have := (cv_cock v _ hx2 h0).1
      rw [← nb_eq hx] at this
      rw [this]
      simp only [n16, e16_0, e16_1, e16_2, e16_3, e16_6, e16_9, e16_10, e16_13, e16_16, e16_17, e16_18n, e16_18, e16_21, e16_22, e16_25, e16_26, x_push_some, x_heap_some, x_made_some, x_call_v, x_call_n, xs_cl_i, xs_cl_r, xs_cl_n, xs_cl_u, xs_cl_l, Nat.reduceAdd, eq_self, true_or, or_true, b01_1, if_true, if_false, h0]
      rfl
end CR
