/-! SMALL METHODS without heap -/
theorem c4 (d : Nat) (v a b : Int32) (h : xm_H) : xr d 4 [.int v, .int a, .int b] h = some (.returned (some (.int (tb (decide (a ≤ v) && decide (v ≤ b))))), h) := by
  simp only [n4, e4_0, e4_1, e4_2, e4_5, e4_6, e4_7, e4_10, e4_11, e4_14, e4_15, x_push_some, x_heap_some, x_made_some, x_call_v, x_call_n, xs_cl_i, xs_cl_r, xs_cl_n, xs_cl_u, xs_cl_l, Nat.reduceAdd, eq_self, true_or, or_true, b01_1, if_true, if_false]
  by_cases h1 : v < a <;> by_cases h2 : b < v <;> simp [h1, h2, ← Int32.not_lt, tb]
theorem m200 (d : Nat) (v a b : Int32) (h : xm_H) : xr d 200 [.int v, .int a, .int b] h = some (.returned (some (.int (tb (decide (a ≤ v) && decide (v ≤ b))))), h) := by
  simp only [n200, e200_0, e200_1, e200_2, e200_5, e200_6, e200_7, e200_10, e200_11, e200_14, e200_15, x_push_some, x_heap_some, x_made_some, x_call_v, x_call_n, xs_cl_i, xs_cl_r, xs_cl_n, xs_cl_u, xs_cl_l, Nat.reduceAdd, eq_self, true_or, or_true, b01_1, if_true, if_false]
  by_cases h1 : v < a <;> by_cases h2 : b < v <;> simp [h1, h2, ← Int32.not_lt, tb]
theorem c6 (d : Nat) (s : Int64) {k : Nat} (hk : k < 64) (h : xm_H) : xr d 6 [.long s, .int (Int32.ofNat k)] h = some (.returned (some (.int (tb (hb s k)))), h) := by
  simp only [n6, e6_0, e6_1, e6_2, e6_3, e6_4, e6_5, e6_6, e6_7, e6_10, e6_11, e6_14, e6_15, x_push_some, x_heap_some, x_made_some, x_call_v, x_call_n, xs_cl_i, xs_cl_r, xs_cl_n, xs_cl_u, xs_cl_l, Nat.reduceAdd, eq_self, true_or, or_true, b01_1, if_true, if_false, hb_test s hk]
  by_cases h1 : hb s k = true <;> simp [h1, tb]
theorem m177 (d : Nat) (s : Int64) {k : Nat} (hk : k < 64) (h : xm_H) : xr d 177 [.long s, .int (Int32.ofNat k)] h = some (.returned (some (.int (tb (hb s k)))), h) := by
  simp only [n177, e177_0, e177_1, e177_2, e177_3, e177_4, e177_5, e177_6, e177_7, e177_10, e177_11, e177_14, e177_15, x_push_some, x_heap_some, x_made_some, x_call_v, x_call_n, xs_cl_i, xs_cl_r, xs_cl_n, xs_cl_u, xs_cl_l, Nat.reduceAdd, eq_self, true_or, or_true, b01_1, if_true, if_false, hb_test s hk]
  by_cases h1 : hb s k = true <;> simp [h1, tb]
theorem c35_l (d : Nat) (a0 : Int64) (h : xm_H) : ∀ (c : Nat) (s : Int64) (n : Int32), bc s = c → xa d 35 4 [.long a0, .retAddr 0, .int n, .long s, .retAddr 0] [] h = some (.returned (some (.int (n + Int32.ofNat c))), h) := by
  intro c
  induction c with
  | zero =>
    intro s n hs
    have h0 : s = 0 := Classical.byContradiction fun e => by have := bc_k e; omega
    subst h0
    rw [e35_4]
    simp only [n35, e35_0, e35_1, e35_2, e35_3, e35_5, e35_6, e35_7, e35_10, e35_13, e35_14, e35_15, e35_16, e35_17, e35_18, e35_19, e35_22, e35_23, x_push_some, x_heap_some, x_made_some, x_call_v, x_call_n, xs_cl_i, xs_cl_r, xs_cl_n, xs_cl_u, xs_cl_l, Nat.reduceAdd, eq_self, true_or, or_true, b01_1, if_true, if_false, lcz]
    simp
  | succ c ih =>
    intro s n hs
    have h0 : s ≠ 0 := fun e => by rw [e, bc_0] at hs; omega
    have h1 := bc_k h0
    rw [e35_4]
    simp only [n35, e35_0, e35_1, e35_2, e35_3, e35_5, e35_6, e35_7, e35_10, e35_13, e35_14, e35_15, e35_16, e35_17, e35_18, e35_19, e35_22, e35_23, x_push_some, x_heap_some, x_made_some, x_call_v, x_call_n, xs_cl_i, xs_cl_r, xs_cl_n, xs_cl_u, xs_cl_l, Nat.reduceAdd, eq_self, true_or, or_true, b01_1, if_true, if_false, lcz, h0]
    rw [ih _ _ (by omega)]
    rw [Int32.add_assoc, Int32.add_comm 1, i_inc]
theorem c35 (d : Nat) (s : Int64) (h : xm_H) : xr d 35 [.long s] h = some (.returned (some (.int (Int32.ofNat (bc s)))), h) := by
  simp only [n35, e35_0, e35_1, e35_2, e35_3, e35_5, e35_6, e35_7, e35_10, e35_13, e35_14, e35_15, e35_16, e35_17, e35_18, e35_19, e35_22, e35_23, x_push_some, x_heap_some, x_made_some, x_call_v, x_call_n, xs_cl_i, xs_cl_r, xs_cl_n, xs_cl_u, xs_cl_l, Nat.reduceAdd, eq_self, true_or, or_true, b01_1, if_true, if_false]
  rw [c35_l d s h _ s 0 rfl]
  simp
theorem m195 (d : Nat) (s : Int64) (h : xm_H) : xr d 195 [.long s] h = some (.returned (some (.int (Int32.ofNat (bc s)))), h) := by
  simp only [n195, e195_0, e195_1, e195_2, e195_3, e195_5, e195_7, e195_10, e195_11, e195_12, e195_13, e195_14, e195_15, e195_16, e195_17, e195_18, e195_19, e195_22, e195_25, e195_26, x_push_some, x_heap_some, x_made_some, x_call_v, x_call_n, xs_cl_i, xs_cl_r, xs_cl_n, xs_cl_u, xs_cl_l, Nat.reduceAdd, eq_self, true_or, or_true, b01_1, if_true, if_false]
  have h1 := lp_up0 (fun k (n : Nat) => xa d 195 4 [.long s, .retAddr 0, .int (Int32.ofNat n), .int (Int32.ofNat k)] [] h) (fun k n => n + if hb s k then 1 else 0) 64 0 (by
    intro k n hk
    simp only
    rw [e195_4]
    simp only [n195, e195_0, e195_1, e195_2, e195_3, e195_5, e195_7, e195_10, e195_11, e195_12, e195_13, e195_14, e195_15, e195_16, e195_17, e195_18, e195_19, e195_22, e195_25, e195_26, x_push_some, x_heap_some, x_made_some, x_call_v, x_call_n, xs_cl_i, xs_cl_r, xs_cl_n, xs_cl_u, xs_cl_l, Nat.reduceAdd, eq_self, true_or, or_true, b01_1, if_true, if_false, hb_num s hk]
    rw [if_neg (by rw [Int32.not_le]; exact (i_lt (b := 64) (by omega) (by omega)).mpr hk)]
    rw [i_inc]
    congr 3
    cases hb s k <;> simp [tb, i_inc])
  rw [show (0 : Int32) = Int32.ofNat 0 from rfl, h1]
  simp only
  rw [e195_4]
  simp only [n195, e195_0, e195_1, e195_2, e195_3, e195_5, e195_7, e195_10, e195_11, e195_12, e195_13, e195_14, e195_15, e195_16, e195_17, e195_18, e195_19, e195_22, e195_25, e195_26, x_push_some, x_heap_some, x_made_some, x_call_v, x_call_n, xs_cl_i, xs_cl_r, xs_cl_n, xs_cl_u, xs_cl_l, Nat.reduceAdd, eq_self, true_or, or_true, b01_1, if_true, if_false]
  rfl
