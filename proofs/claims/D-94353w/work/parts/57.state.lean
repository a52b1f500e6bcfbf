/-! THE STATE that lasts (P ints, Q longs), and what is always so of it -/
def pers (j k : Nat) : Bool := match j with
  | 1 => true
  | 2 => true
  | 10 => decide (k < 3)
  | 12 => decide (k < 6)
  | 13 => decide (k < 6)
  | 14 => decide (k < 6)
  | 15 => decide (k < 6)
  | 16 => decide (k < 2)
  | 17 => decide (k < 2)
  | 18 => decide (k < 2)
  | 37 => true
  | 40 => true
  | 41 => true
  | 42 => true
  | 43 => true
  | 44 => true
  | 45 => decide (k < 30)
  | 46 => decide (k < 30)
  | 48 => decide (k < 30)
  | 52 => true
  | 53 => true
  | 54 => true
  | 55 => true
  | 59 => true
  | 60 => true
  | 65 => true
  | 66 => true
  | _ => false
def persL (j k : Nat) : Bool := match j with
  | 11 => decide (k < 18)
  | 19 => decide (k < 1)
  | 47 => decide (k < 30)
  | 67 => true
  | _ => false
def nz (I : Nat → Nat → Int32) : Nat → Nat → Int32 := fun j k => if pers j k = true then I j k else 0
def nzL (L : Nat → Nat → Int64) : Nat → Nat → Int64 := fun j k => if persL j k = true then L j k else 0
theorem nz_at {I P : Nat → Nat → Int32} (h : nz I = P) {j k : Nat} (hp : pers j k = true) : I j k = P j k := by
  subst h; unfold nz; rw [if_pos hp]
theorem nzL_at {L Q : Nat → Nat → Int64} (h : nzL L = Q) {j k : Nat} (hp : persL j k = true) : L j k = Q j k := by
  subst h; unfold nzL; rw [if_pos hp]
theorem nz_u2 {I P : Nat → Nat → Int32} (h : nz I = P) {j k : Nat} (hp : pers j k = false) (v : Int32) : nz (u2 I j k v) = P := by
  subst h; funext a b; unfold nz u2
  by_cases hc : a = j ∧ b = k
  · obtain ⟨rfl, rfl⟩ := hc
    rw [hp]; rfl
  · rw [if_neg hc]
theorem nzL_u2 {L Q : Nat → Nat → Int64} (h : nzL L = Q) {j k : Nat} (hp : persL j k = false) (v : Int64) : nzL (u2 L j k v) = Q := by
  subst h; funext a b; unfold nzL u2
  by_cases hc : a = j ∧ b = k
  · obtain ⟨rfl, rfl⟩ := hc
    rw [hp]; rfl
  · rw [if_neg hc]
/-- a natural number below a bound -/
def nb (x : Int32) (b : Nat) : Prop := 0 ≤ x.toInt ∧ x.toInt < (b : Int)
def nN (x : Int32) : Nat := x.toNatClampNeg
theorem nb_eq {x : Int32} {b : Nat} (h : nb x b) : x = Int32.ofNat (nN x) := nat_of h.1
theorem nb_lt {x : Int32} {b : Nat} (h : nb x b) : nN x < b := by
  have := h.1; have := h.2
  unfold nN Int32.toNatClampNeg
  omega
theorem nb_nat {n b : Nat} (h : n < b) (hb : b ≤ 2147483648) : nb (Int32.ofNat n) b := by
  unfold nb; rw [i_toInt (by omega)]; omega
theorem nN_nat {n : Nat} (h : n < 2147483648) : nN (Int32.ofNat n) = n := i_clamp h
theorem nN_int {x : Int32} {b : Nat} (h : nb x b) : x.toInt = (nN x : Int) := by
  have := h.1
  unfold nN Int32.toNatClampNeg
  omega
def nF (P : Nat → Nat → Int32) : Nat := nN (P 10 0)
def nPl (P : Nat → Nat → Int32) : Nat := nN (P 10 1)
def nP (P : Nat → Nat → Int32) : Nat := nN (P 10 2)
def nS (P : Nat → Nat → Int32) : Nat := nN (P 40 0)
def nO (P : Nat → Nat → Int32) : Nat := nN (P 41 0)
def nK (P : Nat → Nat → Int32) : Nat := nN (P 42 0)
def nW (P : Nat → Nat → Int32) : Nat := nN (P 43 0)
def nT (P : Nat → Nat → Int32) : Nat := nN (P 44 0)
def nTp (P : Nat → Nat → Int32) : Nat := nN (P 1 0)
def wW (P : Nat → Nat → Int32) : Nat := 2 ^ nF P
def WF (P : Nat → Nat → Int32) (Q : Nat → Nat → Int64) : Prop :=
  (P 10 0 = Int32.ofNat (nF P) ∧ nF P ≤ 6) ∧
  (P 10 1 = Int32.ofNat (nPl P) ∧ nPl P ≤ 6) ∧
  (P 10 2 = Int32.ofNat (nP P) ∧ nP P ≤ 6) ∧
  (P 40 0 = Int32.ofNat (nS P) ∧ nS P ≤ 24) ∧
  (P 41 0 = Int32.ofNat (nO P) ∧ nO P ≤ 6) ∧
  (P 42 0 = Int32.ofNat (nK P) ∧ nK P ≤ 12) ∧
  (P 43 0 = Int32.ofNat (nW P) ∧ nW P ≤ 4) ∧
  (P 44 0 = Int32.ofNat (nT P) ∧ nT P < 2 ^ nF P) ∧
  (P 1 0 = Int32.ofNat (nTp P) ∧ nTp P ≤ 1000) ∧
  (∀ p, p < nP P → nb (P 14 p) (nPl P)) ∧
  (∀ p, p < nPl P → nb (P 13 p) 360) ∧
  (∀ p, p < nP P → nb (P 15 p) 64) ∧
  (∀ f, f < nF P → nb (P 12 f) 11) ∧
  (∀ c, c < 2 → nb (P 16 c) 2) ∧
  (∀ c, c < 2 → nb (P 17 c) 61) ∧
  (P 18 0 = 1) ∧
  (P 18 1 = 0 ∨ P 18 1 = 1) ∧
  (∀ s, s < nS P → nb (P 45 s) (nP P)) ∧
  (∀ s, s < nS P → nb (P 46 s) 1440) ∧
  (∀ s, s < 30 → P 48 s = 0 ∨ P 48 s = 1) ∧
  (∀ s, s < nO P → nb (P 45 (24 + s)) (nP P)) ∧
  (∀ s, s < nO P → nb (P 46 (24 + s)) 1440) ∧
  (∀ s, s + 1 < nS P → (P 46 s).toInt ≤ (P 46 (s + 1)).toInt) ∧
  (∀ k, 2 ^ nF P ≤ k → hb (Q 19 0) k = false) ∧
  (∀ s, s < 30 → P 48 s = 1 → Q 47 s = 0) ∧
  (∀ l, l < nK P → nb (P 52 l) 2 ∧ P 18 (nN (P 52 l)) = 1) ∧
  (∀ l, l < nK P → nb (P 53 l) 1440) ∧
  (∀ l, l < nK P → nb (P 54 l) 360) ∧
  (∀ l, l < nK P → nb (P 55 l) 360) ∧
  (∀ l, l < nW P → nb (P 59 l) 2 ∧ P 18 (nN (P 59 l)) = 1) ∧
  (∀ l, l < nW P → nb (P 60 l) 1440)
section WFS
variable {P : Nat → Nat → Int32} {Q : Nat → Nat → Int64}
theorem wf_nF (h : WF P Q) : P 10 0 = Int32.ofNat (nF P) ∧ nF P ≤ 6 := h.1
theorem wf_nPl (h : WF P Q) : P 10 1 = Int32.ofNat (nPl P) ∧ nPl P ≤ 6 := h.2.1
theorem wf_nP (h : WF P Q) : P 10 2 = Int32.ofNat (nP P) ∧ nP P ≤ 6 := h.2.2.1
theorem wf_nS (h : WF P Q) : P 40 0 = Int32.ofNat (nS P) ∧ nS P ≤ 24 := h.2.2.2.1
theorem wf_nO (h : WF P Q) : P 41 0 = Int32.ofNat (nO P) ∧ nO P ≤ 6 := h.2.2.2.2.1
theorem wf_nK (h : WF P Q) : P 42 0 = Int32.ofNat (nK P) ∧ nK P ≤ 12 := h.2.2.2.2.2.1
theorem wf_nW (h : WF P Q) : P 43 0 = Int32.ofNat (nW P) ∧ nW P ≤ 4 := h.2.2.2.2.2.2.1
theorem wf_nT (h : WF P Q) : P 44 0 = Int32.ofNat (nT P) ∧ nT P < 2 ^ nF P := h.2.2.2.2.2.2.2.1
theorem wf_tape (h : WF P Q) : P 1 0 = Int32.ofNat (nTp P) ∧ nTp P ≤ 1000 := h.2.2.2.2.2.2.2.2.1
theorem wf_home (h : WF P Q) : ∀ p, p < nP P → nb (P 14 p) (nPl P) := h.2.2.2.2.2.2.2.2.2.1
theorem wf_bear (h : WF P Q) : ∀ p, p < nPl P → nb (P 13 p) 360 := h.2.2.2.2.2.2.2.2.2.2.1
theorem wf_know (h : WF P Q) : ∀ p, p < nP P → nb (P 15 p) 64 := h.2.2.2.2.2.2.2.2.2.2.2.1
theorem wf_chan (h : WF P Q) : ∀ f, f < nF P → nb (P 12 f) 11 := h.2.2.2.2.2.2.2.2.2.2.2.2.1
theorem wf_law (h : WF P Q) : ∀ c, c < 2 → nb (P 16 c) 2 := h.2.2.2.2.2.2.2.2.2.2.2.2.2.1
theorem wf_late (h : WF P Q) : ∀ c, c < 2 → nb (P 17 c) 61 := h.2.2.2.2.2.2.2.2.2.2.2.2.2.2.1
theorem wf_cock0 (h : WF P Q) : P 18 0 = 1 := h.2.2.2.2.2.2.2.2.2.2.2.2.2.2.2.1
theorem wf_cock1 (h : WF P Q) : P 18 1 = 0 ∨ P 18 1 = 1 := h.2.2.2.2.2.2.2.2.2.2.2.2.2.2.2.2.1
theorem wf_who (h : WF P Q) : ∀ s, s < nS P → nb (P 45 s) (nP P) := h.2.2.2.2.2.2.2.2.2.2.2.2.2.2.2.2.2.1
theorem wf_when (h : WF P Q) : ∀ s, s < nS P → nb (P 46 s) 1440 := h.2.2.2.2.2.2.2.2.2.2.2.2.2.2.2.2.2.2.1
theorem wf_quest (h : WF P Q) : ∀ s, s < 30 → P 48 s = 0 ∨ P 48 s = 1 := h.2.2.2.2.2.2.2.2.2.2.2.2.2.2.2.2.2.2.2.1
theorem wf_whoO (h : WF P Q) : ∀ s, s < nO P → nb (P 45 (24 + s)) (nP P) := h.2.2.2.2.2.2.2.2.2.2.2.2.2.2.2.2.2.2.2.2.1
theorem wf_whenO (h : WF P Q) : ∀ s, s < nO P → nb (P 46 (24 + s)) 1440 := h.2.2.2.2.2.2.2.2.2.2.2.2.2.2.2.2.2.2.2.2.2.1
theorem wf_sort (h : WF P Q) : ∀ s, s + 1 < nS P → (P 46 s).toInt ≤ (P 46 (s + 1)).toInt := h.2.2.2.2.2.2.2.2.2.2.2.2.2.2.2.2.2.2.2.2.2.2.1
theorem wf_com (h : WF P Q) : ∀ k, 2 ^ nF P ≤ k → hb (Q 19 0) k = false := h.2.2.2.2.2.2.2.2.2.2.2.2.2.2.2.2.2.2.2.2.2.2.2.1
theorem wf_so (h : WF P Q) : ∀ s, s < 30 → P 48 s = 1 → Q 47 s = 0 := h.2.2.2.2.2.2.2.2.2.2.2.2.2.2.2.2.2.2.2.2.2.2.2.2.1
theorem wf_lkC (h : WF P Q) : ∀ l, l < nK P → nb (P 52 l) 2 ∧ P 18 (nN (P 52 l)) = 1 := h.2.2.2.2.2.2.2.2.2.2.2.2.2.2.2.2.2.2.2.2.2.2.2.2.2.1
theorem wf_lkM (h : WF P Q) : ∀ l, l < nK P → nb (P 53 l) 1440 := h.2.2.2.2.2.2.2.2.2.2.2.2.2.2.2.2.2.2.2.2.2.2.2.2.2.2.1
theorem wf_lkF (h : WF P Q) : ∀ l, l < nK P → nb (P 54 l) 360 := h.2.2.2.2.2.2.2.2.2.2.2.2.2.2.2.2.2.2.2.2.2.2.2.2.2.2.2.1
theorem wf_lkT (h : WF P Q) : ∀ l, l < nK P → nb (P 55 l) 360 := h.2.2.2.2.2.2.2.2.2.2.2.2.2.2.2.2.2.2.2.2.2.2.2.2.2.2.2.2.1
theorem wf_waC (h : WF P Q) : ∀ l, l < nW P → nb (P 59 l) 2 ∧ P 18 (nN (P 59 l)) = 1 := h.2.2.2.2.2.2.2.2.2.2.2.2.2.2.2.2.2.2.2.2.2.2.2.2.2.2.2.2.2.1
theorem wf_waM (h : WF P Q) : ∀ l, l < nW P → nb (P 60 l) 1440 := h.2.2.2.2.2.2.2.2.2.2.2.2.2.2.2.2.2.2.2.2.2.2.2.2.2.2.2.2.2.2
theorem wf_W (h : WF P Q) : wW P ≤ 64 := by
  have h1 := (wf_nF h).2
  unfold wW
  calc 2 ^ nF P ≤ 2 ^ 6 := Nat.pow_le_pow_right (by decide) h1
    _ = 64 := by decide
theorem wW_pos : 0 < wW P := Nat.two_pow_pos _
theorem shl1 : ∀ k : Fin 31, (1 : Int32) <<< (Int32.ofNat k.1 &&& 31) = Int32.ofNat (2 ^ k.1) := by decide
theorem shl_1 {k : Nat} (hk : k < 31) : (1 : Int32) <<< (Int32.ofNat k &&& 31) = Int32.ofNat (2 ^ k) := shl1 ⟨k, hk⟩
theorem wf_sh (h : WF P Q) : (1 : Int32) <<< (P 10 0 &&& 31) = Int32.ofNat (wW P) := by
  have h1 := wf_nF h
  rw [h1.1, shl_1 (by omega)]
  rfl
end WFS
