/-! LOOPS; small numbers -/
section Loops
variable {α β : Type}
/-- a loop that counts up: c rounds from k on -/
def lpf (f : Nat → α → α) : Nat → Nat → α → α
  | 0, _, a => a
  | c + 1, k, a => lpf f c (k + 1) (f k a)
theorem lp_up (P : Nat → α → β) (f : Nat → α → α) : ∀ (c k : Nat) (a : α), (∀ j a, k ≤ j → j < k + c → P j a = P (j + 1) (f j a)) → P k a = P (k + c) (lpf f c k a) := by
  intro c
  induction c with
  | zero => intro k a _; rfl
  | succ c ih =>
    intro k a hs
    rw [hs k a (Nat.le_refl k) (by omega), ih (k + 1) (f k a) (fun j a h1 h2 => hs j a (by omega) (by omega))]
    show P (k + 1 + c) _ = P (k + (c + 1)) _
    rw [show k + 1 + c = k + (c + 1) by omega]
    rfl
theorem lp_up0 (P : Nat → α → β) (f : Nat → α → α) (n : Nat) (a : α) (hs : ∀ j a, j < n → P j a = P (j + 1) (f j a)) : P 0 a = P n (lpf f n 0 a) := by
  have h := lp_up P f n 0 a (fun j a _ h2 => hs j a (by omega))
  rw [Nat.zero_add] at h
  exact h
/-- with something that stays so -/
theorem lp_upQ (Q : Nat → α → Prop) (P : Nat → α → β) (f : Nat → α → α) : ∀ (c k : Nat) (a : α), Q k a → (∀ j a, k ≤ j → j < k + c → Q j a → P j a = P (j + 1) (f j a) ∧ Q (j + 1) (f j a)) → P k a = P (k + c) (lpf f c k a) ∧ Q (k + c) (lpf f c k a) := by
  intro c
  induction c with
  | zero => intro k a hq _; exact ⟨rfl, hq⟩
  | succ c ih =>
    intro k a hq hs
    obtain ⟨h1, h2⟩ := hs k a (Nat.le_refl k) (by omega) hq
    obtain ⟨h3, h4⟩ := ih (k + 1) (f k a) h2 (fun j a h1 h2 h3 => hs j a (by omega) (by omega) h3)
    rw [show k + 1 + c = k + (c + 1) by omega] at h3 h4
    exact ⟨h1.trans h3, h4⟩
theorem lp_upQ0 (Q : Nat → α → Prop) (P : Nat → α → β) (f : Nat → α → α) (n : Nat) (a : α) (hq : Q 0 a) (hs : ∀ j a, j < n → Q j a → P j a = P (j + 1) (f j a) ∧ Q (j + 1) (f j a)) : P 0 a = P n (lpf f n 0 a) ∧ Q n (lpf f n 0 a) := by
  have h := lp_upQ Q P f n 0 a hq (fun j a _ h2 => hs j a (by omega))
  rw [Nat.zero_add] at h
  exact h
theorem lpf_congr {f g : Nat → α → α} : ∀ (c k : Nat) (a : α), (∀ j a, k ≤ j → j < k + c → f j a = g j a) → lpf f c k a = lpf g c k a := by
  intro c
  induction c with
  | zero => intro k a _; rfl
  | succ c ih =>
    intro k a hs
    show lpf f c (k + 1) (f k a) = lpf g c (k + 1) (g k a)
    rw [hs k a (Nat.le_refl k) (by omega)]
    exact ih _ _ (fun j a h1 h2 => hs j a (by omega) (by omega))
theorem lpf_last (f : Nat → α → α) : ∀ (c k : Nat) (a : α), lpf f (c + 1) k a = f (k + c) (lpf f c k a) := by
  intro c
  induction c with
  | zero => intro k a; rfl
  | succ c ih =>
    intro k a
    show lpf f (c + 1) (k + 1) (f k a) = f (k + (c + 1)) (lpf f c (k + 1) (f k a))
    rw [ih (k + 1) (f k a), show k + 1 + c = k + (c + 1) by omega]
/-- something that stays so along a loop -/
theorem lpf_inv {f : Nat → α → α} (Q : Nat → α → Prop) : ∀ (c k : Nat) (a : α), Q k a → (∀ j a, k ≤ j → j < k + c → Q j a → Q (j + 1) (f j a)) → Q (k + c) (lpf f c k a) := by
  intro c
  induction c with
  | zero => intro k a hq _; exact hq
  | succ c ih =>
    intro k a hq hs
    have h3 := ih (k + 1) (f k a) (hs k a (Nat.le_refl k) (by omega) hq) (fun j a h1 h2 h3 => hs j a (by omega) (by omega) h3)
    rw [show k + 1 + c = k + (c + 1) by omega] at h3
    exact h3
/-- two loops side by side -/
theorem lpf_rel {γ : Type} {f : Nat → α → α} {g : Nat → γ → γ} (Q : Nat → α → γ → Prop) : ∀ (c k : Nat) (a : α) (b : γ), Q k a b → (∀ j a b, k ≤ j → j < k + c → Q j a b → Q (j + 1) (f j a) (g j b)) → Q (k + c) (lpf f c k a) (lpf g c k b) := by
  intro c
  induction c with
  | zero => intro k a b hq _; exact hq
  | succ c ih =>
    intro k a b hq hs
    have h3 := ih (k + 1) (f k a) (g k b) (hs k a b (Nat.le_refl k) (by omega) hq) (fun j a b h1 h2 h3 => hs j a b (by omega) (by omega) h3)
    rw [show k + 1 + c = k + (c + 1) by omega] at h3
    exact h3
/-- a loop that seeks upwards -/
def fnd (p : Nat → Bool) : Nat → Nat → Option Nat
  | 0, _ => none
  | c + 1, k => if p k then some k else fnd p c (k + 1)
theorem fnd_up (P : Nat → β) (p : Nat → Bool) (R : Nat → β) : ∀ (c k : Nat), (∀ j, k ≤ j → j < k + c → P j = if p j = true then R j else P (j + 1)) → P k = match fnd p c k with | some j => R j | none => P (k + c) := by
  intro c
  induction c with
  | zero => intro k _; rfl
  | succ c ih =>
    intro k hs
    rw [hs k (Nat.le_refl k) (by omega)]
    unfold fnd
    by_cases hp : p k = true
    · simp only [hp, if_true]
    · simp only [hp, if_false]
      rw [ih (k + 1) (fun j h1 h2 => hs j (by omega) (by omega)), show k + 1 + c = k + (c + 1) by omega]
      rfl
theorem fnd_up0 (P : Nat → β) (p : Nat → Bool) (R : Nat → β) (n : Nat) (hs : ∀ j, j < n → P j = if p j = true then R j else P (j + 1)) : P 0 = match fnd p n 0 with | some j => R j | none => P n := by
  have h := fnd_up P p R n 0 (fun j _ h2 => hs j (by omega))
  rw [Nat.zero_add] at h
  exact h
theorem fnd_congr {p q : Nat → Bool} : ∀ (c k : Nat), (∀ j, k ≤ j → j < k + c → p j = q j) → fnd p c k = fnd q c k := by
  intro c
  induction c with
  | zero => intro k _; rfl
  | succ c ih =>
    intro k hs
    unfold fnd
    rw [hs k (Nat.le_refl k) (by omega), ih (k + 1) (fun j h1 h2 => hs j (by omega) (by omega))]
theorem fnd_some {p : Nat → Bool} : ∀ (c k j : Nat), fnd p c k = some j → p j = true ∧ k ≤ j ∧ j < k + c := by
  intro c
  induction c with
  | zero => intro k j h; cases h
  | succ c ih =>
    intro k j h
    unfold fnd at h
    by_cases hp : p k = true
    · simp only [hp, if_true, Option.some.injEq] at h; subst h; exact ⟨hp, Nat.le_refl _, by omega⟩
    · simp only [hp] at h
      obtain ⟨h1, h2, h3⟩ := ih (k + 1) j h
      exact ⟨h1, by omega, by omega⟩
theorem fnd_none {p : Nat → Bool} : ∀ (c k : Nat), fnd p c k = none → ∀ j, k ≤ j → j < k + c → p j = false := by
  intro c
  induction c with
  | zero => intro k _ j h1 h2; omega
  | succ c ih =>
    intro k h j h1 h2
    unfold fnd at h
    by_cases hp : p k = true
    · simp only [hp, if_true] at h; cases h
    · simp only [hp] at h
      rcases Nat.lt_or_ge k j with hj | hj
      · exact ih (k + 1) h j (by omega) (by omega)
      · have : j = k := by omega
        subst this
        simpa using hp
/-- a loop that seeks downwards -/
def fndd (p : Nat → Bool) : Nat → Option Nat
  | 0 => none
  | j + 1 => if p j then some j else fndd p j
theorem fnd_dn (P : Nat → β) (p : Nat → Bool) (R : Nat → β) : ∀ (n : Nat), (∀ j, j < n → P (j + 1) = if p j = true then R j else P j) → P n = match fndd p n with | some j => R j | none => P 0 := by
  intro n
  induction n with
  | zero => intro _; rfl
  | succ n ih =>
    intro hs
    rw [hs n (by omega)]
    unfold fndd
    by_cases hp : p n = true
    · simp only [hp, if_true]
    · simp only [hp, if_false]
      rw [ih (fun j h1 => hs j (by omega))]
      rfl
theorem fndd_congr {p q : Nat → Bool} : ∀ (n : Nat), (∀ j, j < n → p j = q j) → fndd p n = fndd q n := by
  intro n
  induction n with
  | zero => intro _; rfl
  | succ n ih =>
    intro hs
    unfold fndd
    rw [hs n (by omega), ih (fun j h1 => hs j (by omega))]
theorem fndd_some {p : Nat → Bool} : ∀ (n j : Nat), fndd p n = some j → p j = true ∧ j < n := by
  intro n
  induction n with
  | zero => intro j h; cases h
  | succ n ih =>
    intro j h
    unfold fndd at h
    by_cases hp : p n = true
    · simp only [hp, if_true, Option.some.injEq] at h; subst h; exact ⟨hp, by omega⟩
    · simp only [hp] at h
      obtain ⟨h1, h2⟩ := ih j h
      exact ⟨h1, by omega⟩
end Loops
/-- truth as an int -/
def tb (b : Bool) : Int32 := if b then 1 else 0
theorem tb_t : tb true = 1 := rfl
theorem tb_f : tb false = 0 := rfl
theorem tb_ok (b : Bool) : tb b = 0 ∨ tb b = 1 := by cases b <;> simp [tb]
theorem tb_0 (b : Bool) : (tb b = 0) = (b = false) := by cases b <;> simp [tb]
theorem tb_1 (b : Bool) : (tb b = 1) = (b = true) := by cases b <;> simp [tb]
theorem tb_if (p : Prop) (inst : Decidable p) : (if p then (1 : Int32) else 0) = tb (decide p) := by by_cases h : p <;> simp [h, tb]
/-- small numbers -/
theorem i_toInt {a : Nat} (ha : a < 2147483648) : (Int32.ofNat a).toInt = (a : Int) := Int32.toInt_ofNat_of_lt ha
theorem i_lt {a b : Nat} (ha : a < 2147483648) (hb : b < 2147483648) : (Int32.ofNat a < Int32.ofNat b) = (a < b) := by
  rw [Int32.lt_iff_toInt_lt, i_toInt ha, i_toInt hb]; simp
theorem i_le {a b : Nat} (ha : a < 2147483648) (hb : b < 2147483648) : (Int32.ofNat a ≤ Int32.ofNat b) = (a ≤ b) := by
  rw [Int32.le_iff_toInt_le, i_toInt ha, i_toInt hb]; simp
theorem i_eq {a b : Nat} (ha : a < 2147483648) (hb : b < 2147483648) : (Int32.ofNat a = Int32.ofNat b) = (a = b) := by
  rw [← Int32.toInt_inj, i_toInt ha, i_toInt hb]; exact propext ⟨fun h => by omega, fun h => by omega⟩
theorem i_inc (k : Nat) : Int32.ofNat k + 1 = Int32.ofNat (k + 1) := by
  rw [Int32.ofNat_add]; rfl
theorem i_clamp {a : Nat} (ha : a < 2147483648) : (Int32.ofNat a).toNatClampNeg = a := by
  unfold Int32.toNatClampNeg; rw [i_toInt ha]; simp
theorem i_lt0 {a : Nat} (ha : a < 2147483648) : (Int32.ofNat a < 0) = False := by
  rw [Int32.lt_iff_toInt_lt, i_toInt ha]; simp
theorem i_0le {a : Nat} (ha : a < 2147483648) : ((0 : Int32) ≤ Int32.ofNat a) = True := by
  rw [Int32.le_iff_toInt_le, i_toInt ha]; simp
theorem i_dec (k : Nat) : Int32.ofNat (k + 1) - 1 = Int32.ofNat k := by
  rw [Int32.ofNat_add]
  exact Int32.add_sub_cancel _ _
theorem i_dec' (k : Nat) : Int32.ofNat (k + 1) + (-1) = Int32.ofNat k := by
  rw [← Int32.sub_eq_add_neg]; exact i_dec k
/-- an index in range -/
def inr (i : Int32) (n : Nat) : Prop := ¬ (i < 0 ∨ n ≤ i.toNatClampNeg)
theorem inr_nat {k n : Nat} (hk : k < n) (hn : n ≤ 2147483648) : inr (Int32.ofNat k) n := by
  unfold inr
  rw [i_lt0 (by omega), i_clamp (by omega)]
  simp; omega
theorem inr_of {i : Int32} {n : Nat} (h0 : 0 ≤ i.toInt) (hn : i.toInt < (n : Int)) : inr i n := by
  unfold inr
  rw [Int32.lt_iff_toInt_lt]
  intro hc
  rcases hc with hc | hc
  · have : (0 : Int32).toInt = 0 := by decide
    omega
  · unfold Int32.toNatClampNeg at hc
    omega
theorem nat_of {i : Int32} (h0 : 0 ≤ i.toInt) : i = Int32.ofNat i.toNatClampNeg := by
  rw [← Int32.toInt_inj]
  have h1 : i.toInt < 2147483648 := Int32.toInt_lt i
  unfold Int32.toNatClampNeg
  rw [i_toInt (by omega)]
  omega
theorem b01_1 : ((1 : Int32) = 0) = False := by decide
