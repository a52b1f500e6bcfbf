/-! SETS AS LONGS -/
/-- a bit of a set -/
def hb (s : Int64) (k : Nat) : Bool := s.toBitVec.getLsbD k
theorem hb_ext {a b : Int64} (h : ∀ k, k < 64 → hb a k = hb b k) : a = b := by
  rw [← Int64.toBitVec_inj]
  exact BitVec.eq_of_getLsbD_eq fun k hk => h k hk
theorem hb_and (a b : Int64) (k : Nat) : hb (a &&& b) k = (hb a k && hb b k) := by
  unfold hb; rw [Int64.toBitVec_and, BitVec.getLsbD_and]
theorem hb_or (a b : Int64) (k : Nat) : hb (a ||| b) k = (hb a k || hb b k) := by
  unfold hb; rw [Int64.toBitVec_or, BitVec.getLsbD_or]
theorem hb_xor (a b : Int64) (k : Nat) : hb (a ^^^ b) k = (hb a k ^^ hb b k) := by
  unfold hb; rw [Int64.toBitVec_xor, BitVec.getLsbD_xor]
theorem hb_not (a : Int64) {k : Nat} (hk : k < 64) : hb (~~~ a) k = !hb a k := by
  unfold hb; rw [Int64.toBitVec_not, BitVec.getLsbD_not]; simp [hk]
theorem hb_0 (k : Nat) : hb 0 k = false := by
  unfold hb; rw [Int64.toBitVec_zero]; simp
theorem hb_big (a : Int64) {k : Nat} (hk : 64 ≤ k) : hb a k = false := by
  unfold hb; exact BitVec.getLsbD_of_ge _ _ hk
theorem sh_k : ∀ k : Fin 64, ((Int32.ofNat k.1).toInt64 &&& 63).toBitVec.smod 64 = BitVec.ofNat 64 k.1 := by decide
theorem sh_r (s : Int64) {k : Nat} (hk : k < 64) : (s >>> ((Int32.ofNat k).toInt64 &&& 63)).toBitVec = s.toBitVec.sshiftRight k := by
  rw [Int64.toBitVec_shiftRight, sh_k ⟨k, hk⟩]
  show s.toBitVec.sshiftRight (BitVec.ofNat 64 k).toNat = _
  simp only [BitVec.toNat_ofNat]
  rw [Nat.mod_eq_of_lt (by omega)]
theorem sh_l (s : Int64) {k : Nat} (hk : k < 64) : (s <<< ((Int32.ofNat k).toInt64 &&& 63)).toBitVec = s.toBitVec <<< k := by
  rw [Int64.toBitVec_shiftLeft, sh_k ⟨k, hk⟩]
  show s.toBitVec <<< (BitVec.ofNat 64 k) = _
  rw [BitVec.shiftLeft_eq']
  simp only [BitVec.toNat_ofNat]
  rw [Nat.mod_eq_of_lt (by omega)]
theorem lcz (x y : Int64) : (lg_cmp x y = 0) = (x = y) := by
  unfold lg_cmp
  by_cases h1 : x > y
  · simp only [h1, if_true]
    have : x ≠ y := fun e => by subst e; exact absurd h1 (by simp)
    simp [this]
  · by_cases h2 : x = y
    · simp [h1, h2]
    · simp only [h1, h2, if_false]; simp
theorem hb_test (s : Int64) {k : Nat} (hk : k < 64) : (lg_cmp ((s >>> ((Int32.ofNat k).toInt64 &&& 63)) &&& 1) 1 = 0) = (hb s k = true) := by
  rw [lcz, ← Int64.toBitVec_inj, Int64.toBitVec_and, sh_r s hk]
  unfold hb
  apply propext
  constructor
  · intro h
    have h1 := congrArg (fun v : BitVec 64 => v.getLsbD 0) h
    simp only [BitVec.getLsbD_and, BitVec.getLsbD_sshiftRight] at h1
    have h2 : (1 : Int64).toBitVec.getLsbD 0 = true := by decide
    rw [h2] at h1
    simpa [hk] using h1
  · intro h
    apply BitVec.eq_of_getLsbD_eq
    intro j hj
    simp only [BitVec.getLsbD_and]
    rcases Nat.eq_zero_or_pos j with h0 | h0
    · subst h0
      have h2 : (1 : Int64).toBitVec.getLsbD 0 = true := by decide
      rw [h2, BitVec.getLsbD_sshiftRight]
      simp [hk, h]
    · have h3 : (1 : Int64).toBitVec.getLsbD j = false := by
        have : (1 : Int64).toBitVec = 1#64 := rfl
        rw [this, BitVec.getLsbD_one]
        simp; omega
      rw [h3]; simp
/-- the bit as a number -/
theorem hb_num (s : Int64) {k : Nat} (hk : k < 64) : ((s >>> ((Int32.ofNat k).toInt64 &&& 63)) &&& 1).toInt32 = tb (hb s k) := by
  by_cases h : hb s k = true
  · have h1 := hb_test s hk
    rw [lcz] at h1
    rw [h1.mpr h, h]; rfl
  · have h1 : (s >>> ((Int32.ofNat k).toInt64 &&& 63)) &&& 1 = 0 := by
      apply hb_ext
      intro j hj
      rw [hb_and, hb_0]
      rcases Nat.eq_zero_or_pos j with h0 | h0
      · subst h0
        unfold hb at h ⊢
        rw [sh_r s hk, BitVec.getLsbD_sshiftRight]
        simp [hk] at h ⊢
        simp [h]
      · have h3 : hb 1 j = false := by
          unfold hb
          have : (1 : Int64).toBitVec = 1#64 := rfl
          rw [this, BitVec.getLsbD_one]
          simp; omega
        rw [h3]; simp
    rw [h1]
    have h2 : hb s k = false := by simpa using h
    rw [h2]; rfl
/-- one bit -/
def bt (k : Nat) : Int64 := 1 <<< ((Int32.ofNat k).toInt64 &&& 63)
theorem hb_bt {k j : Nat} (hk : k < 64) : hb (bt k) j = decide (j = k) := by
  unfold bt hb
  rw [sh_l 1 hk]
  have : (1 : Int64).toBitVec = 1#64 := rfl
  rw [this, BitVec.getLsbD_shiftLeft, BitVec.getLsbD_one]
  by_cases h : j = k
  · subst h; simp [hk]
  · simp [h]; omega
/-- the worlds below n of some kind -/
def mkS (n : Nat) (p : Nat → Bool) : Int64 := lpf (fun w s => if p w then s ||| bt w else s) n 0 0
theorem hb_mkS {n : Nat} (hn : n ≤ 64) (p : Nat → Bool) : ∀ k, hb (mkS n p) k = (decide (k < n) && p k) := by
  unfold mkS
  have h := lpf_inv (f := fun w s => if p w then s ||| bt w else s) (fun j (s : Int64) => ∀ k, hb s k = (decide (k < j) && p k)) n 0 0 (by intro k; simp [hb_0]) (by
    intro j s h1 h2 hq k
    by_cases hp : p j = true
    · simp only [hp, if_true]
      rw [hb_or, hq k, hb_bt (by omega)]
      by_cases hkj : k = j
      · subst hkj; simp [hp]
      · have : (k < j + 1) ↔ k < j := by omega
        simp [hkj, this]
    · simp only [hp]
      rw [show (if false = true then s ||| bt j else s) = s from rfl, hq k]
      by_cases hkj : k = j
      · subst hkj; simp [hp]
      · have : (k < j + 1) ↔ k < j := by omega
        simp [this])
  rw [Nat.zero_add] at h
  exact h
theorem mkS_congr {n : Nat} {p q : Nat → Bool} (h : ∀ k, k < n → p k = q k) : mkS n p = mkS n q := by
  unfold mkS
  exact lpf_congr n 0 0 (fun j a _ h2 => by rw [h j (by omega)])
theorem mkS_0 {n : Nat} (hn : n ≤ 64) (p : Nat → Bool) : (mkS n p = 0) ↔ ∀ k, k < n → p k = false := by
  constructor
  · intro h k hk
    have h1 := hb_mkS hn p k
    rw [h, hb_0] at h1
    simp [hk] at h1
    exact h1
  · intro h
    apply hb_ext
    intro k hk
    rw [hb_mkS hn p k, hb_0]
    by_cases hk2 : k < n
    · simp [h k hk2]
    · simp [hk2]
/-- how many bits -/
def bc (s : Int64) : Nat := lpf (fun k n => n + if hb s k then 1 else 0) 64 0 0
def pcn : Nat → Nat → Nat
  | 0, _ => 0
  | c + 1, x => x % 2 + pcn c (x / 2)
theorem pcn_0 : ∀ c, pcn c 0 = 0 := by
  intro c
  induction c with
  | zero => rfl
  | succ c ih => unfold pcn; simp [ih]
theorem pcn_k : ∀ (c x : Nat), x ≠ 0 → x < 2 ^ c → pcn c (x &&& (x - 1)) + 1 = pcn c x := by
  intro c
  induction c with
  | zero => intro x h1 h2; simp at h2; omega
  | succ c ih =>
    intro x h1 h2
    unfold pcn
    rcases Nat.mod_two_eq_zero_or_one x with hm | hm
    · have hx : (x &&& (x - 1)) / 2 = (x / 2) &&& (x / 2 - 1) := by
        rw [Nat.and_div_two, show (x - 1) / 2 = x / 2 - 1 by omega]
      have h3 : (x &&& (x - 1)) % 2 = 0 := by
        have h5 := Nat.and_mod_two_pow (n := 1) (a := x) (b := x - 1)
        simp only [Nat.pow_one] at h5
        rw [h5, hm]; simp
      have h4 := ih (x / 2) (by omega) (by rw [Nat.pow_succ] at h2; omega)
      rw [hx, h3, hm]
      omega
    · have hx : (x &&& (x - 1)) / 2 = x / 2 := by
        rw [Nat.and_div_two, show (x - 1) / 2 = x / 2 by omega, Nat.and_self]
      have h3 : (x &&& (x - 1)) % 2 = 0 := by
        have h5 := Nat.and_mod_two_pow (n := 1) (a := x) (b := x - 1)
        simp only [Nat.pow_one] at h5
        rw [h5, show (x - 1) % 2 = 0 by omega]; simp
      rw [hx, h3, hm]
      omega
theorem lpf_pcn (x : Nat) : ∀ (c k n : Nat), lpf (fun k n => n + if x.testBit k then 1 else 0) c k n = n + pcn c (x / 2 ^ k) := by
  intro c
  induction c with
  | zero => intro k n; rfl
  | succ c ih =>
    intro k n
    show lpf _ c (k + 1) (n + if x.testBit k then 1 else 0) = n + (x / 2 ^ k % 2 + pcn c (x / 2 ^ k / 2))
    rw [ih, Nat.div_div_eq_div_mul, show 2 ^ k * 2 = 2 ^ (k + 1) from (Nat.pow_succ ..).symm]
    have : (if x.testBit k = true then 1 else 0) = x / 2 ^ k % 2 := by
      rw [Nat.testBit_eq_decide_div_mod_eq]
      have := Nat.mod_two_eq_zero_or_one (x / 2 ^ k)
      rcases this with h | h <;> simp [h]
    rw [this]
    omega
theorem bc_pcn (s : Int64) : bc s = pcn 64 s.toBitVec.toNat := by
  have h := lpf_pcn s.toBitVec.toNat 64 0 0
  simp only [Nat.pow_zero, Nat.div_one, Nat.zero_add] at h
  rw [← h]
  unfold bc
  apply lpf_congr
  intro j a _ _
  unfold hb
  rfl
theorem bc_0 : bc 0 = 0 := by rw [bc_pcn]; exact pcn_0 64
theorem bc_k {s : Int64} (h : s ≠ 0) : bc (s &&& (s - 1)) + 1 = bc s := by
  rw [bc_pcn, bc_pcn]
  have h1 : s.toBitVec.toNat ≠ 0 := fun e => h (by
    rw [← Int64.toBitVec_inj, Int64.toBitVec_zero]
    exact BitVec.eq_of_toNat_eq (by simpa using e))
  have h2 : (s &&& (s - 1)).toBitVec.toNat = s.toBitVec.toNat &&& (s.toBitVec.toNat - 1) := by
    rw [Int64.toBitVec_and, BitVec.toNat_and, Int64.toBitVec_sub]
    congr 1
    have : (1 : Int64).toBitVec = 1#64 := rfl
    rw [this, BitVec.toNat_sub]
    have := s.toBitVec.isLt
    simp
    omega
  rw [h2]
  exact pcn_k 64 _ h1 s.toBitVec.isLt
theorem pcn_le : ∀ (c x : Nat), pcn c x ≤ c := by
  intro c
  induction c with
  | zero => intro x; exact Nat.le_refl _
  | succ c ih => intro x; unfold pcn; have := ih (x / 2); omega
theorem bc_le (s : Int64) : bc s ≤ 64 := by rw [bc_pcn]; exact pcn_le 64 _
/-- ints as sets -/
theorem i64_nat {w : Nat} (hw : w < 2147483648) : (Int32.ofNat w).toInt64 = Int64.ofNat w := by
  rw [← Int64.toInt_inj, Int32.toInt_toInt64, i_toInt hw, Int64.toInt_ofNat_of_lt (by omega)]
theorem hb_nat {w k : Nat} (hw : w < 2147483648) (hk : k < 64) : hb (Int64.ofNat w) k = w.testBit k := by
  unfold hb
  rw [Int64.toBitVec_ofNat']
  rw [BitVec.getLsbD_ofNat]
  simp [hk]
/-- a bit of an int -/
def hbI (x : Int32) (k : Nat) : Bool := x.toBitVec.getLsbD k
theorem hbI_ext {a b : Int32} (h : ∀ k, k < 32 → hbI a k = hbI b k) : a = b := by
  rw [← Int32.toBitVec_inj]
  exact BitVec.eq_of_getLsbD_eq fun k hk => h k hk
theorem hbI_and (a b : Int32) (k : Nat) : hbI (a &&& b) k = (hbI a k && hbI b k) := by
  unfold hbI; rw [Int32.toBitVec_and, BitVec.getLsbD_and]
theorem hbI_or (a b : Int32) (k : Nat) : hbI (a ||| b) k = (hbI a k || hbI b k) := by
  unfold hbI; rw [Int32.toBitVec_or, BitVec.getLsbD_or]
theorem hbI_xor (a b : Int32) (k : Nat) : hbI (a ^^^ b) k = (hbI a k ^^ hbI b k) := by
  unfold hbI; rw [Int32.toBitVec_xor, BitVec.getLsbD_xor]
theorem hbI_0 (k : Nat) : hbI 0 k = false := by
  unfold hbI; rw [Int32.toBitVec_zero]; simp
theorem hbI_1 {k : Nat} (hk : 0 < k) : hbI 1 k = false := by
  unfold hbI
  have : (1 : Int32).toBitVec = 1#32 := rfl
  rw [this, BitVec.getLsbD_one]; simp; omega
theorem hbI_nat {n k : Nat} (hn : n < 4294967296) : hbI (Int32.ofNat n) k = n.testBit k := by
  unfold hbI
  rw [Int32.toBitVec_ofNat', BitVec.getLsbD_ofNat]
  by_cases hk : k < 32
  · simp [hk]
  · have : n.testBit k = false := Nat.testBit_lt_two_pow (Nat.lt_of_lt_of_le hn (by
      calc 4294967296 = 2 ^ 32 := by decide
        _ ≤ 2 ^ k := Nat.pow_le_pow_right (by decide) (by omega)))
    simp [this]
theorem sh32_k : ∀ k : Fin 32, (Int32.ofNat k.1 &&& 31).toBitVec.smod 32 = BitVec.ofNat 32 k.1 := by decide
theorem sh32_r (s : Int32) {k : Nat} (hk : k < 32) : (s >>> (Int32.ofNat k &&& 31)).toBitVec = s.toBitVec.sshiftRight k := by
  rw [Int32.toBitVec_shiftRight, sh32_k ⟨k, hk⟩]
  show s.toBitVec.sshiftRight (BitVec.ofNat 32 k).toNat = _
  simp only [BitVec.toNat_ofNat]
  rw [Nat.mod_eq_of_lt (by omega)]
theorem sh32_l (s : Int32) {k : Nat} (hk : k < 32) : (s <<< (Int32.ofNat k &&& 31)).toBitVec = s.toBitVec <<< k := by
  rw [Int32.toBitVec_shiftLeft, sh32_k ⟨k, hk⟩]
  show s.toBitVec <<< (BitVec.ofNat 32 k) = _
  rw [BitVec.shiftLeft_eq']
  simp only [BitVec.toNat_ofNat]
  rw [Nat.mod_eq_of_lt (by omega)]
theorem bitI (s : Int32) {k : Nat} (hk : k < 32) : (s >>> (Int32.ofNat k &&& 31)) &&& 1 = tb (hbI s k) := by
  apply hbI_ext
  intro j hj
  rw [hbI_and]
  rcases Nat.eq_zero_or_pos j with h0 | h0
  · subst h0
    have h1 : hbI 1 0 = true := by decide
    rw [h1]
    unfold hbI
    rw [sh32_r s hk, BitVec.getLsbD_sshiftRight]
    simp only [hk, Nat.add_zero, Bool.and_true]
    cases h2 : s.toBitVec.getLsbD k <;> simp [hk, h2, tb] <;> decide
  · rw [hbI_1 h0, Bool.and_false]
    cases hbI s k with
    | false => exact (hbI_0 j).symm
    | true => exact (hbI_1 h0).symm
theorem hb_int (s : Int32) {k : Nat} (hk : k < 32) : hb s.toInt64 k = hbI s k := by
  unfold hb hbI
  rw [Int32.toBitVec_toInt64, BitVec.getLsbD_signExtend]
  simp [hk]
  omega
theorem bt_tb {k : Nat} (b : Bool) : (tb b).toInt64 <<< ((Int32.ofNat k).toInt64 &&& 63) = if b = true then bt k else 0 := by
  cases b with
  | true => rfl
  | false =>
    show (0 : Int64) <<< _ = 0
    rw [← Int64.toBitVec_inj, Int64.toBitVec_shiftLeft]
    simp
