/-! THE MODEL AS AN OVERLAY of the heap: ints I j k (field j, index k), longs L j k -/
def u2 {α : Type} (I : Nat → Nat → α) (j k : Nat) (v : α) : Nat → Nat → α := fun a b => if a = j ∧ b = k then v else I a b
theorem u2_eq {α : Type} (I : Nat → Nat → α) (j k : Nat) (v : α) : u2 I j k v j k = v := by simp [u2]
theorem u2_ne {α : Type} (I : Nat → Nat → α) {j k a b : Nat} (v : α) (h : ¬ (a = j ∧ b = k)) : u2 I j k v a b = I a b := by simp [u2, h]
theorem u2_j {α : Type} (I : Nat → Nat → α) {j k a b : Nat} (v : α) (h : ¬ a = j) : u2 I j k v a b = I a b := by simp [u2, h]
theorem u2_k {α : Type} (I : Nat → Nat → α) {j k b : Nat} (v : α) (h : ¬ b = k) : u2 I j k v j b = I j b := by simp [u2, h]
def mo_isI (j : Nat) : Bool := [0, 1, 3, 4, 5, 6, 8, 9, 23, 37, 38, 40, 41, 42, 43, 44, 50, 61, 68].contains j
def mo_ads : List (Nat × Nat) := [(2, 336), (10, 337), (11, 338), (12, 339), (13, 340), (14, 341), (15, 342), (16, 343), (17, 344), (18, 345), (19, 346), (20, 347), (21, 348), (22, 349), (24, 350), (25, 351), (26, 352), (27, 353), (28, 354), (29, 355), (30, 356), (31, 357), (32, 358), (33, 359), (34, 360), (35, 361), (36, 362), (39, 363), (45, 364), (46, 365), (47, 366), (48, 367), (49, 368), (51, 369), (52, 370), (53, 371), (54, 372), (55, 373), (56, 374), (57, 375), (58, 376), (59, 377), (60, 378), (62, 379), (63, 380), (64, 381), (65, 382), (66, 383), (67, 384)]
def mo_ad (j : Nat) : Nat := (mo_ads.lookup j).getD 0
def mo_f (I : Nat → Nat → Int32) (L : Nat → Nat → Int64) (j : Nat) : Value := if mo_isI j = true then .int (I j 0) else if j = 7 then .long (L 7 0) else .ref (mo_ad j)
def mo_t : List (Nat × Nat × Nat × Nat) := [(336, 2, 0, 1000), (337, 10, 0, 6), (338, 11, 1, 36), (339, 12, 0, 12), (340, 13, 0, 12), (341, 14, 0, 12), (342, 15, 0, 12), (343, 16, 0, 4), (344, 17, 0, 4), (345, 18, 2, 4), (346, 19, 1, 2), (347, 20, 0, 1000), (348, 21, 0, 1), (349, 22, 0, 1), (350, 24, 0, 7), (351, 25, 2, 7), (352, 26, 0, 7), (353, 27, 0, 7), (354, 28, 0, 7), (355, 29, 0, 7), (356, 30, 0, 7), (357, 31, 0, 7), (358, 32, 0, 7), (359, 33, 0, 7), (360, 34, 0, 7), (361, 35, 0, 20), (362, 36, 2, 2), (363, 39, 1, 4), (364, 45, 0, 31), (365, 46, 0, 31), (366, 47, 1, 31), (367, 48, 2, 31), (368, 49, 0, 31), (369, 51, 1, 62), (370, 52, 0, 12), (371, 53, 0, 12), (372, 54, 0, 12), (373, 55, 0, 12), (374, 56, 1, 12), (375, 57, 0, 360), (376, 58, 0, 360), (377, 59, 0, 4), (378, 60, 0, 4), (379, 62, 0, 24), (380, 63, 0, 1536), (381, 64, 0, 3), (382, 65, 2, 4), (383, 66, 0, 1200), (384, 67, 1, 400)]
def mo_c (I : Nat → Nat → Int32) (L : Nat → Nat → Int64) (j kd k : Nat) : Value := if kd = 1 then .long (L j k) else .int (I j k)
def mo (c : Nat → Option xm_C) (I : Nat → Nat → Int32) (L : Nat → Nat → Int64) (a : Nat) : Option xm_C := if a = 335 then some (.inl (8, mo_f I L)) else match mo_t.lookup a with
  | some x => some (.inr (x.2.1, x.2.2, fun k => mo_c I L x.1 x.2.1 k))
  | none => c a
/-- a heap with the model in it -/
def hM (n u : Nat) (c : Nat → Option xm_C) (I : Nat → Nat → Int32) (L : Nat → Nat → Int64) : xm_H := (n, u, mo c I L)
theorem mo_mem {α : Type} : ∀ (l : List (Nat × α)) (a : Nat) (x : α), l.lookup a = some x → (a, x) ∈ l := by
  intro l
  induction l with
  | nil => intro a x h; cases h
  | cons y t ih =>
    intro a x h
    obtain ⟨b, z⟩ := y
    rw [List.lookup_cons] at h
    by_cases hb : (a == b) = true
    · rw [hb] at h
      simp only [Option.some.injEq] at h
      subst h
      have : a = b := by simpa using hb
      subst this
      exact List.mem_cons_self
    · have hb' : (a == b) = false := by simpa using hb
      rw [hb'] at h
      exact List.mem_cons_of_mem _ (ih a x h)
theorem mo_tab : ∀ p ∈ mo_t, mo_ad p.2.1 = p.1 ∧ mo_isI p.2.1 = false ∧ p.2.1 ≠ 7 ∧ p.1 ≠ 335 ∧ 300 ≤ p.1 := by decide +kernel
section MO
variable {n u : Nat} {c : Nat → Option xm_C} {I : Nat → Nat → Int32} {L : Nat → Nat → Int64}
theorem mo_at (a : Nat) : (hM n u c I L).2.2 a = mo c I L a := rfl
theorem mo_self : mo c I L 335 = some (.inl (8, mo_f I L)) := rfl
theorem mo_arr {a j kd len : Nat} (ht : mo_t.lookup a = some (j, kd, len)) : mo c I L a = some (.inr (kd, len, fun k => mo_c I L j kd k)) := by
  unfold mo
  have h1 := (mo_tab _ (mo_mem _ _ _ ht)).2.2.2.1
  simp only at h1
  simp only [h1, if_false, ht]
theorem mcls : x_cls (hM n u c I L) 335 = some 8 := rfl
theorem mo_get {j : Nat} (v : Value) (hj : mo_f I L j = v) : x_fld 8 j (hM n u c I L) 335 = some v := by
  subst hj; rfl
theorem mo_put {j : Nat} (hj : mo_isI j = true) (v : Int32) : x_put 8 j (hM n u c I L) 335 (.int v) = some (hM n u c (u2 I j 0 v) L) := by
  have h1 : x_put 8 j (hM n u c I L) 335 (.int v) = some (xm_put (hM n u c I L) 335 (.inl (8, updV (mo_f I L) j (.int v)))) := rfl
  rw [h1]
  congr 1
  unfold xm_put hM
  refine Prod.ext rfl (Prod.ext rfl (funext fun a => ?_))
  show (if a = 335 then _ else mo c I L a) = mo c (u2 I j 0 v) L a
  by_cases ha : a = 335
  · subst ha
    rw [if_pos rfl, mo_self]
    congr 3
    funext b
    unfold updV mo_f
    by_cases hb : b = j
    · subst hb
      simp only [hj, if_true, u2_eq]
    · by_cases hi : mo_isI b = true
      · simp only [hb, hi, if_true, if_false, u2_j I v hb]
      · simp only [hb, hi, if_false]
        try rfl
  · rw [if_neg ha]
    unfold mo
    rw [if_neg ha, if_neg ha]
    cases ht : mo_t.lookup a with
    | none => rfl
    | some x =>
      have h2 := mo_tab _ (mo_mem _ _ _ ht)
      have h3 : ¬ x.1 = j := fun e => by rw [← e, h2.2.1] at hj; cases hj
      simp only
      congr 4
      funext k
      unfold mo_c
      rw [u2_j I v h3]
theorem mo_putL (v : Int64) : x_put 8 7 (hM n u c I L) 335 (.long v) = some (hM n u c I (u2 L 7 0 v)) := by
  have h1 : x_put 8 7 (hM n u c I L) 335 (.long v) = some (xm_put (hM n u c I L) 335 (.inl (8, updV (mo_f I L) 7 (.long v)))) := rfl
  rw [h1]
  congr 1
  unfold xm_put hM
  refine Prod.ext rfl (Prod.ext rfl (funext fun a => ?_))
  show (if a = 335 then _ else mo c I L a) = mo c I (u2 L 7 0 v) a
  by_cases ha : a = 335
  · subst ha
    rw [if_pos rfl, mo_self]
    congr 3
    funext b
    unfold updV mo_f
    by_cases hb : b = 7
    · subst hb
      simp only [u2_eq, if_true]
      rfl
    · by_cases hi : mo_isI b = true
      · simp only [hb, hi, if_true, if_false]
      · simp only [hb, hi, if_false]
        try rfl
  · rw [if_neg ha]
    unfold mo
    rw [if_neg ha, if_neg ha]
    cases ht : mo_t.lookup a with
    | none => rfl
    | some x =>
      have h2 := mo_tab _ (mo_mem _ _ _ ht)
      simp only
      congr 4
      funext k
      unfold mo_c
      rw [u2_j L v h2.2.2.1]
theorem mo_ald {a j kd len : Nat} {ok : Nat → Bool} (ht : mo_t.lookup a = some (j, kd, len)) (hok : ok kd = true) {i : Int32} (hi : inr i len) : x_ald ok (hM n u c I L) a i = some (mo_c I L j kd i.toNatClampNeg) := by
  unfold x_ald
  rw [mo_at, mo_arr ht]
  simp only
  rw [if_pos ⟨hok, hi⟩]
theorem mo_other {a j kd len k : Nat} (ht : mo_t.lookup a = some (j, kd, len)) {I' : Nat → Nat → Int32} {L' : Nat → Nat → Int64} (hI : ∀ j' k', ¬ (j' = j ∧ k' = k) → I' j' k' = I j' k') (hL : ∀ j' k', ¬ (j' = j ∧ k' = k) → L' j' k' = L j' k') {b : Nat} (hb : b ≠ a) : mo c I' L' b = mo c I L b := by
  have h0 := mo_tab _ (mo_mem _ _ _ ht)
  unfold mo
  by_cases hb1 : b = 335
  · rw [if_pos hb1, if_pos hb1]
    congr 3
    funext y
    unfold mo_f
    by_cases hi : mo_isI y = true
    · have : ¬ y = j := fun e => by rw [e, h0.2.1] at hi; cases hi
      simp only [hi, if_true, hI y 0 (fun q => this q.1)]
    · by_cases h7 : y = 7
      · subst h7
        have : ¬ 7 = j := fun e => h0.2.2.1 e.symm
        rw [if_neg hi, if_neg hi, if_pos rfl, if_pos rfl, hL 7 0 (fun q => this q.1)]
      · rw [if_neg hi, if_neg hi, if_neg h7, if_neg h7]
  · rw [if_neg hb1, if_neg hb1]
    cases h1 : mo_t.lookup b with
    | none => rfl
    | some x =>
      have h2 := mo_tab _ (mo_mem _ _ _ h1)
      have h3 : ¬ x.1 = j := fun e => by
        have e1 := h2.1; have e2 := h0.1
        simp only at e1 e2
        rw [e, e2] at e1
        exact hb e1.symm
      simp only
      congr 4
      funext y
      unfold mo_c
      rw [hI x.1 y (fun q => h3 q.1), hL x.1 y (fun q => h3 q.1)]
theorem mo_ast {a j kd len : Nat} (ht : mo_t.lookup a = some (j, kd, len)) (hkd : ¬ kd = 1) {i : Int32} (hi : inr i len) (v : Int32) : x_ast kd (hM n u c I L) a i (.int v) = some (hM n u c (u2 I j i.toNatClampNeg v) L) := by
  unfold x_ast
  have h0 := mo_tab _ (mo_mem _ _ _ ht)
  rw [mo_at, mo_arr ht]
  simp only
  rw [if_pos ⟨h0.2.2.2.2, trivial, hi⟩]
  congr 1
  unfold xm_put hM
  refine Prod.ext rfl (Prod.ext rfl (funext fun b => ?_))
  show (if b = a then _ else mo c I L b) = mo c (u2 I j i.toNatClampNeg v) L b
  by_cases hb : b = a
  · subst hb
    rw [if_pos rfl, mo_arr ht]
    congr 4
    funext y
    unfold updV mo_c
    by_cases hy : y = i.toNatClampNeg
    · subst hy; simp only [hkd, if_true, if_false, u2_eq]
    · simp only [hy, hkd, if_false, u2_k I v hy]
  · rw [if_neg hb]
    exact (mo_other ht (fun j' k' q => u2_ne I v q) (fun _ _ _ => rfl) hb).symm
theorem mo_astL {a j len : Nat} (ht : mo_t.lookup a = some (j, 1, len)) {i : Int32} (hi : inr i len) (v : Int64) : x_ast 1 (hM n u c I L) a i (.long v) = some (hM n u c I (u2 L j i.toNatClampNeg v)) := by
  unfold x_ast
  have h0 := mo_tab _ (mo_mem _ _ _ ht)
  rw [mo_at, mo_arr ht]
  simp only
  rw [if_pos ⟨h0.2.2.2.2, trivial, hi⟩]
  congr 1
  unfold xm_put hM
  refine Prod.ext rfl (Prod.ext rfl (funext fun b => ?_))
  show (if b = a then _ else mo c I L b) = mo c I (u2 L j i.toNatClampNeg v) b
  by_cases hb : b = a
  · subst hb
    rw [if_pos rfl, mo_arr ht]
    congr 4
    funext y
    unfold updV mo_c
    by_cases hy : y = i.toNatClampNeg
    · subst hy; simp only [if_true, u2_eq]
    · simp only [hy, if_true, if_false, u2_k L v hy]
  · rw [if_neg hb]
    exact (mo_other ht (fun _ _ _ => rfl) (fun j' k' q => u2_ne L v q) hb).symm
theorem mf0 : x_fld 8 0 (hM n u c I L) 335 = some (.int (I 0 0)) := mo_get _ rfl
theorem mp0 (v : Int32) : x_put 8 0 (hM n u c I L) 335 (.int v) = some (hM n u c (u2 I 0 0 v) L) := mo_put rfl v
theorem mf1 : x_fld 8 1 (hM n u c I L) 335 = some (.int (I 1 0)) := mo_get _ rfl
theorem mp1 (v : Int32) : x_put 8 1 (hM n u c I L) 335 (.int v) = some (hM n u c (u2 I 1 0 v) L) := mo_put rfl v
theorem mf3 : x_fld 8 3 (hM n u c I L) 335 = some (.int (I 3 0)) := mo_get _ rfl
theorem mp3 (v : Int32) : x_put 8 3 (hM n u c I L) 335 (.int v) = some (hM n u c (u2 I 3 0 v) L) := mo_put rfl v
theorem mf4 : x_fld 8 4 (hM n u c I L) 335 = some (.int (I 4 0)) := mo_get _ rfl
theorem mp4 (v : Int32) : x_put 8 4 (hM n u c I L) 335 (.int v) = some (hM n u c (u2 I 4 0 v) L) := mo_put rfl v
theorem mf5 : x_fld 8 5 (hM n u c I L) 335 = some (.int (I 5 0)) := mo_get _ rfl
theorem mp5 (v : Int32) : x_put 8 5 (hM n u c I L) 335 (.int v) = some (hM n u c (u2 I 5 0 v) L) := mo_put rfl v
theorem mf6 : x_fld 8 6 (hM n u c I L) 335 = some (.int (I 6 0)) := mo_get _ rfl
theorem mp6 (v : Int32) : x_put 8 6 (hM n u c I L) 335 (.int v) = some (hM n u c (u2 I 6 0 v) L) := mo_put rfl v
theorem mf8 : x_fld 8 8 (hM n u c I L) 335 = some (.int (I 8 0)) := mo_get _ rfl
theorem mp8 (v : Int32) : x_put 8 8 (hM n u c I L) 335 (.int v) = some (hM n u c (u2 I 8 0 v) L) := mo_put rfl v
theorem mf9 : x_fld 8 9 (hM n u c I L) 335 = some (.int (I 9 0)) := mo_get _ rfl
theorem mp9 (v : Int32) : x_put 8 9 (hM n u c I L) 335 (.int v) = some (hM n u c (u2 I 9 0 v) L) := mo_put rfl v
theorem mf23 : x_fld 8 23 (hM n u c I L) 335 = some (.int (I 23 0)) := mo_get _ rfl
theorem mp23 (v : Int32) : x_put 8 23 (hM n u c I L) 335 (.int v) = some (hM n u c (u2 I 23 0 v) L) := mo_put rfl v
theorem mf37 : x_fld 8 37 (hM n u c I L) 335 = some (.int (I 37 0)) := mo_get _ rfl
theorem mp37 (v : Int32) : x_put 8 37 (hM n u c I L) 335 (.int v) = some (hM n u c (u2 I 37 0 v) L) := mo_put rfl v
theorem mf38 : x_fld 8 38 (hM n u c I L) 335 = some (.int (I 38 0)) := mo_get _ rfl
theorem mp38 (v : Int32) : x_put 8 38 (hM n u c I L) 335 (.int v) = some (hM n u c (u2 I 38 0 v) L) := mo_put rfl v
theorem mf40 : x_fld 8 40 (hM n u c I L) 335 = some (.int (I 40 0)) := mo_get _ rfl
theorem mp40 (v : Int32) : x_put 8 40 (hM n u c I L) 335 (.int v) = some (hM n u c (u2 I 40 0 v) L) := mo_put rfl v
theorem mf41 : x_fld 8 41 (hM n u c I L) 335 = some (.int (I 41 0)) := mo_get _ rfl
theorem mp41 (v : Int32) : x_put 8 41 (hM n u c I L) 335 (.int v) = some (hM n u c (u2 I 41 0 v) L) := mo_put rfl v
theorem mf42 : x_fld 8 42 (hM n u c I L) 335 = some (.int (I 42 0)) := mo_get _ rfl
theorem mp42 (v : Int32) : x_put 8 42 (hM n u c I L) 335 (.int v) = some (hM n u c (u2 I 42 0 v) L) := mo_put rfl v
theorem mf43 : x_fld 8 43 (hM n u c I L) 335 = some (.int (I 43 0)) := mo_get _ rfl
theorem mp43 (v : Int32) : x_put 8 43 (hM n u c I L) 335 (.int v) = some (hM n u c (u2 I 43 0 v) L) := mo_put rfl v
theorem mf44 : x_fld 8 44 (hM n u c I L) 335 = some (.int (I 44 0)) := mo_get _ rfl
theorem mp44 (v : Int32) : x_put 8 44 (hM n u c I L) 335 (.int v) = some (hM n u c (u2 I 44 0 v) L) := mo_put rfl v
theorem mf50 : x_fld 8 50 (hM n u c I L) 335 = some (.int (I 50 0)) := mo_get _ rfl
theorem mp50 (v : Int32) : x_put 8 50 (hM n u c I L) 335 (.int v) = some (hM n u c (u2 I 50 0 v) L) := mo_put rfl v
theorem mf61 : x_fld 8 61 (hM n u c I L) 335 = some (.int (I 61 0)) := mo_get _ rfl
theorem mp61 (v : Int32) : x_put 8 61 (hM n u c I L) 335 (.int v) = some (hM n u c (u2 I 61 0 v) L) := mo_put rfl v
theorem mf68 : x_fld 8 68 (hM n u c I L) 335 = some (.int (I 68 0)) := mo_get _ rfl
theorem mp68 (v : Int32) : x_put 8 68 (hM n u c I L) 335 (.int v) = some (hM n u c (u2 I 68 0 v) L) := mo_put rfl v
theorem mf7 : x_fld 8 7 (hM n u c I L) 335 = some (.long (L 7 0)) := mo_get _ rfl
theorem mp7 (v : Int64) : x_put 8 7 (hM n u c I L) 335 (.long v) = some (hM n u c I (u2 L 7 0 v)) := mo_putL v
theorem mf2 : x_fld 8 2 (hM n u c I L) 335 = some (.ref 336) := mo_get _ rfl
theorem ma2 {i : Int32} (hi : inr i 1000) : x_ald (fun t => t == 0) (hM n u c I L) 336 i = some (.int (I 2 i.toNatClampNeg)) := mo_ald (j := 2) (kd := 0) (len := 1000) rfl rfl hi
theorem ms2 {i : Int32} (hi : inr i 1000) (v : Int32) : x_ast 0 (hM n u c I L) 336 i (.int v) = some (hM n u c (u2 I 2 i.toNatClampNeg v) L) := mo_ast (j := 2) (kd := 0) (len := 1000) rfl (by decide) hi v
theorem mf10 : x_fld 8 10 (hM n u c I L) 335 = some (.ref 337) := mo_get _ rfl
theorem ma10 {i : Int32} (hi : inr i 6) : x_ald (fun t => t == 0) (hM n u c I L) 337 i = some (.int (I 10 i.toNatClampNeg)) := mo_ald (j := 10) (kd := 0) (len := 6) rfl rfl hi
theorem ms10 {i : Int32} (hi : inr i 6) (v : Int32) : x_ast 0 (hM n u c I L) 337 i (.int v) = some (hM n u c (u2 I 10 i.toNatClampNeg v) L) := mo_ast (j := 10) (kd := 0) (len := 6) rfl (by decide) hi v
theorem mf11 : x_fld 8 11 (hM n u c I L) 335 = some (.ref 338) := mo_get _ rfl
theorem ma11 {i : Int32} (hi : inr i 36) : x_ald (fun t => t == 1) (hM n u c I L) 338 i = some (.long (L 11 i.toNatClampNeg)) := mo_ald (j := 11) (kd := 1) (len := 36) rfl rfl hi
theorem ms11 {i : Int32} (hi : inr i 36) (v : Int64) : x_ast 1 (hM n u c I L) 338 i (.long v) = some (hM n u c I (u2 L 11 i.toNatClampNeg v)) := mo_astL (j := 11) (len := 36) rfl hi v
theorem mf12 : x_fld 8 12 (hM n u c I L) 335 = some (.ref 339) := mo_get _ rfl
theorem ma12 {i : Int32} (hi : inr i 12) : x_ald (fun t => t == 0) (hM n u c I L) 339 i = some (.int (I 12 i.toNatClampNeg)) := mo_ald (j := 12) (kd := 0) (len := 12) rfl rfl hi
theorem ms12 {i : Int32} (hi : inr i 12) (v : Int32) : x_ast 0 (hM n u c I L) 339 i (.int v) = some (hM n u c (u2 I 12 i.toNatClampNeg v) L) := mo_ast (j := 12) (kd := 0) (len := 12) rfl (by decide) hi v
theorem mf13 : x_fld 8 13 (hM n u c I L) 335 = some (.ref 340) := mo_get _ rfl
theorem ma13 {i : Int32} (hi : inr i 12) : x_ald (fun t => t == 0) (hM n u c I L) 340 i = some (.int (I 13 i.toNatClampNeg)) := mo_ald (j := 13) (kd := 0) (len := 12) rfl rfl hi
theorem ms13 {i : Int32} (hi : inr i 12) (v : Int32) : x_ast 0 (hM n u c I L) 340 i (.int v) = some (hM n u c (u2 I 13 i.toNatClampNeg v) L) := mo_ast (j := 13) (kd := 0) (len := 12) rfl (by decide) hi v
theorem mf14 : x_fld 8 14 (hM n u c I L) 335 = some (.ref 341) := mo_get _ rfl
theorem ma14 {i : Int32} (hi : inr i 12) : x_ald (fun t => t == 0) (hM n u c I L) 341 i = some (.int (I 14 i.toNatClampNeg)) := mo_ald (j := 14) (kd := 0) (len := 12) rfl rfl hi
theorem ms14 {i : Int32} (hi : inr i 12) (v : Int32) : x_ast 0 (hM n u c I L) 341 i (.int v) = some (hM n u c (u2 I 14 i.toNatClampNeg v) L) := mo_ast (j := 14) (kd := 0) (len := 12) rfl (by decide) hi v
theorem mf15 : x_fld 8 15 (hM n u c I L) 335 = some (.ref 342) := mo_get _ rfl
theorem ma15 {i : Int32} (hi : inr i 12) : x_ald (fun t => t == 0) (hM n u c I L) 342 i = some (.int (I 15 i.toNatClampNeg)) := mo_ald (j := 15) (kd := 0) (len := 12) rfl rfl hi
theorem ms15 {i : Int32} (hi : inr i 12) (v : Int32) : x_ast 0 (hM n u c I L) 342 i (.int v) = some (hM n u c (u2 I 15 i.toNatClampNeg v) L) := mo_ast (j := 15) (kd := 0) (len := 12) rfl (by decide) hi v
theorem mf16 : x_fld 8 16 (hM n u c I L) 335 = some (.ref 343) := mo_get _ rfl
theorem ma16 {i : Int32} (hi : inr i 4) : x_ald (fun t => t == 0) (hM n u c I L) 343 i = some (.int (I 16 i.toNatClampNeg)) := mo_ald (j := 16) (kd := 0) (len := 4) rfl rfl hi
theorem ms16 {i : Int32} (hi : inr i 4) (v : Int32) : x_ast 0 (hM n u c I L) 343 i (.int v) = some (hM n u c (u2 I 16 i.toNatClampNeg v) L) := mo_ast (j := 16) (kd := 0) (len := 4) rfl (by decide) hi v
theorem mf17 : x_fld 8 17 (hM n u c I L) 335 = some (.ref 344) := mo_get _ rfl
theorem ma17 {i : Int32} (hi : inr i 4) : x_ald (fun t => t == 0) (hM n u c I L) 344 i = some (.int (I 17 i.toNatClampNeg)) := mo_ald (j := 17) (kd := 0) (len := 4) rfl rfl hi
theorem ms17 {i : Int32} (hi : inr i 4) (v : Int32) : x_ast 0 (hM n u c I L) 344 i (.int v) = some (hM n u c (u2 I 17 i.toNatClampNeg v) L) := mo_ast (j := 17) (kd := 0) (len := 4) rfl (by decide) hi v
theorem mf18 : x_fld 8 18 (hM n u c I L) 335 = some (.ref 345) := mo_get _ rfl
theorem ma18 {i : Int32} (hi : inr i 4) : x_ald (fun t => t == 2 || t == 3) (hM n u c I L) 345 i = some (.int (I 18 i.toNatClampNeg)) := mo_ald (j := 18) (kd := 2) (len := 4) rfl rfl hi
theorem ms18 {i : Int32} (hi : inr i 4) (v : Int32) : x_ast 2 (hM n u c I L) 345 i (.int v) = some (hM n u c (u2 I 18 i.toNatClampNeg v) L) := mo_ast (j := 18) (kd := 2) (len := 4) rfl (by decide) hi v
theorem mf19 : x_fld 8 19 (hM n u c I L) 335 = some (.ref 346) := mo_get _ rfl
theorem ma19 {i : Int32} (hi : inr i 2) : x_ald (fun t => t == 1) (hM n u c I L) 346 i = some (.long (L 19 i.toNatClampNeg)) := mo_ald (j := 19) (kd := 1) (len := 2) rfl rfl hi
theorem ms19 {i : Int32} (hi : inr i 2) (v : Int64) : x_ast 1 (hM n u c I L) 346 i (.long v) = some (hM n u c I (u2 L 19 i.toNatClampNeg v)) := mo_astL (j := 19) (len := 2) rfl hi v
theorem mf20 : x_fld 8 20 (hM n u c I L) 335 = some (.ref 347) := mo_get _ rfl
theorem ma20 {i : Int32} (hi : inr i 1000) : x_ald (fun t => t == 0) (hM n u c I L) 347 i = some (.int (I 20 i.toNatClampNeg)) := mo_ald (j := 20) (kd := 0) (len := 1000) rfl rfl hi
theorem ms20 {i : Int32} (hi : inr i 1000) (v : Int32) : x_ast 0 (hM n u c I L) 347 i (.int v) = some (hM n u c (u2 I 20 i.toNatClampNeg v) L) := mo_ast (j := 20) (kd := 0) (len := 1000) rfl (by decide) hi v
theorem mf21 : x_fld 8 21 (hM n u c I L) 335 = some (.ref 348) := mo_get _ rfl
theorem ma21 {i : Int32} (hi : inr i 1) : x_ald (fun t => t == 0) (hM n u c I L) 348 i = some (.int (I 21 i.toNatClampNeg)) := mo_ald (j := 21) (kd := 0) (len := 1) rfl rfl hi
theorem ms21 {i : Int32} (hi : inr i 1) (v : Int32) : x_ast 0 (hM n u c I L) 348 i (.int v) = some (hM n u c (u2 I 21 i.toNatClampNeg v) L) := mo_ast (j := 21) (kd := 0) (len := 1) rfl (by decide) hi v
theorem mf22 : x_fld 8 22 (hM n u c I L) 335 = some (.ref 349) := mo_get _ rfl
theorem ma22 {i : Int32} (hi : inr i 1) : x_ald (fun t => t == 0) (hM n u c I L) 349 i = some (.int (I 22 i.toNatClampNeg)) := mo_ald (j := 22) (kd := 0) (len := 1) rfl rfl hi
theorem ms22 {i : Int32} (hi : inr i 1) (v : Int32) : x_ast 0 (hM n u c I L) 349 i (.int v) = some (hM n u c (u2 I 22 i.toNatClampNeg v) L) := mo_ast (j := 22) (kd := 0) (len := 1) rfl (by decide) hi v
theorem mf24 : x_fld 8 24 (hM n u c I L) 335 = some (.ref 350) := mo_get _ rfl
theorem ma24 {i : Int32} (hi : inr i 7) : x_ald (fun t => t == 0) (hM n u c I L) 350 i = some (.int (I 24 i.toNatClampNeg)) := mo_ald (j := 24) (kd := 0) (len := 7) rfl rfl hi
theorem ms24 {i : Int32} (hi : inr i 7) (v : Int32) : x_ast 0 (hM n u c I L) 350 i (.int v) = some (hM n u c (u2 I 24 i.toNatClampNeg v) L) := mo_ast (j := 24) (kd := 0) (len := 7) rfl (by decide) hi v
theorem mf25 : x_fld 8 25 (hM n u c I L) 335 = some (.ref 351) := mo_get _ rfl
theorem ma25 {i : Int32} (hi : inr i 7) : x_ald (fun t => t == 2 || t == 3) (hM n u c I L) 351 i = some (.int (I 25 i.toNatClampNeg)) := mo_ald (j := 25) (kd := 2) (len := 7) rfl rfl hi
theorem ms25 {i : Int32} (hi : inr i 7) (v : Int32) : x_ast 2 (hM n u c I L) 351 i (.int v) = some (hM n u c (u2 I 25 i.toNatClampNeg v) L) := mo_ast (j := 25) (kd := 2) (len := 7) rfl (by decide) hi v
theorem mf26 : x_fld 8 26 (hM n u c I L) 335 = some (.ref 352) := mo_get _ rfl
theorem ma26 {i : Int32} (hi : inr i 7) : x_ald (fun t => t == 0) (hM n u c I L) 352 i = some (.int (I 26 i.toNatClampNeg)) := mo_ald (j := 26) (kd := 0) (len := 7) rfl rfl hi
theorem ms26 {i : Int32} (hi : inr i 7) (v : Int32) : x_ast 0 (hM n u c I L) 352 i (.int v) = some (hM n u c (u2 I 26 i.toNatClampNeg v) L) := mo_ast (j := 26) (kd := 0) (len := 7) rfl (by decide) hi v
theorem mf27 : x_fld 8 27 (hM n u c I L) 335 = some (.ref 353) := mo_get _ rfl
theorem ma27 {i : Int32} (hi : inr i 7) : x_ald (fun t => t == 0) (hM n u c I L) 353 i = some (.int (I 27 i.toNatClampNeg)) := mo_ald (j := 27) (kd := 0) (len := 7) rfl rfl hi
theorem ms27 {i : Int32} (hi : inr i 7) (v : Int32) : x_ast 0 (hM n u c I L) 353 i (.int v) = some (hM n u c (u2 I 27 i.toNatClampNeg v) L) := mo_ast (j := 27) (kd := 0) (len := 7) rfl (by decide) hi v
theorem mf28 : x_fld 8 28 (hM n u c I L) 335 = some (.ref 354) := mo_get _ rfl
theorem ma28 {i : Int32} (hi : inr i 7) : x_ald (fun t => t == 0) (hM n u c I L) 354 i = some (.int (I 28 i.toNatClampNeg)) := mo_ald (j := 28) (kd := 0) (len := 7) rfl rfl hi
theorem ms28 {i : Int32} (hi : inr i 7) (v : Int32) : x_ast 0 (hM n u c I L) 354 i (.int v) = some (hM n u c (u2 I 28 i.toNatClampNeg v) L) := mo_ast (j := 28) (kd := 0) (len := 7) rfl (by decide) hi v
theorem mf29 : x_fld 8 29 (hM n u c I L) 335 = some (.ref 355) := mo_get _ rfl
theorem ma29 {i : Int32} (hi : inr i 7) : x_ald (fun t => t == 0) (hM n u c I L) 355 i = some (.int (I 29 i.toNatClampNeg)) := mo_ald (j := 29) (kd := 0) (len := 7) rfl rfl hi
theorem ms29 {i : Int32} (hi : inr i 7) (v : Int32) : x_ast 0 (hM n u c I L) 355 i (.int v) = some (hM n u c (u2 I 29 i.toNatClampNeg v) L) := mo_ast (j := 29) (kd := 0) (len := 7) rfl (by decide) hi v
theorem mf30 : x_fld 8 30 (hM n u c I L) 335 = some (.ref 356) := mo_get _ rfl
theorem ma30 {i : Int32} (hi : inr i 7) : x_ald (fun t => t == 0) (hM n u c I L) 356 i = some (.int (I 30 i.toNatClampNeg)) := mo_ald (j := 30) (kd := 0) (len := 7) rfl rfl hi
theorem ms30 {i : Int32} (hi : inr i 7) (v : Int32) : x_ast 0 (hM n u c I L) 356 i (.int v) = some (hM n u c (u2 I 30 i.toNatClampNeg v) L) := mo_ast (j := 30) (kd := 0) (len := 7) rfl (by decide) hi v
theorem mf31 : x_fld 8 31 (hM n u c I L) 335 = some (.ref 357) := mo_get _ rfl
theorem ma31 {i : Int32} (hi : inr i 7) : x_ald (fun t => t == 0) (hM n u c I L) 357 i = some (.int (I 31 i.toNatClampNeg)) := mo_ald (j := 31) (kd := 0) (len := 7) rfl rfl hi
theorem ms31 {i : Int32} (hi : inr i 7) (v : Int32) : x_ast 0 (hM n u c I L) 357 i (.int v) = some (hM n u c (u2 I 31 i.toNatClampNeg v) L) := mo_ast (j := 31) (kd := 0) (len := 7) rfl (by decide) hi v
theorem mf32 : x_fld 8 32 (hM n u c I L) 335 = some (.ref 358) := mo_get _ rfl
theorem ma32 {i : Int32} (hi : inr i 7) : x_ald (fun t => t == 0) (hM n u c I L) 358 i = some (.int (I 32 i.toNatClampNeg)) := mo_ald (j := 32) (kd := 0) (len := 7) rfl rfl hi
theorem ms32 {i : Int32} (hi : inr i 7) (v : Int32) : x_ast 0 (hM n u c I L) 358 i (.int v) = some (hM n u c (u2 I 32 i.toNatClampNeg v) L) := mo_ast (j := 32) (kd := 0) (len := 7) rfl (by decide) hi v
theorem mf33 : x_fld 8 33 (hM n u c I L) 335 = some (.ref 359) := mo_get _ rfl
theorem ma33 {i : Int32} (hi : inr i 7) : x_ald (fun t => t == 0) (hM n u c I L) 359 i = some (.int (I 33 i.toNatClampNeg)) := mo_ald (j := 33) (kd := 0) (len := 7) rfl rfl hi
theorem ms33 {i : Int32} (hi : inr i 7) (v : Int32) : x_ast 0 (hM n u c I L) 359 i (.int v) = some (hM n u c (u2 I 33 i.toNatClampNeg v) L) := mo_ast (j := 33) (kd := 0) (len := 7) rfl (by decide) hi v
theorem mf34 : x_fld 8 34 (hM n u c I L) 335 = some (.ref 360) := mo_get _ rfl
theorem ma34 {i : Int32} (hi : inr i 7) : x_ald (fun t => t == 0) (hM n u c I L) 360 i = some (.int (I 34 i.toNatClampNeg)) := mo_ald (j := 34) (kd := 0) (len := 7) rfl rfl hi
theorem ms34 {i : Int32} (hi : inr i 7) (v : Int32) : x_ast 0 (hM n u c I L) 360 i (.int v) = some (hM n u c (u2 I 34 i.toNatClampNeg v) L) := mo_ast (j := 34) (kd := 0) (len := 7) rfl (by decide) hi v
theorem mf35 : x_fld 8 35 (hM n u c I L) 335 = some (.ref 361) := mo_get _ rfl
theorem ma35 {i : Int32} (hi : inr i 20) : x_ald (fun t => t == 0) (hM n u c I L) 361 i = some (.int (I 35 i.toNatClampNeg)) := mo_ald (j := 35) (kd := 0) (len := 20) rfl rfl hi
theorem ms35 {i : Int32} (hi : inr i 20) (v : Int32) : x_ast 0 (hM n u c I L) 361 i (.int v) = some (hM n u c (u2 I 35 i.toNatClampNeg v) L) := mo_ast (j := 35) (kd := 0) (len := 20) rfl (by decide) hi v
theorem mf36 : x_fld 8 36 (hM n u c I L) 335 = some (.ref 362) := mo_get _ rfl
theorem ma36 {i : Int32} (hi : inr i 2) : x_ald (fun t => t == 2 || t == 3) (hM n u c I L) 362 i = some (.int (I 36 i.toNatClampNeg)) := mo_ald (j := 36) (kd := 2) (len := 2) rfl rfl hi
theorem ms36 {i : Int32} (hi : inr i 2) (v : Int32) : x_ast 2 (hM n u c I L) 362 i (.int v) = some (hM n u c (u2 I 36 i.toNatClampNeg v) L) := mo_ast (j := 36) (kd := 2) (len := 2) rfl (by decide) hi v
theorem mf39 : x_fld 8 39 (hM n u c I L) 335 = some (.ref 363) := mo_get _ rfl
theorem ma39 {i : Int32} (hi : inr i 4) : x_ald (fun t => t == 1) (hM n u c I L) 363 i = some (.long (L 39 i.toNatClampNeg)) := mo_ald (j := 39) (kd := 1) (len := 4) rfl rfl hi
theorem ms39 {i : Int32} (hi : inr i 4) (v : Int64) : x_ast 1 (hM n u c I L) 363 i (.long v) = some (hM n u c I (u2 L 39 i.toNatClampNeg v)) := mo_astL (j := 39) (len := 4) rfl hi v
theorem mf45 : x_fld 8 45 (hM n u c I L) 335 = some (.ref 364) := mo_get _ rfl
theorem ma45 {i : Int32} (hi : inr i 31) : x_ald (fun t => t == 0) (hM n u c I L) 364 i = some (.int (I 45 i.toNatClampNeg)) := mo_ald (j := 45) (kd := 0) (len := 31) rfl rfl hi
theorem ms45 {i : Int32} (hi : inr i 31) (v : Int32) : x_ast 0 (hM n u c I L) 364 i (.int v) = some (hM n u c (u2 I 45 i.toNatClampNeg v) L) := mo_ast (j := 45) (kd := 0) (len := 31) rfl (by decide) hi v
theorem mf46 : x_fld 8 46 (hM n u c I L) 335 = some (.ref 365) := mo_get _ rfl
theorem ma46 {i : Int32} (hi : inr i 31) : x_ald (fun t => t == 0) (hM n u c I L) 365 i = some (.int (I 46 i.toNatClampNeg)) := mo_ald (j := 46) (kd := 0) (len := 31) rfl rfl hi
theorem ms46 {i : Int32} (hi : inr i 31) (v : Int32) : x_ast 0 (hM n u c I L) 365 i (.int v) = some (hM n u c (u2 I 46 i.toNatClampNeg v) L) := mo_ast (j := 46) (kd := 0) (len := 31) rfl (by decide) hi v
theorem mf47 : x_fld 8 47 (hM n u c I L) 335 = some (.ref 366) := mo_get _ rfl
theorem ma47 {i : Int32} (hi : inr i 31) : x_ald (fun t => t == 1) (hM n u c I L) 366 i = some (.long (L 47 i.toNatClampNeg)) := mo_ald (j := 47) (kd := 1) (len := 31) rfl rfl hi
theorem ms47 {i : Int32} (hi : inr i 31) (v : Int64) : x_ast 1 (hM n u c I L) 366 i (.long v) = some (hM n u c I (u2 L 47 i.toNatClampNeg v)) := mo_astL (j := 47) (len := 31) rfl hi v
theorem mf48 : x_fld 8 48 (hM n u c I L) 335 = some (.ref 367) := mo_get _ rfl
theorem ma48 {i : Int32} (hi : inr i 31) : x_ald (fun t => t == 2 || t == 3) (hM n u c I L) 367 i = some (.int (I 48 i.toNatClampNeg)) := mo_ald (j := 48) (kd := 2) (len := 31) rfl rfl hi
theorem ms48 {i : Int32} (hi : inr i 31) (v : Int32) : x_ast 2 (hM n u c I L) 367 i (.int v) = some (hM n u c (u2 I 48 i.toNatClampNeg v) L) := mo_ast (j := 48) (kd := 2) (len := 31) rfl (by decide) hi v
theorem mf49 : x_fld 8 49 (hM n u c I L) 335 = some (.ref 368) := mo_get _ rfl
theorem ma49 {i : Int32} (hi : inr i 31) : x_ald (fun t => t == 0) (hM n u c I L) 368 i = some (.int (I 49 i.toNatClampNeg)) := mo_ald (j := 49) (kd := 0) (len := 31) rfl rfl hi
theorem ms49 {i : Int32} (hi : inr i 31) (v : Int32) : x_ast 0 (hM n u c I L) 368 i (.int v) = some (hM n u c (u2 I 49 i.toNatClampNeg v) L) := mo_ast (j := 49) (kd := 0) (len := 31) rfl (by decide) hi v
theorem mf51 : x_fld 8 51 (hM n u c I L) 335 = some (.ref 369) := mo_get _ rfl
theorem ma51 {i : Int32} (hi : inr i 62) : x_ald (fun t => t == 1) (hM n u c I L) 369 i = some (.long (L 51 i.toNatClampNeg)) := mo_ald (j := 51) (kd := 1) (len := 62) rfl rfl hi
theorem ms51 {i : Int32} (hi : inr i 62) (v : Int64) : x_ast 1 (hM n u c I L) 369 i (.long v) = some (hM n u c I (u2 L 51 i.toNatClampNeg v)) := mo_astL (j := 51) (len := 62) rfl hi v
theorem mf52 : x_fld 8 52 (hM n u c I L) 335 = some (.ref 370) := mo_get _ rfl
theorem ma52 {i : Int32} (hi : inr i 12) : x_ald (fun t => t == 0) (hM n u c I L) 370 i = some (.int (I 52 i.toNatClampNeg)) := mo_ald (j := 52) (kd := 0) (len := 12) rfl rfl hi
theorem ms52 {i : Int32} (hi : inr i 12) (v : Int32) : x_ast 0 (hM n u c I L) 370 i (.int v) = some (hM n u c (u2 I 52 i.toNatClampNeg v) L) := mo_ast (j := 52) (kd := 0) (len := 12) rfl (by decide) hi v
theorem mf53 : x_fld 8 53 (hM n u c I L) 335 = some (.ref 371) := mo_get _ rfl
theorem ma53 {i : Int32} (hi : inr i 12) : x_ald (fun t => t == 0) (hM n u c I L) 371 i = some (.int (I 53 i.toNatClampNeg)) := mo_ald (j := 53) (kd := 0) (len := 12) rfl rfl hi
theorem ms53 {i : Int32} (hi : inr i 12) (v : Int32) : x_ast 0 (hM n u c I L) 371 i (.int v) = some (hM n u c (u2 I 53 i.toNatClampNeg v) L) := mo_ast (j := 53) (kd := 0) (len := 12) rfl (by decide) hi v
theorem mf54 : x_fld 8 54 (hM n u c I L) 335 = some (.ref 372) := mo_get _ rfl
theorem ma54 {i : Int32} (hi : inr i 12) : x_ald (fun t => t == 0) (hM n u c I L) 372 i = some (.int (I 54 i.toNatClampNeg)) := mo_ald (j := 54) (kd := 0) (len := 12) rfl rfl hi
theorem ms54 {i : Int32} (hi : inr i 12) (v : Int32) : x_ast 0 (hM n u c I L) 372 i (.int v) = some (hM n u c (u2 I 54 i.toNatClampNeg v) L) := mo_ast (j := 54) (kd := 0) (len := 12) rfl (by decide) hi v
theorem mf55 : x_fld 8 55 (hM n u c I L) 335 = some (.ref 373) := mo_get _ rfl
theorem ma55 {i : Int32} (hi : inr i 12) : x_ald (fun t => t == 0) (hM n u c I L) 373 i = some (.int (I 55 i.toNatClampNeg)) := mo_ald (j := 55) (kd := 0) (len := 12) rfl rfl hi
theorem ms55 {i : Int32} (hi : inr i 12) (v : Int32) : x_ast 0 (hM n u c I L) 373 i (.int v) = some (hM n u c (u2 I 55 i.toNatClampNeg v) L) := mo_ast (j := 55) (kd := 0) (len := 12) rfl (by decide) hi v
theorem mf56 : x_fld 8 56 (hM n u c I L) 335 = some (.ref 374) := mo_get _ rfl
theorem ma56 {i : Int32} (hi : inr i 12) : x_ald (fun t => t == 1) (hM n u c I L) 374 i = some (.long (L 56 i.toNatClampNeg)) := mo_ald (j := 56) (kd := 1) (len := 12) rfl rfl hi
theorem ms56 {i : Int32} (hi : inr i 12) (v : Int64) : x_ast 1 (hM n u c I L) 374 i (.long v) = some (hM n u c I (u2 L 56 i.toNatClampNeg v)) := mo_astL (j := 56) (len := 12) rfl hi v
theorem mf57 : x_fld 8 57 (hM n u c I L) 335 = some (.ref 375) := mo_get _ rfl
theorem ma57 {i : Int32} (hi : inr i 360) : x_ald (fun t => t == 0) (hM n u c I L) 375 i = some (.int (I 57 i.toNatClampNeg)) := mo_ald (j := 57) (kd := 0) (len := 360) rfl rfl hi
theorem ms57 {i : Int32} (hi : inr i 360) (v : Int32) : x_ast 0 (hM n u c I L) 375 i (.int v) = some (hM n u c (u2 I 57 i.toNatClampNeg v) L) := mo_ast (j := 57) (kd := 0) (len := 360) rfl (by decide) hi v
theorem mf58 : x_fld 8 58 (hM n u c I L) 335 = some (.ref 376) := mo_get _ rfl
theorem ma58 {i : Int32} (hi : inr i 360) : x_ald (fun t => t == 0) (hM n u c I L) 376 i = some (.int (I 58 i.toNatClampNeg)) := mo_ald (j := 58) (kd := 0) (len := 360) rfl rfl hi
theorem ms58 {i : Int32} (hi : inr i 360) (v : Int32) : x_ast 0 (hM n u c I L) 376 i (.int v) = some (hM n u c (u2 I 58 i.toNatClampNeg v) L) := mo_ast (j := 58) (kd := 0) (len := 360) rfl (by decide) hi v
theorem mf59 : x_fld 8 59 (hM n u c I L) 335 = some (.ref 377) := mo_get _ rfl
theorem ma59 {i : Int32} (hi : inr i 4) : x_ald (fun t => t == 0) (hM n u c I L) 377 i = some (.int (I 59 i.toNatClampNeg)) := mo_ald (j := 59) (kd := 0) (len := 4) rfl rfl hi
theorem ms59 {i : Int32} (hi : inr i 4) (v : Int32) : x_ast 0 (hM n u c I L) 377 i (.int v) = some (hM n u c (u2 I 59 i.toNatClampNeg v) L) := mo_ast (j := 59) (kd := 0) (len := 4) rfl (by decide) hi v
theorem mf60 : x_fld 8 60 (hM n u c I L) 335 = some (.ref 378) := mo_get _ rfl
theorem ma60 {i : Int32} (hi : inr i 4) : x_ald (fun t => t == 0) (hM n u c I L) 378 i = some (.int (I 60 i.toNatClampNeg)) := mo_ald (j := 60) (kd := 0) (len := 4) rfl rfl hi
theorem ms60 {i : Int32} (hi : inr i 4) (v : Int32) : x_ast 0 (hM n u c I L) 378 i (.int v) = some (hM n u c (u2 I 60 i.toNatClampNeg v) L) := mo_ast (j := 60) (kd := 0) (len := 4) rfl (by decide) hi v
theorem mf62 : x_fld 8 62 (hM n u c I L) 335 = some (.ref 379) := mo_get _ rfl
theorem ma62 {i : Int32} (hi : inr i 24) : x_ald (fun t => t == 0) (hM n u c I L) 379 i = some (.int (I 62 i.toNatClampNeg)) := mo_ald (j := 62) (kd := 0) (len := 24) rfl rfl hi
theorem ms62 {i : Int32} (hi : inr i 24) (v : Int32) : x_ast 0 (hM n u c I L) 379 i (.int v) = some (hM n u c (u2 I 62 i.toNatClampNeg v) L) := mo_ast (j := 62) (kd := 0) (len := 24) rfl (by decide) hi v
theorem mf63 : x_fld 8 63 (hM n u c I L) 335 = some (.ref 380) := mo_get _ rfl
theorem ma63 {i : Int32} (hi : inr i 1536) : x_ald (fun t => t == 0) (hM n u c I L) 380 i = some (.int (I 63 i.toNatClampNeg)) := mo_ald (j := 63) (kd := 0) (len := 1536) rfl rfl hi
theorem ms63 {i : Int32} (hi : inr i 1536) (v : Int32) : x_ast 0 (hM n u c I L) 380 i (.int v) = some (hM n u c (u2 I 63 i.toNatClampNeg v) L) := mo_ast (j := 63) (kd := 0) (len := 1536) rfl (by decide) hi v
theorem mf64 : x_fld 8 64 (hM n u c I L) 335 = some (.ref 381) := mo_get _ rfl
theorem ma64 {i : Int32} (hi : inr i 3) : x_ald (fun t => t == 0) (hM n u c I L) 381 i = some (.int (I 64 i.toNatClampNeg)) := mo_ald (j := 64) (kd := 0) (len := 3) rfl rfl hi
theorem ms64 {i : Int32} (hi : inr i 3) (v : Int32) : x_ast 0 (hM n u c I L) 381 i (.int v) = some (hM n u c (u2 I 64 i.toNatClampNeg v) L) := mo_ast (j := 64) (kd := 0) (len := 3) rfl (by decide) hi v
theorem mf65 : x_fld 8 65 (hM n u c I L) 335 = some (.ref 382) := mo_get _ rfl
theorem ma65 {i : Int32} (hi : inr i 4) : x_ald (fun t => t == 2 || t == 3) (hM n u c I L) 382 i = some (.int (I 65 i.toNatClampNeg)) := mo_ald (j := 65) (kd := 2) (len := 4) rfl rfl hi
theorem ms65 {i : Int32} (hi : inr i 4) (v : Int32) : x_ast 2 (hM n u c I L) 382 i (.int v) = some (hM n u c (u2 I 65 i.toNatClampNeg v) L) := mo_ast (j := 65) (kd := 2) (len := 4) rfl (by decide) hi v
theorem mf66 : x_fld 8 66 (hM n u c I L) 335 = some (.ref 383) := mo_get _ rfl
theorem ma66 {i : Int32} (hi : inr i 1200) : x_ald (fun t => t == 0) (hM n u c I L) 383 i = some (.int (I 66 i.toNatClampNeg)) := mo_ald (j := 66) (kd := 0) (len := 1200) rfl rfl hi
theorem ms66 {i : Int32} (hi : inr i 1200) (v : Int32) : x_ast 0 (hM n u c I L) 383 i (.int v) = some (hM n u c (u2 I 66 i.toNatClampNeg v) L) := mo_ast (j := 66) (kd := 0) (len := 1200) rfl (by decide) hi v
theorem mf67 : x_fld 8 67 (hM n u c I L) 335 = some (.ref 384) := mo_get _ rfl
theorem ma67 {i : Int32} (hi : inr i 400) : x_ald (fun t => t == 1) (hM n u c I L) 384 i = some (.long (L 67 i.toNatClampNeg)) := mo_ald (j := 67) (kd := 1) (len := 400) rfl rfl hi
theorem ms67 {i : Int32} (hi : inr i 400) (v : Int64) : x_ast 1 (hM n u c I L) 384 i (.long v) = some (hM n u c I (u2 L 67 i.toNatClampNeg v)) := mo_astL (j := 67) (len := 400) rfl hi v
end MO
