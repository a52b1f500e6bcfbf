/-! THE ABSTRACT MACHINE: cells by number, a step is a function; what it means over W (xm_OK). -/
abbrev xm_C : Type := (Nat × (Nat → Value)) ⊕ (Nat × Nat × (Nat → Value))
abbrev xm_H : Type := Nat × Nat × (Nat → Option xm_C)
abbrev xm_F : Type := Nat × List Value × List Value × xm_H
abbrev xm_E : Type := List Value → List Value → xm_H → Option xm_F
/-- the run's constants: the law's first state, where the cells lie, numbers of classes, slots of fields, numbers of array classes -/
abbrev xm_G : Type := State × (Nat → Nat) × (Nat → ClassId) × (Nat → Nat → Nat) × (Nat → ClassId)
/-- the claim's tables: classes, element types of arrays, the number of old cells -/
abbrev xm_T : Type := List vw_C × (Nat → FieldType) × Nat
/-- '.retAddr 0' stands for nothing; '.retAddr 1' for a reference of which only that is known -/
def xm_cv (ad : Nat → Nat) : Value → Value
  | .ref k => .ref (ad k)
  | .retAddr 1 => if ad 36 = 0 then .null else .ref (ad 35)
  | v => v
def xm_set : Value → Bool
  | .retAddr 0 => false
  | _ => true
def xm_cell (B : xm_T) (G : xm_G) (k : Nat) (c : xm_C) (H : Heap) : Prop := match c with
  | .inl o => ∃ (r : vw_C) (cell : Cell), B.1[o.1]? = some r ∧ H[G.2.1 k]? = some cell ∧ cell.cls = G.2.2.1 o.1 ∧ cell.vm ≠ .unknown ∧ cell.vm.isStatics = false ∧ (B.2.2 ≤ k → cell.vm = .none) ∧ ∀ j, j < r.2.2 → cell.slots[G.2.2.2.1 o.1 j]? = some (xm_cv G.2.1 (o.2 j))
  | .inr a => ∃ cell : Cell, H[G.2.1 k]? = some cell ∧ G.1.isArrayOf cell (B.2.1 a.1) ∧ cell.vm ≠ .unknown ∧ cell.slots.size = a.2.1 ∧ (∀ j, j < a.2.1 → cell.slots[j]? = some (xm_cv G.2.1 (a.2.2 j))) ∧ (B.2.2 ≤ k → cell = arrV (G.2.2.2.2 a.1) a.2.1 (fun j => xm_cv G.2.1 (a.2.2 j)))
def xm_R (B : xm_T) (G : xm_G) (h : xm_H) (H : Heap) : Prop :=
  B.2.2 ≤ h.1 ∧ H.size = G.1.heap.size + (h.1 - B.2.2) ∧ (∀ q : Nat, q < G.1.heap.size → H[q]? = G.1.heap[q]?) ∧ ∀ (k : Nat) (c : xm_C), h.2.2 k = some c → k < h.1 ∧ xm_cell B G k c H
/-- what is known of a class: its number, where its fields lie -/
def xm_Kn (U : State) (C : String) (T : u_T) (N : Nat) (cC : ClassId) (iS : Nat → Nat) : Prop := (U.vm.findClass C = some cC ∧ ∃ kC : Class, U.vm.classes[cC]? = some kC) ∧ ∀ k, k < N → ∃ cf kf fi fd, U.fieldFound? (T k).1 (T k).2.1 (T k).2.2.1 = some (cf, kf, fi, fd) ∧ fd.isStatic = false ∧ fd.slot = iS k
theorem xm_Kn.moved {u U : State} {C : String} {T : u_T} {N : Nat} {cC : ClassId} {iS : Nat → Nat} (hvm : u.vm.Alike U.vm) (h : xm_Kn u C T N cC iS) : xm_Kn U C T N cC iS := by
  obtain ⟨⟨q1, kC, q2⟩, h⟩ := h
  obtain ⟨k', hk', -⟩ := hvm.2.2 _ _ q2
  refine ⟨⟨by rw [hvm.findClass]; exact q1, k', hk'⟩, fun k hk => ?_⟩
  obtain ⟨cf, kf, fi, fd, hi, hs⟩ := h k hk
  obtain ⟨kf', hi', -⟩ := State.fieldFound?_setVm (s := u) hvm hi
  exact ⟨cf, kf', fi, fd, by simpa only [State.fieldFound?, State.vm_setVm] using hi', hs⟩
def xm_W (B : xm_T) (G : xm_G) : Prop :=
  (∀ k, B.2.2 ≤ k → G.2.1 k = G.1.heap.size + (k - B.2.2)) ∧ (∀ k, k < B.2.2 → G.2.1 k < G.1.heap.size) ∧
  (∀ (c : Nat) (q : vw_C), B.1[c]? = some q → xm_Kn G.1 q.1 q.2.1 q.2.2 (G.2.2.1 c) (G.2.2.2.1 c)) ∧
  (∀ w ∈ lw_tbl, w.before #[] G.1 = true) ∧ ∀ t, t < 8 → ArrOfT G.1 (G.2.2.2.2 t) (B.2.1 t) ∧ va_RA G.1 (G.2.2.2.2 t) (B.2.1 t)
def xm_prs (ad : Nat → Nat) (la : List Value) : List (Nat × Value) := (List.range la.length).filterMap (fun k => match la[k]? with
  | some v => if xm_set v then some (k, xm_cv ad v) else none
  | none => none)
def xm_lv (ad : Nat → Nat) (ls : Array Slot) (la : List Value) (nL : Nat) : Prop := la.length = nL ∧ lv_has ls nL (xm_prs ad la)
theorem xm_prs_mem {ad : Nat → Nat} {la : List Value} {k : Nat} {v : Value} (h : la[k]? = some v) (hs : xm_set v = true) : (k, xm_cv ad v) ∈ xm_prs ad la := by
  refine List.mem_filterMap.mpr ⟨k, List.mem_range.mpr ?_, ?_⟩
  · exact (List.getElem?_eq_some_iff.mp h).1
  · simp [h, hs]
theorem xm_prs_of {ad : Nat → Nat} {la : List Value} {q : Nat × Value} (h : q ∈ xm_prs ad la) : ∃ v, la[q.1]? = some v ∧ xm_set v = true ∧ q.2 = xm_cv ad v := by
  obtain ⟨k, -, hk⟩ := List.mem_filterMap.mp h
  cases hv : la[k]? with
  | none => simp [hv] at hk
  | some v =>
    simp only [hv] at hk
    split at hk
    · cases hk; exact ⟨v, hv, by assumption, rfl⟩
    · cases hk
theorem xm_lv.at {ad : Nat → Nat} {ls : Array Slot} {la : List Value} {nL k : Nat} {v : Value} (h : xm_lv ad ls la nL) (hk : la[k]? = some v) (hs : xm_set v = true) : ls[k]? = some (.val (xm_cv ad v)) := h.2.2.2 _ (xm_prs_mem hk hs)
theorem xm_cv_cat (ad : Nat → Nat) (v : Value) : (xm_cv ad v).category = v.category := by
  unfold xm_cv
  split
  · rfl
  · split <;> rfl
  · rfl
theorem xm_cv_cats (ad : Nat → Nat) (st : List Value) : ((st.map (xm_cv ad)).map fun v => v.category) = st.map fun v => v.category := by
  rw [List.map_map]
  exact List.map_congr_left fun v _ => xm_cv_cat ad v
/-- a store into a local: what lay over it is lost -/
def xm_st1 (la : List Value) (i : Nat) (v : Value) : List Value := ((la.mapIdx fun k w => if k + 1 = i && w.category == 2 then .retAddr 0 else w)).set i v
def xm_st2 (la : List Value) (i : Nat) (v : Value) : List Value := (((la.mapIdx fun k w => if k + 1 = i && w.category == 2 then .retAddr 0 else w)).set (i + 1) (.retAddr 0)).set i v
theorem xm_lv.st1 {ad : Nat → Nat} {ls' : Array Slot} {la : List Value} {nL i : Nat} {v : Value} (hla : la.length = nL) (h : lv_has ls' nL ((i, xm_cv ad v) :: (xm_prs ad la).filter (fun q => !(q.1 == i) && !(q.1 + 1 == i && q.2.category == 2)))) : xm_lv ad ls' (xm_st1 la i v) nL := by
  refine ⟨by simp [xm_st1, hla], h.1, h.2.1, fun q hq => ?_⟩
  obtain ⟨w, h1, h2, h3⟩ := xm_prs_of hq
  obtain ⟨k, x⟩ := q
  simp only at h1 h3
  subst h3
  unfold xm_st1 at h1
  by_cases hki : k = i
  · subst hki
    rw [List.getElem?_set] at h1
    simp only [if_true] at h1
    split at h1
    · cases h1; exact h.2.2 _ List.mem_cons_self
    · cases h1
  · rw [List.getElem?_set_ne (Ne.symm hki), List.getElem?_mapIdx] at h1
    cases hv : la[k]? with
    | none => rw [hv] at h1; cases h1
    | some u =>
      rw [hv] at h1
      simp only [Option.map_some] at h1
      split at h1
      · cases h1; cases h2
      · rename_i hc
        cases h1
        refine h.2.2 _ (List.mem_cons_of_mem _ (List.mem_filter.mpr ⟨xm_prs_mem hv h2, ?_⟩))
        simp only [xm_cv_cat]
        simp only [Bool.and_eq_true, beq_iff_eq, decide_eq_true_eq, not_and] at hc
        simp only [Bool.and_eq_true, Bool.not_eq_true', beq_eq_false_iff_ne, Bool.and_eq_false_iff]
        refine ⟨hki, ?_⟩
        by_cases h4 : k + 1 = i
        · exact Or.inr (by simpa using hc h4)
        · exact Or.inl h4
theorem xm_lv.st2 {ad : Nat → Nat} {ls' : Array Slot} {la : List Value} {nL i : Nat} {v : Value} (hla : la.length = nL) (h : lv_has ls' nL ((i, xm_cv ad v) :: (xm_prs ad la).filter (fun q => !(q.1 == i) && (!(q.1 == i + 1) && !(q.1 + 1 == i && q.2.category == 2))))) : xm_lv ad ls' (xm_st2 la i v) nL := by
  refine ⟨by simp [xm_st2, hla], h.1, h.2.1, fun q hq => ?_⟩
  obtain ⟨w, h1, h2, h3⟩ := xm_prs_of hq
  obtain ⟨k, x⟩ := q
  simp only at h1 h3
  subst h3
  unfold xm_st2 at h1
  by_cases hki : k = i
  · subst hki
    rw [List.getElem?_set] at h1
    simp only [if_true] at h1
    split at h1
    · cases h1; exact h.2.2 _ List.mem_cons_self
    · cases h1
  · rw [List.getElem?_set_ne (Ne.symm hki)] at h1
    by_cases hki1 : k = i + 1
    · subst hki1
      rw [List.getElem?_set] at h1
      simp only [if_true] at h1
      split at h1
      · cases h1; cases h2
      · cases h1
    · rw [List.getElem?_set_ne (Ne.symm hki1), List.getElem?_mapIdx] at h1
      cases hv : la[k]? with
      | none => rw [hv] at h1; cases h1
      | some u =>
        rw [hv] at h1
        simp only [Option.map_some] at h1
        split at h1
        · cases h1; cases h2
        · rename_i hc
          cases h1
          refine h.2.2 _ (List.mem_cons_of_mem _ (List.mem_filter.mpr ⟨xm_prs_mem hv h2, ?_⟩))
          simp only [xm_cv_cat]
          simp only [Bool.and_eq_true, beq_iff_eq, decide_eq_true_eq, not_and] at hc
          simp only [Bool.and_eq_true, Bool.not_eq_true', beq_eq_false_iff_ne, Bool.and_eq_false_iff]
          refine ⟨hki, hki1, ?_⟩
          by_cases h4 : k + 1 = i
          · exact Or.inr (by simpa using hc h4)
          · exact Or.inl h4
/-- a step's meaning: from the machine at the next place to the machine here -/
def xm_OK (B : xm_T) (G : xm_G) (own nm : String) (cc : ByteArray) (nL pc : Nat) (f : xm_E) : Prop :=
  ∀ (p : Program) (l : Launch) (e : Env) (R : Room) (s : State) (m : MethodId) (args : Array Value) (below : List Frame) (meth : Method) (c : Code) (H : Heap) (locs : List Loc) (cells slots : Nat) (Q : State → Prop) (ls : Array Slot) (la st : List Value) (h : xm_H) (pc' : Nat) (la' st' : List Value) (h' : xm_H),
    l.flags = flags0 → p.tables.exec = Jvm.exec → c.code = cc → c.maxLocals = nL → s.vm.findClass own = some m.cls → meth.name = nm → G.1.WarmedH s.vm → xm_R B G h H → (∀ q ∈ locs, G.1.heap.size ≤ q.base) → xm_lv G.2.1 ls la nL →
    f la st h = some (pc', la', st', h') → cells + (h'.1 - h.1) ≤ R.cells → slots + (h'.2.1 - h.2.1) ≤ R.slots → 1 ≤ R.frames → 32 ≤ R.locals →
    (∀ (H' : Heap) (locs' : List Loc) (ls' : Array Slot), xm_R B G h' H' → (∀ q ∈ locs', G.1.heap.size ≤ q.base) → xm_lv G.2.1 ls' la' nL →
      W p l e R s m args below meth c H' locs' (cells + (h'.1 - h.1)) (slots + (h'.2.1 - h.2.1)) Q (F0 m pc' ls' (st'.map (xm_cv G.2.1)))) →
    W p l e R s m args below meth c H locs cells slots Q (F0 m pc ls (st.map (xm_cv G.2.1)))
/-- steps that leave the heap and the locals -/
theorem xm_pure {B : xm_T} {G : xm_G} {own nm : String} {cc : ByteArray} {nL pc : Nat} {f : xm_E}
    (hf : ∀ (p : Program) (l : Launch) (e : Env) (R : Room) (s : State) (m : MethodId) (args : Array Value) (below : List Frame) (meth : Method) (c : Code) (H : Heap) (locs : List Loc) (cells slots : Nat) (Q : State → Prop) (ls : Array Slot) (la st : List Value) (h : xm_H) (pc' : Nat) (la' st' : List Value) (h' : xm_H),
      p.tables.exec = Jvm.exec → c.code = cc → xm_lv G.2.1 ls la nL → f la st h = some (pc', la', st', h') → la' = la ∧ h' = h ∧
        (W p l e R s m args below meth c H locs cells slots Q (F0 m pc' ls (st'.map (xm_cv G.2.1))) → W p l e R s m args below meth c H locs cells slots Q (F0 m pc ls (st.map (xm_cv G.2.1))))) : xm_OK B G own nm cc nL pc f := by
  intro p l e R s m args below meth c H locs cells slots Q ls la st h pc' la' st' h' hfl hx hb hml hown hnm hW hR hlo hl he hc1 hc2 hc3 hc4 kk
  obtain ⟨rfl, rfl, k⟩ := hf p l e R s m args below meth c H locs cells slots Q ls la st h pc' la' st' h' hx hb hl he
  refine k ?_
  have := kk H locs ls hR hlo hl
  rwa [Nat.sub_self, Nat.sub_self, Nat.add_zero, Nat.add_zero] at this
/-- steps that leave the heap -/
theorem xm_local {B : xm_T} {G : xm_G} {own nm : String} {cc : ByteArray} {nL pc : Nat} {f : xm_E}
    (hf : ∀ (p : Program) (l : Launch) (e : Env) (R : Room) (s : State) (m : MethodId) (args : Array Value) (below : List Frame) (meth : Method) (c : Code) (H : Heap) (locs : List Loc) (cells slots : Nat) (Q : State → Prop) (ls : Array Slot) (la st : List Value) (h : xm_H) (pc' : Nat) (la' st' : List Value) (h' : xm_H),
      p.tables.exec = Jvm.exec → c.code = cc → xm_lv G.2.1 ls la nL → f la st h = some (pc', la', st', h') → h' = h ∧
        ((∀ ls', xm_lv G.2.1 ls' la' nL → W p l e R s m args below meth c H locs cells slots Q (F0 m pc' ls' (st'.map (xm_cv G.2.1)))) → W p l e R s m args below meth c H locs cells slots Q (F0 m pc ls (st.map (xm_cv G.2.1))))) : xm_OK B G own nm cc nL pc f := by
  intro p l e R s m args below meth c H locs cells slots Q ls la st h pc' la' st' h' hfl hx hb hml hown hnm hW hR hlo hl he hc1 hc2 hc3 hc4 kk
  obtain ⟨rfl, k⟩ := hf p l e R s m args below meth c H locs cells slots Q ls la st h pc' la' st' h' hx hb hl he
  refine k fun ls' hl' => ?_
  have := kk H locs ls' hR hlo hl'
  rwa [Nat.sub_self, Nat.sub_self, Nat.add_zero, Nat.add_zero] at this
