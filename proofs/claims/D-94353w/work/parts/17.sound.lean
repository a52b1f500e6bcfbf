/-! THE MACHINE'S RUN, AND THAT IT IS SOUND -/
abbrev xm_O : Type := xm_E ⊕ (List Value → Option (Option Value)) ⊕ (List Value → xm_H → Option (Nat × List Value × List Value)) ⊕ Unit
abbrev xm_P : Type := Nat → Nat → Option xm_O
/-- handlers: from, to, place, entry of the tables, the number of its class -/
abbrev xm_Hs : Type := List (Nat × Nat × Nat × Nat × Nat)
/-- a method: its name, bytes, locals, answer, handlers -/
abbrev xm_D : Type := Nat → MethodName × ByteArray × Nat × Option FieldType × xm_Hs
def xm_hd (hs : xm_Hs) (pc : Nat) : Option (Nat × Nat) := match hs with
  | [] => none
  | q :: r => if q.1 ≤ pc ∧ pc < q.2.1 then some (q.2.2.1, q.2.2.2.2) else xm_hd r pc
def xm_sl : List Value → List Value
  | [] => []
  | .long x :: r => .long x :: .retAddr 0 :: xm_sl r
  | .double x :: r => .double x :: .retAddr 0 :: xm_sl r
  | v :: r => v :: xm_sl r
def xm_ent (nL : Nat) (av : List Value) : List Value := xm_sl av ++ List.replicate (nL - (xm_sl av).length) (.retAddr 0)
def xm_exec (P : xm_P) (D : xm_D) : Nat → Nat → Nat → Nat → List Value → List Value → xm_H → Option (Outcome × xm_H)
  | 0, _, _, _, _, _, _ => none
  | f + 1, d, i, pc, la, st, h => match P i pc with
    | none => none
    | some (.inl e) => match e la st h with
      | none => none
      | some q => xm_exec P D f d i q.1 q.2.1 q.2.2.1 q.2.2.2
    | some (.inr (.inl r)) => match r st with
      | none => none
      | some v => some (.returned v, h)
    | some (.inr (.inr (.inl c))) => match d with
      | 0 => none
      | d' + 1 => match c st h with
        | none => none
        | some q => match xm_exec P D f d' q.1 0 (xm_ent (D q.1).2.2.1 q.2.1) [] h with
          | none => none
          | some (.returned v, h1) => xm_exec P D f (d' + 1) i (pc + 3) la (v.toList ++ q.2.2) h1
          | some (.threw a, h1) => match xm_hd (D i).2.2.2.2 pc with
            | none => some (.threw a, h1)
            | some w => match h1.2.2 a with
              | some (.inl o) => if o.1 = w.2 then xm_exec P D f (d' + 1) i w.1 la [.ref a] h1 else none
              | _ => none
    | some (.inr (.inr (.inr _))) => match st with
      | .ref a :: _ => match xm_hd (D i).2.2.2.2 pc with
        | none => some (.threw a, h)
        | some _ => none
      | _ => none
def xm_oc (ad : Nat → Nat) : Outcome → Outcome
  | .returned v => .returned (v.map (xm_cv ad))
  | .threw a => .threw (ad a)
def xm_mono (f : xm_E) : Prop := ∀ la st h q, f la st h = some q → h.1 ≤ q.2.2.2.1 ∧ h.2.1 ≤ q.2.2.2.2.1
/-- a return -/
def xm_RO (G : xm_G) (cc : ByteArray) (ret : Option FieldType) (pc : Nat) (r : List Value → Option (Option Value)) : Prop :=
  ∀ (p : Program) (l : Launch) (e : Env) (R : Room) (s : State) (m : MethodId) (args : Array Value) (below : List Frame) (meth : Method) (c : Code) (H : Heap) (locs : List Loc) (cells slots : Nat) (ls : Array Slot) (st : List Value) (v : Option Value),
    p.tables.exec = Jvm.exec → c.code = cc → meth.sig.returnType = ret → meth.locks = false → (∀ q ∈ locs, G.1.heap.size ≤ q.base) → r st = some v →
    W p l e R s m args below meth c H locs cells slots (MQ below (fun _ _ o t => o = .returned (v.map (xm_cv G.2.1)) ∧ t.heap = H) args s cells slots (fun q => G.1.heap.size ≤ q)) (F0 m pc ls (st.map (xm_cv G.2.1)))
/-- a call's own step -/
def xm_CO (B : xm_T) (G : xm_G) (D : xm_D) (own : String) (cc : ByteArray) (pc : Nat) (sel : List Value → xm_H → Option (Nat × List Value × List Value)) : Prop :=
  (∃ ig, decode cc pc = .ok (ig, 3)) ∧ ∀ (p : Program) (l : Launch) (e : Env) (R : Room) (s : State) (m : MethodId) (args : Array Value) (below : List Frame) (meth : Method) (c : Code) (T : State) (locs : List Loc) (cells slots : Nat) (ls : Array Slot) (st : List Value) (h : xm_H) (y : Nat) (av rest : List Value),
    p.tables.exec = Jvm.exec → c.code = cc → s.vm.findClass own = some m.cls → G.1.WarmedH s.vm → Stand p l e R s m args below meth c T locs cells slots → xm_R B G h T.heap → sel st h = some (y, av, rest) →
    (rest.map fun v => v.category).sum ≤ 20 ∧ (lg_sl (av.map (xm_cv G.2.1))).length ≤ (D y).2.2.1 ∧ (D y).2.2.1 ≤ 19 ∧ ∃ mk vm₁, s.methodNamed? (D y).1 = some mk ∧ Stand p l e R s m args below meth c (T.setVm vm₁) locs cells slots ∧
      ∀ target, Steps p.tables e below (doInvoke e ((T.setVm vm₁).setTop (F0 m pc ls (rest.map (xm_cv G.2.1)))) [] mk ((av.map (xm_cv G.2.1)).toArray)).1 target → Steps p.tables e below (T.setTop (F0 m pc ls (st.map (xm_cv G.2.1)))) target
/-- the handlers are those -/
def xm_ht (c : Code) (hs : xm_Hs) : Prop := c.exceptionTable.toList.map (fun h => (h.startPc, h.endPc, h.handlerPc, h.catchType)) = hs.map (fun q => (q.1, q.2.1, q.2.2.1, q.2.2.2.1))
/-- a catch -/
def xm_CK (B : xm_T) (G : xm_G) (own : String) (cc : ByteArray) (hs : xm_Hs) : Prop :=
  ∀ (p : Program) (l : Launch) (e : Env) (R : Room) (s : State) (m : MethodId) (args : Array Value) (below : List Frame) (meth : Method) (c : Code) (T : State) (locs : List Loc) (cells slots : Nat) (ls : Array Slot) (rest : List Value) (h : xm_H) (a ci hp pc : Nat) (fs : Nat → Value),
    p.tables.exec = Jvm.exec → c.code = cc → xm_ht c hs → s.vm.findClass own = some m.cls → G.1.WarmedH s.vm → Stand p l e R s m args below meth c T locs cells slots → xm_R B G h T.heap → xm_hd hs pc = some (hp, ci) → h.2.2 a = some (.inl (ci, fs)) →
    ∃ vm', Stand p l e R s m args below meth c (T.setVm vm') locs cells slots ∧
      ∀ target, Steps p.tables e below ((T.setVm vm').setTop (F0 m hp ls [.ref (G.2.1 a)])) target → Steps p.tables e below ((T.setTop (F0 m pc ls rest)).pushFrame (.throwing (G.2.1 a))) target
def xm_wd (x : MethodName × ByteArray × Nat × Option FieldType × xm_Hs) : Cond := match x.2.2.2.2 with
  | [] => .code x.1 x.2.1 x.2.2.1 x.2.2.2.1
  | q :: r => .codeWith x.1 x.2.1 x.2.2.1 x.2.2.2.1 ((q :: r).map (fun q => (q.1, q.2.1, q.2.2.1, q.2.2.2.1)))
/-- a method of the machine's is a method of the tables' -/
def xm_DO (x : MethodName × ByteArray × Nat × Option FieldType × xm_Hs) : Prop := plainFor x.1 = true ∧ xm_wd x ∈ lw_all ∧ Cond.initialized x.1.cls ∈ lw_all
def xm_PO (B : xm_T) (G : xm_G) (P : xm_P) (D : xm_D) (N i : Nat) : Prop :=
  xm_CK B G (D i).1.cls (D i).2.1 (D i).2.2.2.2 ∧ ∀ pc op, P i pc = some op → match op with
    | .inl e => xm_mono e ∧ xm_OK B G (D i).1.cls (D i).1.name (D i).2.1 (D i).2.2.1 pc e
    | .inr (.inl r) => xm_RO G (D i).2.1 (D i).2.2.2.1 pc r
    | .inr (.inr (.inl c)) => xm_CO B G D (D i).1.cls (D i).2.1 pc c ∧ ∀ st h q, c st h = some q → q.1 < N
    | .inr (.inr (.inr _)) => decode (D i).2.1 pc = .ok (.athrow, 1)
theorem xm_exec_mono {P : xm_P} {D : xm_D} (hP : ∀ i pc e, P i pc = some (.inl e) → xm_mono e) : ∀ (f d i pc : Nat) (la st : List Value) (h : xm_H) (o : Outcome) (h' : xm_H), xm_exec P D f d i pc la st h = some (o, h') → h.1 ≤ h'.1 ∧ h.2.1 ≤ h'.2.1 := by
  intro f
  induction f with
  | zero => intro d i pc la st h o h' he; cases he
  | succ f ih =>
    intro d i pc la st h o h' he
    unfold xm_exec at he
    split at he
    · cases he
    · rename_i e hop
      split at he
      · cases he
      · rename_i q hq
        have h1 := hP _ _ _ hop _ _ _ _ hq
        have h2 := ih _ _ _ _ _ _ _ _ he
        omega
    · split at he
      · cases he
      · cases he; exact ⟨Nat.le_refl _, Nat.le_refl _⟩
    · split at he
      · cases he
      · split at he
        · cases he
        · split at he
          · cases he
          · rename_i h3
            have h1 := ih _ _ _ _ _ _ _ _ h3
            have h2 := ih _ _ _ _ _ _ _ _ he
            omega
          · rename_i h3
            have h1 := ih _ _ _ _ _ _ _ _ h3
            split at he
            · cases he; exact h1
            · split at he
              · split at he
                · have h2 := ih _ _ _ _ _ _ _ _ he
                  omega
                · cases he
              · cases he
    · split at he
      · split at he
        · cases he; exact ⟨Nat.le_refl _, Nat.le_refl _⟩
        · cases he
      · cases he
theorem xm_sl_len (ad : Nat → Nat) (av : List Value) : (xm_sl av).length = (lg_sl (av.map (xm_cv ad))).length := by
  induction av with
  | nil => rfl
  | cons v r ih =>
    have h1 : lg_sl ((v :: r).map (xm_cv ad)) = (if v.category = 2 then [.val (xm_cv ad v), .second] else [.val (xm_cv ad v)]) ++ lg_sl (r.map (xm_cv ad)) := by
      simp only [lg_sl, List.map_cons, List.flatMap_cons, xm_cv_cat]
    rw [h1]
    cases v <;> simp [xm_sl, Value.category, ih]
theorem xm_sl_mem (ad : Nat → Nat) : ∀ (av : List Value) (i k : Nat) (v : Value), (xm_sl av)[k]? = some v → xm_set v = true → (i + k, xm_cv ad v) ∈ lv_args i (av.map (xm_cv ad)) := by
  intro av
  induction av with
  | nil => intro i k v h; simp [xm_sl] at h
  | cons a r ih =>
    intro i k v h hs
    have key1 : xm_sl (a :: r) = a :: xm_sl r → a.category ≠ 2 → (i + k, xm_cv ad v) ∈ lv_args i ((a :: r).map (xm_cv ad)) := by
      intro h1 h2
      rw [h1] at h
      simp only [List.map_cons, lv_args, xm_cv_cat, if_neg h2]
      cases k with
      | zero => cases h; exact List.mem_cons_self
      | succ k =>
        rw [List.getElem?_cons_succ] at h
        have := ih (i + 1) k v h hs
        rw [show i + (k + 1) = i + 1 + k by omega]
        exact List.mem_cons_of_mem _ this
    have key2 : xm_sl (a :: r) = a :: .retAddr 0 :: xm_sl r → a.category = 2 → (i + k, xm_cv ad v) ∈ lv_args i ((a :: r).map (xm_cv ad)) := by
      intro h1 h2
      rw [h1] at h
      simp only [List.map_cons, lv_args, xm_cv_cat, if_pos h2]
      cases k with
      | zero => cases h; exact List.mem_cons_self
      | succ k =>
        rw [List.getElem?_cons_succ] at h
        cases k with
        | zero => cases h; cases hs
        | succ k =>
          rw [List.getElem?_cons_succ] at h
          have := ih (i + 2) k v h hs
          rw [show i + (k + 1 + 1) = i + 2 + k by omega]
          exact List.mem_cons_of_mem _ this
    cases a with
    | long x => exact key2 rfl rfl
    | double x => exact key2 rfl rfl
    | _ => exact key1 rfl (by simp [Value.category])
theorem xm_lv_ent (ad : Nat → Nat) (av : List Value) {nL : Nat} (h : (lg_sl (av.map (xm_cv ad))).length ≤ nL) : xm_lv ad ((lg_sl (av.map (xm_cv ad)) ++ List.replicate (nL - (lg_sl (av.map (xm_cv ad))).length) Slot.unset).toArray) (xm_ent nL av) nL := by
  have hl := lv_entry (av.map (xm_cv ad)) h
  refine ⟨?_, hl.1, hl.2.1, fun q hq => ?_⟩
  · simp only [xm_ent, List.length_append, List.length_replicate]
    rw [xm_sl_len ad]
    omega
  · obtain ⟨v, h1, h2, h3⟩ := xm_prs_of hq
    refine hl.2.2 q ?_
    unfold xm_ent at h1
    by_cases hk : q.1 < (xm_sl av).length
    · rw [List.getElem?_append_left hk] at h1
      have := xm_sl_mem ad av 0 q.1 v h1 h2
      rw [Nat.zero_add, ← h3] at this
      exact this
    · rw [List.getElem?_append_right (by omega)] at h1
      have := List.mem_of_getElem? h1
      rw [List.mem_replicate] at this
      rw [this.2] at h2
      cases h2
