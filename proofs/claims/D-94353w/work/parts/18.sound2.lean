theorem xm_mRoom (m : MethodId) (pc : Nat) (ls : Array Slot) (st : List Value) : (F0 m pc ls st).monitorRoom = 0 := rfl
theorem xm_hd_none {c : Code} {hs : xm_Hs} {pc : Nat} (ht : xm_ht c hs) (h : xm_hd hs pc = none) : ∀ x ∈ c.exceptionTable.toList, covers x pc = false := by
  intro x hx
  have h1 : (x.startPc, x.endPc, x.handlerPc, x.catchType) ∈ hs.map (fun q => (q.1, q.2.1, q.2.2.1, q.2.2.2.1)) := by
    rw [← ht]; exact List.mem_map.mpr ⟨x, hx, rfl⟩
  obtain ⟨q, hq, he⟩ := List.mem_map.mp h1
  have key : ∀ hs : xm_Hs, xm_hd hs pc = none → q ∈ hs → ¬ (q.1 ≤ pc ∧ pc < q.2.1) := by
    intro hs
    induction hs with
    | nil => intro _ h2; cases h2
    | cons a r ih =>
      intro h2 h3
      unfold xm_hd at h2
      split at h2
      · cases h2
      · rename_i hn
        rcases List.mem_cons.mp h3 with rfl | h3
        · exact hn
        · exact ih h2 h3
  have h2 := key hs h hq
  have e1 : q.1 = x.startPc := congrArg (fun z : Nat × Nat × Nat × Nat => z.1) he
  have e2 : q.2.1 = x.endPc := congrArg (fun z : Nat × Nat × Nat × Nat => z.2.1) he
  rw [e1, e2] at h2
  unfold covers
  simp only [Bool.and_eq_false_iff, decide_eq_false_iff_not]
  omega
theorem xm_wd_spec {x : MethodName × ByteArray × Nat × Option FieldType × xm_Hs} {args : Array Value} {s : State} {m : MethodId} (h : (xm_wd x).before args s = true) (hn : s.methodNamed? x.1 = some m) :
    ∃ meth c, s.vm.method? m = some meth ∧ meth.code = some c ∧ c.code = x.2.1 ∧ c.maxLocals = x.2.2.1 ∧ meth.sig.returnType = x.2.2.2.1 ∧ meth.locks = false ∧ xm_ht c x.2.2.2.2 := by
  obtain ⟨y, b, L, r, hs⟩ := x
  unfold xm_wd at h
  cases hs with
  | nil =>
    obtain ⟨meth, c, h1, h2, h3, h4, h5, h6, h7, -⟩ := Cond.code_spec hn h
    refine ⟨meth, c, h1, h2, h3, h4, h5, h6, ?_⟩
    unfold xm_ht
    have : c.exceptionTable.toList = [] := by simpa using h7
    rw [this]; rfl
  | cons q hs =>
    obtain ⟨m', meth, c, h0, h1, h2, h3, h4, h5, h6, h7, -⟩ := Cond.codeWith_spec h
    cases hn.symm.trans h0
    exact ⟨meth, c, h1, h2, h3, h4, h6, h7, h5⟩
theorem xm_W.mono {p : Program} {l : Launch} {e : Env} {R : Room} {s : State} {m : MethodId} {args : Array Value} {below : List Frame} {meth : Method} {c : Code} {H : Heap} {locs : List Loc} {cells slots : Nat} {Q Q' : State → Prop} {g : JFrame} (k : W p l e R s m args below meth c H locs cells slots Q g) (h : ∀ t, Q t → Q' t) : W p l e R s m args below meth c H locs cells slots Q' g := by
  intro T hT X
  obtain ⟨t, a, b⟩ := k T hT X
  exact ⟨t, a, h t b⟩
/-- what a run of the machine says of the method's body -/
def xm_says (B : xm_T) (G : xm_G) (D : xm_D) (d i pc : Nat) (la st : List Value) (h : xm_H) (o : Outcome) (h' : xm_H) : Prop :=
  ∀ (p : Program) (l : Launch) (e : Env) (R : Room) (s : State) (m : MethodId) (args : Array Value) (below : List Frame) (meth : Method) (c : Code) (H : Heap) (locs : List Loc) (cells slots : Nat) (ls : Array Slot) (Q : State → Prop),
    l.flags = flags0 → p.tables.exec = Jvm.exec → c.code = (D i).2.1 → c.maxLocals = (D i).2.2.1 → s.vm.findClass (D i).1.cls = some m.cls → meth.name = (D i).1.name → meth.sig.returnType = (D i).2.2.2.1 → meth.locks = false → xm_ht c (D i).2.2.2.2 →
    G.1.WarmedH s.vm → xm_R B G h H → (∀ q ∈ locs, G.1.heap.size ≤ q.base) → xm_lv G.2.1 ls la (D i).2.2.1 → d + 1 ≤ R.frames → 50 * (d + 1) ≤ R.locals → cells + (h'.1 - h.1) ≤ R.cells → slots + (h'.2.1 - h.2.1) ≤ R.slots →
    (∀ (t : State) (L : List Loc), t.status = .running → Ended t below (xm_oc G.2.1 o) → xm_R B G h' t.heap → xm_FE s t L (cells + (h'.1 - h.1)) (slots + (h'.2.1 - h.2.1)) → (∀ q ∈ L, G.1.heap.size ≤ q.base) → Q t) →
    W p l e R s m args below meth c H locs cells slots Q (F0 m pc ls (st.map (xm_cv G.2.1)))
/-- a method's contract, out of what a run says of its body -/
theorem xm_met {B : xm_T} {G : xm_G} {D : xm_D} {d i : Nat} {av : List Value} {h h' : xm_H} {o : Outcome} (l : Launch) (hfl : l.flags = flags0) (hD : xm_DO (D i)) (hlen : (lg_sl (av.map (xm_cv G.2.1))).length ≤ (D i).2.2.1)
    (hs : xm_says B G D d i 0 (xm_ent (D i).2.2.1 av) [] h o h') :
    MetFree l (D i).1 (headSpec [xm_wd (D i)] { frames := d + 1, cells := h'.1 - h.1, slots := h'.2.1 - h.2.1, locals := 50 * (d + 1) }) (fun a U => a = (av.map (xm_cv G.2.1)).toArray ∧ G.1.WarmedH U.vm ∧ xm_R B G h U.heap) (fun _ _ _ _ _ => True)
      (fun _ st oc t => oc = xm_oc G.2.1 o ∧ xm_R B G h' t.heap ∧ ∃ L, xm_FE st t L (h'.1 - h.1) (h'.2.1 - h.2.1) ∧ ∀ q ∈ L, G.1.heap.size ≤ q.base) := by
  refine MetFree.of_bodySF (code := (D i).2.1) (maxLocals := (D i).2.2.1) (ret := (D i).2.2.2.1) hD.1 ?_ ?_
  · intro args s m hp hn
    obtain ⟨meth, c, h1, h2, h3, h4, h5, h6, -⟩ := xm_wd_spec (atoms_spec (ws := [xm_wd (D i)]) hp _ List.mem_cons_self) hn
    exact ⟨meth, c, h1, h2, h3, h4, h5, h6⟩
  · intro p e s m args below meth c s₁ Bd hml hP _
    obtain ⟨ha, hW, hR⟩ := hP
    subst ha
    have hh0 : s₁.heap = s.heap := by rw [Bd.state]; rfl
    have hpre : (xm_wd (D i)).before _ s = true := atoms_spec (ws := [xm_wd (D i)]) Bd.pre _ List.mem_cons_self
    obtain ⟨meth', c', h1, h2, h3, h4, h5, h6, h7⟩ := xm_wd_spec hpre Bd.named
    cases Bd.method.symm.trans h1
    cases (Stand.of_body Bd).code.symm.trans h2
    have hw := hs p l e { frames := d + 1, cells := h'.1 - h.1, slots := h'.2.1 - h.2.1, locals := 50 * (d + 1) } s m (av.map (xm_cv G.2.1)).toArray below meth c s.heap [] 0 0 _
      (fun t => ∃ oc, t.status = .running ∧ Ended t below oc ∧ oc = xm_oc G.2.1 o ∧ xm_R B G h' t.heap ∧ ∃ L, xm_FE s t L (h'.1 - h.1) (h'.2.1 - h.2.1) ∧ ∀ q ∈ L, G.1.heap.size ≤ q.base)
      hfl Bd.exec h3 h4 (findClass_of_methodNamed Bd.named) (name_of_methodNamed Bd.named Bd.method).1 h5 h6 h7 hW hR (fun q hq => by cases hq) (xm_lv_ent G.2.1 av hlen) (Nat.le_refl _) (Nat.le_refl _) (by rw [Nat.zero_add]; exact Nat.le_refl _) (by rw [Nat.zero_add]; exact Nat.le_refl _)
      (fun t L a1 a2 a3 a4 a5 => ⟨_, a1, a2, rfl, a3, L, by rw [Nat.zero_add, Nat.zero_add] at a4; exact a4, a5⟩)
    rw [List.map_nil, ← lg_entry_eq m _ (D i).2.2.1] at hw
    obtain ⟨t, a1, oc, b1, b2, b3⟩ := hw s₁ hh0 (Stand.of_body Bd)
    exact ⟨t, oc, a1, b1, b2, b3⟩
theorem xm_sound {B : xm_T} {G : xm_G} {P : xm_P} {D : xm_D} {N : Nat} (hG : xm_W B G) (hD : ∀ i, i < N → xm_DO (D i)) (hPO : ∀ i, i ≤ N → xm_PO B G P D N i) (hN : ∀ i pc, N < i → P i pc = none) :
    ∀ (f d i pc : Nat) (la st : List Value) (h : xm_H) (o : Outcome) (h' : xm_H), i ≤ N → xm_exec P D f d i pc la st h = some (o, h') → xm_says B G D d i pc la st h o h' := by
  have hmono : ∀ i pc e, P i pc = some (.inl e) → xm_mono e := by
    intro i pc e he
    by_cases hi : i ≤ N
    · exact ((hPO i hi).2 pc _ he).1
    · rw [hN i pc (by omega)] at he; cases he
  have hm := xm_exec_mono (D := D) hmono
  intro f
  induction f with
  | zero => intro d i pc la st h o h' hi he; cases he
  | succ f ih =>
    intro d i pc la st h o h' hi he
    have hmm := hm _ _ _ _ _ _ _ _ _ he
    intro p l e R s m args below meth c H locs cells slots ls Q hfl hx hb hml hown hnm hr hlocks hht hW hR hlo hl hf1 hf2 hc1 hc2 hQ
    unfold xm_exec at he
    split at he
    · cases he
    · rename_i ef hop
      split at he
      · cases he
      · rename_i q hq
        have h1 := hmono _ _ _ hop _ _ _ _ hq
        have h2 := hm _ _ _ _ _ _ _ _ _ he
        obtain ⟨pc1, la1, st1, hp1⟩ := q
        simp only at h1 h2 he
        refine ((hPO i hi).2 pc _ hop).2 p l e R s m args below meth c H locs cells slots Q ls la st h pc1 la1 st1 hp1 hfl hx hb hml hown hnm hW hR hlo hl hq (by omega) (by omega) (by omega) (by omega) fun H' locs' ls' hR' hlo' hl' => ?_
        refine ih _ _ _ _ _ _ _ _ hi he p l e R s m args below meth c H' locs' _ _ ls' Q hfl hx hb hml hown hnm hr hlocks hht hW hR' hlo' hl' hf1 hf2 (by omega) (by omega) fun t L a1 a2 a3 a4 a5 => ?_
        refine hQ t L a1 a2 a3 ?_ a5
        rw [show cells + (h'.1 - h.1) = cells + (hp1.1 - h.1) + (h'.1 - hp1.1) by omega, show slots + (h'.2.1 - h.2.1) = slots + (hp1.2.1 - h.2.1) + (h'.2.1 - hp1.2.1) by omega]
        exact a4
    · rename_i r hop
      split at he
      · cases he
      · rename_i v hv
        cases he
        refine xm_W.mono ((hPO i hi).2 pc _ hop p l e R s m args below meth c H locs cells slots ls st v hx hb hr hlocks hlo hv) fun t ht => ?_
        obtain ⟨oc, a1, a2, ⟨a3, a4⟩, L, ⟨-, a5, a6⟩, a7⟩ := ht
        subst a3
        refine hQ t L a1 a2 (by rw [a4]; exact hR) ⟨a5, ?_⟩ a7
        rw [Nat.sub_self, Nat.sub_self]
        exact a6
    · rename_i sel hop
      split at he
      · cases he
      · rename_i d'
        split at he
        · cases he
        · rename_i q hq
          obtain ⟨y, av, rest⟩ := q
          simp only at he
          have hCO := (hPO i hi).2 pc _ hop
          have hy : y < N := hCO.2 _ _ _ hq
          have hcall : ∀ (oc : Outcome) (h1 : xm_H), xm_exec P D f d' y 0 (xm_ent (D y).2.2.1 av) [] h = some (oc, h1) → h1.1 ≤ h'.1 → h1.2.1 ≤ h'.2.1 →
              (∀ (U' : State) (L : List Loc), Stand p l e R s m args below meth c U' (locs ++ L) (cells + (h1.1 - h.1)) (slots + (h1.2.1 - h.2.1)) → xm_R B G h1 U'.heap → (∀ q ∈ locs ++ L, G.1.heap.size ≤ q.base) →
                ∃ t, Steps p.tables e below (xm_after U' (F0 m pc ls (rest.map (xm_cv G.2.1))) (xm_oc G.2.1 oc)) t ∧ Q t) →
              W p l e R s m args below meth c H locs cells slots Q (F0 m pc ls (st.map (xm_cv G.2.1))) := by
            intro oc h1 hce hl1 hl2 kk T hT X
            obtain ⟨⟨ig, hdg⟩, hco⟩ := hCO.1
            obtain ⟨hb1, hb2, hb3, mk, vm₁, hnamed, X₁, hstep⟩ := hco p l e R s m args below meth c T locs cells slots ls st h y av rest hx hb hown hW X (by rw [hT]; exact hR) hq
            have hm1 := hm _ _ _ _ _ _ _ _ _ hce
            have hM := xm_met l hfl (hD y hy) hb2 (ih _ _ _ _ _ _ _ _ (Nat.le_of_lt hy) hce)
            have hWU : G.1.WarmedH (T.setVm vm₁).vm := State.WarmedH.trans hW X₁.warmed
            have hnU := X₁.named hnamed
            have hwd := xm_word hG hWU (hD y hy).2.1 (av.map (xm_cv G.2.1)).toArray
            obtain ⟨methY, cY, k1, k2, -, k4, -⟩ := xm_wd_spec hwd hnU
            obtain ⟨oc', t, U', L, ⟨q1, q2, -⟩, q4, X', q5, q6, q7⟩ := xm_callM (base := G.1.heap.size) (maxL := (D y).2.2.1) X₁ hM (fun a st' o' t' hq' => hq'.2.2) (g := F0 m pc ls (rest.map (xm_cv G.2.1))) (ig := ig) (mk := mk) (a := (av.map (xm_cv G.2.1)).toArray) rfl (by rw [hml]; exact hl.2.1) (by rw [hb]; exact hdg)
              (by rw [xm_mRoom, xm_cv_cats]; omega) hnU ⟨methY, cY, k1, k2, k4⟩ (xm_word hG hWU (hD y hy).2.2 _) (by show d' + 1 + 1 ≤ _; omega) (by show 20 + _ + 50 * (d' + 1) ≤ _; omega)
              (atoms_intro fun w hw => by rw [List.mem_singleton.mp hw]; exact hwd) (by show cells + (h1.1 - h.1) ≤ _; omega) (by show slots + (h1.2.1 - h.2.1) ≤ _; omega)
              ⟨rfl, hWU, by show xm_R B G h T.heap; rw [hT]; exact hR⟩
            subst q1
            obtain ⟨t', b1, b2⟩ := kk U' L X' (by rw [q5]; exact q2) (fun q hq => by
              rcases List.mem_append.mp hq with z | z
              · exact hlo q z
              · exact q4 q z)
            exact ⟨t', hstep t' (q7.trans b1), b2⟩
          split at he
          · cases he
          · rename_i v h1 hce
            have hm1 := hm _ _ _ _ _ _ _ _ _ hce
            have hm2 := hm _ _ _ _ _ _ _ _ _ he
            refine hcall _ h1 hce hm2.1 hm2.2 fun U' L X' hR' hlo' => ?_
            have hw := ih _ _ _ _ _ _ _ _ hi he p l e R s m args below meth c U'.heap (locs ++ L) (cells + (h1.1 - h.1)) (slots + (h1.2.1 - h.2.1)) ls Q hfl hx hb hml hown hnm hr hlocks hht hW hR' hlo' hl hf1 hf2 (by omega) (by omega) (fun t L a1 a2 a3 a4 a5 => hQ t L a1 a2 a3 (by
              rw [show cells + (h'.1 - h.1) = cells + (h1.1 - h.1) + (h'.1 - h1.1) by omega, show slots + (h'.2.1 - h.2.1) = slots + (h1.2.1 - h.2.1) + (h'.2.1 - h1.2.1) by omega]
              exact a4) a5)
            obtain ⟨t, b1, b2⟩ := hw U' rfl X'
            refine ⟨t, ?_, b2⟩
            have e1 : xm_after U' (F0 m pc ls (rest.map (xm_cv G.2.1))) (xm_oc G.2.1 (.returned v)) = U'.setTop (F0 m (pc + 3) ls ((v.toList ++ rest).map (xm_cv G.2.1))) := by
              cases v <;> rfl
            rw [e1]
            exact b1
          · rename_i a h1 hce
            have hm1 := hm _ _ _ _ _ _ _ _ _ hce
            split at he
            · rename_i hnone
              cases he
              refine hcall _ _ hce (Nat.le_refl _) (Nat.le_refl _) fun U' L X' hR' hlo' => ?_
              obtain ⟨s1, s2, s3, s4, s5⟩ := X'.leaveThrown (G.2.1 a) (g := F0 m pc ls (rest.map (xm_cv G.2.1))) rfl rfl rfl (xm_hd_none hht hnone)
              exact ⟨_, s1, hQ _ (locs ++ L) s2 s3 hR' ⟨s4, s5⟩ hlo'⟩
            · rename_i w hw
              obtain ⟨hp, ci⟩ := w
              split at he
              · rename_i ob hob
                split at he
                · rename_i hci
                  have hm2 := hm _ _ _ _ _ _ _ _ _ he
                  obtain ⟨oci, ofs⟩ := ob
                  simp only at hci he hm2
                  subst hci
                  refine hcall _ h1 hce hm2.1 hm2.2 fun U' L X' hR' hlo' => ?_
                  obtain ⟨vm', X2, hst⟩ := (hPO i hi).1 p l e R s m args below meth c U' _ _ _ ls (rest.map (xm_cv G.2.1)) h1 a oci hp pc ofs hx hb hht hown hW X' hR' hw hob
                  have hw2 := ih _ _ _ _ _ _ _ _ hi he p l e R s m args below meth c U'.heap (locs ++ L) (cells + (h1.1 - h.1)) (slots + (h1.2.1 - h.2.1)) ls Q hfl hx hb hml hown hnm hr hlocks hht hW hR' hlo' hl hf1 hf2 (by omega) (by omega) (fun t L a1 a2 a3 a4 a5 => hQ t L a1 a2 a3 (by
                    rw [show cells + (h'.1 - h.1) = cells + (h1.1 - h.1) + (h'.1 - h1.1) by omega, show slots + (h'.2.1 - h.2.1) = slots + (h1.2.1 - h.2.1) + (h'.2.1 - h1.2.1) by omega]
                    exact a4) a5)
                  obtain ⟨t, b1, b2⟩ := hw2 (U'.setVm vm') rfl X2
                  exact ⟨t, hst t b1, b2⟩
                · cases he
              · cases he
    · rename_i u hop
      split at he
      · rename_i a r
        split at he
        · rename_i hnone
          cases he
          intro T hT X
          obtain ⟨s1, s2, s3, s4, s5⟩ := X.athrowLeaves hx (g := F0 m pc ls (.ref (G.2.1 a) :: r.map (xm_cv G.2.1))) rfl rfl rfl (xm_hd_none hht hnone) rfl (by rw [hb]; exact (hPO i hi).2 pc _ hop)
          refine ⟨_, s1, hQ _ locs s2 s3 (by show xm_R B G h T.heap; rw [hT]; exact hR) ⟨s4, ?_⟩ hlo⟩
          rw [Nat.sub_self, Nat.sub_self]
          exact s5
        · cases he
      · cases he
