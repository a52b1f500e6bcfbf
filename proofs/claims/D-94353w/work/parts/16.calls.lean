/-! A CALL, WHATEVER ITS END: out of a contract in free Lean -/
def xm_FE (st t : State) (L : List Loc) (k n : Nat) : Prop := st.WarmedH t.vm ∧ st.sameButNew ({ t with vm := st.vm } : State) L k n
section XCall
variable {p : Program} {l : Launch} {e : Env} {R : Room} {s : State} {m : MethodId} {sargs : Array Value} {below : List Frame} {meth : Method} {c : Code} {U : State} {locs : List Loc} {cells slots : Nat}
def xm_after (U' : State) (g : JFrame) : Outcome → State
  | .returned v => U'.setTop { g with pc := g.pc + 3, stack := v.toList ++ g.stack }
  | .threw b => (U'.setTop g).pushFrame (.throwing b)
theorem xm_callM (X : Stand p l e R s m sargs below meth c U locs cells slots) {y : MethodName} {S : Spec} {P : Array Value → State → Prop} {Q : Array Value → State → Outcome → State → Prop} {maxL : Nat} {base : Nat}
    (hM : MetFree l y S P (fun _ _ _ _ _ => True) Q) (hQ : ∀ a st o t, Q a st o t → ∃ L, xm_FE st t L S.room.cells S.room.slots ∧ ∀ q ∈ L, base ≤ q.base)
    {g : JFrame} {ig : Instr} {mk : MethodId} {a : Array Value} (hg : g.method = m) (hsize : g.locals.size = c.maxLocals) (hdg : decode c.code g.pc = .ok (ig, 3)) (hW : 2 * g.monitorRoom + (g.stack.map fun v => v.category).sum ≤ 20)
    (hn : U.methodNamed? y = some mk) (hcode : ∃ methY cY, U.vm.method? mk = some methY ∧ methY.code = some cY ∧ cY.maxLocals = maxL) (hini : (Cond.initialized y.cls).before a U = true)
    (hframes : S.room.frames + 1 ≤ R.frames) (hlocals : 20 + (maxL + 11) + S.room.locals ≤ R.locals) (hpre : S.pre.before a U = true) (hc1 : cells + S.room.cells ≤ R.cells) (hc2 : slots + S.room.slots ≤ R.slots)
    (hP : P a (U.calling g mk a)) :
    ∃ (o : Outcome) (t U' : State) (L : List Loc), Q a (U.calling g mk a) o t ∧ (∀ q ∈ L, base ≤ q.base) ∧ Stand p l e R s m sargs below meth c U' (locs ++ L) (cells + S.room.cells) (slots + S.room.slots) ∧ U'.heap = t.heap ∧ U'.vm = t.vm ∧
      Steps p.tables e below (doInvoke e (U.setTop g) [] mk a).1 (xm_after U' g o) := by
  obtain ⟨methY, cY, hmY, hcY, hlY⟩ := hcode
  obtain ⟨kY, hkY, -⟩ := className_of_methodNamed hn
  have hinitY : kY.init = .initialized := Cond.initialized_spec (findClass_of_methodNamed hn) hkY hini
  have h : At U g.method c below := by rw [hg]; exact X.here
  have happ : S.appliesLoose y e.platform (U.calling g mk a) = true :=
    Spec.appliesLoose_calling (g := g) h hdg hn hkY hinitY
      (X.room_calling (g := g) (R' := S.room) hsize hmY hcY hframes (by rw [hlY]; omega) hc1 hc2) hpre
  obtain ⟨mid, hmid⟩ := h.above
  have hfr : (U.setTop g).frames = (.java g :: mid) ++ below := by rw [State.frames_setTop' g h.top, hmid]; rfl
  obtain ⟨o, s₂, hsteps, -, hend, hq⟩ := Steps.callFree hM p X.admits X.cas X.clock (acts := []) hfr happ hP trivial
  have hq' : Q a (U.calling g mk a) o s₂ := hq
  rw [State.frames_setTop' g h.top] at hend
  obtain ⟨L, hfe, hL⟩ := hQ _ _ _ _ hq'
  obtain ⟨hW₂, e2, q2, q3, q4, q5, q6⟩ := id hfe
  have e3 : s₂ = ({ (U.calling g mk a).setFrames s₂.frames with heap := s₂.heap, slotsUsed := s₂.slotsUsed } : State).setVm s₂.vm := by
    have : s₂ = ({ s₂ with vm := (U.calling g mk a).vm } : State).setVm s₂.vm := rfl
    rw [e2] at this
    exact this
  have hW' : U.WarmedH s₂.vm := hW₂
  obtain ⟨g₀, hg0⟩ := Option.isSome_iff_exists.mp h.top
  obtain ⟨r, hr⟩ := State.topJava?_eq_some.mp hg0
  have hsame : U.sameButNew ({ U with heap := s₂.heap, slotsUsed := s₂.slotsUsed } : State) L S.room.cells S.room.slots := by
    refine ⟨?_, q2, q3, q4, q5, q6⟩
    obtain ⟨t, ht, -⟩ := State.frames_cons hr
    show ({ U with heap := s₂.heap, slotsUsed := s₂.slotsUsed } : State) = { U.setFrames U.frames with heap := s₂.heap, slotsUsed := s₂.slotsUsed }
    rw [State.setFrames_self ht]
  refine ⟨o, s₂, ({ U with heap := s₂.heap, slotsUsed := s₂.slotsUsed } : State).setVm s₂.vm, L, hq', hL,
    ⟨X.admits, X.cas, X.clock, X.frames, X.room, X.hears, X.method, X.code, (X.here.setHeapUsed s₂.heap s₂.slotsUsed).setVm hW'.alike, X.tail, State.WarmedH.trans X.warmed hW', X.limits, X.bytes, X.same.trans (hsame.setVm s.vm)⟩, rfl, rfl, ?_⟩
  cases o with
  | returned v =>
    obtain ⟨c₂, i₂, len₂, hc₂, hd₂, hf₂⟩ := hend
    have hcc : c₂ = c := by
      have h1 : s₂.code? g.method = U.code? g.method := by
        rw [State.code?_eq, State.code?_eq, hW'.alike.method?]
      exact Option.some.inj (hc₂.symm.trans (h1.trans h.code))
    subst hcc
    have hlen : len₂ = 3 := by rw [hdg] at hd₂; cases hd₂; rfl
    subst hlen
    have hs₂ : s₂ = (({ U with heap := s₂.heap, slotsUsed := s₂.slotsUsed } : State).setVm s₂.vm).setTop { g with pc := g.pc + 3, stack := v.toList ++ g.stack } := by
      have hr' : (({ U with heap := s₂.heap, slotsUsed := s₂.slotsUsed } : State).setVm s₂.vm).frames = .java g₀ :: r := hr
      refine e3.trans ?_
      rw [hf₂, State.calling_eq h.top, State.setFrames_setFrames, State.setTop_of_frames _ hr', hr]
      rfl
    show Steps p.tables e below _ ((({ U with heap := s₂.heap, slotsUsed := s₂.slotsUsed } : State).setVm s₂.vm).setTop { g with pc := g.pc + 3, stack := v.toList ++ g.stack })
    rw [← hs₂]
    exact hsteps
  | threw b =>
    have hf₂ : s₂.frames = .throwing b :: .java g :: U.frames.tail := hend
    have hs₂ : s₂ = ((({ U with heap := s₂.heap, slotsUsed := s₂.slotsUsed } : State).setVm s₂.vm).setTop g).pushFrame (.throwing b) := by
      have hr' : (({ U with heap := s₂.heap, slotsUsed := s₂.slotsUsed } : State).setVm s₂.vm).frames = .java g₀ :: r := hr
      refine e3.trans ?_
      rw [hf₂, State.calling_eq h.top, State.setFrames_setFrames, State.pushFrame, State.frames_setTop _ hr', State.setTop_of_frames _ hr', State.setFrames_setFrames, hr]
      rfl
    show Steps p.tables e below _ (((({ U with heap := s₂.heap, slotsUsed := s₂.slotsUsed } : State).setVm s₂.vm).setTop g).pushFrame (.throwing b))
    rw [← hs₂]
    exact hsteps
end XCall
