/-! ARRAYS, NEW OBJECTS, CONSTANTS OF THE TABLES -/
def xm_B (B : xm_T) : Prop := B.2.1 0 = .int ∧ B.2.1 1 = .long ∧ B.2.1 2 = .boolean ∧ B.2.1 3 = .byte ∧ ∀ t, 4 ≤ t → ∃ C, B.2.1 t = .object C
theorem xm_self (vm : Vm) (c : ClassId) : vm.assignable c c = true := by
  show vm.assignableAux (255 + 1) c c = true
  rw [Vm.assignableAux]
  simp only [beq_self_eq_true, Bool.true_or]
section XArr
variable {B : xm_T} {G : xm_G} {own nm : String} {cc : ByteArray} {nL pc : Nat}
def xe_ald (ok : Nat → Bool) (nx : Nat) : xm_E := fun la st h => match st with
  | .int i :: .ref a :: r => match h.2.2 a with
    | some (.inr (t, n, f)) => if ok t = true ∧ ¬ (i < 0 ∨ n ≤ i.toNatClampNeg) then some (nx, la, f i.toNatClampNeg :: r, h) else none
    | _ => none
  | _ => none
def xe_alen (nx : Nat) : xm_E := fun la st h => match st with
  | .ref a :: r => match h.2.2 a with
    | some (.inr (_, n, _)) => some (nx, la, .int (Int32.ofNat n) :: r, h)
    | _ => none
  | _ => none
theorem xo_ald {ok : Nat → Bool}
    (hw : ∀ (t : Nat), ok t = true → ∀ {p : Program} {l : Launch} {e : Env} {R : Room} {s : State} {m : MethodId} {args : Array Value} {below : List Frame} {meth : Method} {c : Code} {H : Heap} {locs : List Loc} {cells slots : Nat} {Q : State → Prop} {ls : Array Slot} {rest : List Value} {a : Addr} {cell : Cell} {j : Int32} {v : Value},
      p.tables.exec = Jvm.exec → c.code = cc → H[a]? = some cell → s.isArrayOf cell (B.2.1 t) → cell.vm ≠ .unknown → ¬ (j < 0 ∨ cell.slots.size ≤ j.toNatClampNeg) → cell.slots[j.toNatClampNeg]? = some v →
      W p l e R s m args below meth c H locs cells slots Q (F0 m (pc + 1) ls (v :: rest)) → W p l e R s m args below meth c H locs cells slots Q (F0 m pc ls (.int j :: .ref a :: rest))) : xm_OK B G own nm cc nL pc (xe_ald ok (pc + 1)) := by
  intro p l e R s m args below meth c H locs cells slots Q ls la st h pc' la' st' h' hfl hx hb hml hown hnm hW hR hlo hl he hc1 hc2 hc3 hc4 kk
  unfold xe_ald at he
  split at he
  · split at he
    · rename_i i a r _ t n f ho
      split at he
      · rename_i hv
        cases he
        obtain ⟨cell, g2, g3, g4, g5, g6, g7⟩ := (hR.2.2.2 _ _ ho).2
        have k1 : W p l e R s m args below meth c H locs cells slots Q (F0 m (pc + 1) ls (xm_cv G.2.1 (f i.toNatClampNeg) :: r.map (xm_cv G.2.1))) := by
          have := kk H locs ls hR hlo hl
          rwa [Nat.sub_self, Nat.sub_self, Nat.add_zero, Nat.add_zero] at this
        have hlt : i.toNatClampNeg < n := Nat.not_le.mp fun q => hv.2 (Or.inr q)
        exact hw t hv.1 hx hb g2 (State.isArrayOf_alike hW.alike g3) g4 (by rw [g5]; exact hv.2) (g6 _ hlt) k1
      · cases he
    · cases he
  · cases he
theorem xo_iald (hB : xm_B B) (hd : decode cc pc = .ok (.iaload, 1)) : xm_OK B G own nm cc nL pc (xe_ald (fun t => t == 0) (pc + 1)) :=
  xo_ald fun t ht p l e R s m args below meth c H locs cells slots Q ls rest a cell j v hx hb h1 h2 h3 h4 h5 k => by
    have : t = 0 := by simpa using ht
    subst this
    rw [hB.1] at h2
    exact W.iald hx hb h1 h2 h3 h4 h5 rfl rfl hd k
theorem xo_lald (hB : xm_B B) (hd : decode cc pc = .ok (.laload, 1)) : xm_OK B G own nm cc nL pc (xe_ald (fun t => t == 1) (pc + 1)) :=
  xo_ald fun t ht p l e R s m args below meth c H locs cells slots Q ls rest a cell j v hx hb h1 h2 h3 h4 h5 k => by
    have : t = 1 := by simpa using ht
    subst this
    rw [hB.2.1] at h2
    exact W.lald hx hb h1 h2 h3 h4 h5 rfl rfl hd k
theorem xo_bald (hB : xm_B B) (hd : decode cc pc = .ok (.baload, 1)) : xm_OK B G own nm cc nL pc (xe_ald (fun t => t == 2 || t == 3) (pc + 1)) :=
  xo_ald fun t ht p l e R s m args below meth c H locs cells slots Q ls rest a cell j v hx hb h1 h2 h3 h4 h5 k => by
    have : t = 2 ∨ t = 3 := by simpa using ht
    rcases this with rfl | rfl
    · rw [hB.2.2.1] at h2
      exact W.zald hx hb h1 h2 h3 h4 h5 rfl rfl hd k
    · rw [hB.2.2.2.1] at h2
      exact W.bald hx hb h1 h2 h3 h4 h5 rfl rfl hd k
theorem xo_aald (hB : xm_B B) (hd : decode cc pc = .ok (.aaload, 1)) : xm_OK B G own nm cc nL pc (xe_ald (fun t => Nat.ble 4 t) (pc + 1)) :=
  xo_ald fun t ht p l e R s m args below meth c H locs cells slots Q ls rest a cell j v hx hb h1 h2 h3 h4 h5 k => by
    obtain ⟨C, hC⟩ := hB.2.2.2.2 t (Nat.le_of_ble_eq_true ht)
    rw [hC] at h2
    exact W.aald hx hb h1 h2 rfl h3 h4 h5 rfl rfl hd k
theorem xo_alen (hd : decode cc pc = .ok (.arraylength, 1)) : xm_OK B G own nm cc nL pc (xe_alen (pc + 1)) := by
  intro p l e R s m args below meth c H locs cells slots Q ls la st h pc' la' st' h' hfl hx hb hml hown hnm hW hR hlo hl he hc1 hc2 hc3 hc4 kk
  unfold xe_alen at he
  split at he
  · split at he
    · rename_i a r _ t n f ho
      cases he
      obtain ⟨cell, g2, g3, g4, g5, g6, g7⟩ := (hR.2.2.2 _ _ ho).2
      have k1 : W p l e R s m args below meth c H locs cells slots Q (F0 m (pc + 1) ls (.int (Int32.ofNat n) :: r.map (xm_cv G.2.1))) := by
        have := kk H locs ls hR hlo hl
        rwa [Nat.sub_self, Nat.sub_self, Nat.add_zero, Nat.add_zero] at this
      exact W.alen hx hb g2 (State.isArrayOf_alike hW.alike g3) (by rw [g5]) rfl rfl hd k1
    · cases he
  · cases he
/-- a store: v as it is kept, of what stands on the stack -/
def xe_ast (K0 t0 : Nat) (ok : Value → Bool) (nx : Nat) : xm_E := fun la st h => match st with
  | v :: .int i :: .ref a :: r => match h.2.2 a with
    | some (.inr (t, n, f)) => if K0 ≤ a ∧ t = t0 ∧ ok v = true ∧ ¬ (i < 0 ∨ n ≤ i.toNatClampNeg) then some (nx, la, r, xm_put h a (.inr (t, n, updV f i.toNatClampNeg v))) else none
    | _ => none
  | _ => none
theorem xm_cv_upd (ad : Nat → Nat) (f : Nat → Value) (k : Nat) (v : Value) : (fun j => xm_cv ad (updV f k v j)) = updV (fun j => xm_cv ad (f j)) k (xm_cv ad v) := by
  funext j
  unfold updV
  split <;> rfl
theorem xm_R.ast (hG : xm_W B G) {h : xm_H} {H H' : Heap} (hR : xm_R B G h H) {a t n : Nat} {f : Nat → Value} {cell : Cell} {i : Nat} {v : Value} (ha : B.2.2 ≤ a) (ho : h.2.2 a = some (.inr (t, n, f))) (hc : H[G.2.1 a]? = some cell) (e : H'[G.2.1 a]? = some (cell.setSlot i (xm_cv G.2.1 v))) (hz : H'.size = H.size) (oq : ∀ q, q ≠ G.2.1 a → H'[q]? = H[q]?) : xm_R B G (xm_put h a (.inr (t, n, updV f i v))) H' := by
  obtain ⟨cell', g2, g3, g4, g5, g6, g7⟩ := (hR.2.2.2 _ _ ho).2
  cases hc.symm.trans g2
  have hcell := g7 ha
  subst hcell
  rw [arrV_store] at e
  refine hR.put hG ha ho hz oq ⟨_, e, ?_, (fun q => by cases q), arrV_size _ _ _, (fun j hj => ?_), (fun _ => ?_)⟩
  · exact g3
  · rw [arrV_read _ _ hj]
    exact congrArg some (congrFun (xm_cv_upd G.2.1 f i v) j).symm
  · rw [xm_cv_upd]
theorem xo_ast (hG : xm_W B G) {K0 t0 : Nat} (hK0 : B.2.2 = K0) {ok : Value → Bool}
    (hw : ∀ {p : Program} {l : Launch} {e : Env} {R : Room} {s : State} {m : MethodId} {args : Array Value} {below : List Frame} {meth : Method} {c : Code} {H : Heap} {locs : List Loc} {cells slots : Nat} {Q : State → Prop} {ls : Array Slot} {rest : List Value} {a : Addr} {cell : Cell} {j : Int32} {v : Value},
      ok v = true → p.tables.exec = Jvm.exec → c.code = cc → H[a]? = some cell → s.isArrayOf cell (B.2.1 t0) → cell.vm ≠ .unknown → ¬ (j < 0 ∨ cell.slots.size ≤ j.toNatClampNeg) →
      (∀ H' : Heap, H'[a]? = some (cell.setSlot j.toNatClampNeg (xm_cv G.2.1 v)) → H'.size = H.size → (∀ q, q ≠ a → H'[q]? = H[q]?) → W p l e R s m args below meth c H' (locs ++ [⟨a, j.toNatClampNeg⟩]) cells slots Q (F0 m (pc + 1) ls rest)) →
      W p l e R s m args below meth c H locs cells slots Q (F0 m pc ls (xm_cv G.2.1 v :: .int j :: .ref a :: rest))) : xm_OK B G own nm cc nL pc (xe_ast K0 t0 ok (pc + 1)) := by
  intro p l e R s m args below meth c H locs cells slots Q ls la st h pc' la' st' h' hfl hx hb hml hown hnm hW hR hlo hl he hc1 hc2 hc3 hc4 kk
  unfold xe_ast at he
  split at he
  · split at he
    · rename_i v i a r _ t n f ho
      split at he
      · rename_i hv
        obtain ⟨hv1, rfl, hv2, hv3⟩ := hv
        cases he
        subst hK0
        obtain ⟨cell, g2, g3, g4, g5, g6, g7⟩ := (hR.2.2.2 _ _ ho).2
        refine hw hv2 hx hb g2 (State.isArrayOf_alike hW.alike g3) g4 (by rw [g5]; exact hv3) fun H' e1 e2 e3 => ?_
        have := kk H' (locs ++ [⟨G.2.1 a, i.toNatClampNeg⟩]) ls (hR.ast hG hv1 ho g2 e1 e2 e3) (fun q hq => by
              rcases List.mem_append.mp hq with h1 | h1
              · exact hlo q h1
              · rw [List.mem_singleton.mp h1]
                show G.1.heap.size ≤ G.2.1 a
                rw [hG.1 a hv1]; omega) hl
        simpa [xm_put] using this
      · cases he
    · cases he
  · cases he
theorem xo_iast (hG : xm_W B G) (hB : xm_B B) {K0 : Nat} (hK0 : B.2.2 = K0) (hd : decode cc pc = .ok (.iastore, 1)) : xm_OK B G own nm cc nL pc (xe_ast K0 0 (xm_kd 0) (pc + 1)) :=
  xo_ast hG hK0 fun {p l e R s m args below meth c H locs cells slots Q ls rest a cell j v} hok hx hb h1 h2 h3 h4 kk => by
    rw [hB.1] at h2
    cases v <;> first | cases hok | skip
    exact W.iast hx hb h1 h2 h3 h4 rfl rfl hd kk
theorem xo_last (hG : xm_W B G) (hB : xm_B B) {K0 : Nat} (hK0 : B.2.2 = K0) (hd : decode cc pc = .ok (.lastore, 1)) : xm_OK B G own nm cc nL pc (xe_ast K0 1 (xm_kd 1) (pc + 1)) :=
  xo_ast hG hK0 fun {p l e R s m args below meth c H locs cells slots Q ls rest a cell j v} hok hx hb h1 h2 h3 h4 kk => by
    rw [hB.2.1] at h2
    cases v <;> first | cases hok | skip
    exact W.last hx hb h1 h2 h3 h4 rfl rfl hd kk
def xm_bit : Value → Bool
  | .int x => x == 0 || x == 1
  | _ => false
theorem xo_zast (hG : xm_W B G) (hB : xm_B B) {K0 : Nat} (hK0 : B.2.2 = K0) (hd : decode cc pc = .ok (.bastore, 1)) : xm_OK B G own nm cc nL pc (xe_ast K0 2 xm_bit (pc + 1)) :=
  xo_ast hG hK0 fun {p l e R s m args below meth c H locs cells slots Q ls rest a cell j v} hok hx hb h1 h2 h3 h4 kk => by
    rw [hB.2.2.1] at h2
    cases v <;> first | cases hok | skip
    rename_i x
    have hx2 : narrow .boolean (.int x) = .int x := by
      have : x = 0 ∨ x = 1 := by simpa [xm_bit] using hok
      rcases this with rfl | rfl <;> rfl
    refine W.zast hx hb h1 h2 h3 h4 rfl rfl hd ?_
    rw [hx2]
    exact kk
/-- an object of a class may lie in an array -/
def xm_as (B : xm_T) (t ci : Nat) : Prop := ∃ C T N D, B.1[ci]? = some (C, T, N) ∧ B.2.1 t = .object D ∧ (C = D ∨ Cond.castable C D ∈ lw_tbl)
def xe_aast (K0 : Nat) (okc : Nat → Nat → Bool) (nx : Nat) : xm_E := fun la st h => match st with
  | .null :: .int i :: .ref a :: r => match h.2.2 a with
    | some (.inr (t, n, f)) => if K0 ≤ a ∧ 4 ≤ t ∧ ¬ (i < 0 ∨ n ≤ i.toNatClampNeg) then some (nx, la, r, xm_put h a (.inr (t, n, updV f i.toNatClampNeg .null))) else none
    | _ => none
  | .ref v :: .int i :: .ref a :: r => match h.2.2 a with
    | some (.inr (t, n, f)) => match h.2.2 v with
      | some (.inl o) => if K0 ≤ a ∧ t < 8 ∧ okc t o.1 = true ∧ ¬ (i < 0 ∨ n ≤ i.toNatClampNeg) then some (nx, la, r, xm_put h a (.inr (t, n, updV f i.toNatClampNeg (.ref v)))) else none
      | _ => none
    | _ => none
  | _ => none
theorem xo_aast (hG : xm_W B G) (hB : xm_B B) {K0 : Nat} (hK0 : B.2.2 = K0) {okc : Nat → Nat → Bool} (hok : ∀ t ci, okc t ci = true → xm_as B t ci) (hd : decode cc pc = .ok (.aastore, 1)) : xm_OK B G own nm cc nL pc (xe_aast K0 okc (pc + 1)) := by
  intro p l e R s m args below meth c H locs cells slots Q ls la st h pc' la' st' h' hfl hx hb hml hown hnm hW hR hlo hl he hc1 hc2 hc3 hc4 kk
  subst hK0
  unfold xe_aast at he
  split at he
  · split at he
    · rename_i i a r _ t n f ho
      split at he
      · rename_i hv
        obtain ⟨hv1, hv2, hv3⟩ := hv
        cases he
        obtain ⟨cell, g2, g3, g4, g5, g6, g7⟩ := (hR.2.2.2 _ _ ho).2
        obtain ⟨C, hC⟩ := hB.2.2.2.2 t hv2
        have g3' := State.isArrayOf_alike hW.alike g3
        rw [show B.2.1 (t, n, f).1 = .object C from hC] at g3'
        refine va_WaastN (C := C) hx hb g2 g3' g4 (by rw [g5]; exact hv3) rfl rfl hd fun H' e1 e2 e3 => ?_
        have := kk H' (locs ++ [⟨G.2.1 a, i.toNatClampNeg⟩]) ls (hR.ast (v := .null) hG hv1 ho g2 e1 e2 e3) (fun q hq => by
              rcases List.mem_append.mp hq with h1 | h1
              · exact hlo q h1
              · rw [List.mem_singleton.mp h1]
                show G.1.heap.size ≤ G.2.1 a
                rw [hG.1 a hv1]; omega) hl
        simpa [xm_put] using this
      · cases he
    · cases he
  · split at he
    · split at he
      · rename_i v i a r _ t n f ho _ o hov
        split at he
        · rename_i hv
          obtain ⟨hv1, hv2, hv4, hv3⟩ := hv
          cases he
          obtain ⟨cell, g2, g3, g4, g5, g6, g7⟩ := (hR.2.2.2 _ _ ho).2
          obtain ⟨rv, cellV, k1, k2, k3, k4, k5, k6, k7⟩ := (hR.2.2.2 _ _ hov).2
          obtain ⟨C, T, N, D, hC, hD, hCD⟩ := hok _ _ hv4
          have hA := (hG.2.2.2.2 t hv2).2
          rw [hD] at hA
          obtain ⟨kA, comp, a1, a2, a3, a4⟩ := va_RA.moved hW.alike hA
          have hcell := g7 hv1
          obtain ⟨⟨hK1, kV, hkV⟩, -⟩ := (hG.2.2.1 _ _ hC).moved hW.alike
          have hlt : i.toNatClampNeg < n := Nat.not_le.mp fun q => hv3 (Or.inr q)
          have hcomp : (∃ kcomp, s.vm.classes[comp]? = some kcomp) ∧ s.vm.assignable cellV.cls comp = true := by
            rw [k3]
            rcases hCD with rfl | hcast
            · have : comp = G.2.2.1 o.1 := Option.some.inj (a3.symm.trans hK1)
              subst this
              exact ⟨⟨kV, hkV⟩, xm_self _ _⟩
            · obtain ⟨c0, t0, f1, f2, f3⟩ := Cond.castable_spec (va_Nw.use (A := args) rfl (va_Nw.warmC hW (hG.2.2.2.1 _ hcast)))
              cases f1.symm.trans hK1
              cases f2.symm.trans a3
              refine ⟨?_, f3⟩
              have ho2 := Vm.classAt_of_findClass a3
              exact ho2
          obtain ⟨⟨kcomp, hkc⟩, hasg⟩ := hcomp
          refine W.aast hx hb g2 (fun q h0 => by rw [hcell] at h0; cases h0) g4 (by rw [hcell]; exact a1) a2 rfl hkc ⟨fun q => hv3 (Or.inl q), by rw [g5]; exact hlt⟩ k2 (fun q h0 => by rw [h0] at k5; cases k5) (by rw [k3]; exact hkV) hasg rfl rfl hd fun H' e1 e2 e3 => ?_
          have := kk H' (locs ++ [⟨G.2.1 a, i.toNatClampNeg⟩]) ls (hR.ast (v := .ref v) hG hv1 ho g2 e1 e2 e3) (fun q hq => by
              rcases List.mem_append.mp hq with h1 | h1
              · exact hlo q h1
              · rw [List.mem_singleton.mp h1]
                show G.1.heap.size ≤ G.2.1 a
                rw [hG.1 a hv1]; omega) hl
          simpa [xm_put] using this
        · cases he
      · cases he
    · cases he
  · cases he
end XArr
