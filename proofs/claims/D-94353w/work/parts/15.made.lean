/-! NEW OBJECTS AND ARRAYS, CASTS, CONSTANTS, SWITCHES -/
section XMade
variable {B : xm_T} {G : xm_G} {own nm : String} {cc : ByteArray} {nL pc : Nat}
def xm_dv (ty : Nat → FieldType) : Nat → Value := fun j => defaultValue (ty j)
theorem xm_cv_default (ad : Nat → Nat) (ty : FieldType) : xm_cv ad (defaultValue ty) = defaultValue ty := by cases ty <;> rfl
/-- a class that is made: its number, how many slots, what a new object holds -/
def xm_nw (B : xm_T) (own : String) (index ci M : Nat) (fs : Nat → Value) : Prop := ∃ C T N, B.1[ci]? = some (C, T, N) ∧ (∀ w ∈ u_ws C T N, w ∈ lw_all) ∧ Cond.instantiable C M ∈ lw_all ∧ Cond.initialized C ∈ lw_all ∧ Cond.classLink own index C ∈ lw_all ∧
  ∃ ty : Nat → FieldType, (∀ k, k < N → parseFieldDescriptor (T k).2.2.1 = some (ty k)) ∧ ∀ k, k < N → fs k = defaultValue (ty k)
def xe_new (ci N : Nat) (fs : Nat → Value) (nx : Nat) : xm_E := fun la st h => some (nx, la, .ref h.1 :: st, xm_new h N (.inl (ci, fs)))
theorem xo_new (hG : xm_W B G) {index ci N : Nat} {fs : Nat → Value} (hn : xm_nw B own index ci N fs) (hd : decode cc pc = .ok (.new index, 3)) : xm_OK B G own nm cc nL pc (xe_new ci N fs (pc + 3)) := by
  intro p l e R s m args below meth c H locs cells slots Q ls la st h pc' la' st' h' hfl hx hb hml hown hnm hW hR hlo hl he hc1 hc2 hc3 hc4 kk
  cases he
  obtain ⟨C, T, N0, hC, hin, hins, hini, hlk, ty, hty, hfs⟩ := hn
  have hts := xm_words hG hW args
  have hKn := (hG.2.2.1 _ _ hC).moved hW.alike
  have e1 : (xm_new h N (.inl (ci, fs))).1 - h.1 = 1 := by simp only [xm_new]; omega
  have e2 : (xm_new h N (.inl (ci, fs))).2.1 - h.2.1 = N := by simp only [xm_new]; omega
  rw [e1] at hc1 kk
  rw [e2] at hc2 kk
  refine W.newcK hx hb hown (hts _ hlk) (hts _ hins) (hts _ hini) rfl hd hc1 hc2 hKn.1.1 (hR.at hG) fun H1 kC hkC e1 z1 o1 => ?_
  rw [← hR.at hG] at e1 z1 o1
  refine kk H1 locs ls (hR.new hG z1 o1 ⟨_, _, hC, by rw [← hR.at hG]; exact e1, rfl, (fun q => by cases q), rfl, (fun _ => rfl), fun k hk => ?_⟩) hlo hl
  obtain ⟨cf, kf, fi, fd, hi, hst, hsl⟩ := hKn.2 k hk
  have h3 := (u_facts hKn.1.1 hkC (u_lays hts hin hk) hi).2.2
  rw [(State.fieldFound?_type hi (hty k hk)).2] at h3
  show _ = some (xm_cv G.2.1 (fs k))
  rw [← hsl, hfs k hk, xm_cv_default]
  exact k2_blank h3
def xe_newa (t : Nat) (v : Value) (mx nx : Nat) : xm_E := fun la st h => match st with
  | .int n :: r => if n < 0 ∨ mx < n.toNatClampNeg then none else some (nx, la, .ref h.1 :: r, xm_new h n.toNatClampNeg (.inr (t, n.toNatClampNeg, fun _ => v)))
  | _ => none
theorem xm_arr_new (hG : xm_W B G) {s : State} (hW : G.1.WarmedH s.vm) {t : Nat} (ht : t < 8) {cA : ClassId} (h : s.vm.findClass ("[" ++ (B.2.1 t).toString) = some cA) : cA = G.2.2.2.2 t := by
  have hA := (hG.2.2.2.2 t ht).2
  have hA' := hA.moved hW.alike
  revert h hA'
  generalize B.2.1 t = ty
  intro h hA'
  cases ty with
  | object C =>
    obtain ⟨kA, comp, h1, h2, h3, h4⟩ := hA'
    exact Option.some.inj (h.symm.trans h4)
  | _ => exact Option.some.inj (h.symm.trans hA')
theorem xo_newa (hG : xm_W B G) {t mx : Nat} (ht : t < 8) {at0 : ArrayType} (hty : B.2.1 t = newarray.typeOf at0) {v : Value} (hv : v = defaultValue (newarray.typeOf at0)) (hmx : mx * 8 ≤ 536870912) (hw : Cond.arrayClass (newarray.typeOf at0) ∈ lw_all) (hd : decode cc pc = .ok (.newarray at0, 2)) : xm_OK B G own nm cc nL pc (xe_newa t v mx (pc + 2)) := by
  intro p l e R s m args below meth c H locs cells slots Q ls la st h pc' la' st' h' hfl hx hb hml hown hnm hW hR hlo hl he hc1 hc2 hc3 hc4 kk
  unfold xe_newa at he
  split at he
  · split at he
    · cases he
    · rename_i n r hn
      cases he
      subst hv
      have e1 : (xm_new h n.toNatClampNeg (.inr (t, n.toNatClampNeg, fun _ => defaultValue (newarray.typeOf at0)))).1 - h.1 = 1 := by simp only [xm_new]; omega
      have e2 : (xm_new h n.toNatClampNeg (.inr (t, n.toNatClampNeg, fun _ => defaultValue (newarray.typeOf at0)))).2.1 - h.2.1 = n.toNatClampNeg := by simp only [xm_new]; omega
      rw [e1] at hc1 kk
      rw [e2] at hc2 kk
      have hb8 : componentBytes (newarray.typeOf at0) ≤ 8 := by cases at0 <;> decide
      have hn1 : n.toNatClampNeg ≤ mx := by have : ¬ mx < n.toNatClampNeg := fun q => hn (Or.inr q); omega
      refine va_newaK hx hb (xm_word hG hW hw args) rfl hd rfl (fun q => hn (Or.inl q)) rfl (by
        have : n.toNatClampNeg * componentBytes (newarray.typeOf at0) ≤ mx * 8 := Nat.mul_le_mul hn1 hb8
        omega) hc1 hc2 (hR.at hG) fun H1 cA f1 z1 o1 f2 f3 => ?_
      rw [← hR.at hG] at f1 z1 o1
      have hcA : cA = G.2.2.2.2 t := xm_arr_new hG hW ht (by rw [hty]; exact f3)
      subst hcA
      refine kk H1 locs ls (hR.new hG z1 o1 ⟨_, by rw [← hR.at hG]; exact f1, ?_, (fun q => by cases q), arrV_size _ _ _, (fun j hj => ?_), (fun _ => ?_)⟩) hlo hl
      · exact (hG.2.2.2.2 t ht).1 _ _
      · rw [arrV_read _ _ hj, xm_cv_default]
      · simp only [xm_cv_default]
  · cases he
theorem xo_anewa (hG : xm_W B G) {t mx index : Nat} (ht : t < 8) {C : String} (hty : B.2.1 t = .object C) (hmx : mx * 8 ≤ 536870912) (hlk : Cond.classLink own index C ∈ lw_all) (hov : Cond.arrayOver (.object C) ∈ lw_tbl) (hd : decode cc pc = .ok (.anewarray index, 3)) : xm_OK B G own nm cc nL pc (xe_newa t .null mx (pc + 3)) := by
  intro p l e R s m args below meth c H locs cells slots Q ls la st h pc' la' st' h' hfl hx hb hml hown hnm hW hR hlo hl he hc1 hc2 hc3 hc4 kk
  unfold xe_newa at he
  split at he
  · split at he
    · cases he
    · rename_i n r hn
      cases he
      have e1 : (xm_new h n.toNatClampNeg (.inr (t, n.toNatClampNeg, fun _ => Value.null))).1 - h.1 = 1 := by simp only [xm_new]; omega
      have e2 : (xm_new h n.toNatClampNeg (.inr (t, n.toNatClampNeg, fun _ => Value.null))).2.1 - h.2.1 = n.toNatClampNeg := by simp only [xm_new]; omega
      rw [e1] at hc1 kk
      rw [e2] at hc2 kk
      have hn1 : n.toNatClampNeg ≤ mx := by have : ¬ mx < n.toNatClampNeg := fun q => hn (Or.inr q); omega
      refine W.anew hx hb hown (xm_word hG hW hlk args) (va_AO.use (va_AO.moved hW.alike (hG.2.2.2.1 _ hov))) rfl hd rfl (fun q => hn (Or.inl q)) (by omega) hc1 hc2 fun cA kA comp f1 f2 f3 f4 => ?_
      generalize hH1 : H.push ({ cls := cA, slots := Array.replicate n.toNatClampNeg .null, vm := .none } : Cell) = H1
      have z1 : H1.size = H.size + 1 := by rw [← hH1, Array.size_push]
      have e1 : H1[H.size]? = some (arrV cA n.toNatClampNeg (fun _ => .null)) := by rw [← hH1, Array.getElem?_push_size, ← arrV_new]
      have o1 : ∀ q, q < H.size → H1[q]? = H[q]? := fun q hq => by rw [← hH1, Array.getElem?_push, if_neg (Nat.ne_of_lt hq)]
      have hcA : cA = G.2.2.2.2 t := xm_arr_new hG hW ht (by rw [hty]; exact f1)
      subst hcA
      have := kk H1 locs ls (hR.new hG z1 o1 ⟨_, by rw [← hR.at hG]; exact e1, (hG.2.2.2.2 t ht).1 _ _, (fun q => by cases q), arrV_size _ _ _, (fun j hj => arrV_read _ _ hj), (fun _ => rfl)⟩) hlo hl
      rw [hR.at hG]
      exact this
  · cases he
/-- Object's own constructor -/
def xe_objInit (nx : Nat) : xm_E := fun la st h => match st with
  | .ref _ :: r => if (r.map fun v => v.category).sum ≤ 20 then some (nx, la, r, h) else none
  | _ => none
theorem xo_objInit (hG : xm_W B G) {idx : Nat} (h1 : Cond.methodLink own idx Lib.objectInit ∈ lw_all) (h2 : Cond.instanceMethod Lib.objectInit ∈ lw_all) (h3 : Cond.code Lib.objectInit ⟨#[0xb1]⟩ 1 none ∈ lw_all) (hd : decode cc pc = .ok (.invokespecial idx, 3)) : xm_OK B G own nm cc nL pc (xe_objInit (pc + 3)) := by
  intro p l e R s m args below meth c H locs cells slots Q ls la st h pc' la' st' h' hfl hx hb hml hown hnm hW hR hlo hl he hc1 hc2 hc3 hc4 kk
  unfold xe_objInit at he
  split at he
  · split at he
    · rename_i a r hr
      cases he
      have hts := xm_words hG hW args
      have k1 : W p l e R s m args below meth c H locs cells slots Q (F0 m (pc + 3) ls (st'.map (xm_cv G.2.1))) := by
        have := kk H locs ls hR hlo hl
        rwa [Nat.sub_self, Nat.sub_self, Nat.add_zero, Nat.add_zero] at this
      refine W.objInit hx hb hown (hts _ h1) (hts _ h2) (hts _ h3) rfl (by rw [hml]; exact hl.2.1) rfl hd hc3 ?_ k1
      rw [xm_cv_cats]
      show 2 * 0 + _ + 12 ≤ _
      omega
    · cases he
  · cases he
/-- a cast that holds -/
def xe_cast (ok : Nat → Bool) (nx : Nat) : xm_E := fun la st h => match st with
  | .null :: r => some (nx, la, .null :: r, h)
  | .ref a :: r => match h.2.2 a with
    | some (.inl o) => if ok o.1 = true then some (nx, la, .ref a :: r, h) else none
    | _ => none
  | _ => none
theorem xo_cast (hG : xm_W B G) {index : Nat} {D : String} {ok : Nat → Bool} (hlk : Cond.classLink own index D ∈ lw_all) (hok : ∀ ci, ok ci = true → ∃ C T N, B.1[ci]? = some (C, T, N) ∧ (C = D ∨ Cond.castable C D ∈ lw_tbl)) (hd : decode cc pc = .ok (.checkcast index, 3)) : xm_OK B G own nm cc nL pc (xe_cast ok (pc + 3)) := by
  intro p l e R s m args below meth c H locs cells slots Q ls la st h pc' la' st' h' hfl hx hb hml hown hnm hW hR hlo hl he hc1 hc2 hc3 hc4 kk
  unfold xe_cast at he
  split at he
  · rename_i r
    cases he
    have k1 : W p l e R s m args below meth c H locs cells slots Q (F0 m (pc + 3) ls (.null :: r.map (xm_cv G.2.1))) := by
      have := kk H locs ls hR hlo hl
      rwa [Nat.sub_self, Nat.sub_self, Nat.add_zero, Nat.add_zero] at this
    exact lv_castN hx hb hd k1
  · split at he
    · rename_i a r _ o ho
      split at he
      · rename_i hv
        cases he
        have k1 : W p l e R s m args below meth c H locs cells slots Q (F0 m (pc + 3) ls (.ref (G.2.1 a) :: r.map (xm_cv G.2.1))) := by
          have := kk H locs ls hR hlo hl
          rwa [Nat.sub_self, Nat.sub_self, Nat.add_zero, Nat.add_zero] at this
        obtain ⟨r0, cell, g1, g2, g3, g4, g5, g6, g7⟩ := (hR.2.2.2 _ _ ho).2
        obtain ⟨C, T, N, hC, hCD⟩ := hok _ hv
        have hKn := (hG.2.2.1 _ _ hC).moved hW.alike
        have hcc : s.vm.findClass C = some cell.cls := by rw [g3]; exact hKn.1.1
        have hD : ∃ t0, s.vm.findClass D = some t0 ∧ s.vm.assignable cell.cls t0 = true := by
          rcases hCD with rfl | hcast
          · exact ⟨_, hcc, xm_self _ _⟩
          · obtain ⟨c0, t0, f1, f2, f3⟩ := Cond.castable_spec (va_Nw.use (A := args) rfl (va_Nw.warmC hW (hG.2.2.2.1 _ hcast)))
            cases f1.symm.trans hcc
            exact ⟨t0, f2, f3⟩
        obtain ⟨t0, f2, f3⟩ := hD
        intro T hT X
        obtain ⟨vm', X', stp⟩ := X.checkcastYes hx hown (xm_word hG hW hlk args) (by rw [hT]; exact g2) g5 f2 f3 (g := F0 m pc ls (.ref (G.2.1 a) :: r.map (xm_cv G.2.1))) rfl rfl (by rw [hb]; exact hd)
        obtain ⟨t, a1, b1⟩ := k1 (T.setVm vm') hT X'
        exact ⟨t, stp t a1, b1⟩
      · cases he
    · cases he
  · cases he
theorem xm_const {v : Value} {nx : Nat}
    (hf : ∀ (p : Program) (l : Launch) (e : Env) (R : Room) (s : State) (m : MethodId) (args : Array Value) (below : List Frame) (meth : Method) (c : Code) (H : Heap) (locs : List Loc) (cells slots : Nat) (Q : State → Prop) (ls : Array Slot) (rest : List Value),
      p.tables.exec = Jvm.exec → c.code = cc → s.vm.findClass own = some m.cls → G.1.WarmedH s.vm → (∀ q : Nat, q < G.1.heap.size → H[q]? = G.1.heap[q]?) →
        W p l e R s m args below meth c H locs cells slots Q (F0 m nx ls (xm_cv G.2.1 v :: rest)) → W p l e R s m args below meth c H locs cells slots Q (F0 m pc ls rest)) : xm_OK B G own nm cc nL pc (xe_push v nx) := by
  intro p l e R s m args below meth c H locs cells slots Q ls la st h pc' la' st' h' hfl hx hb hml hown hnm hW hR hlo hl he hc1 hc2 hc3 hc4 kk
  cases he
  refine hf p l e R s m args below meth c H locs cells slots Q ls (st.map (xm_cv G.2.1)) hx hb hown hW hR.2.2.1 ?_
  have := kk H locs ls hR hlo hl
  rwa [Nat.sub_self, Nat.sub_self, Nat.add_zero, Nat.add_zero] at this
theorem xo_ldc (hG : xm_W B G) {index : Nat} {v : Int32} (hw : Cond.constant own index v ∈ lw_all) (hd : decode cc pc = .ok (.ldc index, 2)) : xm_OK B G own nm cc nL pc (xe_push (.int v) (pc + 2)) :=
  xm_const fun p l e R s m args below meth c H locs cells slots Q ls rest hx hb hown hW hH k => lv_ldc hx hb hown (xm_word hG hW hw args) hd k
theorem xo_ldc2 (hG : xm_W B G) {index : Nat} {v : Int64} (hw : Cond.constantLong own index v ∈ lw_all) (hd : decode cc pc = .ok (.ldc2_w index, 3)) : xm_OK B G own nm cc nL pc (xe_push (.long v) (pc + 3)) :=
  xm_const fun p l e R s m args below meth c H locs cells slots Q ls rest hx hb hown hW hH k => lv_ldc2 hx hb hown (xm_word hG hW hw args) hd k
theorem xo_ldcS {index k : Nat} {tx : String} (hw : vk_R own index tx (G.2.1 k) G.1) (hd : decode cc pc = .ok (.ldc index, 2)) : xm_OK B G own nm cc nL pc (xe_push (.ref k) (pc + 2)) :=
  xm_const fun p l e R s m args below meth c H locs cells slots Q ls rest hx hb hown hW hH k1 => va_ldcS hx hb hown (hw.warm hW) hd k1
theorem xo_gets (hG : xm_W B G) {index : Nat} {C n d : String} {v : Value} (hZ : va_Z C n d (xm_cv G.2.1 v) (fun q => G.1.heap.size ≤ q) G.1 G.1.heap) (hw : Cond.fieldLink own index C n d ∈ lw_all) (hd : decode cc pc = .ok (.getstatic index, 3)) : xm_OK B G own nm cc nL pc (xe_push v (pc + 3)) :=
  xm_const fun p l e R s m args below meth c H locs cells slots Q ls rest hx hb hown hW hH k => by
    obtain ⟨cf, kf, fi, f, a, cell, h1, h2, h3, h4, h5, h6, h7, h8⟩ := hZ.moved hW.alike
    exact W.gets hx hb hown (xm_word hG hW hw args) h1 h2 h3 h4 (by rw [hH a (Nat.not_le.mp h8)]; exact h5) (fun e => by rw [e] at h6; cases h6) h7 rfl hd k
/-- a table of places -/
theorem xo_switch {dflt lo hi : Int} {offs : Array Int} {len : Nat} {tgs : List Nat} {dt : Nat} (hsz : ∀ k : Nat, tgs[k]? = none → hi < lo + (k : Int)) (hof : ∀ (k tg : Nat), tgs[k]? = some tg → ∃ off, offs[k]? = some off ∧ (pc : Int) + off = (tg : Int)) (hlen : lo + tgs.length ≤ hi + 1) (hdt : (pc : Int) + dflt = (dt : Int)) (hd : decode cc pc = .ok (.tableswitch dflt lo hi offs, len)) : xm_OK B G own nm cc nL pc (xe_sw lo tgs dt) := by
  refine xm_pure fun p l e R s m args below meth c H locs cells slots Q ls la st h pc' la' st' h' hx hb hl he => ?_
  unfold xe_sw at he
  split at he
  · rename_i x r
    cases he
    refine ⟨rfl, rfl, fun k => ?_⟩
    by_cases h1 : x.toInt < lo
    · rw [if_pos h1] at k
      exact lv_tableOut hx hb hd (Or.inl h1) hdt k
    · rw [if_neg h1] at k
      cases ht : tgs[(x.toInt - lo).toNat]? with
      | none =>
        rw [ht] at k
        have := hsz _ ht
        exact lv_tableOut hx hb hd (Or.inr (by omega)) hdt k
      | some tg =>
        rw [ht] at k
        obtain ⟨off, ho, hp⟩ := hof _ _ ht
        have h2 := (List.getElem?_eq_some_iff.mp ht).1
        exact lv_tableIn hx hb hd h1 (by omega) ho hp k
  · cases he
end XMade
