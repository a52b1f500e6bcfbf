/-! RETURNS AND CALLS -/
section XRet
variable {G : xm_G} {cc : ByteArray} {pc : Nat}
def xr_i (st : List Value) : Option (Option Value) := match st with
  | [.int v] => some (some (.int v))
  | _ => none
def xr_z (st : List Value) : Option (Option Value) := match st with
  | [.int v] => if v = 0 ∨ v = 1 then some (some (.int v)) else none
  | _ => none
def xr_c (st : List Value) : Option (Option Value) := match st with
  | [.int v] => if narrow .char (.int v) = .int v then some (some (.int v)) else none
  | _ => none
def xr_b (st : List Value) : Option (Option Value) := match st with
  | [.int v] => if narrow .byte (.int v) = .int v then some (some (.int v)) else none
  | _ => none
def xr_l (st : List Value) : Option (Option Value) := match st with
  | [.long v] => some (some (.long v))
  | _ => none
def xr_a (st : List Value) : Option (Option Value) := match st with
  | [.ref v] => some (some (.ref v))
  | [.null] => some (some .null)
  | _ => none
def xr_v (st : List Value) : Option (Option Value) := match st with
  | [] => some none
  | _ => none
theorem xt_i (hd : decode cc pc = .ok (.ireturn, 1)) : xm_RO G cc (some .int) pc xr_i := by
  intro p l e R s m args below meth c H locs cells slots ls st v hx hb hr hlocks hlo he
  unfold xr_i at he
  split at he
  · cases he
    exact W.iret hx hb hr (fun t ht _ => ⟨rfl, ht⟩) hlo hd hlocks
  · cases he
theorem xt_z (hd : decode cc pc = .ok (.ireturn, 1)) : xm_RO G cc (some .boolean) pc xr_z := by
  intro p l e R s m args below meth c H locs cells slots ls st v hx hb hr hlocks hlo he
  unfold xr_z at he
  split at he
  · split at he
    · rename_i x hz
      cases he
      exact W.zret hx hb hr (by rcases hz with rfl | rfl <;> rfl) (fun t ht _ => ⟨rfl, ht⟩) hlo hd hlocks
    · cases he
  · cases he
theorem xt_c (hd : decode cc pc = .ok (.ireturn, 1)) : xm_RO G cc (some .char) pc xr_c := by
  intro p l e R s m args below meth c H locs cells slots ls st v hx hb hr hlocks hlo he
  unfold xr_c at he
  split at he
  · split at he
    · rename_i x hz
      cases he
      exact W.zret hx hb hr hz (fun t ht _ => ⟨rfl, ht⟩) hlo hd hlocks
    · cases he
  · cases he
theorem xt_b (hd : decode cc pc = .ok (.ireturn, 1)) : xm_RO G cc (some .byte) pc xr_b := by
  intro p l e R s m args below meth c H locs cells slots ls st v hx hb hr hlocks hlo he
  unfold xr_b at he
  split at he
  · split at he
    · rename_i x hz
      cases he
      exact W.zret hx hb hr hz (fun t ht _ => ⟨rfl, ht⟩) hlo hd hlocks
    · cases he
  · cases he
theorem xt_l (hd : decode cc pc = .ok (.lreturn, 1)) : xm_RO G cc (some .long) pc xr_l := by
  intro p l e R s m args below meth c H locs cells slots ls st v hx hb hr hlocks hlo he
  unfold xr_l at he
  split at he
  · cases he
    exact W.lret hx hb hr (fun t ht _ => ⟨rfl, ht⟩) hlo hd hlocks
  · cases he
theorem xt_v (hd : decode cc pc = .ok (.return_, 1)) : xm_RO G cc none pc xr_v := by
  intro p l e R s m args below meth c H locs cells slots ls st v hx hb hr hlocks hlo he
  unfold xr_v at he
  split at he
  · cases he
    exact W.vret hx hb hr (fun t ht _ => ⟨rfl, ht⟩) hlo hd hlocks
  · cases he
theorem xt_a {rt : FieldType} (hrt : (∃ n, rt = .object n) ∨ ∃ t, rt = .array t) (hd : decode cc pc = .ok (.areturn, 1)) : xm_RO G cc (some rt) pc xr_a := by
  intro p l e R s m args below meth c H locs cells slots ls st v hx hb hr hlocks hlo he
  unfold xr_a at he
  split at he
  · cases he
    exact W.aret hx hb hr hrt (Or.inr ⟨_, rfl⟩) (fun t ht _ => ⟨rfl, ht⟩) hlo hd hlocks
  · cases he
    exact W.aret hx hb hr hrt (Or.inl rfl) (fun t ht _ => ⟨rfl, ht⟩) hlo hd hlocks
  · cases he
end XRet
/-- arguments off the stack, the last first, by their kinds -/
def xm_pop : List Nat → List Value → List Value → Option (List Value × List Value)
  | [], acc, st => some (acc, st)
  | 0 :: ks, acc, .int x :: st => xm_pop ks (.int x :: acc) st
  | 1 :: ks, acc, .long x :: st => xm_pop ks (.long x :: acc) st
  | 2 :: ks, acc, .ref x :: st => xm_pop ks (.ref x :: acc) st
  | 2 :: ks, acc, .null :: st => xm_pop ks (.null :: acc) st
  | 2 :: ks, acc, .retAddr 1 :: st => xm_pop ks (.retAddr 1 :: acc) st
  | _, _, _ => none
def xm_ksz : List Nat → Nat
  | [] => 0
  | k :: ks => (if k = 1 then 2 else 1) + xm_ksz ks
theorem xm_pop_spec : ∀ (ks : List Nat) (acc st av rest : List Value), xm_pop ks acc st = some (av, rest) → ∃ bs : List Value, st = bs ++ rest ∧ av = bs.reverse ++ acc ∧ bs.length = ks.length ∧ (xm_sl av).length = xm_ksz ks + (xm_sl acc).length
  | [], acc, st, av, rest, h => by
    simp only [xm_pop, Option.some.injEq, Prod.mk.injEq] at h
    obtain ⟨rfl, rfl⟩ := h
    exact ⟨[], rfl, rfl, rfl, by simp [xm_ksz]⟩
  | k :: ks, acc, st, av, rest, h => by
    unfold xm_pop at h
    split at h
    · rename_i hk; cases hk
    · rename_i hk
      cases hk
      obtain ⟨bs, h1, h2, h3, h4⟩ := xm_pop_spec _ _ _ _ _ h
      exact ⟨_ :: bs, by rw [h1]; rfl, by rw [h2]; simp, by simp [h3], by rw [h4]; simp only [xm_sl, xm_ksz, List.length_cons]; simp; omega⟩
    · rename_i hk
      cases hk
      obtain ⟨bs, h1, h2, h3, h4⟩ := xm_pop_spec _ _ _ _ _ h
      exact ⟨_ :: bs, by rw [h1]; rfl, by rw [h2]; simp, by simp [h3], by rw [h4]; simp only [xm_sl, xm_ksz, List.length_cons]; simp; omega⟩
    · rename_i hk
      cases hk
      obtain ⟨bs, h1, h2, h3, h4⟩ := xm_pop_spec _ _ _ _ _ h
      exact ⟨_ :: bs, by rw [h1]; rfl, by rw [h2]; simp, by simp [h3], by rw [h4]; simp only [xm_sl, xm_ksz, List.length_cons]; simp; omega⟩
    · rename_i hk
      cases hk
      obtain ⟨bs, h1, h2, h3, h4⟩ := xm_pop_spec _ _ _ _ _ h
      exact ⟨_ :: bs, by rw [h1]; rfl, by rw [h2]; simp, by simp [h3], by rw [h4]; simp only [xm_sl, xm_ksz, List.length_cons]; simp; omega⟩
    · rename_i hk
      cases hk
      obtain ⟨bs, h1, h2, h3, h4⟩ := xm_pop_spec _ _ _ _ _ h
      exact ⟨_ :: bs, by rw [h1]; rfl, by rw [h2]; simp, by simp [h3], by rw [h4]; simp only [xm_sl, xm_ksz, List.length_cons]; simp; omega⟩
    · cases h
def xc_S (y : Nat) (ks : List Nat) (st : List Value) (_ : xm_H) : Option (Nat × List Value × List Value) := match xm_pop ks [] st with
  | some (av, rest) => if (rest.map fun v => v.category).sum ≤ 20 then some (y, av, rest) else none
  | none => none
def xc_I (y : Nat) (ks : List Nat) (st : List Value) (_ : xm_H) : Option (Nat × List Value × List Value) := match xm_pop ks [] st with
  | some (av, .ref b :: rest) => if (rest.map fun v => v.category).sum ≤ 20 then some (y, .ref b :: av, rest) else none
  | _ => none
def xc_V (vt : Nat → Option Nat) (ks : List Nat) (st : List Value) (h : xm_H) : Option (Nat × List Value × List Value) := match xm_pop ks [] st with
  | some (av, .ref b :: rest) => match h.2.2 b with
    | some (.inl o) => match vt o.1 with
      | some y => if (rest.map fun v => v.category).sum ≤ 20 then some (y, .ref b :: av, rest) else none
      | none => none
    | _ => none
  | _ => none
def xm_nh (y : MethodName) : Prop := y.cls ≠ "java/lang/invoke/MethodHandle" ∧ y.cls ≠ "java/lang/invoke/VarHandle"
abbrev xm_ar (y : MethodName) (ks : List Nat) : Prop := (parseMethodDescriptor y.desc).map (fun s => s.parameters.length) = some ks.length
theorem xm_ar.len {y : MethodName} {ks : List Nat} (h : xm_ar y ks) {n : Nat} (hn : n = ks.length) : ∀ sig, parseMethodDescriptor y.desc = some sig → n = sig.parameters.length := by
  intro sig hs
  unfold xm_ar at h
  rw [hs] at h
  rw [hn]
  exact (Option.some.inj h).symm
theorem xm_wd_sig {x : MethodName × ByteArray × Nat × Option FieldType × xm_Hs} {args : Array Value} {s : State} {m : MethodId} {meth : Method} (h : (xm_wd x).before args s = true) (hn : s.methodNamed? x.1 = some m) (hm : s.vm.method? m = some meth) : parseMethodDescriptor x.1.desc = some meth.sig := by
  obtain ⟨y, b, L, r, hs⟩ := x
  unfold xm_wd at h
  cases hs with
  | nil =>
    obtain ⟨meth', c, h1, h2, h3, h4, h5, h6, h7, h8⟩ := Cond.code_spec hn h
    cases hm.symm.trans h1
    exact h8
  | cons q hs =>
    obtain ⟨m', meth', c, h0, h1, h2, h3, h4, h5, h6, h7, h8⟩ := Cond.codeWith_spec h
    cases hn.symm.trans h0
    cases hm.symm.trans h1
    exact h8
theorem xm_wd_named {x : MethodName × ByteArray × Nat × Option FieldType × xm_Hs} {args : Array Value} {s : State} (h : (xm_wd x).before args s = true) : ∃ m, s.methodNamed? x.1 = some m := by
  obtain ⟨y, b, L, r, hs⟩ := x
  unfold xm_wd at h
  cases hs with
  | nil => exact Cond.code_named h
  | cons q hs =>
    obtain ⟨m', meth', c, h0, -⟩ := Cond.codeWith_spec h
    exact ⟨m', h0⟩
section XInv
variable {B : xm_T} {G : xm_G} {D : xm_D} {own : String} {cc : ByteArray} {pc : Nat}
theorem xc_S_ok (hG : xm_W B G) {y index : Nat} {ks : List Nat} (hy : xm_DO (D y)) (har : xm_ar (D y).1 ks) (hnh : xm_nh (D y).1) (hsz : xm_ksz ks ≤ (D y).2.2.1) (hmx : (D y).2.2.1 ≤ 19) (hst : Cond.static (D y).1 ∈ lw_all)
    (hlk : Cond.methodLink own index (D y).1 ∈ lw_all ∨ ∃ host, Cond.methodLinkNest own index (D y).1 host ∈ lw_tbl) (hd : decode cc pc = .ok (.invokestatic index, 3)) : xm_CO B G D own cc pc (xc_S y ks) := by
  refine ⟨⟨_, hd⟩, ?_⟩
  intro p l e R s m args below meth c T locs cells slots ls st h y' av rest hx hb hown hW X hR he
  unfold xc_S at he
  split at he
  · rename_i av0 rest0 hpop
    split at he
    · rename_i hsum
      cases he
      obtain ⟨bs, h1, h2, h3, h4⟩ := xm_pop_spec _ _ _ _ _ hpop
      rw [List.append_nil] at h2
      refine ⟨hsum, by rw [← xm_sl_len, h4]; simpa [xm_sl] using hsz, hmx, ?_⟩
      have hts := xm_words hG hW args
      have hcode := hts _ hy.2.1
      obtain ⟨mk, hnamed⟩ := xm_wd_named hcode
      obtain ⟨methM, cM, hmethM, -⟩ := xm_wd_spec hcode hnamed
      have hsig := xm_wd_sig hcode hnamed hmethM
      have hstatic : methM.isStatic = true := Cond.static_spec hnamed hmethM (hts _ hst)
      obtain ⟨kP, hkP, -⟩ := className_of_methodNamed hnamed
      have hinitP : kP.init = .initialized := Cond.initialized_spec (findClass_of_methodNamed hnamed) hkP (hts _ hy.2.2)
      have hstk : st.map (xm_cv G.2.1) = (av.map (xm_cv G.2.1)).reverse ++ rest.map (xm_cv G.2.1) := by
        rw [h1, h2, List.map_append, List.map_reverse, List.reverse_reverse]
      have hlen : (av.map (xm_cv G.2.1)).length = methM.sig.parameters.length := har.len (by rw [List.length_map, h2, List.length_reverse, h3]) _ hsig
      rcases hlk with hlk | ⟨host, hlk⟩
      · obtain ⟨vm₁, X₁, hstep₁⟩ := X.invokestatic hx hown (hts _ hlk) hnamed hmethM hstatic hkP hinitP hnh (g := F0 m pc ls (st.map (xm_cv G.2.1))) rfl (argsL := av.map (xm_cv G.2.1)) (rest := rest.map (xm_cv G.2.1)) hlen hstk (by rw [hb]; exact hd)
        exact ⟨mk, vm₁, hnamed, X₁, fun target h => hstep₁ _ fun acts => by rw [doInvoke_state]; exact h⟩
      · obtain ⟨vm₁, X₁, hstep₁⟩ := X.invokestaticNest hx hown (va_Nw.use rfl (va_Nw.warmM hW (hG.2.2.2.1 _ hlk))) hnamed hmethM hstatic hkP hinitP hnh (g := F0 m pc ls (st.map (xm_cv G.2.1))) rfl (argsL := av.map (xm_cv G.2.1)) (rest := rest.map (xm_cv G.2.1)) hlen hstk (by rw [hb]; exact hd)
        exact ⟨mk, vm₁, hnamed, X₁, fun target h => hstep₁ _ fun acts => by rw [doInvoke_state]; exact h⟩
    · cases he
  · cases he
theorem xc_I_ok (hG : xm_W B G) {y index : Nat} {ks : List Nat} (hy : xm_DO (D y)) (hhs : (D y).2.2.2.2 = []) (hret : (D y).2.2.2.1 = none) (hinit : (D y).1.name = "<init>") (har : xm_ar (D y).1 ks) (hnh : xm_nh (D y).1) (hsz : xm_ksz ks + 1 ≤ (D y).2.2.1) (hmx : (D y).2.2.1 ≤ 19) (hin : Cond.instanceMethod (D y).1 ∈ lw_all)
    (hlk : Cond.methodLink own index (D y).1 ∈ lw_all ∨ ∃ host, Cond.methodLinkNest own index (D y).1 host ∈ lw_tbl) (hd : decode cc pc = .ok (.invokespecial index, 3)) : xm_CO B G D own cc pc (xc_I y ks) := by
  refine ⟨⟨_, hd⟩, ?_⟩
  intro p l e R s m args below meth c T locs cells slots ls st h y' av rest hx hb hown hW X hR he
  unfold xc_I at he
  split at he
  · rename_i av0 b rest0 hpop
    split at he
    · rename_i hsum
      cases he
      obtain ⟨bs, h1, h2, h3, h4⟩ := xm_pop_spec _ _ _ _ _ hpop
      rw [List.append_nil] at h2
      refine ⟨hsum, by rw [← xm_sl_len]; simp only [xm_sl, List.length_cons]; rw [h4]; simpa [xm_sl] using hsz, hmx, ?_⟩
      have hts := xm_words hG hW args
      have hcode := hts _ hy.2.1
      have hcode2 : (Cond.code (D y).1 (D y).2.1 (D y).2.2.1 none).before args s = true := by
        unfold xm_wd at hcode
        rw [hhs, hret] at hcode
        exact hcode
      have hpl : e.platform.magicAccessors = ({} : Platform).magicAccessors := by rw [X.admits.platform]
      have hstk : st.map (xm_cv G.2.1) = (av0.map (xm_cv G.2.1)).reverse ++ .ref (G.2.1 b) :: rest.map (xm_cv G.2.1) := by
        rw [h1, h2, List.map_append, List.map_reverse, List.reverse_reverse]; rfl
      have hlen := har.len (n := (av0.map (xm_cv G.2.1)).length) (by rw [List.length_map, h2, List.length_reverse, h3])
      have hmX : (F0 m pc ls (st.map (xm_cv G.2.1))).method = m := rfl
      rcases hlk with hlk | ⟨host, hlk⟩
      · obtain ⟨mk, methM, cM, kP, vm₁, hnamed, hmethM, hcodeM, -, hlocalsM, -, hkP, -, hW₁, hstep₁⟩ := Steps.initColdArgs (e := e) X.here hx X.warmed hpl hown hinit hnh (hts _ hlk) (hts _ hin) hcode2 (f := F0 m pc ls (st.map (xm_cv G.2.1))) rfl hlen hstk (by rw [hb]; exact hd)
        exact ⟨mk, vm₁, hnamed, X.noted hW₁, fun target h => hstep₁ _ fun acts => by rw [doInvoke_state]; exact h⟩
      · obtain ⟨mk, methM, cM, kP, vm₁, hnamed, hmethM, hcodeM, -, hlocalsM, -, hkP, -, hW₁, hstep₁⟩ := Steps.initColdArgsNest (e := e) X.here hx X.warmed hpl hown hinit hnh (va_Nw.use rfl (va_Nw.warmM hW (hG.2.2.2.1 _ hlk))) (hts _ hin) hcode2 (f := F0 m pc ls (st.map (xm_cv G.2.1))) rfl hlen hstk (by rw [hb]; exact hd)
        exact ⟨mk, vm₁, hnamed, X.noted hW₁, fun target h => hstep₁ _ fun acts => by rw [doInvoke_state]; exact h⟩
    · cases he
  · cases he
/-- what an object of a class makes of a call -/
def xm_vk (B : xm_T) (D : xm_D) (own : String) (index : Nat) (ks : List Nat) (ci y : Nat) : Prop := xm_DO (D y) ∧ xm_ksz ks + 1 ≤ (D y).2.2.1 ∧ (D y).2.2.1 ≤ 19 ∧ xm_ar (D y).1 ks ∧ ∃ C T N, B.1[ci]? = some (C, T, N) ∧ Cond.instanceMethod (D y).1 ∈ lw_all ∧
  ((xm_nh (D y).1 ∧ Cond.selects C (D y).1 (D y).1 ∈ lw_all ∧ (Cond.methodLink own index (D y).1 ∈ lw_all ∨ ∃ host, Cond.methodLinkNest own index (D y).1 host ∈ lw_tbl)) ∨
   ∃ x : MethodName, xm_nh x ∧ x.desc = (D y).1.desc ∧ Cond.methodLink own index x ∈ lw_all ∧ Cond.sameMethod x.cls x.cls x.name x.desc ∈ lw_all ∧ Cond.declares x ∈ lw_tbl ∧ Cond.selects C x (D y).1 ∈ lw_all)
theorem xc_V_ok (hG : xm_W B G) {index : Nat} {ks : List Nat} {vt : Nat → Option Nat} (hvt : ∀ ci y, vt ci = some y → xm_vk B D own index ks ci y) (hd : decode cc pc = .ok (.invokevirtual index, 3)) : xm_CO B G D own cc pc (xc_V vt ks) := by
  refine ⟨⟨_, hd⟩, ?_⟩
  intro p l e R s m args below meth c T locs cells slots ls st h y' av rest hx hb hown hW X hR he
  unfold xc_V at he
  split at he
  · rename_i av0 b rest0 hpop
    split at he
    · rename_i o ho
      split at he
      · rename_i y hy
        split at he
        · rename_i hsum
          cases he
          obtain ⟨hDO, hsz, hmx, har, C, T0, N0, hC, hin, hk⟩ := hvt _ _ hy
          obtain ⟨bs, h1, h2, h3, h4⟩ := xm_pop_spec _ _ _ _ _ hpop
          rw [List.append_nil] at h2
          refine ⟨hsum, by rw [← xm_sl_len]; simp only [xm_sl, List.length_cons]; rw [h4]; simpa [xm_sl] using hsz, hmx, ?_⟩
          have hts := xm_words hG hW args
          have hcode := hts _ hDO.2.1
          obtain ⟨r0, cell, g1, g2, g3, g4, g5, g6, g7⟩ := (hR.2.2.2 _ _ ho).2
          have hcls : s.vm.findClass C = some cell.cls := by rw [g3]; exact ((hG.2.2.1 _ _ hC).moved hW.alike).1.1
          have hstk : st.map (xm_cv G.2.1) = (av0.map (xm_cv G.2.1)).reverse ++ .ref (G.2.1 b) :: rest.map (xm_cv G.2.1) := by
            rw [h1, h2, List.map_append, List.map_reverse, List.reverse_reverse]; rfl
          have hnl : (av0.map (xm_cv G.2.1)).length = ks.length := by rw [List.length_map, h2, List.length_reverse, h3]
          obtain ⟨mk, methM, hnamed, hmethM, hstM, habM⟩ := Cond.instanceMethod_spec (hts _ hin)
          have hsigM := xm_wd_sig hcode hnamed hmethM
          rcases hk with ⟨hnh, hsel, hlk⟩ | ⟨x, hnh, hxd, hlk, hsame, hdecl, hsel⟩
          · obtain ⟨c2, r2, m2, q1, q2, q3, q4, kP, hkP, hkPi⟩ := Cond.selects_spec (hts _ hsel)
            cases hcls.symm.trans q1
            cases (State.methodFound?_of_named hnamed hnh).symm.trans q2
            cases hnamed.symm.trans q3
            have hselP : selectMethod e.platform s.vm cell.cls mk = .method mk := by rw [Launch.admits_selectMethod X.admits]; exact q4
            rcases hlk with hlk | ⟨host, hlk⟩
            · obtain ⟨vm₁, X₁, hstep₁⟩ := X.invokevirtual hx hown (hts _ hlk) hnamed hmethM hstM hkP hkPi hnh (a := G.2.1 b) (cell := cell) g2
                (fun z h => by rw [h] at g5; cases g5) hselP hmethM habM hkP hkPi (g := F0 m pc ls (st.map (xm_cv G.2.1))) rfl (argsL := av0.map (xm_cv G.2.1)) (rest := rest.map (xm_cv G.2.1)) (har.len hnl _ hsigM) hstk (by rw [hb]; exact hd)
              exact ⟨mk, vm₁, hnamed, X₁, fun target h => hstep₁ _ fun acts => by rw [doInvoke_state]; exact h⟩
            · obtain ⟨vm₁, X₁, hstep₁⟩ := X.invokevirtualNest hx hown (va_Nw.use rfl (va_Nw.warmM hW (hG.2.2.2.1 _ hlk))) hnamed hmethM hstM hkP hkPi hnh (a := G.2.1 b) (cell := cell) g2
                (fun z h => by rw [h] at g5; cases g5) hselP hmethM habM hkP hkPi (g := F0 m pc ls (st.map (xm_cv G.2.1))) rfl (argsL := av0.map (xm_cv G.2.1)) (rest := rest.map (xm_cv G.2.1)) (har.len hnl _ hsigM) hstk (by rw [hb]; exact hd)
              exact ⟨mk, vm₁, hnamed, X₁, fun target h => hstep₁ _ fun acts => by rw [doInvoke_state]; exact h⟩
          · obtain ⟨r0, r, hn, hrm, hstR, hsigR⟩ : va_Decl s x := va_Decl.abs (va_Nw.warmD hW (hG.2.2.2.1 _ hdecl))
            obtain ⟨cn, ck, r1, hcn, hck, hni, hf, hn1⟩ := Cond.sameMethod_found (hts _ hsame)
            cases hn.symm.trans hn1
            obtain ⟨c2, r2, m2, q1, q2, q3, q4, kP, hkP, hkPi⟩ := Cond.selects_spec (hts _ hsel)
            cases hcls.symm.trans q1
            cases hf.symm.trans q2
            cases hnamed.symm.trans q3
            have hselP : selectMethod e.platform s.vm cell.cls r0 = .method mk := by rw [Launch.admits_selectMethod X.admits]; exact q4
            obtain ⟨vm₁, X₁, hstep₁⟩ := X.invokevirtualUp hx hown (hts _ hlk) (hts _ hsame) hnh hn hrm hstR (a := G.2.1 b) (cell := cell) g2
              (fun z h => by rw [h] at g5; cases g5) hselP hmethM habM hkP hkPi (g := F0 m pc ls (st.map (xm_cv G.2.1))) rfl (argsL := av0.map (xm_cv G.2.1)) (rest := rest.map (xm_cv G.2.1)) (har.len hnl _ (by rw [← hxd]; exact hsigR)) hstk (by rw [hb]; exact hd)
            exact ⟨mk, vm₁, hnamed, X₁, fun target h => hstep₁ _ fun acts => by rw [doInvoke_state]; exact h⟩
        · cases he
      · cases he
    · cases he
  · cases he
end XInv
