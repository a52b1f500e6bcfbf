/-! ROWS OF METHODS: how a method's rows are shown, one by one -/
def xm_op (B : xm_T) (G : xm_G) (D : xm_D) (N : Nat) (own nm : String) (cc : ByteArray) (nL : Nat) (ret : Option FieldType) (pc : Nat) (op : xm_O) : Prop := match op with
  | .inl e => xm_mono e ∧ xm_OK B G own nm cc nL pc e
  | .inr (.inl r) => xm_RO G cc ret pc r
  | .inr (.inr (.inl c)) => xm_CO B G D own cc pc c ∧ ∀ st h q, c st h = some q → q.1 < N
  | .inr (.inr (.inr _)) => decode cc pc = .ok (.athrow, 1)
def xm_mi (D : xm_D) (y : Nat) (x : MethodName × ByteArray × Nat × Option FieldType × xm_Hs) (ks : List Nat) : Prop := D y = x ∧ xm_DO x ∧ xm_ar x.1 ks ∧ xm_nh x.1 ∧ x.2.2.1 ≤ 19
section XWrap
variable {B : xm_T} {G : xm_G} {D : xm_D} {N : Nat} {own nm : String} {cc : ByteArray} {nL pc : Nat} {ret : Option FieldType}
theorem xw_S (hG : xm_W B G) {y index : Nat} {ks : List Nat} {x : MethodName × ByteArray × Nat × Option FieldType × xm_Hs} (hi : xm_mi D y x ks) (hsz : xm_ksz ks ≤ x.2.2.1) (hst : Cond.static x.1 ∈ lw_all)
    (hlk : Cond.methodLink own index x.1 ∈ lw_all ∨ ∃ host, Cond.methodLinkNest own index x.1 host ∈ lw_tbl) (hN : y < N) (hd : decode cc pc = .ok (.invokestatic index, 3)) : xm_op B G D N own nm cc nL ret pc (.inr (.inr (.inl (xc_S y ks)))) := by
  obtain ⟨rfl, h1, h2, h3, h4⟩ := hi
  refine ⟨xc_S_ok hG h1 h2 h3 hsz h4 hst hlk hd, fun st h q hq => ?_⟩
  unfold xc_S at hq
  split at hq
  · split at hq
    · cases hq; exact hN
    · cases hq
  · cases hq
theorem xw_I (hG : xm_W B G) {y index : Nat} {ks : List Nat} {x : MethodName × ByteArray × Nat × Option FieldType × xm_Hs} (hi : xm_mi D y x ks) (hhs : x.2.2.2.2 = []) (hret : x.2.2.2.1 = none) (hinit : x.1.name = "<init>") (hsz : xm_ksz ks + 1 ≤ x.2.2.1) (hin : Cond.instanceMethod x.1 ∈ lw_all)
    (hlk : Cond.methodLink own index x.1 ∈ lw_all ∨ ∃ host, Cond.methodLinkNest own index x.1 host ∈ lw_tbl) (hN : y < N) (hd : decode cc pc = .ok (.invokespecial index, 3)) : xm_op B G D N own nm cc nL ret pc (.inr (.inr (.inl (xc_I y ks)))) := by
  obtain ⟨rfl, h1, h2, h3, h4⟩ := hi
  refine ⟨xc_I_ok hG h1 hhs hret hinit h2 h3 hsz h4 hin hlk hd, fun st h q hq => ?_⟩
  unfold xc_I at hq
  split at hq
  · split at hq
    · cases hq; exact hN
    · cases hq
  · cases hq
theorem xw_vk {y index ci : Nat} {ks : List Nat} {x : MethodName × ByteArray × Nat × Option FieldType × xm_Hs} (hi : xm_mi D y x ks) (hsz : xm_ksz ks + 1 ≤ x.2.2.1) {C : String} {T : u_T} {n : Nat} (hC : B.1[ci]? = some (C, T, n)) (hin : Cond.instanceMethod x.1 ∈ lw_all) (hsel : Cond.selects C x.1 x.1 ∈ lw_all)
    (hlk : Cond.methodLink own index x.1 ∈ lw_all ∨ ∃ host, Cond.methodLinkNest own index x.1 host ∈ lw_tbl) : xm_vk B D own index ks ci y := by
  obtain ⟨rfl, h1, h2, h3, h4⟩ := hi
  exact ⟨h1, hsz, h4, h2, C, T, n, hC, hin, Or.inl ⟨h3, hsel, hlk⟩⟩
theorem xw_vu {y index ci : Nat} {ks : List Nat} {x : MethodName × ByteArray × Nat × Option FieldType × xm_Hs} (hi : xm_mi D y x ks) (hsz : xm_ksz ks + 1 ≤ x.2.2.1) {C : String} {T : u_T} {n : Nat} (hC : B.1[ci]? = some (C, T, n)) (hin : Cond.instanceMethod x.1 ∈ lw_all) {z : MethodName} (hz : xm_nh z) (hzd : z.desc = x.1.desc)
    (hlk : Cond.methodLink own index z ∈ lw_all) (hsame : Cond.sameMethod z.cls z.cls z.name z.desc ∈ lw_all) (hdecl : Cond.declares z ∈ lw_tbl) (hsel : Cond.selects C z x.1 ∈ lw_all) : xm_vk B D own index ks ci y := by
  obtain ⟨rfl, h1, h2, h3, h4⟩ := hi
  exact ⟨h1, hsz, h4, h2, C, T, n, hC, hin, Or.inr ⟨z, hz, hzd, hlk, hsame, hdecl, hsel⟩⟩
theorem xw_V (hG : xm_W B G) {index : Nat} {ks : List Nat} {vt : Nat → Option Nat} (hvt : ∀ ci y, vt ci = some y → xm_vk B D own index ks ci y ∧ y < N) (hd : decode cc pc = .ok (.invokevirtual index, 3)) : xm_op B G D N own nm cc nL ret pc (.inr (.inr (.inl (xc_V vt ks)))) := by
  refine ⟨xc_V_ok hG (fun ci y h => (hvt ci y h).1) hd, fun st h q hq => ?_⟩
  unfold xc_V at hq
  split at hq
  · split at hq
    · split at hq
      · rename_i hy
        split at hq
        · cases hq; exact (hvt _ _ hy).2
        · cases hq
      · cases hq
    · cases hq
  · cases hq
theorem xw_R {r : List Value → Option (Option Value)} (h : xm_RO G cc ret pc r) : xm_op B G D N own nm cc nL ret pc (.inr (.inl r)) := h
theorem xw_T (h : decode cc pc = .ok (.athrow, 1)) : xm_op B G D N own nm cc nL ret pc (.inr (.inr (.inr ()))) := h
theorem xw_E {e : xm_E} (hm : xm_mono e) (h : xm_OK B G own nm cc nL pc e) : xm_op B G D N own nm cc nL ret pc (.inl e) := ⟨hm, h⟩
theorem xw_nil (F : Nat × xm_O → Prop) : ∀ q ∈ ([] : List (Nat × xm_O)), F q := fun q hq => by cases hq
theorem xw_cons {F : Nat × xm_O → Prop} {a : Nat × xm_O} {l : List (Nat × xm_O)} (h : F a) (t : ∀ q ∈ l, F q) : ∀ q ∈ a :: l, F q := List.forall_mem_cons.mpr ⟨h, t⟩
theorem xw_app {F : Nat × xm_O → Prop} {a b : List (Nat × xm_O)} (h : ∀ q ∈ a, F q) (t : ∀ q ∈ b, F q) : ∀ q ∈ a ++ b, F q := fun q hq => (List.mem_append.mp hq).elim (h q) (t q)
theorem xw_lookup {l : List (Nat × xm_O)} {pc : Nat} {op : xm_O} (h : l.lookup pc = some op) : (pc, op) ∈ l := by
  induction l with
  | nil => cases h
  | cons a l ih =>
    rw [List.lookup_cons] at h
    split at h
    · rename_i e
      cases h
      have : pc = a.1 := beq_iff_eq.mp e
      subst this
      exact List.mem_cons_self
    · exact List.mem_cons_of_mem _ (ih h)
theorem xw_PO {P : xm_P} {i : Nat} {x : MethodName × ByteArray × Nat × Option FieldType × xm_Hs} {l : List (Nat × xm_O)} (hD : D i = x) (hP : ∀ pc, P i pc = l.lookup pc) (hc : xm_CK B G x.1.cls x.2.1 x.2.2.2.2) (h : ∀ q ∈ l, xm_op B G D N x.1.cls x.1.name x.2.1 x.2.2.1 x.2.2.2.1 q.1 q.2) : xm_PO B G P D N i := by
  subst hD
  refine ⟨hc, fun pc op hop => ?_⟩
  rw [hP] at hop
  exact h _ (xw_lookup hop)
theorem xw_CK0 {cc : ByteArray} : xm_CK B G own cc [] := by
  intro p l e R s m args below meth c T locs cells slots ls rest h a ci hp pc fs _ _ _ _ _ _ _ hh
  cases hh
/-! nothing is taken away -/
theorem xn_push {v : Value} {nx : Nat} : xm_mono (xe_push v nx) := by
  intro la st h q hq; cases hq; exact ⟨Nat.le_refl _, Nat.le_refl _⟩
theorem xn_goto {nx : Nat} : xm_mono (xe_goto nx) := by
  intro la st h q hq; cases hq; exact ⟨Nat.le_refl _, Nat.le_refl _⟩
theorem xn_iload {k nx : Nat} : xm_mono (xe_iload k nx) := by
  intro la st h q hq
  unfold xe_iload at hq
  repeat' split at hq
  all_goals first | cases hq; exact ⟨Nat.le_refl _, Nat.le_refl _⟩ | cases hq
theorem xn_lload {k nx : Nat} : xm_mono (xe_lload k nx) := by
  intro la st h q hq
  unfold xe_lload at hq
  repeat' split at hq
  all_goals first | cases hq; exact ⟨Nat.le_refl _, Nat.le_refl _⟩ | cases hq
theorem xn_aload {k nx : Nat} : xm_mono (xe_aload k nx) := by
  intro la st h q hq
  unfold xe_aload at hq
  repeat' split at hq
  all_goals first | cases hq; exact ⟨Nat.le_refl _, Nat.le_refl _⟩ | cases hq
theorem xn_istore {k nx : Nat} : xm_mono (xe_istore k nx) := by
  intro la st h q hq
  unfold xe_istore at hq
  repeat' split at hq
  all_goals first | cases hq; exact ⟨Nat.le_refl _, Nat.le_refl _⟩ | cases hq
theorem xn_lstore {k nx : Nat} : xm_mono (xe_lstore k nx) := by
  intro la st h q hq
  unfold xe_lstore at hq
  repeat' split at hq
  all_goals first | cases hq; exact ⟨Nat.le_refl _, Nat.le_refl _⟩ | cases hq
theorem xn_astore {k nx : Nat} : xm_mono (xe_astore k nx) := by
  intro la st h q hq
  unfold xe_astore at hq
  repeat' split at hq
  all_goals first | cases hq; exact ⟨Nat.le_refl _, Nat.le_refl _⟩ | cases hq
theorem xn_iinc {k : Nat} {n : Int32} {nx : Nat} : xm_mono (xe_iinc k n nx) := by
  intro la st h q hq
  unfold xe_iinc at hq
  repeat' split at hq
  all_goals first | cases hq; exact ⟨Nat.le_refl _, Nat.le_refl _⟩ | cases hq
theorem xn_ii {f : Int32 → Int32 → Int32} {nx : Nat} : xm_mono (xe_ii f nx) := by
  intro la st h q hq
  unfold xe_ii at hq
  repeat' split at hq
  all_goals first | cases hq; exact ⟨Nat.le_refl _, Nat.le_refl _⟩ | cases hq
theorem xn_iid {f : Int32 → Int32 → Int32} {nx : Nat} : xm_mono (xe_iid f nx) := by
  intro la st h q hq
  unfold xe_iid at hq
  repeat' split at hq
  all_goals first | cases hq; exact ⟨Nat.le_refl _, Nat.le_refl _⟩ | cases hq
theorem xn_ll {f : Int64 → Int64 → Int64} {nx : Nat} : xm_mono (xe_ll f nx) := by
  intro la st h q hq
  unfold xe_ll at hq
  repeat' split at hq
  all_goals first | cases hq; exact ⟨Nat.le_refl _, Nat.le_refl _⟩ | cases hq
theorem xn_lld {f : Int64 → Int64 → Int64} {nx : Nat} : xm_mono (xe_lld f nx) := by
  intro la st h q hq
  unfold xe_lld at hq
  repeat' split at hq
  all_goals first | cases hq; exact ⟨Nat.le_refl _, Nat.le_refl _⟩ | cases hq
theorem xn_li {f : Int64 → Int32 → Int64} {nx : Nat} : xm_mono (xe_li f nx) := by
  intro la st h q hq
  unfold xe_li at hq
  repeat' split at hq
  all_goals first | cases hq; exact ⟨Nat.le_refl _, Nat.le_refl _⟩ | cases hq
theorem xn_i {f : Int32 → Int32} {nx : Nat} : xm_mono (xe_i f nx) := by
  intro la st h q hq
  unfold xe_i at hq
  repeat' split at hq
  all_goals first | cases hq; exact ⟨Nat.le_refl _, Nat.le_refl _⟩ | cases hq
theorem xn_i2l {nx : Nat} : xm_mono (xe_i2l nx) := by
  intro la st h q hq
  unfold xe_i2l at hq
  repeat' split at hq
  all_goals first | cases hq; exact ⟨Nat.le_refl _, Nat.le_refl _⟩ | cases hq
theorem xn_l2i {nx : Nat} : xm_mono (xe_l2i nx) := by
  intro la st h q hq
  unfold xe_l2i at hq
  repeat' split at hq
  all_goals first | cases hq; exact ⟨Nat.le_refl _, Nat.le_refl _⟩ | cases hq
theorem xn_lcmp {nx : Nat} : xm_mono (xe_lcmp nx) := by
  intro la st h q hq
  unfold xe_lcmp at hq
  repeat' split at hq
  all_goals first | cases hq; exact ⟨Nat.le_refl _, Nat.le_refl _⟩ | cases hq
theorem xn_pop {nx : Nat} : xm_mono (xe_pop nx) := by
  intro la st h q hq
  unfold xe_pop at hq
  repeat' split at hq
  all_goals first | cases hq; exact ⟨Nat.le_refl _, Nat.le_refl _⟩ | cases hq
theorem xn_dup {nx : Nat} : xm_mono (xe_dup nx) := by
  intro la st h q hq
  unfold xe_dup at hq
  repeat' split at hq
  all_goals first | cases hq; exact ⟨Nat.le_refl _, Nat.le_refl _⟩ | cases hq
theorem xn_dup_x1 {nx : Nat} : xm_mono (xe_dup_x1 nx) := by
  intro la st h q hq
  unfold xe_dup_x1 at hq
  repeat' split at hq
  all_goals first | cases hq; exact ⟨Nat.le_refl _, Nat.le_refl _⟩ | cases hq
theorem xn_dup2 {nx : Nat} : xm_mono (xe_dup2 nx) := by
  intro la st h q hq
  unfold xe_dup2 at hq
  repeat' split at hq
  all_goals first | cases hq; exact ⟨Nat.le_refl _, Nat.le_refl _⟩ | cases hq
theorem xn_alen {nx : Nat} : xm_mono (xe_alen nx) := by
  intro la st h q hq
  unfold xe_alen at hq
  repeat' split at hq
  all_goals first | cases hq; exact ⟨Nat.le_refl _, Nat.le_refl _⟩ | cases hq
theorem xn_objInit {nx : Nat} : xm_mono (xe_objInit nx) := by
  intro la st h q hq
  unfold xe_objInit at hq
  repeat' split at hq
  all_goals first | cases hq; exact ⟨Nat.le_refl _, Nat.le_refl _⟩ | cases hq
theorem xn_if {c : Int32 → Bool} {tg nx : Nat} : xm_mono (xe_if c tg nx) := by
  intro la st h q hq
  unfold xe_if at hq
  repeat' split at hq
  all_goals first | cases hq; exact ⟨Nat.le_refl _, Nat.le_refl _⟩ | cases hq
theorem xn_icmp {c : Int32 → Int32 → Bool} {tg nx : Nat} : xm_mono (xe_icmp c tg nx) := by
  intro la st h q hq
  unfold xe_icmp at hq
  repeat' split at hq
  all_goals first | cases hq; exact ⟨Nat.le_refl _, Nat.le_refl _⟩ | cases hq
theorem xn_null {a b : Nat} : xm_mono (xe_null a b) := by
  intro la st h q hq
  unfold xe_null at hq
  repeat' split at hq
  all_goals first | cases hq; exact ⟨Nat.le_refl _, Nat.le_refl _⟩ | cases hq
theorem xn_sw {lo : Int} {offs : List Nat} {d : Nat} : xm_mono (xe_sw lo offs d) := by
  intro la st h q hq
  unfold xe_sw at hq
  repeat' split at hq
  all_goals first | cases hq; exact ⟨Nat.le_refl _, Nat.le_refl _⟩ | cases hq
theorem xn_getf {t : Nat → Option Nat} {nx : Nat} : xm_mono (xe_getf t nx) := by
  intro la st h q hq
  unfold xe_getf at hq
  repeat' split at hq
  all_goals first | cases hq; exact ⟨Nat.le_refl _, Nat.le_refl _⟩ | cases hq
theorem xn_ald {ok : Nat → Bool} {nx : Nat} : xm_mono (xe_ald ok nx) := by
  intro la st h q hq
  unfold xe_ald at hq
  repeat' split at hq
  all_goals first | cases hq; exact ⟨Nat.le_refl _, Nat.le_refl _⟩ | cases hq
theorem xn_cast {ok : Nat → Bool} {nx : Nat} : xm_mono (xe_cast ok nx) := by
  intro la st h q hq
  unfold xe_cast at hq
  repeat' split at hq
  all_goals first | cases hq; exact ⟨Nat.le_refl _, Nat.le_refl _⟩ | cases hq
theorem xn_putf {K0 kd : Nat} {t : Nat → Option Nat} {nx : Nat} : xm_mono (xe_putf K0 kd t nx) := by
  intro la st h q hq
  unfold xe_putf at hq
  repeat' split at hq
  all_goals first | cases hq; exact ⟨Nat.le_refl _, Nat.le_refl _⟩ | cases hq
theorem xn_ast {K0 t0 : Nat} {ok : Value → Bool} {nx : Nat} : xm_mono (xe_ast K0 t0 ok nx) := by
  intro la st h q hq
  unfold xe_ast at hq
  repeat' split at hq
  all_goals first | cases hq; exact ⟨Nat.le_refl _, Nat.le_refl _⟩ | cases hq
theorem xn_aast {K0 : Nat} {okc : Nat → Nat → Bool} {nx : Nat} : xm_mono (xe_aast K0 okc nx) := by
  intro la st h q hq
  unfold xe_aast at hq
  repeat' split at hq
  all_goals first | cases hq; exact ⟨Nat.le_refl _, Nat.le_refl _⟩ | cases hq
theorem xn_new {ci N : Nat} {fs : Nat → Value} {nx : Nat} : xm_mono (xe_new ci N fs nx) := by
  intro la st h q hq; cases hq; exact ⟨Nat.le_succ _, Nat.le_add_right _ _⟩
theorem xn_newa {t : Nat} {v : Value} {mx nx : Nat} : xm_mono (xe_newa t v mx nx) := by
  intro la st h q hq
  unfold xe_newa at hq
  repeat' split at hq
  all_goals first | cases hq; exact ⟨Nat.le_succ _, Nat.le_add_right _ _⟩ | cases hq
theorem xo_i2b (hd : decode cc pc = .ok (.i2b, 1)) : xm_OK B G own nm cc nL pc (xe_i (fun x => x.toInt8.toInt32) (pc + 1)) := by
  refine xm_pure fun p l e R s m args below meth c H locs cells slots Q ls la st h pc' la' st' h' hx hb hl he => ?_
  unfold xe_i at he
  split at he
  · cases he
    exact ⟨rfl, rfl, fun k => lv_i2b hx hb hd rfl k⟩
  · cases he
theorem xo_i2c (hd : decode cc pc = .ok (.i2c, 1)) : xm_OK B G own nm cc nL pc (xe_i (fun x => (x.toUInt32 % 65536).toInt32) (pc + 1)) := by
  refine xm_pure fun p l e R s m args below meth c H locs cells slots Q ls la st h pc' la' st' h' hx hb hl he => ?_
  unfold xe_i at he
  split at he
  · cases he
    exact ⟨rfl, rfl, fun k => lv_i2c hx hb hd rfl k⟩
  · cases he
theorem xo_switch2 {dflt lo hi : Int} {offs : Array Int} {len : Nat} {tgs : List Nat} {dt : Nat} (hof : offs.toList.map (fun o => (pc : Int) + o) = tgs.map (fun t : Nat => (t : Int))) (hlen : lo + tgs.length = hi + 1) (hdt : (pc : Int) + dflt = (dt : Int)) (hd : decode cc pc = .ok (.tableswitch dflt lo hi offs, len)) : xm_OK B G own nm cc nL pc (xe_sw lo tgs dt) := by
  refine xo_switch (fun k hk => ?_) (fun k tg hk => ?_) (by omega) hdt hd
  · have := List.getElem?_eq_none_iff.mp hk
    omega
  · have h1 : (tgs.map (fun t : Nat => (t : Int)))[k]? = some (tg : Int) := by rw [List.getElem?_map, hk]; rfl
    rw [← hof, List.getElem?_map] at h1
    cases ho : offs.toList[k]? with
    | none => rw [ho] at h1; cases h1
    | some off =>
      rw [ho] at h1
      exact ⟨off, by rw [← Array.getElem?_toList]; exact ho, Option.some.inj h1⟩
end XWrap
