/-! STEPS THAT READ OR WRITE THE HEAP -/
def xm_put (h : xm_H) (k : Nat) (c : xm_C) : xm_H := (h.1, h.2.1, fun j => if j = k then some c else h.2.2 j)
def xm_new (h : xm_H) (sz : Nat) (c : xm_C) : xm_H := (h.1 + 1, h.2.1 + sz, fun j => if j = h.1 then some c else h.2.2 j)
section XHeap
variable {B : xm_T} {G : xm_G}
theorem xm_word (hG : xm_W B G) {s : State} (hW : G.1.WarmedH s.vm) {w : Cond} (hw : w ∈ lw_all) (args : Array Value) : w.before args s = true :=
  word_at hW (good_of_word (List.mem_filter.mp hw).2) (hG.2.2.2.1 w (lw_all_tbl hw))
theorem xm_words (hG : xm_W B G) {s : State} (hW : G.1.WarmedH s.vm) (args : Array Value) : ∀ w ∈ lw_all, w.before args s = true := fun _ hw => xm_word hG hW hw args
theorem xm_ad_ne (hG : xm_W B G) {k j : Nat} (hk : B.2.2 ≤ k) (hj : j ≠ k) : G.2.1 j ≠ G.2.1 k := by
  by_cases h : B.2.2 ≤ j
  · rw [hG.1 j h, hG.1 k hk]; omega
  · have h1 := hG.2.1 j (by omega)
    rw [hG.1 k hk]; omega
theorem xm_cell_kept {k : Nat} {c : xm_C} {H H' : Heap} (h : xm_cell B G k c H) (hq : H'[G.2.1 k]? = H[G.2.1 k]?) : xm_cell B G k c H' := by
  cases c with
  | inl o =>
    obtain ⟨r, cell, h1, h2, h3⟩ := h
    exact ⟨r, cell, h1, hq.trans h2, h3⟩
  | inr a =>
    obtain ⟨cell, h2, h3⟩ := h
    exact ⟨cell, hq.trans h2, h3⟩
theorem xm_R.put (hG : xm_W B G) {h : xm_H} {H H' : Heap} (hR : xm_R B G h H) {k : Nat} {c0 c : xm_C} (hk : B.2.2 ≤ k) (h0 : h.2.2 k = some c0) (hz : H'.size = H.size) (ho : ∀ q, q ≠ G.2.1 k → H'[q]? = H[q]?) (hc : xm_cell B G k c H') : xm_R B G (xm_put h k c) H' := by
  obtain ⟨r1, r2, r3, r4⟩ := hR
  refine ⟨r1, hz.trans r2, fun q hq => ?_, fun j d hj => ?_⟩
  · rw [ho q (by rw [hG.1 k hk]; omega)]; exact r3 q hq
  · simp only [xm_put] at hj
    split at hj
    · rename_i hjk
      cases hj
      subst hjk
      exact ⟨(r4 _ _ h0).1, hc⟩
    · rename_i hjk
      exact ⟨(r4 _ _ hj).1, xm_cell_kept (r4 _ _ hj).2 (ho _ (xm_ad_ne hG hk hjk))⟩
theorem xm_R.new (hG : xm_W B G) {h : xm_H} {H H' : Heap} (hR : xm_R B G h H) {sz : Nat} {c : xm_C} (hz : H'.size = H.size + 1) (ho : ∀ q, q < H.size → H'[q]? = H[q]?) (hc : xm_cell B G h.1 c H') : xm_R B G (xm_new h sz c) H' := by
  obtain ⟨r1, r2, r3, r4⟩ := hR
  refine ⟨Nat.le_succ_of_le r1, ?_, fun q hq => ?_, fun j d hj => ?_⟩
  · show H'.size = G.1.heap.size + (h.1 + 1 - B.2.2)
    omega
  · rw [ho q (by omega)]; exact r3 q hq
  · simp only [xm_new] at hj
    split at hj
    · rename_i hjk
      cases hj
      subst hjk
      exact ⟨Nat.lt_succ_self _, hc⟩
    · have h1 := r4 _ _ hj
      refine ⟨Nat.lt_succ_of_lt h1.1, xm_cell_kept h1.2 (ho _ ?_)⟩
      by_cases h2 : B.2.2 ≤ j
      · rw [hG.1 j h2]; omega
      · have := hG.2.1 j (by omega)
        omega
theorem xm_R.at (hG : xm_W B G) {h : xm_H} {H : Heap} (hR : xm_R B G h H) : H.size = G.2.1 h.1 := by rw [hG.1 _ hR.1]; exact hR.2.1
variable {own nm : String} {cc : ByteArray} {nL pc : Nat}
/-- the field that an entry names, in an object of a class -/
def xm_fl (B : xm_T) (own : String) (index ci j : Nat) : Prop := ∃ C T N, B.1[ci]? = some (C, T, N) ∧ j < N ∧
  ((Cond.fieldLink own index (T j).1 (T j).2.1 (T j).2.2.1 ∈ lw_all) ∨ (∃ ref, Cond.fieldLink own index ref (T j).2.1 (T j).2.2.1 ∈ lw_all ∧ Cond.sameField ref (T j).1 (T j).2.1 (T j).2.2.1 ∈ lw_all) ∨ ∃ host, Cond.fieldLinkNest own index (T j).1 (T j).2.1 (T j).2.2.1 host ∈ lw_tbl)
def xe_getf (t : Nat → Option Nat) (nx : Nat) : xm_E := fun la st h => match st with
  | .ref a :: r => match h.2.2 a with
    | some (.inl o) => match t o.1 with
      | some j => some (nx, la, o.2 j :: r, h)
      | none => none
    | _ => none
  | _ => none
theorem xo_getf (hG : xm_W B G) {index : Nat} {t : Nat → Option Nat} (ht : ∀ ci j, t ci = some j → xm_fl B own index ci j) (hd : decode cc pc = .ok (.getfield index, 3)) : xm_OK B G own nm cc nL pc (xe_getf t (pc + 3)) := by
  intro p l e R s m args below meth c H locs cells slots Q ls la st h pc' la' st' h' hfl hx hb hml hown hnm hW hR hlo hl he hc1 hc2 hc3 hc4 kk
  unfold xe_getf at he
  split at he
  · split at he
    · rename_i a r _ o ho
      split at he
      · rename_i j hj
        cases he
        obtain ⟨C, T, N, hC, hjN, hlk⟩ := ht _ _ hj
        obtain ⟨r0, cell, g1, g2, g3, g4, g5, g6, g7⟩ := (hR.2.2.2 _ _ ho).2
        have hr : r0 = (C, T, N) := Option.some.inj (g1.symm.trans hC)
        subst hr
        obtain ⟨cf, kf, fi, fd, hi, hst, hsl⟩ := ((hG.2.2.1 _ _ hC).moved hW.alike).2 j hjN
        have k1 : W p l e R s m args below meth c H locs cells slots Q (F0 m (pc + 3) ls (xm_cv G.2.1 (o.2 j) :: r.map (xm_cv G.2.1))) := by
          have := kk H locs ls hR hlo hl
          rwa [Nat.sub_self, Nat.sub_self, Nat.add_zero, Nat.add_zero] at this
        have hv : cell.slots[fd.slot]? = some (xm_cv G.2.1 (o.2 j)) := by rw [hsl]; exact g7 j hjN
        rcases hlk with hlk | ⟨ref, hlk, hsm⟩ | ⟨host, hlk⟩
        · exact W.getf hx hb hown (xm_word hG hW hlk args) hi hst g2 g4 hv rfl rfl hd k1
        · exact W.getf hx hb hown (xm_word hG hW hlk args) (u_same (xm_word hG hW hsm args) _ hi) hst g2 g4 hv rfl rfl hd k1
        · exact va_Wgetf hx hb hown (va_Nw.use rfl (va_Nw.warmF hW (hG.2.2.2.1 _ hlk))) hi hst g2 g4 hv rfl rfl hd k1
      · cases he
    · cases he
  · cases he
/-- a class whose objects the claim makes -/
def xm_mk (B : xm_T) (ci : Nat) : Prop := ∃ C T N M, B.1[ci]? = some (C, T, N) ∧ (∀ w ∈ u_ws C T N, w ∈ lw_all) ∧ Cond.instantiable C M ∈ lw_all ∧ Cond.initialized C ∈ lw_all ∧
  ∃ ty : Nat → FieldType, (∀ k, k < N → parseFieldDescriptor (T k).2.2.1 = some (ty k)) ∧ (∀ a, a < N → ∀ b, b < N → a ≠ b → (T a).2.1 ≠ (T b).2.1)
/-- kinds of values: 0 int, 1 long, 2 a reference or null -/
def xm_kd : Nat → Value → Bool
  | 0, .int _ => true
  | 1, .long _ => true
  | 2, .ref _ => true
  | 2, .null => true
  | _, _ => false
def xm_fit (kd : Nat) (ty : FieldType) : Bool := match kd, ty with
  | 0, .int => true
  | 1, .long => true
  | 2, .object _ => true
  | 2, .array _ => true
  | _, _ => false
theorem xm_fits {kd : Nat} {ty : FieldType} {v : Value} (h1 : xm_fit kd ty = true) (h2 : xm_kd kd v = true) (ad : Nat → Nat) : narrow ty (xm_cv ad v) = xm_cv ad v ∧ fits ty (xm_cv ad v) = true := by
  unfold xm_fit at h1
  split at h1
  · cases v <;> first | exact ⟨rfl, rfl⟩ | cases h2
  · cases v <;> first | exact ⟨rfl, rfl⟩ | cases h2
  · cases v <;> first | exact ⟨rfl, rfl⟩ | cases h2
  · cases v <;> first | exact ⟨rfl, rfl⟩ | cases h2
  · cases h1
def xm_fw (B : xm_T) (own nm : String) (index kd ci j : Nat) : Prop := xm_mk B ci ∧ ∃ C T N, B.1[ci]? = some (C, T, N) ∧ j < N ∧ (∃ ty, parseFieldDescriptor (T j).2.2.1 = some ty ∧ xm_fit kd ty = true) ∧
  ((((Cond.fieldLink own index (T j).1 (T j).2.1 (T j).2.2.1 ∈ lw_all) ∨ (∃ ref, Cond.fieldLink own index ref (T j).2.1 (T j).2.2.1 ∈ lw_all ∧ Cond.sameField ref (T j).1 (T j).2.1 (T j).2.2.1 ∈ lw_all)) ∧ (T j).2.2.2 = false) ∨ (Cond.fieldLink own index (T j).1 (T j).2.1 (T j).2.2.1 ∈ lw_all ∧ (T j).2.2.2 = true ∧ nm = "<init>" ∧ (T j).1 = own))
def xe_putf (K0 kd : Nat) (t : Nat → Option Nat) (nx : Nat) : xm_E := fun la st h => match st with
  | v :: .ref a :: r => match h.2.2 a with
    | some (.inl o) => match t o.1 with
      | some j => if K0 ≤ a ∧ xm_kd kd v = true then some (nx, la, r, xm_put h a (.inl (o.1, updV o.2 j v))) else none
      | none => none
    | _ => none
  | _ => none
theorem xm_apart (hG : xm_W B G) {s : State} (hW : G.1.WarmedH s.vm) {ci : Nat} {C : String} {T : u_T} {N : Nat} (hC : B.1[ci]? = some (C, T, N)) (hin : ∀ w ∈ u_ws C T N, w ∈ lw_all) {ty : Nat → FieldType} (hty : ∀ k, k < N → parseFieldDescriptor (T k).2.2.1 = some (ty k)) (hnm : ∀ a, a < N → ∀ b, b < N → a ≠ b → (T a).2.1 ≠ (T b).2.1) : ∀ x y, x < N → y < N → x ≠ y → (G.2.2.2.1 ci) x ≠ (G.2.2.2.1 ci) y := by
  intro x y hx hy hne
  have hK := (hG.2.2.1 _ _ hC).moved hW.alike
  obtain ⟨_, _, _, fa, hia, -, ea⟩ := hK.2 x hx
  obtain ⟨_, _, _, fb, hib, -, eb⟩ := hK.2 y hy
  rw [← ea, ← eb]
  refine u_apart (u_lays (xm_words hG hW #[]) hin hx) (u_lays (xm_words hG hW #[]) hin hy) hia hib ?_
  rw [(State.fieldFound?_type hia (hty x hx)).1, (State.fieldFound?_type hib (hty y hy)).1]
  exact hnm x hx y hy hne
theorem xo_putf (hG : xm_W B G) {index kd K0 : Nat} (hK0 : B.2.2 = K0) {t : Nat → Option Nat} (ht : ∀ ci j, t ci = some j → xm_fw B own nm index kd ci j) (hd : decode cc pc = .ok (.putfield index, 3)) : xm_OK B G own nm cc nL pc (xe_putf K0 kd t (pc + 3)) := by
  intro p l e R s m args below meth c H locs cells slots Q ls la st h pc' la' st' h' hfl hx hb hml hown hnm hW hR hlo hl he hc1 hc2 hc3 hc4 kk
  unfold xe_putf at he
  split at he
  · split at he
    · rename_i v a r _ o ho
      split at he
      · rename_i j hj
        split at he
        · rename_i hv
          cases he
          subst hK0
          obtain ⟨⟨C, T, N, M0, hC, hin, hins, hini, ty0, hty, hnmd⟩, C', T', N', hC', hjN, ⟨ty, hd1, hf1⟩, hlk⟩ := ht _ _ hj
          cases hC.symm.trans hC'
          obtain ⟨r0, cell, g1, g2, g3, g4, g5, g6, g7⟩ := (hR.2.2.2 _ _ ho).2
          have hr : r0 = (C, T, N) := Option.some.inj (g1.symm.trans hC)
          subst hr
          have hvm := g6 hv.1
          have hKn := (hG.2.2.1 _ _ hC).moved hW.alike
          obtain ⟨cf, kf, fi, fd, hi, hst, hsl⟩ := hKn.2 j hjN
          have hts := xm_words hG hW args
          obtain ⟨cC, kC, hfc, hkC, hkind, -⟩ := Cond.instantiable_spec (hts _ hins)
          have hcC : cC = G.2.2.1 o.1 := Option.some.inj (hfc.symm.trans hKn.1.1)
          subst hcC
          have hfit := xm_fits hf1 hv.2 G.2.1
          have hap := xm_apart hG hW hC hin hty hnmd
          have hlay := hts _ (hin _ (u_in_lay hjN))
          have fin : ∀ H' : Heap, H'[G.2.1 a]? = some (cell.setSlot fd.slot (xm_cv G.2.1 v)) → H'.size = H.size → (∀ q, q ≠ G.2.1 a → H'[q]? = H[q]?) → W p l e R s m args below meth c H' (locs ++ [⟨G.2.1 a, fd.slot⟩]) cells slots Q (F0 m (pc + 3) ls (st'.map (xm_cv G.2.1))) := by
            intro H' e1 e2 e3
            rw [hsl] at e1
            have hts2 := t_set (V := fun j => xm_cv G.2.1 (o.2 j)) g7 hap hjN (xm_cv G.2.1 v)
            have hR' : xm_R B G (xm_put h a (.inl (o.1, updV o.2 j v))) H' := by
              refine hR.put hG hv.1 ho e2 e3 ⟨_, _, hC, e1, g3, by show cell.vm ≠ _; exact g4, by show cell.vm.isStatics = false; exact g5, fun _ => hvm, fun k hk => ?_⟩
              rw [hts2 k hk]
              show some (updV _ _ _ _) = some (xm_cv G.2.1 (updV _ _ _ _))
              unfold updV
              split <;> rfl
            have := kk H' (locs ++ [⟨G.2.1 a, fd.slot⟩]) ls hR' (fun q hq => by
              rcases List.mem_append.mp hq with h1 | h1
              · exact hlo q h1
              · rw [List.mem_singleton.mp h1]
                show G.1.heap.size ≤ G.2.1 a
                rw [hG.1 a hv.1]; omega) hl
            simpa [xm_put] using this
          rcases hlk with ⟨hlk, hfin⟩ | ⟨hlk, hfin, hnm2, hdecl⟩
          · unfold u_lay at hlay
            rw [if_neg (by rw [hfin]; decide)] at hlay
            have h6 := u_store hfc hkC hkind hlay hi hd1 hfit.1 hfit.2
            rcases hlk with hlk | ⟨ref, hlk, hsm⟩
            · exact W.putK hx hb (f := fd) ⟨hown, hts _ hlk, ⟨_, _, _, hi⟩, hst⟩ (by rw [g3]; exact h6) g2 hvm (by rw [hsl]; exact k2_hasslot (g7 j hjN)) rfl rfl hd fin
            · exact W.putK hx hb (f := fd) ⟨hown, hts _ hlk, ⟨_, _, _, u_same (hts _ hsm) _ hi⟩, hst⟩ (by rw [g3]; exact h6) g2 hvm (by rw [hsl]; exact k2_hasslot (g7 j hjN)) rfl rfl hd fin
          · unfold u_lay at hlay
            rw [if_pos hfin] at hlay
            have hcf : m.cls = cf := by
              obtain ⟨_, _, c', _, _, _, -, -, hf', -, -, -, hown2, -⟩ := Cond.laysFinal_spec hlay
              have e1 : c' = cf := by have := hi.symm.trans hf'; simp at this; exact this.1.symm
              rw [hdecl] at hown2
              rw [← e1]; exact Option.some.inj (hown.symm.trans hown2)
            have h6 := u_fits hfc hkC hkind (Or.inr hlay) hi hd1 hfit.1 hfit.2
            exact W.putFinK hx hb hown (hts _ hlk) hi hst hcf (hnm.trans hnm2) (by rw [g3]; exact h6) g2 hvm (by rw [hsl]; exact k2_hasslot (g7 j hjN)) rfl rfl hd fin
        · cases he
      · cases he
    · cases he
  · cases he
end XHeap
