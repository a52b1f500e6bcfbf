/-! EQUATIONS OF THE RUN, by kinds of steps -/
/-- a value is pushed -/
noncomputable def x_push (o : Option Value) (d i pc : Nat) (la st : List Value) (h : xm_H) : Option (Outcome × xm_H) := o.bind fun v => xa d i pc la (v :: st) h
theorem x_push_some (v : Value) (d i pc : Nat) (la st : List Value) (h : xm_H) : x_push (some v) d i pc la st h = xa d i pc la (v :: st) h := rfl
/-- the heap changes -/
noncomputable def x_heap (o : Option xm_H) (d i pc : Nat) (la st : List Value) : Option (Outcome × xm_H) := o.bind fun h => xa d i pc la st h
theorem x_heap_some (h : xm_H) (d i pc : Nat) (la st : List Value) : x_heap (some h) d i pc la st = xa d i pc la st h := rfl
/-- something is made: its number is pushed -/
noncomputable def x_made (o : Option xm_H) (n d i pc : Nat) (la st : List Value) : Option (Outcome × xm_H) := o.bind fun h => xa d i pc la (.ref n :: st) h
theorem x_made_some (h : xm_H) (n d i pc : Nat) (la st : List Value) : x_made (some h) n d i pc la st = xa d i pc la (.ref n :: st) h := rfl
theorem x_call_ret (v : Option Value) (h1 : xm_H) (d i pc : Nat) (la st : List Value) : x_call (some (.returned v, h1)) d i pc la st = xa d i (pc + 3) la (v.toList ++ st) h1 := rfl
theorem x_call_v (v : Value) (h1 : xm_H) (d i pc : Nat) (la st : List Value) : x_call (some (.returned (some v), h1)) d i pc la st = xa d i (pc + 3) la (v :: st) h1 := rfl
theorem x_call_n (h1 : xm_H) (d i pc : Nat) (la st : List Value) : x_call (some (.returned none, h1)) d i pc la st = xa d i (pc + 3) la st h1 := rfl
theorem x_call_t {a : Nat} {h1 : xm_H} {d i pc : Nat} {la st : List Value} (hn : xm_hd (xd i).2.2.2.2 pc = none) : x_call (some (.threw a, h1)) d i pc la st = some (.threw a, h1) := by
  unfold x_call
  simp only [hn]
/-- the class of an object -/
def x_cls (h : xm_H) (a : Nat) : Option Nat := match h.2.2 a with
  | some (.inl o) => some o.1
  | _ => none
/-- a field of an object of a class -/
def x_fld (ci j : Nat) (h : xm_H) (a : Nat) : Option Value := match h.2.2 a with
  | some (.inl o) => if o.1 = ci then some (o.2 j) else none
  | _ => none
def x_put (ci j : Nat) (h : xm_H) (a : Nat) (v : Value) : Option xm_H := match h.2.2 a with
  | some (.inl o) => if o.1 = ci ∧ 300 ≤ a then some (xm_put h a (.inl (ci, updV o.2 j v))) else none
  | _ => none
def x_ald (ok : Nat → Bool) (h : xm_H) (a : Nat) (i : Int32) : Option Value := match h.2.2 a with
  | some (.inr (t, n, f)) => if ok t = true ∧ ¬ (i < 0 ∨ n ≤ i.toNatClampNeg) then some (f i.toNatClampNeg) else none
  | _ => none
def x_alen (h : xm_H) (a : Nat) : Option Value := match h.2.2 a with
  | some (.inr (_, n, _)) => some (.int (Int32.ofNat n))
  | _ => none
def x_ast (t0 : Nat) (h : xm_H) (a : Nat) (i : Int32) (v : Value) : Option xm_H := match h.2.2 a with
  | some (.inr (t, n, f)) => if 300 ≤ a ∧ t = t0 ∧ ¬ (i < 0 ∨ n ≤ i.toNatClampNeg) then some (xm_put h a (.inr (t, n, updV f i.toNatClampNeg v))) else none
  | _ => none
section XOps
variable {d i pc nx tg : Nat} {la st : List Value} {h : xm_H}
theorem xa_push {v : Value} (hP : xp i pc = some (.inl (xe_push v nx))) : xa d i pc la st h = xa d i nx la (v :: st) h := by rw [xa_e hP]; rfl
theorem xa_iload {k : Nat} (hP : xp i pc = some (.inl (xe_iload k nx))) {x : Int32} (hk : la[k]? = some (.int x)) : xa d i pc la st h = xa d i nx la (.int x :: st) h := by
  rw [xa_e hP]; unfold xe_iload; rw [hk]; rfl
theorem xa_lload {k : Nat} (hP : xp i pc = some (.inl (xe_lload k nx))) {x : Int64} (hk : la[k]? = some (.long x)) : xa d i pc la st h = xa d i nx la (.long x :: st) h := by
  rw [xa_e hP]; unfold xe_lload; rw [hk]; rfl
theorem xa_aload {k : Nat} (hP : xp i pc = some (.inl (xe_aload k nx))) {x : Nat} (hk : la[k]? = some (.ref x)) : xa d i pc la st h = xa d i nx la (.ref x :: st) h := by
  rw [xa_e hP]; unfold xe_aload; rw [hk]; rfl
theorem xa_aloadN {k : Nat} (hP : xp i pc = some (.inl (xe_aload k nx))) (hk : la[k]? = some .null) : xa d i pc la st h = xa d i nx la (.null :: st) h := by
  rw [xa_e hP]; unfold xe_aload; rw [hk]; rfl
theorem xa_istore {k : Nat} (hP : xp i pc = some (.inl (xe_istore k nx))) {x : Int32} {la' : List Value} (hk : k < la.length) (hs : xs_1 la k (.int x) = la') : xa d i pc la (.int x :: st) h = xa d i nx la' st h := by
  rw [xa_e hP]; unfold xe_istore; simp only [hk, if_true]; rw [hs]; rfl
theorem xa_lstore {k : Nat} (hP : xp i pc = some (.inl (xe_lstore k nx))) {x : Int64} {la' : List Value} (hk : k + 1 < la.length) (hs : xs_2 la k (.long x) = la') : xa d i pc la (.long x :: st) h = xa d i nx la' st h := by
  rw [xa_e hP]; unfold xe_lstore; simp only [hk, if_true]; rw [hs]; rfl
theorem xa_astore {k : Nat} (hP : xp i pc = some (.inl (xe_astore k nx))) {x : Nat} {la' : List Value} (hk : k < la.length) (hs : xs_1 la k (.ref x) = la') : xa d i pc la (.ref x :: st) h = xa d i nx la' st h := by
  rw [xa_e hP]; unfold xe_astore; simp only [hk, if_true]; rw [hs]; rfl
theorem xa_astoreN {k : Nat} (hP : xp i pc = some (.inl (xe_astore k nx))) {la' : List Value} (hk : k < la.length) (hs : xs_1 la k .null = la') : xa d i pc la (.null :: st) h = xa d i nx la' st h := by
  rw [xa_e hP]; unfold xe_astore; simp only [hk, if_true]; rw [hs]; rfl
theorem xa_iinc {k : Nat} {n : Int32} (hP : xp i pc = some (.inl (xe_iinc k n nx))) {x : Int32} {la' : List Value} (hk : la[k]? = some (.int x)) (hs : xs_1 la k (.int (x + n)) = la') : xa d i pc la st h = xa d i nx la' st h := by
  rw [xa_e hP]; unfold xe_iinc; rw [hk]; subst hs; rfl
theorem xa_ii {f : Int32 → Int32 → Int32} (hP : xp i pc = some (.inl (xe_ii f nx))) (x y : Int32) : xa d i pc la (.int y :: .int x :: st) h = xa d i nx la (.int (f x y) :: st) h := by rw [xa_e hP]; rfl
theorem xa_iid {f : Int32 → Int32 → Int32} (hP : xp i pc = some (.inl (xe_iid f nx))) (x y : Int32) (hy : ¬ y = 0) : xa d i pc la (.int y :: .int x :: st) h = xa d i nx la (.int (f x y) :: st) h := by rw [xa_e hP]; unfold xe_iid; simp only [hy, if_false]; rfl
theorem xa_ll {f : Int64 → Int64 → Int64} (hP : xp i pc = some (.inl (xe_ll f nx))) (x y : Int64) : xa d i pc la (.long y :: .long x :: st) h = xa d i nx la (.long (f x y) :: st) h := by rw [xa_e hP]; rfl
theorem xa_lld {f : Int64 → Int64 → Int64} (hP : xp i pc = some (.inl (xe_lld f nx))) (x y : Int64) (hy : ¬ y = 0) : xa d i pc la (.long y :: .long x :: st) h = xa d i nx la (.long (f x y) :: st) h := by rw [xa_e hP]; unfold xe_lld; simp only [hy, if_false]; rfl
theorem xa_li {f : Int64 → Int32 → Int64} (hP : xp i pc = some (.inl (xe_li f nx))) (x : Int64) (y : Int32) : xa d i pc la (.int y :: .long x :: st) h = xa d i nx la (.long (f x y) :: st) h := by rw [xa_e hP]; rfl
theorem xa_i {f : Int32 → Int32} (hP : xp i pc = some (.inl (xe_i f nx))) (x : Int32) : xa d i pc la (.int x :: st) h = xa d i nx la (.int (f x) :: st) h := by rw [xa_e hP]; rfl
theorem xa_i2l (hP : xp i pc = some (.inl (xe_i2l nx))) (x : Int32) : xa d i pc la (.int x :: st) h = xa d i nx la (.long x.toInt64 :: st) h := by rw [xa_e hP]; rfl
theorem xa_l2i (hP : xp i pc = some (.inl (xe_l2i nx))) (x : Int64) : xa d i pc la (.long x :: st) h = xa d i nx la (.int x.toInt32 :: st) h := by rw [xa_e hP]; rfl
theorem xa_lcmp (hP : xp i pc = some (.inl (xe_lcmp nx))) (x y : Int64) : xa d i pc la (.long y :: .long x :: st) h = xa d i nx la (.int (lg_cmp x y) :: st) h := by rw [xa_e hP]; rfl
theorem xa_if {c : Int32 → Bool} (hP : xp i pc = some (.inl (xe_if c tg nx))) (x : Int32) : xa d i pc la (.int x :: st) h = if c x = true then xa d i tg la st h else xa d i nx la st h := by
  rw [xa_e hP]; unfold xe_if; cases hc : c x <;> simp [hc]
theorem xa_icmp {c : Int32 → Int32 → Bool} (hP : xp i pc = some (.inl (xe_icmp c tg nx))) (x y : Int32) : xa d i pc la (.int y :: .int x :: st) h = if c x y = true then xa d i tg la st h else xa d i nx la st h := by
  rw [xa_e hP]; unfold xe_icmp; cases hc : c x y <;> simp [hc]
theorem xa_goto (hP : xp i pc = some (.inl (xe_goto tg))) : xa d i pc la st h = xa d i tg la st h := by rw [xa_e hP]; rfl
theorem xa_nullN (hP : xp i pc = some (.inl (xe_null tg nx))) : xa d i pc la (.null :: st) h = xa d i tg la st h := by rw [xa_e hP]; rfl
theorem xa_nullR (hP : xp i pc = some (.inl (xe_null tg nx))) (a : Nat) : xa d i pc la (.ref a :: st) h = xa d i nx la st h := by rw [xa_e hP]; rfl
theorem xa_pop (hP : xp i pc = some (.inl (xe_pop nx))) {v : Value} (hv : v.category = 1) : xa d i pc la (v :: st) h = xa d i nx la st h := by rw [xa_e hP]; unfold xe_pop; simp only [hv, if_true]; rfl
theorem xa_dup (hP : xp i pc = some (.inl (xe_dup nx))) {v : Value} (hv : v.category = 1) : xa d i pc la (v :: st) h = xa d i nx la (v :: v :: st) h := by rw [xa_e hP]; unfold xe_dup; simp only [hv, if_true]; rfl
theorem xa_dup_x1 (hP : xp i pc = some (.inl (xe_dup_x1 nx))) {v w : Value} (hv : v.category = 1) (hw : w.category = 1) : xa d i pc la (v :: w :: st) h = xa d i nx la (v :: w :: v :: st) h := by rw [xa_e hP]; unfold xe_dup_x1; simp only [hv, hw, and_self, if_true]; rfl
theorem xa_dup2 (hP : xp i pc = some (.inl (xe_dup2 nx))) {v w : Value} (hv : v.category = 1) (hw : w.category = 1) : xa d i pc la (v :: w :: st) h = xa d i nx la (v :: w :: v :: w :: st) h := by rw [xa_e hP]; unfold xe_dup2; simp only [hv, hw, and_self, if_true]; rfl
theorem xa_sw {lo : Int} {offs : List Nat} {dt : Nat} (hP : xp i pc = some (.inl (xe_sw lo offs dt))) (x : Int32) : xa d i pc la (.int x :: st) h = xa d i (if x.toInt < lo then dt else (offs[(x.toInt - lo).toNat]?).getD dt) la st h := by rw [xa_e hP]; rfl
theorem xa_getf {ci j : Nat} (hP : xp i pc = some (.inl (xe_getf (xj_1 ci j) nx))) (a : Nat) : xa d i pc la (.ref a :: st) h = x_push (x_fld ci j h a) d i nx la st h := by
  rw [xa_e hP]; unfold xe_getf x_fld xj_1
  cases hh : h.2.2 a with
  | none => simp [hh, x_push]
  | some c =>
    cases c with
    | inl o => simp only [hh]; by_cases hc : o.1 = ci <;> simp [hc, x_push]
    | inr o => simp [hh, x_push]
theorem xa_putf {kd ci j : Nat} (hP : xp i pc = some (.inl (xe_putf 300 kd (xj_1 ci j) nx))) (a : Nat) {v : Value} (hv : xm_kd kd v = true) : xa d i pc la (v :: .ref a :: st) h = x_heap (x_put ci j h a v) d i nx la st := by
  rw [xa_e hP]; unfold xe_putf x_put xj_1
  cases hh : h.2.2 a with
  | none => simp [hh, x_heap]
  | some c =>
    cases c with
    | inl o =>
      simp only [hh]
      by_cases hc : o.1 = ci
      · by_cases ha : 300 ≤ a <;> simp [hc, ha, hv, x_heap]
      · simp [hc, x_heap]
    | inr o => simp [hh, x_heap]
theorem xa_ald {ok : Nat → Bool} (hP : xp i pc = some (.inl (xe_ald ok nx))) (a : Nat) (k : Int32) : xa d i pc la (.int k :: .ref a :: st) h = x_push (x_ald ok h a k) d i nx la st h := by
  rw [xa_e hP]; unfold xe_ald x_ald
  cases hh : h.2.2 a with
  | none => simp [hh, x_push]
  | some c =>
    cases c with
    | inl o => simp [hh, x_push]
    | inr o =>
      obtain ⟨t, n, f⟩ := o
      simp only [hh]
      by_cases hc : ok t = true ∧ ¬ (k < 0 ∨ n ≤ k.toNatClampNeg) <;> simp only [hc, if_true, if_false] <;> rfl
theorem xa_alen (hP : xp i pc = some (.inl (xe_alen nx))) (a : Nat) : xa d i pc la (.ref a :: st) h = x_push (x_alen h a) d i nx la st h := by
  rw [xa_e hP]; unfold xe_alen x_alen
  cases hh : h.2.2 a with
  | none => simp [hh, x_push]
  | some c =>
    cases c with
    | inl o => simp [hh, x_push]
    | inr o => simp [hh, x_push]
theorem xa_ast {t0 : Nat} {ok : Value → Bool} (hP : xp i pc = some (.inl (xe_ast 300 t0 ok nx))) (a : Nat) (k : Int32) {v : Value} (hv : ok v = true) : xa d i pc la (v :: .int k :: .ref a :: st) h = x_heap (x_ast t0 h a k v) d i nx la st := by
  rw [xa_e hP]; unfold xe_ast x_ast
  cases hh : h.2.2 a with
  | none => simp [hh, x_heap]
  | some c =>
    cases c with
    | inl o => simp [hh, x_heap]
    | inr o =>
      obtain ⟨t, n, f⟩ := o
      simp only [hh, hv]
      by_cases hc : 300 ≤ a ∧ t = t0 ∧ ¬ (k < 0 ∨ n ≤ k.toNatClampNeg)
      · simp only [hc, true_and]; simp only [not_false_eq_true, and_self, if_true]; rfl
      · have hc' : ¬ (300 ≤ a ∧ t = t0 ∧ True ∧ ¬ (k < 0 ∨ n ≤ k.toNatClampNeg)) := fun q => hc ⟨q.1, q.2.1, q.2.2.2⟩
        simp only [if_neg hc]
        simp only [hc', if_false]; rfl
theorem xa_objInit (hP : xp i pc = some (.inl (xe_objInit nx))) (a : Nat) (hs : (st.map fun v => v.category).sum ≤ 20) : xa d i pc la (.ref a :: st) h = xa d i nx la st h := by
  rw [xa_e hP]; unfold xe_objInit; simp only [hs, if_true]; rfl
theorem xa_new {ci N : Nat} {fs : Nat → Value} (hP : xp i pc = some (.inl (xe_new ci N fs nx))) : xa d i pc la st h = xa d i nx la (.ref h.1 :: st) (xm_new h N (.inl (ci, fs))) := by rw [xa_e hP]; rfl
def x_newa (t : Nat) (v : Value) (mx : Nat) (h : xm_H) (n : Int32) : Option xm_H := if n < 0 ∨ mx < n.toNatClampNeg then none else some (xm_new h n.toNatClampNeg (.inr (t, n.toNatClampNeg, fun _ => v)))
theorem xa_newa {t mx : Nat} {v : Value} (hP : xp i pc = some (.inl (xe_newa t v mx nx))) (n : Int32) : xa d i pc la (.int n :: st) h = x_made (x_newa t v mx h n) h.1 d i nx la st := by
  rw [xa_e hP]; unfold xe_newa x_newa
  by_cases hc : n < 0 ∨ mx < n.toNatClampNeg <;> simp only [hc, if_true, if_false] <;> rfl
theorem xa_S {y : Nat} {ks : List Nat} (hP : xp i pc = some (.inr (.inr (.inl (xc_S y ks))))) {av rest : List Value} (hp : xm_pop ks [] st = some (av, rest)) (hs : (rest.map fun v => v.category).sum ≤ 20) : xa (d + 1) i pc la st h = x_call (xr d y av h) (d + 1) i pc la rest := by
  rw [xa_c hP]; unfold xc_S; rw [hp]; simp only [hs, if_true]; rfl
theorem xa_I {y : Nat} {ks : List Nat} (hP : xp i pc = some (.inr (.inr (.inl (xc_I y ks))))) {av rest : List Value} {b : Nat} (hp : xm_pop ks [] st = some (av, .ref b :: rest)) (hs : (rest.map fun v => v.category).sum ≤ 20) : xa (d + 1) i pc la st h = x_call (xr d y (.ref b :: av) h) (d + 1) i pc la rest := by
  rw [xa_c hP]; unfold xc_I; rw [hp]; simp only [hs, if_true]; rfl
theorem xa_V {y ci : Nat} {ks : List Nat} (hP : xp i pc = some (.inr (.inr (.inl (xc_V (xj_1 ci y) ks))))) {av rest : List Value} {b : Nat} (hp : xm_pop ks [] st = some (av, .ref b :: rest)) (hs : (rest.map fun v => v.category).sum ≤ 20) (hc : x_cls h b = some ci) : xa (d + 1) i pc la st h = x_call (xr d y (.ref b :: av) h) (d + 1) i pc la rest := by
  rw [xa_c hP]; unfold xc_V; rw [hp]
  unfold x_cls at hc
  cases hh : h.2.2 b with
  | none => rw [hh] at hc; cases hc
  | some c =>
    rw [hh] at hc
    cases c with
    | inl o =>
      simp only [Option.some.injEq] at hc
      simp only [hh, xj_1, hc, if_true, hs]; rfl
    | inr o => cases hc
theorem xa_ri (hP : xp i pc = some (.inr (.inl xr_i))) (x : Int32) : xa d i pc la [.int x] h = some (.returned (some (.int x)), h) := by rw [xa_ret hP]; rfl
theorem xa_rz (hP : xp i pc = some (.inr (.inl xr_z))) (x : Int32) (hx : x = 0 ∨ x = 1) : xa d i pc la [.int x] h = some (.returned (some (.int x)), h) := by rw [xa_ret hP]; unfold xr_z; simp only [hx, if_true]; rfl
theorem xa_rl (hP : xp i pc = some (.inr (.inl xr_l))) (x : Int64) : xa d i pc la [.long x] h = some (.returned (some (.long x)), h) := by rw [xa_ret hP]; rfl
theorem xa_ra (hP : xp i pc = some (.inr (.inl xr_a))) (x : Nat) : xa d i pc la [.ref x] h = some (.returned (some (.ref x)), h) := by rw [xa_ret hP]; rfl
theorem xa_raN (hP : xp i pc = some (.inr (.inl xr_a))) : xa d i pc la [.null] h = some (.returned (some .null), h) := by rw [xa_ret hP]; rfl
theorem xa_rv (hP : xp i pc = some (.inr (.inl xr_v))) : xa d i pc la [] h = some (.returned none, h) := by rw [xa_ret hP]; rfl
end XOps
section XOps2
variable {d i pc nx tg : Nat} {la st : List Value} {h : xm_H}
theorem xa_ifP {p : Int32 → Prop} [inst : ∀ x, Decidable (p x)] (hP : xp i pc = some (.inl (xe_if (fun x => decide (p x)) tg nx))) (x : Int32) : xa d i pc la (.int x :: st) h = if p x then xa d i tg la st h else xa d i nx la st h := by
  rw [xa_if hP]; simp only [decide_eq_true_eq]
theorem xa_icmpP {p : Int32 → Int32 → Prop} [inst : ∀ x y, Decidable (p x y)] (hP : xp i pc = some (.inl (xe_icmp (fun x y => decide (p x y)) tg nx))) (x y : Int32) : xa d i pc la (.int y :: .int x :: st) h = if p x y then xa d i tg la st h else xa d i nx la st h := by
  rw [xa_icmp hP]; simp only [decide_eq_true_eq]
/-- a field of an object of one of some classes -/
def x_fldL (l : List (Nat × Nat)) (h : xm_H) (a : Nat) : Option Value := match h.2.2 a with
  | some (.inl o) => (l.lookup o.1).map fun j => o.2 j
  | _ => none
theorem xa_getfL {l : List (Nat × Nat)} (hP : xp i pc = some (.inl (xe_getf (xj_l l) nx))) (a : Nat) : xa d i pc la (.ref a :: st) h = x_push (x_fldL l h a) d i nx la st h := by
  rw [xa_e hP]; unfold xe_getf x_fldL xj_l
  cases hh : h.2.2 a with
  | none => simp [hh, x_push]
  | some c =>
    cases c with
    | inl o => simp only [hh]; cases hl : l.lookup o.1 <;> simp [x_push]
    | inr o => simp [hh, x_push]
theorem xa_VL {y ci : Nat} {l : List (Nat × Nat)} {ks : List Nat} (hP : xp i pc = some (.inr (.inr (.inl (xc_V (xj_l l) ks))))) {av rest : List Value} {b : Nat} (hp : xm_pop ks [] st = some (av, .ref b :: rest)) (hs : (rest.map fun v => v.category).sum ≤ 20) (hc : x_cls h b = some ci) (hl : l.lookup ci = some y) : xa (d + 1) i pc la st h = x_call (xr d y (.ref b :: av) h) (d + 1) i pc la rest := by
  rw [xa_c hP]; unfold xc_V; rw [hp]
  unfold x_cls at hc
  cases hh : h.2.2 b with
  | none => rw [hh] at hc; cases hc
  | some c =>
    rw [hh] at hc
    cases c with
    | inl o =>
      simp only [Option.some.injEq] at hc
      simp only [hh, xj_l, hc, hl, if_true, hs]; rfl
    | inr o => cases hc
def x_aast (h : xm_H) (a : Nat) (k : Int32) (v : Value) : Option xm_H := match h.2.2 a with
  | some (.inr (t, n, f)) => match v with
    | .null => if 300 ≤ a ∧ 4 ≤ t ∧ ¬ (k < 0 ∨ n ≤ k.toNatClampNeg) then some (xm_put h a (.inr (t, n, updV f k.toNatClampNeg .null))) else none
    | .ref b => match h.2.2 b with
      | some (.inl o) => if 300 ≤ a ∧ t < 8 ∧ xk_as t o.1 = true ∧ ¬ (k < 0 ∨ n ≤ k.toNatClampNeg) then some (xm_put h a (.inr (t, n, updV f k.toNatClampNeg (.ref b)))) else none
      | _ => none
    | _ => none
  | _ => none
theorem xa_aastR (hP : xp i pc = some (.inl (xe_aast 300 xk_as nx))) (a b : Nat) (k : Int32) : xa d i pc la (.ref b :: .int k :: .ref a :: st) h = x_heap (x_aast h a k (.ref b)) d i nx la st := by
  rw [xa_e hP]; unfold xe_aast x_aast
  cases hh : h.2.2 a with
  | none => simp [hh, x_heap]
  | some c =>
    cases c with
    | inl o => simp [hh, x_heap]
    | inr o =>
      obtain ⟨t, n, f⟩ := o
      simp only [hh]
      cases hb : h.2.2 b with
      | none => simp [hb, x_heap]
      | some cb =>
        cases cb with
        | inr o => simp [hb, x_heap]
        | inl o =>
          simp only [hb]
          by_cases hc : 300 ≤ a ∧ t < 8 ∧ xk_as t o.1 = true ∧ ¬ (k < 0 ∨ n ≤ k.toNatClampNeg)
          · simp only [if_pos hc]; rfl
          · simp only [if_neg hc]; rfl
theorem xa_aastN (hP : xp i pc = some (.inl (xe_aast 300 xk_as nx))) (a : Nat) (k : Int32) : xa d i pc la (.null :: .int k :: .ref a :: st) h = x_heap (x_aast h a k .null) d i nx la st := by
  rw [xa_e hP]; unfold xe_aast x_aast
  cases hh : h.2.2 a with
  | none => simp [hh, x_heap]
  | some c =>
    cases c with
    | inl o => simp [hh, x_heap]
    | inr o =>
      obtain ⟨t, n, f⟩ := o
      simp only [hh]
      by_cases hc : 300 ≤ a ∧ 4 ≤ t ∧ ¬ (k < 0 ∨ n ≤ k.toNatClampNeg)
      · simp only [if_pos hc]; rfl
      · simp only [if_neg hc]; rfl
theorem xa_castN {ok : Nat → Bool} (hP : xp i pc = some (.inl (xe_cast ok nx))) : xa d i pc la (.null :: st) h = xa d i nx la (.null :: st) h := by rw [xa_e hP]; rfl
theorem xa_cast {ok : Nat → Bool} (hP : xp i pc = some (.inl (xe_cast ok nx))) (a : Nat) {ci : Nat} (hc : x_cls h a = some ci) (hk : ok ci = true) : xa d i pc la (.ref a :: st) h = xa d i nx la (.ref a :: st) h := by
  rw [xa_e hP]; unfold xe_cast
  unfold x_cls at hc
  cases hh : h.2.2 a with
  | none => rw [hh] at hc; cases hc
  | some c =>
    rw [hh] at hc
    cases c with
    | inl o =>
      simp only [Option.some.injEq] at hc
      simp only [hh, hc, hk, if_true]; rfl
    | inr o => cases hc
theorem xa_rc (hP : xp i pc = some (.inr (.inl xr_c))) (x : Int32) (hx : narrow .char (.int x) = .int x) : xa d i pc la [.int x] h = some (.returned (some (.int x)), h) := by rw [xa_ret hP]; unfold xr_c; simp only [hx, if_true]; rfl
theorem xa_rb (hP : xp i pc = some (.inr (.inl xr_b))) (x : Int32) (hx : narrow .byte (.int x) = .int x) : xa d i pc la [.int x] h = some (.returned (some (.int x)), h) := by rw [xa_ret hP]; unfold xr_b; simp only [hx, if_true]; rfl
end XOps2
theorem xs_cl_i (x : Int32) : xs_cl (.int x) = .int x := rfl
theorem xs_cl_r (x : Nat) : xs_cl (.ref x) = .ref x := rfl
theorem xs_cl_n : xs_cl .null = .null := rfl
theorem xs_cl_u (n : Nat) : xs_cl (.retAddr n) = .retAddr n := rfl
theorem xs_cl_l (x : Int64) : xs_cl (.long x) = .retAddr 0 := rfl
