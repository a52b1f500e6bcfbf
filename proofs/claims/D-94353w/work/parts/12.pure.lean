/-! PURE STEPS: constants, locals, arithmetic, branches -/
def xs_cl (v : Value) : Value := match v with
  | .long _ => .retAddr 0
  | .double _ => .retAddr 0
  | w => w
def xs_h : Nat → Value → Value
  | 0, a => xs_cl a
  | _ + 1, a => a
def xs_1 : List Value → Nat → Value → List Value
  | [], _, _ => []
  | _ :: l, 0, v => v :: l
  | a :: l, i + 1, v => xs_h i a :: xs_1 l i v
def xs_2 : List Value → Nat → Value → List Value
  | [], _, _ => []
  | [_], 0, v => [v]
  | _ :: _ :: l, 0, v => v :: .retAddr 0 :: l
  | a :: l, i + 1, v => xs_h i a :: xs_2 l i v
theorem xs_cl_eq (v : Value) : (if v.category == 2 then Value.retAddr 0 else v) = xs_cl v := by cases v <;> rfl
theorem xs_1_eq : ∀ (la : List Value) (i : Nat) (v : Value), xs_1 la i v = xm_st1 la i v
  | [], i, v => by simp [xs_1, xm_st1]
  | a :: l, 0, v => by
    refine List.ext_getElem? fun k => ?_
    cases k with
    | zero => simp [xs_1, xm_st1]
    | succ k => simp [xs_1, xm_st1]
  | a :: l, i + 1, v => by
    have ih := xs_1_eq l i v
    refine List.ext_getElem? fun k => ?_
    cases k with
    | zero =>
      cases i with
      | zero => simp only [xs_1, xm_st1, xs_h]; simp [← xs_cl_eq]
      | succ i => simp only [xs_1, xm_st1, xs_h]; simp
    | succ k =>
      have h1 : (xs_1 (a :: l) (i + 1) v)[k + 1]? = (xs_1 l i v)[k]? := by simp only [xs_1, List.getElem?_cons_succ]
      rw [h1, ih]
      simp only [xm_st1, List.mapIdx_cons, List.set_cons_succ, List.getElem?_cons_succ]
      have hf : (fun (k : Nat) (w : Value) => if (decide (k + 1 + 1 = i + 1) && w.category == 2) = true then Value.retAddr 0 else w) = (fun (k : Nat) (w : Value) => if (decide (k + 1 = i) && w.category == 2) = true then Value.retAddr 0 else w) := by
        funext q w
        simp
      rw [hf]
theorem xs_2_eq : ∀ (la : List Value) (i : Nat) (v : Value), xs_2 la i v = xm_st2 la i v
  | [], i, v => by simp [xs_2, xm_st2]
  | [a], 0, v => by
    refine List.ext_getElem? fun k => ?_
    cases k with
    | zero => simp [xs_2, xm_st2]
    | succ k => simp [xs_2, xm_st2]
  | a :: b :: l, 0, v => by
    refine List.ext_getElem? fun k => ?_
    cases k with
    | zero => simp [xs_2, xm_st2]
    | succ k =>
      cases k with
      | zero => simp [xs_2, xm_st2]
      | succ k => simp [xs_2, xm_st2]
  | a :: l, i + 1, v => by
    have ih := xs_2_eq l i v
    have h0 : xs_2 (a :: l) (i + 1) v = xs_h i a :: xs_2 l i v := by
      cases l <;> rfl
    refine List.ext_getElem? fun k => ?_
    rw [h0]
    cases k with
    | zero =>
      cases i with
      | zero => simp only [xm_st2, xs_h]; simp [← xs_cl_eq]
      | succ i => simp only [xm_st2, xs_h]; simp
    | succ k =>
      rw [List.getElem?_cons_succ, ih]
      simp only [xm_st2, List.mapIdx_cons, List.set_cons_succ, List.getElem?_cons_succ]
      have hf : (fun (k : Nat) (w : Value) => if (decide (k + 1 + 1 = i + 1) && w.category == 2) = true then Value.retAddr 0 else w) = (fun (k : Nat) (w : Value) => if (decide (k + 1 = i) && w.category == 2) = true then Value.retAddr 0 else w) := by
        funext q w
        simp
      rw [hf]
section XPure
variable {B : xm_T} {G : xm_G} {own nm : String} {cc : ByteArray} {nL pc : Nat}
def xe_push (v : Value) (nx : Nat) : xm_E := fun la st h => some (nx, la, v :: st, h)
def xe_iload (k nx : Nat) : xm_E := fun la st h => match la[k]? with
  | some (.int x) => some (nx, la, .int x :: st, h)
  | _ => none
def xe_lload (k nx : Nat) : xm_E := fun la st h => match la[k]? with
  | some (.long x) => some (nx, la, .long x :: st, h)
  | _ => none
def xe_aload (k nx : Nat) : xm_E := fun la st h => match la[k]? with
  | some (.ref x) => some (nx, la, .ref x :: st, h)
  | some .null => some (nx, la, .null :: st, h)
  | _ => none
def xe_istore (k nx : Nat) : xm_E := fun la st h => match st with
  | .int x :: r => if k < la.length then some (nx, xs_1 la k (.int x), r, h) else none
  | _ => none
def xe_lstore (k nx : Nat) : xm_E := fun la st h => match st with
  | .long x :: r => if k + 1 < la.length then some (nx, xs_2 la k (.long x), r, h) else none
  | _ => none
def xe_astore (k nx : Nat) : xm_E := fun la st h => match st with
  | .ref x :: r => if k < la.length then some (nx, xs_1 la k (.ref x), r, h) else none
  | .null :: r => if k < la.length then some (nx, xs_1 la k .null, r, h) else none
  | _ => none
def xe_iinc (k : Nat) (n : Int32) (nx : Nat) : xm_E := fun la st h => match la[k]? with
  | some (.int x) => some (nx, xs_1 la k (.int (x + n)), st, h)
  | _ => none
def xe_ii (f : Int32 → Int32 → Int32) (nx : Nat) : xm_E := fun la st h => match st with
  | .int y :: .int x :: r => some (nx, la, .int (f x y) :: r, h)
  | _ => none
def xe_iid (f : Int32 → Int32 → Int32) (nx : Nat) : xm_E := fun la st h => match st with
  | .int y :: .int x :: r => if y = 0 then none else some (nx, la, .int (f x y) :: r, h)
  | _ => none
def xe_ll (f : Int64 → Int64 → Int64) (nx : Nat) : xm_E := fun la st h => match st with
  | .long y :: .long x :: r => some (nx, la, .long (f x y) :: r, h)
  | _ => none
def xe_lld (f : Int64 → Int64 → Int64) (nx : Nat) : xm_E := fun la st h => match st with
  | .long y :: .long x :: r => if y = 0 then none else some (nx, la, .long (f x y) :: r, h)
  | _ => none
def xe_li (f : Int64 → Int32 → Int64) (nx : Nat) : xm_E := fun la st h => match st with
  | .int y :: .long x :: r => some (nx, la, .long (f x y) :: r, h)
  | _ => none
def xe_i (f : Int32 → Int32) (nx : Nat) : xm_E := fun la st h => match st with
  | .int x :: r => some (nx, la, .int (f x) :: r, h)
  | _ => none
def xe_i2l (nx : Nat) : xm_E := fun la st h => match st with
  | .int x :: r => some (nx, la, .long x.toInt64 :: r, h)
  | _ => none
def xe_l2i (nx : Nat) : xm_E := fun la st h => match st with
  | .long x :: r => some (nx, la, .int x.toInt32 :: r, h)
  | _ => none
def xe_lcmp (nx : Nat) : xm_E := fun la st h => match st with
  | .long y :: .long x :: r => some (nx, la, .int (lg_cmp x y) :: r, h)
  | _ => none
def xe_if (c : Int32 → Bool) (tg nx : Nat) : xm_E := fun la st h => match st with
  | .int x :: r => some (cond (c x) tg nx, la, r, h)
  | _ => none
def xe_icmp (c : Int32 → Int32 → Bool) (tg nx : Nat) : xm_E := fun la st h => match st with
  | .int y :: .int x :: r => some (cond (c x y) tg nx, la, r, h)
  | _ => none
def xe_goto (tg : Nat) : xm_E := fun la st h => some (tg, la, st, h)
def xe_null (tn tr : Nat) : xm_E := fun la st h => match st with
  | .null :: r => some (tn, la, r, h)
  | .ref _ :: r => some (tr, la, r, h)
  | _ => none
def xe_pop (nx : Nat) : xm_E := fun la st h => match st with
  | v :: r => if v.category = 1 then some (nx, la, r, h) else none
  | _ => none
def xe_dup (nx : Nat) : xm_E := fun la st h => match st with
  | v :: r => if v.category = 1 then some (nx, la, v :: v :: r, h) else none
  | _ => none
def xe_dup_x1 (nx : Nat) : xm_E := fun la st h => match st with
  | v :: w :: r => if v.category = 1 ∧ w.category = 1 then some (nx, la, v :: w :: v :: r, h) else none
  | _ => none
def xe_dup2 (nx : Nat) : xm_E := fun la st h => match st with
  | v :: w :: r => if v.category = 1 ∧ w.category = 1 then some (nx, la, v :: w :: v :: w :: r, h) else none
  | _ => none
def xe_sw (lo : Int) (offs : List Nat) (dflt : Nat) : xm_E := fun la st h => match st with
  | .int x :: r => some ((if x.toInt < lo then dflt else (offs[(x.toInt - lo).toNat]?).getD dflt), la, r, h)
  | _ => none
theorem xo_iconst {n : Int} {v : Int32} (hd : decode cc pc = .ok (.iconst n, 1)) (hv : Int32.ofInt n = v) : xm_OK B G own nm cc nL pc (xe_push (.int v) (pc + 1)) := by
  refine xm_pure fun p l e R s m args below meth c H locs cells slots Q ls la st h pc' la' st' h' hx hb hl he => ?_
  cases he
  exact ⟨rfl, rfl, fun k => lv_iconst hx hb hd hv k⟩
theorem xo_bipush {n : Int} {v : Int32} (hd : decode cc pc = .ok (.bipush n, 2)) (hv : (Int8.ofInt n).toInt32 = v) : xm_OK B G own nm cc nL pc (xe_push (.int v) (pc + 2)) := by
  refine xm_pure fun p l e R s m args below meth c H locs cells slots Q ls la st h pc' la' st' h' hx hb hl he => ?_
  cases he
  exact ⟨rfl, rfl, fun k => lv_bipush hx hb hd hv k⟩
theorem xo_sipush {n : Int} {v : Int32} (hd : decode cc pc = .ok (.sipush n, 3)) (hv : (Int16.ofInt n).toInt32 = v) : xm_OK B G own nm cc nL pc (xe_push (.int v) (pc + 3)) := by
  refine xm_pure fun p l e R s m args below meth c H locs cells slots Q ls la st h pc' la' st' h' hx hb hl he => ?_
  cases he
  exact ⟨rfl, rfl, fun k => lv_sipush hx hb hd hv k⟩
theorem xo_lconst {n : Fin 2} {v : Int64} (hd : decode cc pc = .ok (.lconst n, 1)) (hv : Int64.ofNat (n : Nat) = v) : xm_OK B G own nm cc nL pc (xe_push (.long v) (pc + 1)) := by
  refine xm_pure fun p l e R s m args below meth c H locs cells slots Q ls la st h pc' la' st' h' hx hb hl he => ?_
  cases he
  exact ⟨rfl, rfl, fun k => lv_lconst hx hb hd hv k⟩
theorem xo_anull (hd : decode cc pc = .ok (.aconst_null, 1)) : xm_OK B G own nm cc nL pc (xe_push .null (pc + 1)) := by
  refine xm_pure fun p l e R s m args below meth c H locs cells slots Q ls la st h pc' la' st' h' hx hb hl he => ?_
  cases he
  exact ⟨rfl, rfl, fun k => lv_null hx hb hd k⟩
theorem xo_iload_n {k : Fin 4} {i : Nat} (hd : decode cc pc = .ok (.iload_n k, 1)) (hi : (k : Nat) = i) : xm_OK B G own nm cc nL pc (xe_iload i (pc + 1)) := by
  refine xm_pure fun p l e R s m args below meth c H locs cells slots Q ls la st h pc' la' st' h' hx hb hl he => ?_
  unfold xe_iload at he
  split at he
  · rename_i x hx2
    cases he
    exact ⟨rfl, rfl, fun q => lv_iload_n hx hb hd hi (hl.at hx2 rfl) q⟩
  · cases he
theorem xo_iload {i : Nat} (hd : decode cc pc = .ok (.iload i, 2)) : xm_OK B G own nm cc nL pc (xe_iload i (pc + 2)) := by
  refine xm_pure fun p l e R s m args below meth c H locs cells slots Q ls la st h pc' la' st' h' hx hb hl he => ?_
  unfold xe_iload at he
  split at he
  · rename_i x hx2
    cases he
    exact ⟨rfl, rfl, fun q => lv_iload hx hb hd (hl.at hx2 rfl) q⟩
  · cases he
theorem xo_lload_n {k : Fin 4} {i : Nat} (hd : decode cc pc = .ok (.lload_n k, 1)) (hi : (k : Nat) = i) : xm_OK B G own nm cc nL pc (xe_lload i (pc + 1)) := by
  refine xm_pure fun p l e R s m args below meth c H locs cells slots Q ls la st h pc' la' st' h' hx hb hl he => ?_
  unfold xe_lload at he
  split at he
  · rename_i x hx2
    cases he
    exact ⟨rfl, rfl, fun q => lv_lload_n hx hb hd hi (hl.at hx2 rfl) q⟩
  · cases he
theorem xo_lload {i : Nat} (hd : decode cc pc = .ok (.lload i, 2)) : xm_OK B G own nm cc nL pc (xe_lload i (pc + 2)) := by
  refine xm_pure fun p l e R s m args below meth c H locs cells slots Q ls la st h pc' la' st' h' hx hb hl he => ?_
  unfold xe_lload at he
  split at he
  · rename_i x hx2
    cases he
    exact ⟨rfl, rfl, fun q => lv_lload hx hb hd (hl.at hx2 rfl) q⟩
  · cases he
theorem xo_aload_n {k : Fin 4} {i : Nat} (hd : decode cc pc = .ok (.aload_n k, 1)) (hi : (k : Nat) = i) : xm_OK B G own nm cc nL pc (xe_aload i (pc + 1)) := by
  refine xm_pure fun p l e R s m args below meth c H locs cells slots Q ls la st h pc' la' st' h' hx hb hl he => ?_
  unfold xe_aload at he
  split at he
  · rename_i x hx2
    cases he
    exact ⟨rfl, rfl, fun q => lv_aload_n hx hb hd hi (hl.at hx2 rfl) q⟩
  · rename_i hx2
    cases he
    exact ⟨rfl, rfl, fun q => lv_aload_nN hx hb hd hi (hl.at hx2 rfl) q⟩
  · cases he
theorem xo_aload {i : Nat} (hd : decode cc pc = .ok (.aload i, 2)) : xm_OK B G own nm cc nL pc (xe_aload i (pc + 2)) := by
  refine xm_pure fun p l e R s m args below meth c H locs cells slots Q ls la st h pc' la' st' h' hx hb hl he => ?_
  unfold xe_aload at he
  split at he
  · rename_i x hx2
    cases he
    exact ⟨rfl, rfl, fun q => lv_aload hx hb hd (hl.at hx2 rfl) q⟩
  · rename_i hx2
    cases he
    exact ⟨rfl, rfl, fun q => lv_aloadN hx hb hd (hl.at hx2 rfl) q⟩
  · cases he
theorem xo_istore_n {k : Fin 4} {i : Nat} (hd : decode cc pc = .ok (.istore_n k, 1)) (hi : (k : Nat) = i) : xm_OK B G own nm cc nL pc (xe_istore i (pc + 1)) := by
  refine xm_local fun p l e R s m args below meth c H locs cells slots Q ls la st h pc' la' st' h' hx hb hl he => ?_
  unfold xe_istore at he
  split at he
  · split at he
    · rename_i hlt
      cases he
      refine ⟨rfl, fun kk => lv_istore_n hx hb hd hi hl.2 (by rw [← hl.1]; exact hlt) rfl (fun ls' h' => kk ls' ?_)⟩
      rw [xs_1_eq]
      exact xm_lv.st1 (v := .int _) hl.1 h'
    · cases he
  · cases he
theorem xo_istore {i : Nat} (hd : decode cc pc = .ok (.istore i, 2)) : xm_OK B G own nm cc nL pc (xe_istore i (pc + 2)) := by
  refine xm_local fun p l e R s m args below meth c H locs cells slots Q ls la st h pc' la' st' h' hx hb hl he => ?_
  unfold xe_istore at he
  split at he
  · split at he
    · rename_i hlt
      cases he
      refine ⟨rfl, fun kk => lv_istore hx hb hd  hl.2 (by rw [← hl.1]; exact hlt) rfl (fun ls' h' => kk ls' ?_)⟩
      rw [xs_1_eq]
      exact xm_lv.st1 (v := .int _) hl.1 h'
    · cases he
  · cases he
theorem xo_lstore_n {k : Fin 4} {i : Nat} (hd : decode cc pc = .ok (.lstore_n k, 1)) (hi : (k : Nat) = i) : xm_OK B G own nm cc nL pc (xe_lstore i (pc + 1)) := by
  refine xm_local fun p l e R s m args below meth c H locs cells slots Q ls la st h pc' la' st' h' hx hb hl he => ?_
  unfold xe_lstore at he
  split at he
  · split at he
    · rename_i hlt
      cases he
      refine ⟨rfl, fun kk => lv_lstore_n hx hb hd hi hl.2 (by rw [← hl.1]; exact hlt) rfl (fun ls' h' => kk ls' ?_)⟩
      rw [xs_2_eq]
      exact xm_lv.st2 (v := .long _) hl.1 h'
    · cases he
  · cases he
theorem xo_lstore {i : Nat} (hd : decode cc pc = .ok (.lstore i, 2)) : xm_OK B G own nm cc nL pc (xe_lstore i (pc + 2)) := by
  refine xm_local fun p l e R s m args below meth c H locs cells slots Q ls la st h pc' la' st' h' hx hb hl he => ?_
  unfold xe_lstore at he
  split at he
  · split at he
    · rename_i hlt
      cases he
      refine ⟨rfl, fun kk => lv_lstore hx hb hd  hl.2 (by rw [← hl.1]; exact hlt) rfl (fun ls' h' => kk ls' ?_)⟩
      rw [xs_2_eq]
      exact xm_lv.st2 (v := .long _) hl.1 h'
    · cases he
  · cases he
theorem xo_astore_n {k : Fin 4} {i : Nat} (hd : decode cc pc = .ok (.astore_n k, 1)) (hi : (k : Nat) = i) : xm_OK B G own nm cc nL pc (xe_astore i (pc + 1)) := by
  refine xm_local fun p l e R s m args below meth c H locs cells slots Q ls la st h pc' la' st' h' hx hb hl he => ?_
  unfold xe_astore at he
  split at he
  · split at he
    · rename_i hlt
      cases he
      refine ⟨rfl, fun kk => lv_astore_n hx hb hd hi hl.2 (by rw [← hl.1]; exact hlt) rfl (fun ls' h' => kk ls' ?_)⟩
      rw [xs_1_eq]
      exact xm_lv.st1 (v := .ref _) hl.1 h'
    · cases he
  · split at he
    · rename_i hlt
      cases he
      refine ⟨rfl, fun kk => lv_astore_nN hx hb hd hi hl.2 (by rw [← hl.1]; exact hlt) rfl (fun ls' h' => kk ls' ?_)⟩
      rw [xs_1_eq]
      exact xm_lv.st1 (v := .null) hl.1 h'
    · cases he
  · cases he
theorem xo_astore {i : Nat} (hd : decode cc pc = .ok (.astore i, 2)) : xm_OK B G own nm cc nL pc (xe_astore i (pc + 2)) := by
  refine xm_local fun p l e R s m args below meth c H locs cells slots Q ls la st h pc' la' st' h' hx hb hl he => ?_
  unfold xe_astore at he
  split at he
  · split at he
    · rename_i hlt
      cases he
      refine ⟨rfl, fun kk => lv_astore hx hb hd  hl.2 (by rw [← hl.1]; exact hlt) rfl (fun ls' h' => kk ls' ?_)⟩
      rw [xs_1_eq]
      exact xm_lv.st1 (v := .ref _) hl.1 h'
    · cases he
  · split at he
    · rename_i hlt
      cases he
      refine ⟨rfl, fun kk => lv_astoreN hx hb hd  hl.2 (by rw [← hl.1]; exact hlt) rfl (fun ls' h' => kk ls' ?_)⟩
      rw [xs_1_eq]
      exact xm_lv.st1 (v := .null) hl.1 h'
    · cases he
  · cases he
theorem xo_iinc {i : Nat} {n : Int} {v : Int32} (hd : decode cc pc = .ok (.iinc i n, 3)) (hv : Int32.ofInt n = v) : xm_OK B G own nm cc nL pc (xe_iinc i v (pc + 3)) := by
  refine xm_local fun p l e R s m args below meth c H locs cells slots Q ls la st h pc' la' st' h' hx hb hl he => ?_
  unfold xe_iinc at he
  split at he
  · rename_i x hx2
    cases he
    obtain ⟨j, hj⟩ := List.getElem?_of_mem (xm_prs_mem (ad := G.2.1) hx2 rfl)
    subst hv
    refine ⟨rfl, fun kk => lv_iinc (k := j) hx hb hd hl.2 hj rfl (by rw [← hl.1]; exact (List.getElem?_eq_some_iff.mp hx2).1) rfl (fun ls' h' => kk ls' ?_)⟩
    rw [xs_1_eq]
    exact xm_lv.st1 (v := .int _) hl.1 h'
  · cases he
theorem xo_iadd (hd : decode cc pc = .ok (.iadd, 1)) : xm_OK B G own nm cc nL pc (xe_ii (fun x y => x + y) (pc + 1)) := by
  refine xm_pure fun p l e R s m args below meth c H locs cells slots Q ls la st h pc' la' st' h' hx hb hl he => ?_
  unfold xe_ii at he
  split at he
  · cases he
    exact ⟨rfl, rfl, fun k => lv_iadd hx hb hd k⟩
  · cases he
theorem xo_isub (hd : decode cc pc = .ok (.isub, 1)) : xm_OK B G own nm cc nL pc (xe_ii (fun x y => x - y) (pc + 1)) := by
  refine xm_pure fun p l e R s m args below meth c H locs cells slots Q ls la st h pc' la' st' h' hx hb hl he => ?_
  unfold xe_ii at he
  split at he
  · cases he
    exact ⟨rfl, rfl, fun k => lv_isub hx hb hd k⟩
  · cases he
theorem xo_imul (hd : decode cc pc = .ok (.imul, 1)) : xm_OK B G own nm cc nL pc (xe_ii (fun x y => x * y) (pc + 1)) := by
  refine xm_pure fun p l e R s m args below meth c H locs cells slots Q ls la st h pc' la' st' h' hx hb hl he => ?_
  unfold xe_ii at he
  split at he
  · cases he
    exact ⟨rfl, rfl, fun k => lv_imul hx hb hd k⟩
  · cases he
theorem xo_iand (hd : decode cc pc = .ok (.iand, 1)) : xm_OK B G own nm cc nL pc (xe_ii (fun x y => x &&& y) (pc + 1)) := by
  refine xm_pure fun p l e R s m args below meth c H locs cells slots Q ls la st h pc' la' st' h' hx hb hl he => ?_
  unfold xe_ii at he
  split at he
  · cases he
    exact ⟨rfl, rfl, fun k => lv_iand hx hb hd k⟩
  · cases he
theorem xo_ior (hd : decode cc pc = .ok (.ior, 1)) : xm_OK B G own nm cc nL pc (xe_ii (fun x y => x ||| y) (pc + 1)) := by
  refine xm_pure fun p l e R s m args below meth c H locs cells slots Q ls la st h pc' la' st' h' hx hb hl he => ?_
  unfold xe_ii at he
  split at he
  · cases he
    exact ⟨rfl, rfl, fun k => lv_ior hx hb hd k⟩
  · cases he
theorem xo_ixor (hd : decode cc pc = .ok (.ixor, 1)) : xm_OK B G own nm cc nL pc (xe_ii (fun x y => x ^^^ y) (pc + 1)) := by
  refine xm_pure fun p l e R s m args below meth c H locs cells slots Q ls la st h pc' la' st' h' hx hb hl he => ?_
  unfold xe_ii at he
  split at he
  · cases he
    exact ⟨rfl, rfl, fun k => lv_ixor hx hb hd k⟩
  · cases he
theorem xo_ishl (hd : decode cc pc = .ok (.ishl, 1)) : xm_OK B G own nm cc nL pc (xe_ii (fun x y => x <<< (y &&& 31)) (pc + 1)) := by
  refine xm_pure fun p l e R s m args below meth c H locs cells slots Q ls la st h pc' la' st' h' hx hb hl he => ?_
  unfold xe_ii at he
  split at he
  · cases he
    exact ⟨rfl, rfl, fun k => lv_ishl hx hb hd k⟩
  · cases he
theorem xo_ishr (hd : decode cc pc = .ok (.ishr, 1)) : xm_OK B G own nm cc nL pc (xe_ii (fun x y => x >>> (y &&& 31)) (pc + 1)) := by
  refine xm_pure fun p l e R s m args below meth c H locs cells slots Q ls la st h pc' la' st' h' hx hb hl he => ?_
  unfold xe_ii at he
  split at he
  · cases he
    exact ⟨rfl, rfl, fun k => lv_ishr hx hb hd k⟩
  · cases he
theorem xo_iushr (hd : decode cc pc = .ok (.iushr, 1)) : xm_OK B G own nm cc nL pc (xe_ii (fun x y => (x.toUInt32 >>> (y.toUInt32 &&& Int32.toUInt32 31)).toInt32) (pc + 1)) := by
  refine xm_pure fun p l e R s m args below meth c H locs cells slots Q ls la st h pc' la' st' h' hx hb hl he => ?_
  unfold xe_ii at he
  split at he
  · cases he
    exact ⟨rfl, rfl, fun k => lv_iushr hx hb hd rfl k⟩
  · cases he
theorem xo_ladd (hd : decode cc pc = .ok (.ladd, 1)) : xm_OK B G own nm cc nL pc (xe_ll (fun x y => x + y) (pc + 1)) := by
  refine xm_pure fun p l e R s m args below meth c H locs cells slots Q ls la st h pc' la' st' h' hx hb hl he => ?_
  unfold xe_ll at he
  split at he
  · cases he
    exact ⟨rfl, rfl, fun k => lv_ladd hx hb hd k⟩
  · cases he
theorem xo_lsub (hd : decode cc pc = .ok (.lsub, 1)) : xm_OK B G own nm cc nL pc (xe_ll (fun x y => x - y) (pc + 1)) := by
  refine xm_pure fun p l e R s m args below meth c H locs cells slots Q ls la st h pc' la' st' h' hx hb hl he => ?_
  unfold xe_ll at he
  split at he
  · cases he
    exact ⟨rfl, rfl, fun k => lv_lsub hx hb hd k⟩
  · cases he
theorem xo_lmul (hd : decode cc pc = .ok (.lmul, 1)) : xm_OK B G own nm cc nL pc (xe_ll (fun x y => x * y) (pc + 1)) := by
  refine xm_pure fun p l e R s m args below meth c H locs cells slots Q ls la st h pc' la' st' h' hx hb hl he => ?_
  unfold xe_ll at he
  split at he
  · cases he
    exact ⟨rfl, rfl, fun k => lv_lmul hx hb hd k⟩
  · cases he
theorem xo_land (hd : decode cc pc = .ok (.land, 1)) : xm_OK B G own nm cc nL pc (xe_ll (fun x y => x &&& y) (pc + 1)) := by
  refine xm_pure fun p l e R s m args below meth c H locs cells slots Q ls la st h pc' la' st' h' hx hb hl he => ?_
  unfold xe_ll at he
  split at he
  · cases he
    exact ⟨rfl, rfl, fun k => lv_land hx hb hd k⟩
  · cases he
theorem xo_lor (hd : decode cc pc = .ok (.lor, 1)) : xm_OK B G own nm cc nL pc (xe_ll (fun x y => x ||| y) (pc + 1)) := by
  refine xm_pure fun p l e R s m args below meth c H locs cells slots Q ls la st h pc' la' st' h' hx hb hl he => ?_
  unfold xe_ll at he
  split at he
  · cases he
    exact ⟨rfl, rfl, fun k => lv_lor hx hb hd k⟩
  · cases he
theorem xo_lxor (hd : decode cc pc = .ok (.lxor, 1)) : xm_OK B G own nm cc nL pc (xe_ll (fun x y => x ^^^ y) (pc + 1)) := by
  refine xm_pure fun p l e R s m args below meth c H locs cells slots Q ls la st h pc' la' st' h' hx hb hl he => ?_
  unfold xe_ll at he
  split at he
  · cases he
    exact ⟨rfl, rfl, fun k => lv_lxor hx hb hd k⟩
  · cases he
theorem xo_lshl (hd : decode cc pc = .ok (.lshl, 1)) : xm_OK B G own nm cc nL pc (xe_li (fun x y => x <<< (y.toInt64 &&& 63)) (pc + 1)) := by
  refine xm_pure fun p l e R s m args below meth c H locs cells slots Q ls la st h pc' la' st' h' hx hb hl he => ?_
  unfold xe_li at he
  split at he
  · cases he
    exact ⟨rfl, rfl, fun k => lv_lshl hx hb hd rfl k⟩
  · cases he
theorem xo_lshr (hd : decode cc pc = .ok (.lshr, 1)) : xm_OK B G own nm cc nL pc (xe_li (fun x y => x >>> (y.toInt64 &&& 63)) (pc + 1)) := by
  refine xm_pure fun p l e R s m args below meth c H locs cells slots Q ls la st h pc' la' st' h' hx hb hl he => ?_
  unfold xe_li at he
  split at he
  · cases he
    exact ⟨rfl, rfl, fun k => lv_lshr hx hb hd rfl k⟩
  · cases he
theorem xo_lushr (hd : decode cc pc = .ok (.lushr, 1)) : xm_OK B G own nm cc nL pc (xe_li (fun x y => (x.toUInt64 >>> (y.toInt64.toUInt64 &&& Int64.toUInt64 63)).toInt64) (pc + 1)) := by
  refine xm_pure fun p l e R s m args below meth c H locs cells slots Q ls la st h pc' la' st' h' hx hb hl he => ?_
  unfold xe_li at he
  split at he
  · cases he
    exact ⟨rfl, rfl, fun k => lv_lushr hx hb hd rfl k⟩
  · cases he
theorem xo_ineg (hd : decode cc pc = .ok (.ineg, 1)) : xm_OK B G own nm cc nL pc (xe_i (fun x => -x) (pc + 1)) := by
  refine xm_pure fun p l e R s m args below meth c H locs cells slots Q ls la st h pc' la' st' h' hx hb hl he => ?_
  unfold xe_i at he
  split at he
  · cases he
    exact ⟨rfl, rfl, fun k => lv_ineg hx hb hd k⟩
  · cases he
theorem xo_idiv (hd : decode cc pc = .ok (.idiv, 1)) : xm_OK B G own nm cc nL pc (xe_iid (fun x y => x / y) (pc + 1)) := by
  refine xm_pure fun p l e R s m args below meth c H locs cells slots Q ls la st h pc' la' st' h' hx hb hl he => ?_
  unfold xe_iid at he
  split at he
  · split at he
    · cases he
    · rename_i hne
      cases he
      exact ⟨rfl, rfl, fun k => lv_idiv hx hb hd hne k⟩
  · cases he
theorem xo_irem (hd : decode cc pc = .ok (.irem, 1)) : xm_OK B G own nm cc nL pc (xe_iid (fun x y => x - x / y * y) (pc + 1)) := by
  refine xm_pure fun p l e R s m args below meth c H locs cells slots Q ls la st h pc' la' st' h' hx hb hl he => ?_
  unfold xe_iid at he
  split at he
  · split at he
    · cases he
    · rename_i hne
      cases he
      exact ⟨rfl, rfl, fun k => lv_irem hx hb hd hne k⟩
  · cases he
theorem xo_ldiv (hd : decode cc pc = .ok (.ldiv, 1)) : xm_OK B G own nm cc nL pc (xe_lld (fun x y => x / y) (pc + 1)) := by
  refine xm_pure fun p l e R s m args below meth c H locs cells slots Q ls la st h pc' la' st' h' hx hb hl he => ?_
  unfold xe_lld at he
  split at he
  · split at he
    · cases he
    · rename_i hne
      cases he
      exact ⟨rfl, rfl, fun k => lv_ldiv hx hb hd hne k⟩
  · cases he
theorem xo_lrem (hd : decode cc pc = .ok (.lrem, 1)) : xm_OK B G own nm cc nL pc (xe_lld (fun x y => x - x / y * y) (pc + 1)) := by
  refine xm_pure fun p l e R s m args below meth c H locs cells slots Q ls la st h pc' la' st' h' hx hb hl he => ?_
  unfold xe_lld at he
  split at he
  · split at he
    · cases he
    · rename_i hne
      cases he
      exact ⟨rfl, rfl, fun k => lv_lrem hx hb hd hne k⟩
  · cases he
theorem xo_i2l (hd : decode cc pc = .ok (.i2l, 1)) : xm_OK B G own nm cc nL pc (xe_i2l (pc + 1)) := by
  refine xm_pure fun p l e R s m args below meth c H locs cells slots Q ls la st h pc' la' st' h' hx hb hl he => ?_
  unfold xe_i2l at he
  split at he
  · cases he
    exact ⟨rfl, rfl, fun k => lv_i2l hx hb hd rfl k⟩
  · cases he
theorem xo_l2i (hd : decode cc pc = .ok (.l2i, 1)) : xm_OK B G own nm cc nL pc (xe_l2i (pc + 1)) := by
  refine xm_pure fun p l e R s m args below meth c H locs cells slots Q ls la st h pc' la' st' h' hx hb hl he => ?_
  unfold xe_l2i at he
  split at he
  · cases he
    exact ⟨rfl, rfl, fun k => lv_l2i hx hb hd rfl k⟩
  · cases he
theorem xo_lcmp (hd : decode cc pc = .ok (.lcmp, 1)) : xm_OK B G own nm cc nL pc (xe_lcmp (pc + 1)) := by
  refine xm_pure fun p l e R s m args below meth c H locs cells slots Q ls la st h pc' la' st' h' hx hb hl he => ?_
  unfold xe_lcmp at he
  split at he
  · cases he
    refine ⟨rfl, rfl, fun k => ?_⟩
    exact W.lcmp hx hb hd k
  · cases he
theorem xo_if_eq {off : Int} {tgt : Nat} (hd : decode cc pc = .ok (.ifCond .eq off, 3)) (ht : (pc : Int) + off = (tgt : Int)) : xm_OK B G own nm cc nL pc (xe_if (fun x => decide (x = 0)) tgt (pc + 3)) := by
  refine xm_pure fun p l e R s m args below meth c H locs cells slots Q ls la st h pc' la' st' h' hx hb hl he => ?_
  unfold xe_if at he
  split at he
  · cases he
    refine ⟨rfl, rfl, fun k => lv_if_eq hx hb hd ht (fun q => ?_) (fun q => ?_)⟩
    · simpa [q] using k
    · simpa [q] using k
  · cases he
theorem xo_icmp_eq {off : Int} {tgt : Nat} (hd : decode cc pc = .ok (.if_icmp .eq off, 3)) (ht : (pc : Int) + off = (tgt : Int)) : xm_OK B G own nm cc nL pc (xe_icmp (fun x y => decide (x = y)) tgt (pc + 3)) := by
  refine xm_pure fun p l e R s m args below meth c H locs cells slots Q ls la st h pc' la' st' h' hx hb hl he => ?_
  unfold xe_icmp at he
  split at he
  · cases he
    refine ⟨rfl, rfl, fun k => lv_icmp_eq hx hb hd ht (fun q => ?_) (fun q => ?_)⟩
    · simpa [q] using k
    · simpa [q] using k
  · cases he
theorem xo_if_ne {off : Int} {tgt : Nat} (hd : decode cc pc = .ok (.ifCond .ne off, 3)) (ht : (pc : Int) + off = (tgt : Int)) : xm_OK B G own nm cc nL pc (xe_if (fun x => decide (¬ x = 0)) tgt (pc + 3)) := by
  refine xm_pure fun p l e R s m args below meth c H locs cells slots Q ls la st h pc' la' st' h' hx hb hl he => ?_
  unfold xe_if at he
  split at he
  · cases he
    refine ⟨rfl, rfl, fun k => lv_if_ne hx hb hd ht (fun q => ?_) (fun q => ?_)⟩
    · simpa [q] using k
    · simpa [q] using k
  · cases he
theorem xo_icmp_ne {off : Int} {tgt : Nat} (hd : decode cc pc = .ok (.if_icmp .ne off, 3)) (ht : (pc : Int) + off = (tgt : Int)) : xm_OK B G own nm cc nL pc (xe_icmp (fun x y => decide (¬ x = y)) tgt (pc + 3)) := by
  refine xm_pure fun p l e R s m args below meth c H locs cells slots Q ls la st h pc' la' st' h' hx hb hl he => ?_
  unfold xe_icmp at he
  split at he
  · cases he
    refine ⟨rfl, rfl, fun k => lv_icmp_ne hx hb hd ht (fun q => ?_) (fun q => ?_)⟩
    · simpa [q] using k
    · simpa [q] using k
  · cases he
theorem xo_if_lt {off : Int} {tgt : Nat} (hd : decode cc pc = .ok (.ifCond .lt off, 3)) (ht : (pc : Int) + off = (tgt : Int)) : xm_OK B G own nm cc nL pc (xe_if (fun x => decide (x < 0)) tgt (pc + 3)) := by
  refine xm_pure fun p l e R s m args below meth c H locs cells slots Q ls la st h pc' la' st' h' hx hb hl he => ?_
  unfold xe_if at he
  split at he
  · cases he
    refine ⟨rfl, rfl, fun k => lv_if_lt hx hb hd ht (fun q => ?_) (fun q => ?_)⟩
    · simpa [q] using k
    · simpa [q] using k
  · cases he
theorem xo_icmp_lt {off : Int} {tgt : Nat} (hd : decode cc pc = .ok (.if_icmp .lt off, 3)) (ht : (pc : Int) + off = (tgt : Int)) : xm_OK B G own nm cc nL pc (xe_icmp (fun x y => decide (x < y)) tgt (pc + 3)) := by
  refine xm_pure fun p l e R s m args below meth c H locs cells slots Q ls la st h pc' la' st' h' hx hb hl he => ?_
  unfold xe_icmp at he
  split at he
  · cases he
    refine ⟨rfl, rfl, fun k => lv_icmp_lt hx hb hd ht (fun q => ?_) (fun q => ?_)⟩
    · simpa [q] using k
    · simpa [q] using k
  · cases he
theorem xo_if_ge {off : Int} {tgt : Nat} (hd : decode cc pc = .ok (.ifCond .ge off, 3)) (ht : (pc : Int) + off = (tgt : Int)) : xm_OK B G own nm cc nL pc (xe_if (fun x => decide (0 ≤ x)) tgt (pc + 3)) := by
  refine xm_pure fun p l e R s m args below meth c H locs cells slots Q ls la st h pc' la' st' h' hx hb hl he => ?_
  unfold xe_if at he
  split at he
  · cases he
    refine ⟨rfl, rfl, fun k => lv_if_ge hx hb hd ht (fun q => ?_) (fun q => ?_)⟩
    · simpa [q] using k
    · simpa [q] using k
  · cases he
theorem xo_icmp_ge {off : Int} {tgt : Nat} (hd : decode cc pc = .ok (.if_icmp .ge off, 3)) (ht : (pc : Int) + off = (tgt : Int)) : xm_OK B G own nm cc nL pc (xe_icmp (fun x y => decide (y ≤ x)) tgt (pc + 3)) := by
  refine xm_pure fun p l e R s m args below meth c H locs cells slots Q ls la st h pc' la' st' h' hx hb hl he => ?_
  unfold xe_icmp at he
  split at he
  · cases he
    refine ⟨rfl, rfl, fun k => lv_icmp_ge hx hb hd ht (fun q => ?_) (fun q => ?_)⟩
    · simpa [q] using k
    · simpa [q] using k
  · cases he
theorem xo_if_gt {off : Int} {tgt : Nat} (hd : decode cc pc = .ok (.ifCond .gt off, 3)) (ht : (pc : Int) + off = (tgt : Int)) : xm_OK B G own nm cc nL pc (xe_if (fun x => decide (0 < x)) tgt (pc + 3)) := by
  refine xm_pure fun p l e R s m args below meth c H locs cells slots Q ls la st h pc' la' st' h' hx hb hl he => ?_
  unfold xe_if at he
  split at he
  · cases he
    refine ⟨rfl, rfl, fun k => lv_if_gt hx hb hd ht (fun q => ?_) (fun q => ?_)⟩
    · simpa [q] using k
    · simpa [q] using k
  · cases he
theorem xo_icmp_gt {off : Int} {tgt : Nat} (hd : decode cc pc = .ok (.if_icmp .gt off, 3)) (ht : (pc : Int) + off = (tgt : Int)) : xm_OK B G own nm cc nL pc (xe_icmp (fun x y => decide (y < x)) tgt (pc + 3)) := by
  refine xm_pure fun p l e R s m args below meth c H locs cells slots Q ls la st h pc' la' st' h' hx hb hl he => ?_
  unfold xe_icmp at he
  split at he
  · cases he
    refine ⟨rfl, rfl, fun k => lv_icmp_gt hx hb hd ht (fun q => ?_) (fun q => ?_)⟩
    · simpa [q] using k
    · simpa [q] using k
  · cases he
theorem xo_if_le {off : Int} {tgt : Nat} (hd : decode cc pc = .ok (.ifCond .le off, 3)) (ht : (pc : Int) + off = (tgt : Int)) : xm_OK B G own nm cc nL pc (xe_if (fun x => decide (x ≤ 0)) tgt (pc + 3)) := by
  refine xm_pure fun p l e R s m args below meth c H locs cells slots Q ls la st h pc' la' st' h' hx hb hl he => ?_
  unfold xe_if at he
  split at he
  · cases he
    refine ⟨rfl, rfl, fun k => lv_if_le hx hb hd ht (fun q => ?_) (fun q => ?_)⟩
    · simpa [q] using k
    · simpa [q] using k
  · cases he
theorem xo_icmp_le {off : Int} {tgt : Nat} (hd : decode cc pc = .ok (.if_icmp .le off, 3)) (ht : (pc : Int) + off = (tgt : Int)) : xm_OK B G own nm cc nL pc (xe_icmp (fun x y => decide (x ≤ y)) tgt (pc + 3)) := by
  refine xm_pure fun p l e R s m args below meth c H locs cells slots Q ls la st h pc' la' st' h' hx hb hl he => ?_
  unfold xe_icmp at he
  split at he
  · cases he
    refine ⟨rfl, rfl, fun k => lv_icmp_le hx hb hd ht (fun q => ?_) (fun q => ?_)⟩
    · simpa [q] using k
    · simpa [q] using k
  · cases he
theorem xo_goto {off : Int} {tgt : Nat} (hd : decode cc pc = .ok (.goto off, 3)) (ht : (pc : Int) + off = (tgt : Int)) : xm_OK B G own nm cc nL pc (xe_goto tgt) := by
  refine xm_pure fun p l e R s m args below meth c H locs cells slots Q ls la st h pc' la' st' h' hx hb hl he => ?_
  cases he
  exact ⟨rfl, rfl, fun k => lv_goto hx hb hd ht k⟩
theorem xo_ifnull {off : Int} {tgt : Nat} (hd : decode cc pc = .ok (.ifnull off, 3)) (ht : (pc : Int) + off = (tgt : Int)) : xm_OK B G own nm cc nL pc (xe_null tgt (pc + 3)) := by
  refine xm_pure fun p l e R s m args below meth c H locs cells slots Q ls la st h pc' la' st' h' hx hb hl he => ?_
  unfold xe_null at he
  split at he
  · cases he
    exact ⟨rfl, rfl, fun k => lv_ifnullN hx hb hd ht k⟩
  · cases he
    exact ⟨rfl, rfl, fun k => lv_ifnull hx hb hd k⟩
  · cases he
theorem xo_ifnonnull {off : Int} {tgt : Nat} (hd : decode cc pc = .ok (.ifnonnull off, 3)) (ht : (pc : Int) + off = (tgt : Int)) : xm_OK B G own nm cc nL pc (xe_null (pc + 3) tgt) := by
  refine xm_pure fun p l e R s m args below meth c H locs cells slots Q ls la st h pc' la' st' h' hx hb hl he => ?_
  unfold xe_null at he
  split at he
  · cases he
    exact ⟨rfl, rfl, fun k => lv_ifnonnullN hx hb hd k⟩
  · cases he
    exact ⟨rfl, rfl, fun k => lv_ifnonnull hx hb hd ht k⟩
  · cases he
theorem xo_pop (hd : decode cc pc = .ok (.pop, 1)) : xm_OK B G own nm cc nL pc (xe_pop (pc + 1)) := by
  refine xm_pure fun p l e R s m args below meth c H locs cells slots Q ls la st h pc' la' st' h' hx hb hl he => ?_
  unfold xe_pop at he
  split at he
  · split at he
    · rename_i h1
      cases he
      exact ⟨rfl, rfl, fun k => lv_pop hx hb hd ((xm_cv_cat _ _).trans h1) k⟩
    · cases he
  · cases he
theorem xo_dup (hd : decode cc pc = .ok (.dup, 1)) : xm_OK B G own nm cc nL pc (xe_dup (pc + 1)) := by
  refine xm_pure fun p l e R s m args below meth c H locs cells slots Q ls la st h pc' la' st' h' hx hb hl he => ?_
  unfold xe_dup at he
  split at he
  · split at he
    · rename_i h1
      cases he
      exact ⟨rfl, rfl, fun k => lv_dup hx hb hd ((xm_cv_cat _ _).trans h1) k⟩
    · cases he
  · cases he
theorem xo_dup_x1 (hd : decode cc pc = .ok (.dup_x1, 1)) : xm_OK B G own nm cc nL pc (xe_dup_x1 (pc + 1)) := by
  refine xm_pure fun p l e R s m args below meth c H locs cells slots Q ls la st h pc' la' st' h' hx hb hl he => ?_
  unfold xe_dup_x1 at he
  split at he
  · split at he
    · rename_i h1
      cases he
      exact ⟨rfl, rfl, fun k => lv_dup_x1 hx hb hd ((xm_cv_cat _ _).trans h1.1) ((xm_cv_cat _ _).trans h1.2) k⟩
    · cases he
  · cases he
theorem xo_dup2 (hd : decode cc pc = .ok (.dup2, 1)) : xm_OK B G own nm cc nL pc (xe_dup2 (pc + 1)) := by
  refine xm_pure fun p l e R s m args below meth c H locs cells slots Q ls la st h pc' la' st' h' hx hb hl he => ?_
  unfold xe_dup2 at he
  split at he
  · split at he
    · rename_i h1
      cases he
      exact ⟨rfl, rfl, fun k => lv_dup2_11 hx hb hd ((xm_cv_cat _ _).trans h1.1) ((xm_cv_cat _ _).trans h1.2) k⟩
    · cases he
  · cases he
end XPure
