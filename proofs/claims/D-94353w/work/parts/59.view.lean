/-! WHAT IS ASKED FOR, as functions of the state -/
def gLike (P : Nat → Nat → Int32) (Q : Nat → Nat → Int64) (facts : Int32) (w : Nat) : Int64 := mkS (wW P) (fun v => hb (Q 19 0) v && decide (((Int32.ofNat v ^^^ Int32.ofNat w) &&& facts) = 0))
def gLieS (P : Nat → Nat → Int32) (Q : Nat → Nat → Int64) (q : Bool) (so : Int64) (p l w : Nat) : Bool := if q = true then false else if l = 0 then !hb so w else decide ((so &&& gLike P Q (P 15 p) w) = 0)
def gLM (P : Nat → Nat → Int32) (Q : Nat → Nat → Int64) (q : Bool) (so : Int64) (p l : Nat) : Int64 := mkS (wW P) (gLieS P Q q so p l)
def gL (P : Nat → Nat → Int32) (Q : Nat → Nat → Int64) (s l : Nat) : Int64 := gLM P Q (decide (P 48 s = 1)) (Q 47 s) (nN (P 45 s)) l
def gPts (P : Nat → Nat → Int32) (Q : Nat → Nat → Int64) (c : Nat) (m : Int) (w : Nat) : Option Nat := fndd (fun s => decide ((P 46 s).toInt + (P 17 c).toInt ≤ m) && hb (gL P Q s (nN (P 16 c))) w) (nS P)
def gWho (P : Nat → Nat → Int32) (o : Option Nat) : Int32 := match o with
  | some s => P 45 s
  | none => -1
def gPoint (P : Nat → Nat → Int32) (Q : Nat → Nat → Int64) (c : Nat) (m : Int) (w : Nat) : Int32 := gWho P (gPts P Q c m w)
def gBear (P : Nat → Nat → Int32) (x : Int32) : Int32 := if x = -1 then 0 else P 13 (nN (P 14 (nN x)))
def gBA (P : Nat → Nat → Int32) (Q : Nat → Nat → Int64) (c : Nat) (m : Int) (w : Nat) : Int32 := gBear P (gPoint P Q c m w)
def gIn (b f t : Int32) : Bool := if f ≤ t then decide (f ≤ b) && decide (b ≤ t) else decide (f ≤ b) || decide (b ≤ t)
def gFits (P : Nat → Nat → Int32) (Q : Nat → Nat → Int64) (l : Nat) : Int64 := mkS (wW P) (fun w => gIn (gBA P Q (nN (P 52 l)) (P 53 l).toInt w) (P 54 l) (P 55 l))
def gCan (P : Nat → Nat → Int32) (Q : Nat → Nat → Int64) : Int64 := lpf (fun l s => s &&& gFits P Q l) (nK P) 0 (Q 19 0)
def gWith (P : Nat → Nat → Int32) (f : Nat) : Int64 := mkS (wW P) (fun w => w.testBit f)
def gSure (a b : Int64) : Int32 := if a = 0 then 3 else if a &&& ~~~ b = 0 then 1 else if a &&& b = 0 then 0 else 2
/-- a number of a script that is in range -/
def ir (x : Int32) (n : Nat) : Bool := decide (0 ≤ x.toInt) && decide (x.toInt < (n : Int))
theorem ir_nb {x : Int32} {n : Nat} (h : ir x n = true) : nb x n := by
  unfold ir at h
  simp only [Bool.and_eq_true, decide_eq_true_eq] at h
  exact h
/-- a saying -/
def SV (h : xm_H) (a : Nat) (p m : Int32) (so : Int64) (li : Nat → Int64) : Prop := x_cls h a = some 22 ∧ x_fld 22 0 h a = some (.int p) ∧ x_fld 22 1 h a = some (.int m) ∧ x_fld 22 2 h a = some (.long so) ∧ ∃ b, x_fld 22 3 h a = some (.ref b) ∧ ∀ l, l < 2 → x_ald (fun t => t == 1) h b (Int32.ofNat l) = some (.long (li l))
/-- a look -/
def KV (h : xm_H) (a : Nat) (c m f t : Int32) : Prop := x_cls h a = some 23 ∧ x_fld 23 0 h a = some (.int c) ∧ x_fld 23 1 h a = some (.int m) ∧ x_fld 23 2 h a = some (.int f) ∧ x_fld 23 3 h a = some (.int t)
/-- the component as it lies in the heap; e: where -/
def CV (h : xm_H) (P : Nat → Nat → Int32) (Q : Nat → Nat → Int64) (e : Nat → Nat → Nat) : Prop :=
  (x_cls h 300 = some 0) ∧
  (x_fld 0 0 h 300 = some (.ref 301)) ∧
  (x_fld 0 1 h 300 = some (.ref (e 0 0))) ∧
  (x_fld 0 2 h 300 = some (.int (P 44 0))) ∧
  (x_fld 0 3 h 300 = some (.ref 322)) ∧
  (x_fld 0 4 h 300 = some (.ref 323)) ∧
  (x_fld 0 5 h 300 = some (.ref 324)) ∧
  (x_fld 0 6 h 300 = some (.ref 325)) ∧
  (x_fld 0 7 h 300 = some (.ref 326)) ∧
  (x_fld 0 8 h 300 = some (.ref 329)) ∧
  (x_fld 0 9 h 300 = some (.ref 331)) ∧
  (x_fld 0 10 h 300 = some (.ref 334)) ∧
  (LV h 322 (nS P) (e 1)) ∧
  (LV h 323 (nO P) (e 2)) ∧
  (LV h 324 (nK P) (e 3)) ∧
  (LV h 325 (nW P) (e 4)) ∧
  (∀ s, s < nS P → SV h (e 1 s) (P 45 s) (P 46 s) (Q 47 s) (gL P Q s)) ∧
  (∀ s, s < nO P → SV h (e 2 s) (P 45 (24 + s)) (P 46 (24 + s)) (Q 47 (24 + s)) (gL P Q (24 + s))) ∧
  (∀ l, l < nK P → KV h (e 3 l) (P 52 l) (P 53 l) (P 54 l) (P 55 l)) ∧
  (∀ l, l < nW P → KV h (e 4 l) (P 59 l) (P 60 l) 0 0) ∧
  (x_cls h (e 0 0) = some 2) ∧
  (x_fld 2 0 h (e 0 0) = some (.ref (e 7 0))) ∧
  (LV h (e 7 0) (nF P) (e 8)) ∧
  (x_fld 2 1 h (e 0 0) = some (.ref (e 7 1))) ∧
  (LV h (e 7 1) (nPl P) (e 9)) ∧
  (x_fld 2 3 h (e 0 0) = some (.ref (e 7 3))) ∧
  (LV h (e 7 3) (nP P) (e 5)) ∧
  (∀ k, k < nP P → x_cls h (e 5 k) = some 10 ∧ x_fld 10 0 h (e 5 k) = some (.int (P 14 k)) ∧ x_fld 10 1 h (e 5 k) = some (.int (P 15 k))) ∧
  (x_fld 2 4 h (e 0 0) = some (.ref (e 7 4))) ∧
  (∀ k, k < nF P → x_ald (fun t => t == 0) h (e 7 4) (Int32.ofNat k) = some (.int (P 12 k))) ∧
  (x_fld 2 5 h (e 0 0) = some (.ref (e 7 5))) ∧
  (∀ k, k < nPl P → x_ald (fun t => t == 0) h (e 7 5) (Int32.ofNat k) = some (.int (P 13 k))) ∧
  (x_fld 2 6 h (e 0 0) = some (.ref (e 7 6))) ∧
  (∀ k, k < 2 → P 18 k = 0 → x_ald (fun t => Nat.ble 4 t) h (e 7 6) (Int32.ofNat k) = some .null) ∧
  (∀ k, k < 2 → P 18 k = 1 → x_ald (fun t => Nat.ble 4 t) h (e 7 6) (Int32.ofNat k) = some (.ref (e 6 k)) ∧ x_cls h (e 6 k) = some 4 ∧ x_fld 4 0 h (e 6 k) = some (.int (P 16 k)) ∧ x_fld 4 1 h (e 6 k) = some (.int (P 17 k))) ∧
  (x_fld 2 7 h (e 0 0) = some (.int (P 37 0))) ∧
  (x_fld 2 8 h (e 0 0) = some (.long (Q 19 0)))
section CVS
variable {h : xm_H} {P : Nat → Nat → Int32} {Q : Nat → Nat → Int64} {e : Nat → Nat → Nat}
theorem cv_cls (v : CV h P Q e) : x_cls h 300 = some 0 := v.1
theorem cv_reader (v : CV h P Q e) : x_fld 0 0 h 300 = some (.ref 301) := v.2.1
theorem cv_parish (v : CV h P Q e) : x_fld 0 1 h 300 = some (.ref (e 0 0)) := v.2.2.1
theorem cv_truth (v : CV h P Q e) : x_fld 0 2 h 300 = some (.int (P 44 0)) := v.2.2.2.1
theorem cv_sayings (v : CV h P Q e) : x_fld 0 3 h 300 = some (.ref 322) := v.2.2.2.2.1
theorem cv_offers (v : CV h P Q e) : x_fld 0 4 h 300 = some (.ref 323) := v.2.2.2.2.2.1
theorem cv_looks (v : CV h P Q e) : x_fld 0 5 h 300 = some (.ref 324) := v.2.2.2.2.2.2.1
theorem cv_watches (v : CV h P Q e) : x_fld 0 6 h 300 = some (.ref 325) := v.2.2.2.2.2.2.2.1
theorem cv_sets (v : CV h P Q e) : x_fld 0 7 h 300 = some (.ref 326) := v.2.2.2.2.2.2.2.2.1
theorem cv_bearings (v : CV h P Q e) : x_fld 0 8 h 300 = some (.ref 329) := v.2.2.2.2.2.2.2.2.2.1
theorem cv_lookout (v : CV h P Q e) : x_fld 0 9 h 300 = some (.ref 331) := v.2.2.2.2.2.2.2.2.2.2.1
theorem cv_marks (v : CV h P Q e) : x_fld 0 10 h 300 = some (.ref 334) := v.2.2.2.2.2.2.2.2.2.2.2.1
theorem cv_lS (v : CV h P Q e) : LV h 322 (nS P) (e 1) := v.2.2.2.2.2.2.2.2.2.2.2.2.1
theorem cv_lO (v : CV h P Q e) : LV h 323 (nO P) (e 2) := v.2.2.2.2.2.2.2.2.2.2.2.2.2.1
theorem cv_lK (v : CV h P Q e) : LV h 324 (nK P) (e 3) := v.2.2.2.2.2.2.2.2.2.2.2.2.2.2.1
theorem cv_lW (v : CV h P Q e) : LV h 325 (nW P) (e 4) := v.2.2.2.2.2.2.2.2.2.2.2.2.2.2.2.1
theorem cv_sS (v : CV h P Q e) : ∀ s, s < nS P → SV h (e 1 s) (P 45 s) (P 46 s) (Q 47 s) (gL P Q s) := v.2.2.2.2.2.2.2.2.2.2.2.2.2.2.2.2.1
theorem cv_sO (v : CV h P Q e) : ∀ s, s < nO P → SV h (e 2 s) (P 45 (24 + s)) (P 46 (24 + s)) (Q 47 (24 + s)) (gL P Q (24 + s)) := v.2.2.2.2.2.2.2.2.2.2.2.2.2.2.2.2.2.1
theorem cv_kK (v : CV h P Q e) : ∀ l, l < nK P → KV h (e 3 l) (P 52 l) (P 53 l) (P 54 l) (P 55 l) := v.2.2.2.2.2.2.2.2.2.2.2.2.2.2.2.2.2.2.1
theorem cv_kW (v : CV h P Q e) : ∀ l, l < nW P → KV h (e 4 l) (P 59 l) (P 60 l) 0 0 := v.2.2.2.2.2.2.2.2.2.2.2.2.2.2.2.2.2.2.2.1
theorem cv_pcls (v : CV h P Q e) : x_cls h (e 0 0) = some 2 := v.2.2.2.2.2.2.2.2.2.2.2.2.2.2.2.2.2.2.2.2.1
theorem cv_facts (v : CV h P Q e) : x_fld 2 0 h (e 0 0) = some (.ref (e 7 0)) := v.2.2.2.2.2.2.2.2.2.2.2.2.2.2.2.2.2.2.2.2.2.1
theorem cv_lF (v : CV h P Q e) : LV h (e 7 0) (nF P) (e 8) := v.2.2.2.2.2.2.2.2.2.2.2.2.2.2.2.2.2.2.2.2.2.2.1
theorem cv_places (v : CV h P Q e) : x_fld 2 1 h (e 0 0) = some (.ref (e 7 1)) := v.2.2.2.2.2.2.2.2.2.2.2.2.2.2.2.2.2.2.2.2.2.2.2.1
theorem cv_lPl (v : CV h P Q e) : LV h (e 7 1) (nPl P) (e 9) := v.2.2.2.2.2.2.2.2.2.2.2.2.2.2.2.2.2.2.2.2.2.2.2.2.1
theorem cv_people (v : CV h P Q e) : x_fld 2 3 h (e 0 0) = some (.ref (e 7 3)) := v.2.2.2.2.2.2.2.2.2.2.2.2.2.2.2.2.2.2.2.2.2.2.2.2.2.1
theorem cv_lP (v : CV h P Q e) : LV h (e 7 3) (nP P) (e 5) := v.2.2.2.2.2.2.2.2.2.2.2.2.2.2.2.2.2.2.2.2.2.2.2.2.2.2.1
theorem cv_person (v : CV h P Q e) : ∀ k, k < nP P → x_cls h (e 5 k) = some 10 ∧ x_fld 10 0 h (e 5 k) = some (.int (P 14 k)) ∧ x_fld 10 1 h (e 5 k) = some (.int (P 15 k)) := v.2.2.2.2.2.2.2.2.2.2.2.2.2.2.2.2.2.2.2.2.2.2.2.2.2.2.2.1
theorem cv_chances (v : CV h P Q e) : x_fld 2 4 h (e 0 0) = some (.ref (e 7 4)) := v.2.2.2.2.2.2.2.2.2.2.2.2.2.2.2.2.2.2.2.2.2.2.2.2.2.2.2.2.1
theorem cv_chance (v : CV h P Q e) : ∀ k, k < nF P → x_ald (fun t => t == 0) h (e 7 4) (Int32.ofNat k) = some (.int (P 12 k)) := v.2.2.2.2.2.2.2.2.2.2.2.2.2.2.2.2.2.2.2.2.2.2.2.2.2.2.2.2.2.1
theorem cv_bears (v : CV h P Q e) : x_fld 2 5 h (e 0 0) = some (.ref (e 7 5)) := v.2.2.2.2.2.2.2.2.2.2.2.2.2.2.2.2.2.2.2.2.2.2.2.2.2.2.2.2.2.2.1
theorem cv_bear (v : CV h P Q e) : ∀ k, k < nPl P → x_ald (fun t => t == 0) h (e 7 5) (Int32.ofNat k) = some (.int (P 13 k)) := v.2.2.2.2.2.2.2.2.2.2.2.2.2.2.2.2.2.2.2.2.2.2.2.2.2.2.2.2.2.2.2.1
theorem cv_cocks (v : CV h P Q e) : x_fld 2 6 h (e 0 0) = some (.ref (e 7 6)) := v.2.2.2.2.2.2.2.2.2.2.2.2.2.2.2.2.2.2.2.2.2.2.2.2.2.2.2.2.2.2.2.2.1
theorem cv_cockN (v : CV h P Q e) : ∀ k, k < 2 → P 18 k = 0 → x_ald (fun t => Nat.ble 4 t) h (e 7 6) (Int32.ofNat k) = some .null := v.2.2.2.2.2.2.2.2.2.2.2.2.2.2.2.2.2.2.2.2.2.2.2.2.2.2.2.2.2.2.2.2.2.1
theorem cv_cock (v : CV h P Q e) : ∀ k, k < 2 → P 18 k = 1 → x_ald (fun t => Nat.ble 4 t) h (e 7 6) (Int32.ofNat k) = some (.ref (e 6 k)) ∧ x_cls h (e 6 k) = some 4 ∧ x_fld 4 0 h (e 6 k) = some (.int (P 16 k)) ∧ x_fld 4 1 h (e 6 k) = some (.int (P 17 k)) := v.2.2.2.2.2.2.2.2.2.2.2.2.2.2.2.2.2.2.2.2.2.2.2.2.2.2.2.2.2.2.2.2.2.2.1
theorem cv_commons (v : CV h P Q e) : x_fld 2 7 h (e 0 0) = some (.int (P 37 0)) := v.2.2.2.2.2.2.2.2.2.2.2.2.2.2.2.2.2.2.2.2.2.2.2.2.2.2.2.2.2.2.2.2.2.2.2.1
theorem cv_common (v : CV h P Q e) : x_fld 2 8 h (e 0 0) = some (.long (Q 19 0)) := v.2.2.2.2.2.2.2.2.2.2.2.2.2.2.2.2.2.2.2.2.2.2.2.2.2.2.2.2.2.2.2.2.2.2.2.2
end CVS
