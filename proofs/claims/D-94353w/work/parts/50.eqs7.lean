/-! equations of the run, by program -/
set_option maxRecDepth 100000
/- 273: LiarsCock$Mark.<init>(LLiarsCock;)V -/
theorem e273_0 (d : Nat) (a1 : Value) (x : Nat) (st : List Value) (h : xm_H) : xa d 273 0 [.ref x, a1] st h = xa d 273 1 [.ref x, a1] (.ref x :: st) h := xa_aload ((xpm_273 0).trans rfl) rfl
theorem e273_1 (d : Nat) (la : List Value) (a : Nat)  (h : xm_H) : xa d 273 1 la (.ref a :: []) h = xa d 273 4 la [] h := xa_objInit ((xpm_273 1).trans rfl) a (Nat.le_of_ble_eq_true rfl)
theorem e273_4 (d : Nat) (a1 : Value) (x : Nat) (st : List Value) (h : xm_H) : xa d 273 4 [.ref x, a1] st h = xa d 273 5 [.ref x, a1] (.ref x :: st) h := xa_aload ((xpm_273 4).trans rfl) rfl
theorem e273_5 (d : Nat) (a0 : Value) (x : Nat) (st : List Value) (h : xm_H) : xa d 273 5 [a0, .ref x] st h = xa d 273 6 [a0, .ref x] (.ref x :: st) h := xa_aload ((xpm_273 5).trans rfl) rfl
theorem e273_5n (d : Nat) (a0 : Value) (st : List Value) (h : xm_H) : xa d 273 5 [a0, .null] st h = xa d 273 6 [a0, .null] (.null :: st) h := xa_aloadN ((xpm_273 5).trans rfl) rfl
theorem e273_6 (d : Nat) (la : List Value) (a : Nat) (st : List Value) (h : xm_H) : xa d 273 6 la (.ref a :: st) h = x_push (x_fld 0 1 h a) d 273 9 la st h := xa_getf ((xpm_273 6).trans rfl) a
theorem e273_9 (d : Nat) (la : List Value) (a : Nat) (x : Nat) (st : List Value) (h : xm_H) : xa d 273 9 la (.ref x :: .ref a :: st) h = x_heap (x_put 24 0 h a (.ref x)) d 273 12 la st := xa_putf ((xpm_273 9).trans rfl) a rfl
theorem e273_9n (d : Nat) (la : List Value) (a : Nat) (st : List Value) (h : xm_H) : xa d 273 9 la (.null :: .ref a :: st) h = x_heap (x_put 24 0 h a (.null)) d 273 12 la st := xa_putf ((xpm_273 9).trans rfl) a rfl
theorem e273_12 (d : Nat) (a1 : Value) (x : Nat) (st : List Value) (h : xm_H) : xa d 273 12 [.ref x, a1] st h = xa d 273 13 [.ref x, a1] (.ref x :: st) h := xa_aload ((xpm_273 12).trans rfl) rfl
theorem e273_13 (d : Nat) (a0 : Value) (x : Nat) (st : List Value) (h : xm_H) : xa d 273 13 [a0, .ref x] st h = xa d 273 14 [a0, .ref x] (.ref x :: st) h := xa_aload ((xpm_273 13).trans rfl) rfl
theorem e273_13n (d : Nat) (a0 : Value) (st : List Value) (h : xm_H) : xa d 273 13 [a0, .null] st h = xa d 273 14 [a0, .null] (.null :: st) h := xa_aloadN ((xpm_273 13).trans rfl) rfl
theorem e273_14 (d : Nat) (la : List Value) (a : Nat) (st : List Value) (h : xm_H) : xa d 273 14 la (.ref a :: st) h = x_push (x_fld 0 2 h a) d 273 17 la st h := xa_getf ((xpm_273 14).trans rfl) a
theorem e273_17 (d : Nat) (la : List Value) (a : Nat) (x : Int32) (st : List Value) (h : xm_H) : xa d 273 17 la (.int x :: .ref a :: st) h = x_heap (x_put 24 1 h a (.int x)) d 273 20 la st := xa_putf ((xpm_273 17).trans rfl) a rfl
theorem e273_20 (d : Nat) (a1 : Value) (x : Nat) (st : List Value) (h : xm_H) : xa d 273 20 [.ref x, a1] st h = xa d 273 21 [.ref x, a1] (.ref x :: st) h := xa_aload ((xpm_273 20).trans rfl) rfl
theorem e273_21 (d : Nat) (a0 : Value) (x : Nat) (st : List Value) (h : xm_H) : xa d 273 21 [a0, .ref x] st h = xa d 273 22 [a0, .ref x] (.ref x :: st) h := xa_aload ((xpm_273 21).trans rfl) rfl
theorem e273_21n (d : Nat) (a0 : Value) (st : List Value) (h : xm_H) : xa d 273 21 [a0, .null] st h = xa d 273 22 [a0, .null] (.null :: st) h := xa_aloadN ((xpm_273 21).trans rfl) rfl
theorem e273_22 (d : Nat) (la : List Value) (a : Nat) (st : List Value) (h : xm_H) : xa d 273 22 la (.ref a :: st) h = x_push (x_fld 0 3 h a) d 273 25 la st h := xa_getf ((xpm_273 22).trans rfl) a
theorem e273_25 (d : Nat) (la : List Value) (v0 : Nat) (r0 : Nat) (h : xm_H) : xa (d + 1) 273 25 la [.ref v0, .ref r0] h = x_call (xr d 274 [.ref v0] h) (d + 1) 273 25 la [.ref r0] := xa_S ((xpm_273 25).trans rfl) rfl (Nat.le_of_ble_eq_true rfl)
theorem e273_28 (d : Nat) (la : List Value) (a : Nat) (x : Nat) (st : List Value) (h : xm_H) : xa d 273 28 la (.ref x :: .ref a :: st) h = x_heap (x_put 24 2 h a (.ref x)) d 273 31 la st := xa_putf ((xpm_273 28).trans rfl) a rfl
theorem e273_28n (d : Nat) (la : List Value) (a : Nat) (st : List Value) (h : xm_H) : xa d 273 28 la (.null :: .ref a :: st) h = x_heap (x_put 24 2 h a (.null)) d 273 31 la st := xa_putf ((xpm_273 28).trans rfl) a rfl
theorem e273_31 (d : Nat) (a1 : Value) (x : Nat) (st : List Value) (h : xm_H) : xa d 273 31 [.ref x, a1] st h = xa d 273 32 [.ref x, a1] (.ref x :: st) h := xa_aload ((xpm_273 31).trans rfl) rfl
theorem e273_32 (d : Nat) (a0 : Value) (x : Nat) (st : List Value) (h : xm_H) : xa d 273 32 [a0, .ref x] st h = xa d 273 33 [a0, .ref x] (.ref x :: st) h := xa_aload ((xpm_273 32).trans rfl) rfl
theorem e273_32n (d : Nat) (a0 : Value) (st : List Value) (h : xm_H) : xa d 273 32 [a0, .null] st h = xa d 273 33 [a0, .null] (.null :: st) h := xa_aloadN ((xpm_273 32).trans rfl) rfl
theorem e273_33 (d : Nat) (la : List Value) (a : Nat) (st : List Value) (h : xm_H) : xa d 273 33 la (.ref a :: st) h = x_push (x_fld 0 4 h a) d 273 36 la st h := xa_getf ((xpm_273 33).trans rfl) a
theorem e273_36 (d : Nat) (la : List Value) (v0 : Nat) (r0 : Nat) (h : xm_H) : xa (d + 1) 273 36 la [.ref v0, .ref r0] h = x_call (xr d 274 [.ref v0] h) (d + 1) 273 36 la [.ref r0] := xa_S ((xpm_273 36).trans rfl) rfl (Nat.le_of_ble_eq_true rfl)
theorem e273_39 (d : Nat) (la : List Value) (a : Nat) (x : Nat) (st : List Value) (h : xm_H) : xa d 273 39 la (.ref x :: .ref a :: st) h = x_heap (x_put 24 3 h a (.ref x)) d 273 42 la st := xa_putf ((xpm_273 39).trans rfl) a rfl
theorem e273_39n (d : Nat) (la : List Value) (a : Nat) (st : List Value) (h : xm_H) : xa d 273 39 la (.null :: .ref a :: st) h = x_heap (x_put 24 3 h a (.null)) d 273 42 la st := xa_putf ((xpm_273 39).trans rfl) a rfl
theorem e273_42 (d : Nat) (a1 : Value) (x : Nat) (st : List Value) (h : xm_H) : xa d 273 42 [.ref x, a1] st h = xa d 273 43 [.ref x, a1] (.ref x :: st) h := xa_aload ((xpm_273 42).trans rfl) rfl
theorem e273_43 (d : Nat) (a0 : Value) (x : Nat) (st : List Value) (h : xm_H) : xa d 273 43 [a0, .ref x] st h = xa d 273 44 [a0, .ref x] (.ref x :: st) h := xa_aload ((xpm_273 43).trans rfl) rfl
theorem e273_43n (d : Nat) (a0 : Value) (st : List Value) (h : xm_H) : xa d 273 43 [a0, .null] st h = xa d 273 44 [a0, .null] (.null :: st) h := xa_aloadN ((xpm_273 43).trans rfl) rfl
theorem e273_44 (d : Nat) (la : List Value) (a : Nat) (st : List Value) (h : xm_H) : xa d 273 44 la (.ref a :: st) h = x_push (x_fld 0 5 h a) d 273 47 la st h := xa_getf ((xpm_273 44).trans rfl) a
theorem e273_47 (d : Nat) (la : List Value) (v0 : Nat) (r0 : Nat) (h : xm_H) : xa (d + 1) 273 47 la [.ref v0, .ref r0] h = x_call (xr d 274 [.ref v0] h) (d + 1) 273 47 la [.ref r0] := xa_S ((xpm_273 47).trans rfl) rfl (Nat.le_of_ble_eq_true rfl)
theorem e273_50 (d : Nat) (la : List Value) (a : Nat) (x : Nat) (st : List Value) (h : xm_H) : xa d 273 50 la (.ref x :: .ref a :: st) h = x_heap (x_put 24 4 h a (.ref x)) d 273 53 la st := xa_putf ((xpm_273 50).trans rfl) a rfl
theorem e273_50n (d : Nat) (la : List Value) (a : Nat) (st : List Value) (h : xm_H) : xa d 273 50 la (.null :: .ref a :: st) h = x_heap (x_put 24 4 h a (.null)) d 273 53 la st := xa_putf ((xpm_273 50).trans rfl) a rfl
theorem e273_53 (d : Nat) (a1 : Value) (x : Nat) (st : List Value) (h : xm_H) : xa d 273 53 [.ref x, a1] st h = xa d 273 54 [.ref x, a1] (.ref x :: st) h := xa_aload ((xpm_273 53).trans rfl) rfl
theorem e273_54 (d : Nat) (a0 : Value) (x : Nat) (st : List Value) (h : xm_H) : xa d 273 54 [a0, .ref x] st h = xa d 273 55 [a0, .ref x] (.ref x :: st) h := xa_aload ((xpm_273 54).trans rfl) rfl
theorem e273_54n (d : Nat) (a0 : Value) (st : List Value) (h : xm_H) : xa d 273 54 [a0, .null] st h = xa d 273 55 [a0, .null] (.null :: st) h := xa_aloadN ((xpm_273 54).trans rfl) rfl
theorem e273_55 (d : Nat) (la : List Value) (a : Nat) (st : List Value) (h : xm_H) : xa d 273 55 la (.ref a :: st) h = x_push (x_fld 0 6 h a) d 273 58 la st h := xa_getf ((xpm_273 55).trans rfl) a
theorem e273_58 (d : Nat) (la : List Value) (v0 : Nat) (r0 : Nat) (h : xm_H) : xa (d + 1) 273 58 la [.ref v0, .ref r0] h = x_call (xr d 274 [.ref v0] h) (d + 1) 273 58 la [.ref r0] := xa_S ((xpm_273 58).trans rfl) rfl (Nat.le_of_ble_eq_true rfl)
theorem e273_61 (d : Nat) (la : List Value) (a : Nat) (x : Nat) (st : List Value) (h : xm_H) : xa d 273 61 la (.ref x :: .ref a :: st) h = x_heap (x_put 24 5 h a (.ref x)) d 273 64 la st := xa_putf ((xpm_273 61).trans rfl) a rfl
theorem e273_61n (d : Nat) (la : List Value) (a : Nat) (st : List Value) (h : xm_H) : xa d 273 61 la (.null :: .ref a :: st) h = x_heap (x_put 24 5 h a (.null)) d 273 64 la st := xa_putf ((xpm_273 61).trans rfl) a rfl
theorem e273_64 (d : Nat) (la : List Value) (h : xm_H) : xa d 273 64 la [] h = some (.returned none, h) := xa_rv ((xpm_273 64).trans rfl)
/- 274: LiarsCock$Mark.copied(Ljava/util/ArrayList;)Ljava/util/ArrayList; -/
theorem e274_0 (d : Nat) (la st : List Value) (h : xm_H) : xa d 274 0 la st h = xa d 274 3 la (.ref h.1 :: st) (xm_new h 3 (.inl (25, xk_f25))) := xa_new ((xpm_274 0).trans rfl)
theorem e274_3 (d : Nat) (la : List Value) (x : Nat) (st : List Value) (h : xm_H) : xa d 274 3 la (.ref x :: st) h = xa d 274 4 la (.ref x :: .ref x :: st) h := xa_dup ((xpm_274 3).trans rfl) rfl
theorem e274_3n (d : Nat) (la st : List Value) (h : xm_H) : xa d 274 3 la (.null :: st) h = xa d 274 4 la (.null :: .null :: st) h := xa_dup ((xpm_274 3).trans rfl) rfl
theorem e274_4 (d : Nat) (a1 a2 : Value) (x : Nat) (st : List Value) (h : xm_H) : xa d 274 4 [.ref x, a1, a2] st h = xa d 274 5 [.ref x, a1, a2] (.ref x :: st) h := xa_aload ((xpm_274 4).trans rfl) rfl
theorem e274_4n (d : Nat) (a1 a2 : Value) (st : List Value) (h : xm_H) : xa d 274 4 [.null, a1, a2] st h = xa d 274 5 [.null, a1, a2] (.null :: st) h := xa_aloadN ((xpm_274 4).trans rfl) rfl
theorem e274_5 (d : Nat) (la : List Value) (b : Nat) (r0 : Nat) (r1 : Nat) (h : xm_H) (hc : x_cls h b = some 25) : xa (d + 1) 274 5 la [.ref b, .ref r0, .ref r1] h = x_call (xr d 280 [.ref b] h) (d + 1) 274 5 la [.ref r0, .ref r1] := xa_V ((xpm_274 5).trans rfl) rfl (Nat.le_of_ble_eq_true rfl) hc
theorem e274_8 (d : Nat) (la : List Value) (b : Nat) (v0 : Int32) (r0 : Nat) (h : xm_H) : xa (d + 1) 274 8 la [.int v0, .ref b, .ref r0] h = x_call (xr d 278 [.ref b, .int v0] h) (d + 1) 274 8 la [.ref r0] := xa_I ((xpm_274 8).trans rfl) rfl (Nat.le_of_ble_eq_true rfl)
theorem e274_11 (d : Nat) (a0 a1 a2 : Value) (x : Nat) (st : List Value) (h : xm_H) : xa d 274 11 [a0, a1, a2] (.ref x :: st) h = xa d 274 12 [xs_cl a0, .ref x, a2] st h := xa_astore ((xpm_274 11).trans rfl) (Nat.le_of_ble_eq_true rfl) rfl
theorem e274_11n (d : Nat) (a0 a1 a2 : Value) (st : List Value) (h : xm_H) : xa d 274 11 [a0, a1, a2] (.null :: st) h = xa d 274 12 [xs_cl a0, .null, a2] st h := xa_astoreN ((xpm_274 11).trans rfl) (Nat.le_of_ble_eq_true rfl) rfl
theorem e274_12 (d : Nat) (la st : List Value) (h : xm_H) : xa d 274 12 la st h = xa d 274 13 la ((.int 0) :: st) h := xa_push ((xpm_274 12).trans rfl)
theorem e274_13 (d : Nat) (a0 a1 a2 : Value) (x : Int32) (st : List Value) (h : xm_H) : xa d 274 13 [a0, a1, a2] (.int x :: st) h = xa d 274 14 [a0, xs_cl a1, .int x] st h := xa_istore ((xpm_274 13).trans rfl) (Nat.le_of_ble_eq_true rfl) rfl
theorem e274_14 (d : Nat) (a0 a1 : Value) (x : Int32) (st : List Value) (h : xm_H) : xa d 274 14 [a0, a1, .int x] st h = xa d 274 15 [a0, a1, .int x] (.int x :: st) h := xa_iload ((xpm_274 14).trans rfl) rfl
theorem e274_15 (d : Nat) (a1 a2 : Value) (x : Nat) (st : List Value) (h : xm_H) : xa d 274 15 [.ref x, a1, a2] st h = xa d 274 16 [.ref x, a1, a2] (.ref x :: st) h := xa_aload ((xpm_274 15).trans rfl) rfl
theorem e274_15n (d : Nat) (a1 a2 : Value) (st : List Value) (h : xm_H) : xa d 274 15 [.null, a1, a2] st h = xa d 274 16 [.null, a1, a2] (.null :: st) h := xa_aloadN ((xpm_274 15).trans rfl) rfl
theorem e274_16 (d : Nat) (la : List Value) (b : Nat) (r0 : Int32) (h : xm_H) (hc : x_cls h b = some 25) : xa (d + 1) 274 16 la [.ref b, .int r0] h = x_call (xr d 280 [.ref b] h) (d + 1) 274 16 la [.int r0] := xa_V ((xpm_274 16).trans rfl) rfl (Nat.le_of_ble_eq_true rfl) hc
theorem e274_19 (d : Nat) (la : List Value) (x y : Int32) (st : List Value) (h : xm_H) : xa d 274 19 la (.int y :: .int x :: st) h = if y ≤ x then xa d 274 38 la st h else xa d 274 22 la st h := xa_icmpP (p := fun x y => y ≤ x) ((xpm_274 19).trans rfl) x y
theorem e274_22 (d : Nat) (a0 a2 : Value) (x : Nat) (st : List Value) (h : xm_H) : xa d 274 22 [a0, .ref x, a2] st h = xa d 274 23 [a0, .ref x, a2] (.ref x :: st) h := xa_aload ((xpm_274 22).trans rfl) rfl
theorem e274_22n (d : Nat) (a0 a2 : Value) (st : List Value) (h : xm_H) : xa d 274 22 [a0, .null, a2] st h = xa d 274 23 [a0, .null, a2] (.null :: st) h := xa_aloadN ((xpm_274 22).trans rfl) rfl
theorem e274_23 (d : Nat) (a1 a2 : Value) (x : Nat) (st : List Value) (h : xm_H) : xa d 274 23 [.ref x, a1, a2] st h = xa d 274 24 [.ref x, a1, a2] (.ref x :: st) h := xa_aload ((xpm_274 23).trans rfl) rfl
theorem e274_23n (d : Nat) (a1 a2 : Value) (st : List Value) (h : xm_H) : xa d 274 23 [.null, a1, a2] st h = xa d 274 24 [.null, a1, a2] (.null :: st) h := xa_aloadN ((xpm_274 23).trans rfl) rfl
theorem e274_24 (d : Nat) (a0 a1 : Value) (x : Int32) (st : List Value) (h : xm_H) : xa d 274 24 [a0, a1, .int x] st h = xa d 274 25 [a0, a1, .int x] (.int x :: st) h := xa_iload ((xpm_274 24).trans rfl) rfl
theorem e274_25 (d : Nat) (la : List Value) (b : Nat) (v0 : Int32) (r0 : Nat) (h : xm_H) (hc : x_cls h b = some 25) : xa (d + 1) 274 25 la [.int v0, .ref b, .ref r0] h = x_call (xr d 281 [.ref b, .int v0] h) (d + 1) 274 25 la [.ref r0] := xa_V ((xpm_274 25).trans rfl) rfl (Nat.le_of_ble_eq_true rfl) hc
theorem e274_28 (d : Nat) (la : List Value) (b : Nat) (v0 : Nat) (h : xm_H) (hc : x_cls h b = some 25) : xa (d + 1) 274 28 la [.ref v0, .ref b] h = x_call (xr d 283 [.ref b, .ref v0] h) (d + 1) 274 28 la [] := xa_V ((xpm_274 28).trans rfl) rfl (Nat.le_of_ble_eq_true rfl) hc
theorem e274_31 (d : Nat) (la : List Value) (x : Int32) (st : List Value) (h : xm_H) : xa d 274 31 la (.int x :: st) h = xa d 274 32 la st h := xa_pop ((xpm_274 31).trans rfl) rfl
theorem e274_32 (d : Nat) (a0 a1 : Value) (x : Int32) (st : List Value) (h : xm_H) : xa d 274 32 [a0, a1, .int x] st h = xa d 274 35 [a0, xs_cl a1, .int (x + 1)] st h := xa_iinc ((xpm_274 32).trans rfl) rfl rfl
theorem e274_35 (d : Nat) (la st : List Value) (h : xm_H) : xa d 274 35 la st h = xa d 274 14 la st h := xa_goto ((xpm_274 35).trans rfl)
theorem e274_38 (d : Nat) (a0 a2 : Value) (x : Nat) (st : List Value) (h : xm_H) : xa d 274 38 [a0, .ref x, a2] st h = xa d 274 39 [a0, .ref x, a2] (.ref x :: st) h := xa_aload ((xpm_274 38).trans rfl) rfl
theorem e274_38n (d : Nat) (a0 a2 : Value) (st : List Value) (h : xm_H) : xa d 274 38 [a0, .null, a2] st h = xa d 274 39 [a0, .null, a2] (.null :: st) h := xa_aloadN ((xpm_274 38).trans rfl) rfl
theorem e274_39 (d : Nat) (la : List Value) (x : Nat) (h : xm_H) : xa d 274 39 la [.ref x] h = some (.returned (some (.ref x)), h) := xa_ra ((xpm_274 39).trans rfl) x
theorem e274_39n (d : Nat) (la : List Value) (h : xm_H) : xa d 274 39 la [.null] h = some (.returned (some .null), h) := xa_raN ((xpm_274 39).trans rfl)
/- 275: LiarsCock$Mark.lay(Ljava/util/ArrayList;Ljava/util/ArrayList;)V -/
theorem e275_0 (d : Nat) (a0 a2 : Value) (x : Nat) (st : List Value) (h : xm_H) : xa d 275 0 [a0, .ref x, a2] st h = xa d 275 1 [a0, .ref x, a2] (.ref x :: st) h := xa_aload ((xpm_275 0).trans rfl) rfl
theorem e275_0n (d : Nat) (a0 a2 : Value) (st : List Value) (h : xm_H) : xa d 275 0 [a0, .null, a2] st h = xa d 275 1 [a0, .null, a2] (.null :: st) h := xa_aloadN ((xpm_275 0).trans rfl) rfl
theorem e275_1 (d : Nat) (la : List Value) (b : Nat)  (h : xm_H) (hc : x_cls h b = some 25) : xa (d + 1) 275 1 la [.ref b] h = x_call (xr d 287 [.ref b] h) (d + 1) 275 1 la [] := xa_V ((xpm_275 1).trans rfl) rfl (Nat.le_of_ble_eq_true rfl) hc
theorem e275_4 (d : Nat) (la st : List Value) (h : xm_H) : xa d 275 4 la st h = xa d 275 5 la ((.int 0) :: st) h := xa_push ((xpm_275 4).trans rfl)
theorem e275_5 (d : Nat) (a0 a1 a2 : Value) (x : Int32) (st : List Value) (h : xm_H) : xa d 275 5 [a0, a1, a2] (.int x :: st) h = xa d 275 6 [a0, xs_cl a1, .int x] st h := xa_istore ((xpm_275 5).trans rfl) (Nat.le_of_ble_eq_true rfl) rfl
theorem e275_6 (d : Nat) (a0 a1 : Value) (x : Int32) (st : List Value) (h : xm_H) : xa d 275 6 [a0, a1, .int x] st h = xa d 275 7 [a0, a1, .int x] (.int x :: st) h := xa_iload ((xpm_275 6).trans rfl) rfl
theorem e275_7 (d : Nat) (a1 a2 : Value) (x : Nat) (st : List Value) (h : xm_H) : xa d 275 7 [.ref x, a1, a2] st h = xa d 275 8 [.ref x, a1, a2] (.ref x :: st) h := xa_aload ((xpm_275 7).trans rfl) rfl
theorem e275_7n (d : Nat) (a1 a2 : Value) (st : List Value) (h : xm_H) : xa d 275 7 [.null, a1, a2] st h = xa d 275 8 [.null, a1, a2] (.null :: st) h := xa_aloadN ((xpm_275 7).trans rfl) rfl
theorem e275_8 (d : Nat) (la : List Value) (b : Nat) (r0 : Int32) (h : xm_H) (hc : x_cls h b = some 25) : xa (d + 1) 275 8 la [.ref b, .int r0] h = x_call (xr d 280 [.ref b] h) (d + 1) 275 8 la [.int r0] := xa_V ((xpm_275 8).trans rfl) rfl (Nat.le_of_ble_eq_true rfl) hc
theorem e275_11 (d : Nat) (la : List Value) (x y : Int32) (st : List Value) (h : xm_H) : xa d 275 11 la (.int y :: .int x :: st) h = if y ≤ x then xa d 275 30 la st h else xa d 275 14 la st h := xa_icmpP (p := fun x y => y ≤ x) ((xpm_275 11).trans rfl) x y
theorem e275_14 (d : Nat) (a0 a2 : Value) (x : Nat) (st : List Value) (h : xm_H) : xa d 275 14 [a0, .ref x, a2] st h = xa d 275 15 [a0, .ref x, a2] (.ref x :: st) h := xa_aload ((xpm_275 14).trans rfl) rfl
theorem e275_14n (d : Nat) (a0 a2 : Value) (st : List Value) (h : xm_H) : xa d 275 14 [a0, .null, a2] st h = xa d 275 15 [a0, .null, a2] (.null :: st) h := xa_aloadN ((xpm_275 14).trans rfl) rfl
theorem e275_15 (d : Nat) (a1 a2 : Value) (x : Nat) (st : List Value) (h : xm_H) : xa d 275 15 [.ref x, a1, a2] st h = xa d 275 16 [.ref x, a1, a2] (.ref x :: st) h := xa_aload ((xpm_275 15).trans rfl) rfl
theorem e275_15n (d : Nat) (a1 a2 : Value) (st : List Value) (h : xm_H) : xa d 275 15 [.null, a1, a2] st h = xa d 275 16 [.null, a1, a2] (.null :: st) h := xa_aloadN ((xpm_275 15).trans rfl) rfl
theorem e275_16 (d : Nat) (a0 a1 : Value) (x : Int32) (st : List Value) (h : xm_H) : xa d 275 16 [a0, a1, .int x] st h = xa d 275 17 [a0, a1, .int x] (.int x :: st) h := xa_iload ((xpm_275 16).trans rfl) rfl
theorem e275_17 (d : Nat) (la : List Value) (b : Nat) (v0 : Int32) (r0 : Nat) (h : xm_H) (hc : x_cls h b = some 25) : xa (d + 1) 275 17 la [.int v0, .ref b, .ref r0] h = x_call (xr d 281 [.ref b, .int v0] h) (d + 1) 275 17 la [.ref r0] := xa_V ((xpm_275 17).trans rfl) rfl (Nat.le_of_ble_eq_true rfl) hc
theorem e275_20 (d : Nat) (la : List Value) (b : Nat) (v0 : Nat) (h : xm_H) (hc : x_cls h b = some 25) : xa (d + 1) 275 20 la [.ref v0, .ref b] h = x_call (xr d 283 [.ref b, .ref v0] h) (d + 1) 275 20 la [] := xa_V ((xpm_275 20).trans rfl) rfl (Nat.le_of_ble_eq_true rfl) hc
theorem e275_23 (d : Nat) (la : List Value) (x : Int32) (st : List Value) (h : xm_H) : xa d 275 23 la (.int x :: st) h = xa d 275 24 la st h := xa_pop ((xpm_275 23).trans rfl) rfl
theorem e275_24 (d : Nat) (a0 a1 : Value) (x : Int32) (st : List Value) (h : xm_H) : xa d 275 24 [a0, a1, .int x] st h = xa d 275 27 [a0, xs_cl a1, .int (x + 1)] st h := xa_iinc ((xpm_275 24).trans rfl) rfl rfl
theorem e275_27 (d : Nat) (la st : List Value) (h : xm_H) : xa d 275 27 la st h = xa d 275 6 la st h := xa_goto ((xpm_275 27).trans rfl)
theorem e275_30 (d : Nat) (la : List Value) (h : xm_H) : xa d 275 30 la [] h = some (.returned none, h) := xa_rv ((xpm_275 30).trans rfl)
/- 276: java/util/AbstractCollection.<init>()V -/
theorem e276_0 (d : Nat) (x : Nat) (st : List Value) (h : xm_H) : xa d 276 0 [.ref x] st h = xa d 276 1 [.ref x] (.ref x :: st) h := xa_aload ((xpm_276 0).trans rfl) rfl
theorem e276_1 (d : Nat) (la : List Value) (a : Nat)  (h : xm_H) : xa d 276 1 la (.ref a :: []) h = xa d 276 4 la [] h := xa_objInit ((xpm_276 1).trans rfl) a (Nat.le_of_ble_eq_true rfl)
theorem e276_4 (d : Nat) (la : List Value) (h : xm_H) : xa d 276 4 la [] h = some (.returned none, h) := xa_rv ((xpm_276 4).trans rfl)
/- 277: java/util/AbstractList.<init>()V -/
theorem e277_0 (d : Nat) (x : Nat) (st : List Value) (h : xm_H) : xa d 277 0 [.ref x] st h = xa d 277 1 [.ref x] (.ref x :: st) h := xa_aload ((xpm_277 0).trans rfl) rfl
theorem e277_1 (d : Nat) (la : List Value) (b : Nat)  (h : xm_H) : xa (d + 1) 277 1 la [.ref b] h = x_call (xr d 276 [.ref b] h) (d + 1) 277 1 la [] := xa_I ((xpm_277 1).trans rfl) rfl (Nat.le_of_ble_eq_true rfl)
theorem e277_4 (d : Nat) (x : Nat) (st : List Value) (h : xm_H) : xa d 277 4 [.ref x] st h = xa d 277 5 [.ref x] (.ref x :: st) h := xa_aload ((xpm_277 4).trans rfl) rfl
theorem e277_5 (d : Nat) (la st : List Value) (h : xm_H) : xa d 277 5 la st h = xa d 277 6 la ((.int 0) :: st) h := xa_push ((xpm_277 5).trans rfl)
theorem e277_6 (d : Nat) (la : List Value) (a : Nat) (x : Int32) (st : List Value) (h : xm_H) : xa d 277 6 la (.int x :: .ref a :: st) h = x_heap (x_put 25 0 h a (.int x)) d 277 9 la st := xa_putf ((xpm_277 6).trans rfl) a rfl
theorem e277_9 (d : Nat) (la : List Value) (h : xm_H) : xa d 277 9 la [] h = some (.returned none, h) := xa_rv ((xpm_277 9).trans rfl)
/- 278: java/util/ArrayList.<init>(I)V -/
theorem e278_0 (d : Nat) (a1 : Value) (x : Nat) (st : List Value) (h : xm_H) : xa d 278 0 [.ref x, a1] st h = xa d 278 1 [.ref x, a1] (.ref x :: st) h := xa_aload ((xpm_278 0).trans rfl) rfl
theorem e278_1 (d : Nat) (la : List Value) (b : Nat)  (h : xm_H) : xa (d + 1) 278 1 la [.ref b] h = x_call (xr d 277 [.ref b] h) (d + 1) 278 1 la [] := xa_I ((xpm_278 1).trans rfl) rfl (Nat.le_of_ble_eq_true rfl)
theorem e278_4 (d : Nat) (a0 : Value) (x : Int32) (st : List Value) (h : xm_H) : xa d 278 4 [a0, .int x] st h = xa d 278 5 [a0, .int x] (.int x :: st) h := xa_iload ((xpm_278 4).trans rfl) rfl
theorem e278_5 (d : Nat) (la : List Value) (x : Int32) (st : List Value) (h : xm_H) : xa d 278 5 la (.int x :: st) h = if x ≤ 0 then xa d 278 19 la st h else xa d 278 8 la st h := xa_ifP (p := fun x => x ≤ 0) ((xpm_278 5).trans rfl) x
theorem e278_8 (d : Nat) (a1 : Value) (x : Nat) (st : List Value) (h : xm_H) : xa d 278 8 [.ref x, a1] st h = xa d 278 9 [.ref x, a1] (.ref x :: st) h := xa_aload ((xpm_278 8).trans rfl) rfl
theorem e278_9 (d : Nat) (a0 : Value) (x : Int32) (st : List Value) (h : xm_H) : xa d 278 9 [a0, .int x] st h = xa d 278 10 [a0, .int x] (.int x :: st) h := xa_iload ((xpm_278 9).trans rfl) rfl
theorem e278_10 (d : Nat) (la : List Value) (n : Int32) (st : List Value) (h : xm_H) : xa d 278 10 la (.int n :: st) h = x_made (x_newa 4 .null 100000 h n) h.1 d 278 13 la st := xa_newa ((xpm_278 10).trans rfl) n
theorem e278_13 (d : Nat) (la : List Value) (a : Nat) (x : Nat) (st : List Value) (h : xm_H) : xa d 278 13 la (.ref x :: .ref a :: st) h = x_heap (x_put 25 1 h a (.ref x)) d 278 16 la st := xa_putf ((xpm_278 13).trans rfl) a rfl
theorem e278_13n (d : Nat) (la : List Value) (a : Nat) (st : List Value) (h : xm_H) : xa d 278 13 la (.null :: .ref a :: st) h = x_heap (x_put 25 1 h a (.null)) d 278 16 la st := xa_putf ((xpm_278 13).trans rfl) a rfl
theorem e278_16 (d : Nat) (la st : List Value) (h : xm_H) : xa d 278 16 la st h = xa d 278 60 la st h := xa_goto ((xpm_278 16).trans rfl)
theorem e278_19 (d : Nat) (a0 : Value) (x : Int32) (st : List Value) (h : xm_H) : xa d 278 19 [a0, .int x] st h = xa d 278 20 [a0, .int x] (.int x :: st) h := xa_iload ((xpm_278 19).trans rfl) rfl
theorem e278_20 (d : Nat) (la : List Value) (x : Int32) (st : List Value) (h : xm_H) : xa d 278 20 la (.int x :: st) h = if ¬ x = 0 then xa d 278 33 la st h else xa d 278 23 la st h := xa_ifP (p := fun x => ¬ x = 0) ((xpm_278 20).trans rfl) x
theorem e278_23 (d : Nat) (a1 : Value) (x : Nat) (st : List Value) (h : xm_H) : xa d 278 23 [.ref x, a1] st h = xa d 278 24 [.ref x, a1] (.ref x :: st) h := xa_aload ((xpm_278 23).trans rfl) rfl
theorem e278_24 (d : Nat) (la st : List Value) (h : xm_H) : xa d 278 24 la st h = xa d 278 27 la ((.ref 1) :: st) h := xa_push ((xpm_278 24).trans rfl)
theorem e278_27 (d : Nat) (la : List Value) (a : Nat) (x : Nat) (st : List Value) (h : xm_H) : xa d 278 27 la (.ref x :: .ref a :: st) h = x_heap (x_put 25 1 h a (.ref x)) d 278 30 la st := xa_putf ((xpm_278 27).trans rfl) a rfl
theorem e278_27n (d : Nat) (la : List Value) (a : Nat) (st : List Value) (h : xm_H) : xa d 278 27 la (.null :: .ref a :: st) h = x_heap (x_put 25 1 h a (.null)) d 278 30 la st := xa_putf ((xpm_278 27).trans rfl) a rfl
theorem e278_30 (d : Nat) (la st : List Value) (h : xm_H) : xa d 278 30 la st h = xa d 278 60 la st h := xa_goto ((xpm_278 30).trans rfl)
theorem e278_36 (d : Nat) (la : List Value) (x : Nat) (st : List Value) (h : xm_H) : xa d 278 36 la (.ref x :: st) h = xa d 278 37 la (.ref x :: .ref x :: st) h := xa_dup ((xpm_278 36).trans rfl) rfl
theorem e278_36n (d : Nat) (la st : List Value) (h : xm_H) : xa d 278 36 la (.null :: st) h = xa d 278 37 la (.null :: .null :: st) h := xa_dup ((xpm_278 36).trans rfl) rfl
theorem e278_40 (d : Nat) (la : List Value) (x : Nat) (st : List Value) (h : xm_H) : xa d 278 40 la (.ref x :: st) h = xa d 278 41 la (.ref x :: .ref x :: st) h := xa_dup ((xpm_278 40).trans rfl) rfl
theorem e278_40n (d : Nat) (la st : List Value) (h : xm_H) : xa d 278 40 la (.null :: st) h = xa d 278 41 la (.null :: .null :: st) h := xa_dup ((xpm_278 40).trans rfl) rfl
theorem e278_60 (d : Nat) (la : List Value) (h : xm_H) : xa d 278 60 la [] h = some (.returned none, h) := xa_rv ((xpm_278 60).trans rfl)
/- 279: java/util/ArrayList.<init>()V -/
theorem e279_0 (d : Nat) (x : Nat) (st : List Value) (h : xm_H) : xa d 279 0 [.ref x] st h = xa d 279 1 [.ref x] (.ref x :: st) h := xa_aload ((xpm_279 0).trans rfl) rfl
theorem e279_1 (d : Nat) (la : List Value) (b : Nat)  (h : xm_H) : xa (d + 1) 279 1 la [.ref b] h = x_call (xr d 277 [.ref b] h) (d + 1) 279 1 la [] := xa_I ((xpm_279 1).trans rfl) rfl (Nat.le_of_ble_eq_true rfl)
theorem e279_4 (d : Nat) (x : Nat) (st : List Value) (h : xm_H) : xa d 279 4 [.ref x] st h = xa d 279 5 [.ref x] (.ref x :: st) h := xa_aload ((xpm_279 4).trans rfl) rfl
theorem e279_5 (d : Nat) (la st : List Value) (h : xm_H) : xa d 279 5 la st h = xa d 279 8 la ((.ref 2) :: st) h := xa_push ((xpm_279 5).trans rfl)
theorem e279_8 (d : Nat) (la : List Value) (a : Nat) (x : Nat) (st : List Value) (h : xm_H) : xa d 279 8 la (.ref x :: .ref a :: st) h = x_heap (x_put 25 1 h a (.ref x)) d 279 11 la st := xa_putf ((xpm_279 8).trans rfl) a rfl
theorem e279_8n (d : Nat) (la : List Value) (a : Nat) (st : List Value) (h : xm_H) : xa d 279 8 la (.null :: .ref a :: st) h = x_heap (x_put 25 1 h a (.null)) d 279 11 la st := xa_putf ((xpm_279 8).trans rfl) a rfl
theorem e279_11 (d : Nat) (la : List Value) (h : xm_H) : xa d 279 11 la [] h = some (.returned none, h) := xa_rv ((xpm_279 11).trans rfl)
/- 280: java/util/ArrayList.size()I -/
theorem e280_0 (d : Nat) (x : Nat) (st : List Value) (h : xm_H) : xa d 280 0 [.ref x] st h = xa d 280 1 [.ref x] (.ref x :: st) h := xa_aload ((xpm_280 0).trans rfl) rfl
theorem e280_1 (d : Nat) (la : List Value) (a : Nat) (st : List Value) (h : xm_H) : xa d 280 1 la (.ref a :: st) h = x_push (x_fld 25 2 h a) d 280 4 la st h := xa_getf ((xpm_280 1).trans rfl) a
theorem e280_4 (d : Nat) (la : List Value) (x : Int32) (h : xm_H) : xa d 280 4 la [.int x] h = some (.returned (some (.int x)), h) := xa_ri ((xpm_280 4).trans rfl) x
/- 281: java/util/ArrayList.get(I)Ljava/lang/Object; -/
theorem e281_0 (d : Nat) (a0 : Value) (x : Int32) (st : List Value) (h : xm_H) : xa d 281 0 [a0, .int x] st h = xa d 281 1 [a0, .int x] (.int x :: st) h := xa_iload ((xpm_281 0).trans rfl) rfl
theorem e281_1 (d : Nat) (a1 : Value) (x : Nat) (st : List Value) (h : xm_H) : xa d 281 1 [.ref x, a1] st h = xa d 281 2 [.ref x, a1] (.ref x :: st) h := xa_aload ((xpm_281 1).trans rfl) rfl
theorem e281_2 (d : Nat) (la : List Value) (a : Nat) (st : List Value) (h : xm_H) : xa d 281 2 la (.ref a :: st) h = x_push (x_fld 25 2 h a) d 281 5 la st h := xa_getf ((xpm_281 2).trans rfl) a
theorem e281_5 (d : Nat) (la : List Value) (v0 : Int32) (v1 : Int32) (h : xm_H) : xa (d + 1) 281 5 la [.int v1, .int v0] h = x_call (xr d 306 [.int v0, .int v1] h) (d + 1) 281 5 la [] := xa_S ((xpm_281 5).trans rfl) rfl (Nat.le_of_ble_eq_true rfl)
theorem e281_8 (d : Nat) (la : List Value) (x : Int32) (st : List Value) (h : xm_H) : xa d 281 8 la (.int x :: st) h = xa d 281 9 la st h := xa_pop ((xpm_281 8).trans rfl) rfl
theorem e281_9 (d : Nat) (a1 : Value) (x : Nat) (st : List Value) (h : xm_H) : xa d 281 9 [.ref x, a1] st h = xa d 281 10 [.ref x, a1] (.ref x :: st) h := xa_aload ((xpm_281 9).trans rfl) rfl
theorem e281_10 (d : Nat) (a0 : Value) (x : Int32) (st : List Value) (h : xm_H) : xa d 281 10 [a0, .int x] st h = xa d 281 11 [a0, .int x] (.int x :: st) h := xa_iload ((xpm_281 10).trans rfl) rfl
theorem e281_11 (d : Nat) (la : List Value) (b : Nat) (v0 : Int32) (h : xm_H) (hc : x_cls h b = some 25) : xa (d + 1) 281 11 la [.int v0, .ref b] h = x_call (xr d 282 [.ref b, .int v0] h) (d + 1) 281 11 la [] := xa_V ((xpm_281 11).trans rfl) rfl (Nat.le_of_ble_eq_true rfl) hc
theorem e281_14 (d : Nat) (la : List Value) (x : Nat) (h : xm_H) : xa d 281 14 la [.ref x] h = some (.returned (some (.ref x)), h) := xa_ra ((xpm_281 14).trans rfl) x
theorem e281_14n (d : Nat) (la : List Value) (h : xm_H) : xa d 281 14 la [.null] h = some (.returned (some .null), h) := xa_raN ((xpm_281 14).trans rfl)
/- 282: java/util/ArrayList.elementData(I)Ljava/lang/Object; -/
theorem e282_0 (d : Nat) (a1 : Value) (x : Nat) (st : List Value) (h : xm_H) : xa d 282 0 [.ref x, a1] st h = xa d 282 1 [.ref x, a1] (.ref x :: st) h := xa_aload ((xpm_282 0).trans rfl) rfl
theorem e282_1 (d : Nat) (la : List Value) (a : Nat) (st : List Value) (h : xm_H) : xa d 282 1 la (.ref a :: st) h = x_push (x_fld 25 1 h a) d 282 4 la st h := xa_getf ((xpm_282 1).trans rfl) a
theorem e282_4 (d : Nat) (a0 : Value) (x : Int32) (st : List Value) (h : xm_H) : xa d 282 4 [a0, .int x] st h = xa d 282 5 [a0, .int x] (.int x :: st) h := xa_iload ((xpm_282 4).trans rfl) rfl
theorem e282_5 (d : Nat) (la : List Value) (a : Nat) (k : Int32) (st : List Value) (h : xm_H) : xa d 282 5 la (.int k :: .ref a :: st) h = x_push (x_ald (fun t => Nat.ble 4 t) h a k) d 282 6 la st h := xa_ald ((xpm_282 5).trans rfl) a k
theorem e282_6 (d : Nat) (la : List Value) (x : Nat) (h : xm_H) : xa d 282 6 la [.ref x] h = some (.returned (some (.ref x)), h) := xa_ra ((xpm_282 6).trans rfl) x
theorem e282_6n (d : Nat) (la : List Value) (h : xm_H) : xa d 282 6 la [.null] h = some (.returned (some .null), h) := xa_raN ((xpm_282 6).trans rfl)
/- 283: java/util/ArrayList.add(Ljava/lang/Object;)Z -/
theorem e283_0 (d : Nat) (a1 : Value) (x : Nat) (st : List Value) (h : xm_H) : xa d 283 0 [.ref x, a1] st h = xa d 283 1 [.ref x, a1] (.ref x :: st) h := xa_aload ((xpm_283 0).trans rfl) rfl
theorem e283_1 (d : Nat) (la : List Value) (x : Nat) (st : List Value) (h : xm_H) : xa d 283 1 la (.ref x :: st) h = xa d 283 2 la (.ref x :: .ref x :: st) h := xa_dup ((xpm_283 1).trans rfl) rfl
theorem e283_1n (d : Nat) (la st : List Value) (h : xm_H) : xa d 283 1 la (.null :: st) h = xa d 283 2 la (.null :: .null :: st) h := xa_dup ((xpm_283 1).trans rfl) rfl
theorem e283_2 (d : Nat) (la : List Value) (a : Nat) (st : List Value) (h : xm_H) : xa d 283 2 la (.ref a :: st) h = x_push (x_fld 25 0 h a) d 283 5 la st h := xa_getf ((xpm_283 2).trans rfl) a
theorem e283_5 (d : Nat) (la st : List Value) (h : xm_H) : xa d 283 5 la st h = xa d 283 6 la ((.int 1) :: st) h := xa_push ((xpm_283 5).trans rfl)
theorem e283_6 (d : Nat) (la : List Value) (x y : Int32) (st : List Value) (h : xm_H) : xa d 283 6 la (.int y :: .int x :: st) h = xa d 283 7 la (.int (x + y) :: st) h := xa_ii ((xpm_283 6).trans rfl) x y
theorem e283_7 (d : Nat) (la : List Value) (a : Nat) (x : Int32) (st : List Value) (h : xm_H) : xa d 283 7 la (.int x :: .ref a :: st) h = x_heap (x_put 25 0 h a (.int x)) d 283 10 la st := xa_putf ((xpm_283 7).trans rfl) a rfl
theorem e283_10 (d : Nat) (a1 : Value) (x : Nat) (st : List Value) (h : xm_H) : xa d 283 10 [.ref x, a1] st h = xa d 283 11 [.ref x, a1] (.ref x :: st) h := xa_aload ((xpm_283 10).trans rfl) rfl
theorem e283_11 (d : Nat) (a0 : Value) (x : Nat) (st : List Value) (h : xm_H) : xa d 283 11 [a0, .ref x] st h = xa d 283 12 [a0, .ref x] (.ref x :: st) h := xa_aload ((xpm_283 11).trans rfl) rfl
theorem e283_11n (d : Nat) (a0 : Value) (st : List Value) (h : xm_H) : xa d 283 11 [a0, .null] st h = xa d 283 12 [a0, .null] (.null :: st) h := xa_aloadN ((xpm_283 11).trans rfl) rfl
theorem e283_12 (d : Nat) (a1 : Value) (x : Nat) (st : List Value) (h : xm_H) : xa d 283 12 [.ref x, a1] st h = xa d 283 13 [.ref x, a1] (.ref x :: st) h := xa_aload ((xpm_283 12).trans rfl) rfl
theorem e283_13 (d : Nat) (la : List Value) (a : Nat) (st : List Value) (h : xm_H) : xa d 283 13 la (.ref a :: st) h = x_push (x_fld 25 1 h a) d 283 16 la st h := xa_getf ((xpm_283 13).trans rfl) a
theorem e283_16 (d : Nat) (a1 : Value) (x : Nat) (st : List Value) (h : xm_H) : xa d 283 16 [.ref x, a1] st h = xa d 283 17 [.ref x, a1] (.ref x :: st) h := xa_aload ((xpm_283 16).trans rfl) rfl
theorem e283_17 (d : Nat) (la : List Value) (a : Nat) (st : List Value) (h : xm_H) : xa d 283 17 la (.ref a :: st) h = x_push (x_fld 25 2 h a) d 283 20 la st h := xa_getf ((xpm_283 17).trans rfl) a
theorem e283_20 (d : Nat) (la : List Value) (b : Nat) (v0 : Nat) (v1 : Nat) (v2 : Int32) (h : xm_H) (hc : x_cls h b = some 25) : xa (d + 1) 283 20 la [.int v2, .ref v1, .ref v0, .ref b] h = x_call (xr d 284 [.ref b, .ref v0, .ref v1, .int v2] h) (d + 1) 283 20 la [] := xa_V ((xpm_283 20).trans rfl) rfl (Nat.le_of_ble_eq_true rfl) hc
theorem e283_23 (d : Nat) (la st : List Value) (h : xm_H) : xa d 283 23 la st h = xa d 283 24 la ((.int 1) :: st) h := xa_push ((xpm_283 23).trans rfl)
theorem e283_24 (d : Nat) (la : List Value) (x : Int32) (h : xm_H) (hx : x = 0 ∨ x = 1) : xa d 283 24 la [.int x] h = some (.returned (some (.int x)), h) := xa_rz ((xpm_283 24).trans rfl) x hx
/- 284: java/util/ArrayList.add(Ljava/lang/Object;[Ljava/lang/Object;I)V -/
theorem e284_0 (d : Nat) (a0 a1 a2 : Value) (x : Int32) (st : List Value) (h : xm_H) : xa d 284 0 [a0, a1, a2, .int x] st h = xa d 284 1 [a0, a1, a2, .int x] (.int x :: st) h := xa_iload ((xpm_284 0).trans rfl) rfl
theorem e284_1 (d : Nat) (a0 a1 a3 : Value) (x : Nat) (st : List Value) (h : xm_H) : xa d 284 1 [a0, a1, .ref x, a3] st h = xa d 284 2 [a0, a1, .ref x, a3] (.ref x :: st) h := xa_aload ((xpm_284 1).trans rfl) rfl
theorem e284_1n (d : Nat) (a0 a1 a3 : Value) (st : List Value) (h : xm_H) : xa d 284 1 [a0, a1, .null, a3] st h = xa d 284 2 [a0, a1, .null, a3] (.null :: st) h := xa_aloadN ((xpm_284 1).trans rfl) rfl
theorem e284_2 (d : Nat) (la : List Value) (a : Nat) (st : List Value) (h : xm_H) : xa d 284 2 la (.ref a :: st) h = x_push (x_alen h a) d 284 3 la st h := xa_alen ((xpm_284 2).trans rfl) a
theorem e284_3 (d : Nat) (la : List Value) (x y : Int32) (st : List Value) (h : xm_H) : xa d 284 3 la (.int y :: .int x :: st) h = if ¬ x = y then xa d 284 11 la st h else xa d 284 6 la st h := xa_icmpP (p := fun x y => ¬ x = y) ((xpm_284 3).trans rfl) x y
theorem e284_6 (d : Nat) (a1 a2 a3 : Value) (x : Nat) (st : List Value) (h : xm_H) : xa d 284 6 [.ref x, a1, a2, a3] st h = xa d 284 7 [.ref x, a1, a2, a3] (.ref x :: st) h := xa_aload ((xpm_284 6).trans rfl) rfl
theorem e284_7 (d : Nat) (la : List Value) (b : Nat)  (h : xm_H) (hc : x_cls h b = some 25) : xa (d + 1) 284 7 la [.ref b] h = x_call (xr d 285 [.ref b] h) (d + 1) 284 7 la [] := xa_V ((xpm_284 7).trans rfl) rfl (Nat.le_of_ble_eq_true rfl) hc
theorem e284_10 (d : Nat) (a0 a1 a2 a3 : Value) (x : Nat) (st : List Value) (h : xm_H) : xa d 284 10 [a0, a1, a2, a3] (.ref x :: st) h = xa d 284 11 [a0, xs_cl a1, .ref x, a3] st h := xa_astore ((xpm_284 10).trans rfl) (Nat.le_of_ble_eq_true rfl) rfl
theorem e284_10n (d : Nat) (a0 a1 a2 a3 : Value) (st : List Value) (h : xm_H) : xa d 284 10 [a0, a1, a2, a3] (.null :: st) h = xa d 284 11 [a0, xs_cl a1, .null, a3] st h := xa_astoreN ((xpm_284 10).trans rfl) (Nat.le_of_ble_eq_true rfl) rfl
theorem e284_11 (d : Nat) (a0 a1 a3 : Value) (x : Nat) (st : List Value) (h : xm_H) : xa d 284 11 [a0, a1, .ref x, a3] st h = xa d 284 12 [a0, a1, .ref x, a3] (.ref x :: st) h := xa_aload ((xpm_284 11).trans rfl) rfl
theorem e284_11n (d : Nat) (a0 a1 a3 : Value) (st : List Value) (h : xm_H) : xa d 284 11 [a0, a1, .null, a3] st h = xa d 284 12 [a0, a1, .null, a3] (.null :: st) h := xa_aloadN ((xpm_284 11).trans rfl) rfl
theorem e284_12 (d : Nat) (a0 a1 a2 : Value) (x : Int32) (st : List Value) (h : xm_H) : xa d 284 12 [a0, a1, a2, .int x] st h = xa d 284 13 [a0, a1, a2, .int x] (.int x :: st) h := xa_iload ((xpm_284 12).trans rfl) rfl
theorem e284_13 (d : Nat) (a0 a2 a3 : Value) (x : Nat) (st : List Value) (h : xm_H) : xa d 284 13 [a0, .ref x, a2, a3] st h = xa d 284 14 [a0, .ref x, a2, a3] (.ref x :: st) h := xa_aload ((xpm_284 13).trans rfl) rfl
theorem e284_13n (d : Nat) (a0 a2 a3 : Value) (st : List Value) (h : xm_H) : xa d 284 13 [a0, .null, a2, a3] st h = xa d 284 14 [a0, .null, a2, a3] (.null :: st) h := xa_aloadN ((xpm_284 13).trans rfl) rfl
theorem e284_14 (d : Nat) (la : List Value) (a b : Nat) (k : Int32) (st : List Value) (h : xm_H) : xa d 284 14 la (.ref b :: .int k :: .ref a :: st) h = x_heap (x_aast h a k (.ref b)) d 284 15 la st := xa_aastR ((xpm_284 14).trans rfl) a b k
theorem e284_14n (d : Nat) (la : List Value) (a : Nat) (k : Int32) (st : List Value) (h : xm_H) : xa d 284 14 la (.null :: .int k :: .ref a :: st) h = x_heap (x_aast h a k .null) d 284 15 la st := xa_aastN ((xpm_284 14).trans rfl) a k
theorem e284_15 (d : Nat) (a1 a2 a3 : Value) (x : Nat) (st : List Value) (h : xm_H) : xa d 284 15 [.ref x, a1, a2, a3] st h = xa d 284 16 [.ref x, a1, a2, a3] (.ref x :: st) h := xa_aload ((xpm_284 15).trans rfl) rfl
theorem e284_16 (d : Nat) (a0 a1 a2 : Value) (x : Int32) (st : List Value) (h : xm_H) : xa d 284 16 [a0, a1, a2, .int x] st h = xa d 284 17 [a0, a1, a2, .int x] (.int x :: st) h := xa_iload ((xpm_284 16).trans rfl) rfl
theorem e284_17 (d : Nat) (la st : List Value) (h : xm_H) : xa d 284 17 la st h = xa d 284 18 la ((.int 1) :: st) h := xa_push ((xpm_284 17).trans rfl)
theorem e284_18 (d : Nat) (la : List Value) (x y : Int32) (st : List Value) (h : xm_H) : xa d 284 18 la (.int y :: .int x :: st) h = xa d 284 19 la (.int (x + y) :: st) h := xa_ii ((xpm_284 18).trans rfl) x y
theorem e284_19 (d : Nat) (la : List Value) (a : Nat) (x : Int32) (st : List Value) (h : xm_H) : xa d 284 19 la (.int x :: .ref a :: st) h = x_heap (x_put 25 2 h a (.int x)) d 284 22 la st := xa_putf ((xpm_284 19).trans rfl) a rfl
theorem e284_22 (d : Nat) (la : List Value) (h : xm_H) : xa d 284 22 la [] h = some (.returned none, h) := xa_rv ((xpm_284 22).trans rfl)
/- 285: java/util/ArrayList.grow()[Ljava/lang/Object; -/
theorem e285_0 (d : Nat) (x : Nat) (st : List Value) (h : xm_H) : xa d 285 0 [.ref x] st h = xa d 285 1 [.ref x] (.ref x :: st) h := xa_aload ((xpm_285 0).trans rfl) rfl
theorem e285_1 (d : Nat) (x : Nat) (st : List Value) (h : xm_H) : xa d 285 1 [.ref x] st h = xa d 285 2 [.ref x] (.ref x :: st) h := xa_aload ((xpm_285 1).trans rfl) rfl
theorem e285_2 (d : Nat) (la : List Value) (a : Nat) (st : List Value) (h : xm_H) : xa d 285 2 la (.ref a :: st) h = x_push (x_fld 25 2 h a) d 285 5 la st h := xa_getf ((xpm_285 2).trans rfl) a
theorem e285_5 (d : Nat) (la st : List Value) (h : xm_H) : xa d 285 5 la st h = xa d 285 6 la ((.int 1) :: st) h := xa_push ((xpm_285 5).trans rfl)
theorem e285_6 (d : Nat) (la : List Value) (x y : Int32) (st : List Value) (h : xm_H) : xa d 285 6 la (.int y :: .int x :: st) h = xa d 285 7 la (.int (x + y) :: st) h := xa_ii ((xpm_285 6).trans rfl) x y
theorem e285_7 (d : Nat) (la : List Value) (b : Nat) (v0 : Int32) (h : xm_H) (hc : x_cls h b = some 25) : xa (d + 1) 285 7 la [.int v0, .ref b] h = x_call (xr d 286 [.ref b, .int v0] h) (d + 1) 285 7 la [] := xa_V ((xpm_285 7).trans rfl) rfl (Nat.le_of_ble_eq_true rfl) hc
theorem e285_10 (d : Nat) (la : List Value) (x : Nat) (h : xm_H) : xa d 285 10 la [.ref x] h = some (.returned (some (.ref x)), h) := xa_ra ((xpm_285 10).trans rfl) x
theorem e285_10n (d : Nat) (la : List Value) (h : xm_H) : xa d 285 10 la [.null] h = some (.returned (some .null), h) := xa_raN ((xpm_285 10).trans rfl)
/- 286: java/util/ArrayList.grow(I)[Ljava/lang/Object; -/
theorem e286_0 (d : Nat) (a1 a2 a3 : Value) (x : Nat) (st : List Value) (h : xm_H) : xa d 286 0 [.ref x, a1, a2, a3] st h = xa d 286 1 [.ref x, a1, a2, a3] (.ref x :: st) h := xa_aload ((xpm_286 0).trans rfl) rfl
theorem e286_1 (d : Nat) (la : List Value) (a : Nat) (st : List Value) (h : xm_H) : xa d 286 1 la (.ref a :: st) h = x_push (x_fld 25 1 h a) d 286 4 la st h := xa_getf ((xpm_286 1).trans rfl) a
theorem e286_4 (d : Nat) (la : List Value) (a : Nat) (st : List Value) (h : xm_H) : xa d 286 4 la (.ref a :: st) h = x_push (x_alen h a) d 286 5 la st h := xa_alen ((xpm_286 4).trans rfl) a
theorem e286_5 (d : Nat) (a0 a1 a2 a3 : Value) (x : Int32) (st : List Value) (h : xm_H) : xa d 286 5 [a0, a1, a2, a3] (.int x :: st) h = xa d 286 6 [a0, xs_cl a1, .int x, a3] st h := xa_istore ((xpm_286 5).trans rfl) (Nat.le_of_ble_eq_true rfl) rfl
theorem e286_6 (d : Nat) (a0 a1 a3 : Value) (x : Int32) (st : List Value) (h : xm_H) : xa d 286 6 [a0, a1, .int x, a3] st h = xa d 286 7 [a0, a1, .int x, a3] (.int x :: st) h := xa_iload ((xpm_286 6).trans rfl) rfl
theorem e286_7 (d : Nat) (la : List Value) (x : Int32) (st : List Value) (h : xm_H) : xa d 286 7 la (.int x :: st) h = if 0 < x then xa d 286 20 la st h else xa d 286 10 la st h := xa_ifP (p := fun x => 0 < x) ((xpm_286 7).trans rfl) x
theorem e286_10 (d : Nat) (a1 a2 a3 : Value) (x : Nat) (st : List Value) (h : xm_H) : xa d 286 10 [.ref x, a1, a2, a3] st h = xa d 286 11 [.ref x, a1, a2, a3] (.ref x :: st) h := xa_aload ((xpm_286 10).trans rfl) rfl
theorem e286_11 (d : Nat) (la : List Value) (a : Nat) (st : List Value) (h : xm_H) : xa d 286 11 la (.ref a :: st) h = x_push (x_fld 25 1 h a) d 286 14 la st h := xa_getf ((xpm_286 11).trans rfl) a
theorem e286_14 (d : Nat) (la st : List Value) (h : xm_H) : xa d 286 14 la st h = xa d 286 17 la ((.ref 2) :: st) h := xa_push ((xpm_286 14).trans rfl)
theorem e286_20 (d : Nat) (a0 a1 a3 : Value) (x : Int32) (st : List Value) (h : xm_H) : xa d 286 20 [a0, a1, .int x, a3] st h = xa d 286 21 [a0, a1, .int x, a3] (.int x :: st) h := xa_iload ((xpm_286 20).trans rfl) rfl
theorem e286_21 (d : Nat) (a0 a2 a3 : Value) (x : Int32) (st : List Value) (h : xm_H) : xa d 286 21 [a0, .int x, a2, a3] st h = xa d 286 22 [a0, .int x, a2, a3] (.int x :: st) h := xa_iload ((xpm_286 21).trans rfl) rfl
theorem e286_22 (d : Nat) (a0 a1 a3 : Value) (x : Int32) (st : List Value) (h : xm_H) : xa d 286 22 [a0, a1, .int x, a3] st h = xa d 286 23 [a0, a1, .int x, a3] (.int x :: st) h := xa_iload ((xpm_286 22).trans rfl) rfl
theorem e286_23 (d : Nat) (la : List Value) (x y : Int32) (st : List Value) (h : xm_H) : xa d 286 23 la (.int y :: .int x :: st) h = xa d 286 24 la (.int (x - y) :: st) h := xa_ii ((xpm_286 23).trans rfl) x y
theorem e286_24 (d : Nat) (a0 a1 a3 : Value) (x : Int32) (st : List Value) (h : xm_H) : xa d 286 24 [a0, a1, .int x, a3] st h = xa d 286 25 [a0, a1, .int x, a3] (.int x :: st) h := xa_iload ((xpm_286 24).trans rfl) rfl
theorem e286_25 (d : Nat) (la st : List Value) (h : xm_H) : xa d 286 25 la st h = xa d 286 26 la ((.int 1) :: st) h := xa_push ((xpm_286 25).trans rfl)
theorem e286_26 (d : Nat) (la : List Value) (x y : Int32) (st : List Value) (h : xm_H) : xa d 286 26 la (.int y :: .int x :: st) h = xa d 286 27 la (.int (x >>> (y &&& 31)) :: st) h := xa_ii ((xpm_286 26).trans rfl) x y
theorem e286_27 (d : Nat) (la : List Value) (v0 : Int32) (v1 : Int32) (v2 : Int32) (h : xm_H) : xa (d + 1) 286 27 la [.int v2, .int v1, .int v0] h = x_call (xr d 311 [.int v0, .int v1, .int v2] h) (d + 1) 286 27 la [] := xa_S ((xpm_286 27).trans rfl) rfl (Nat.le_of_ble_eq_true rfl)
theorem e286_30 (d : Nat) (a0 a1 a2 a3 : Value) (x : Int32) (st : List Value) (h : xm_H) : xa d 286 30 [a0, a1, a2, a3] (.int x :: st) h = xa d 286 31 [a0, a1, xs_cl a2, .int x] st h := xa_istore ((xpm_286 30).trans rfl) (Nat.le_of_ble_eq_true rfl) rfl
theorem e286_31 (d : Nat) (a1 a2 a3 : Value) (x : Nat) (st : List Value) (h : xm_H) : xa d 286 31 [.ref x, a1, a2, a3] st h = xa d 286 32 [.ref x, a1, a2, a3] (.ref x :: st) h := xa_aload ((xpm_286 31).trans rfl) rfl
theorem e286_32 (d : Nat) (a1 a2 a3 : Value) (x : Nat) (st : List Value) (h : xm_H) : xa d 286 32 [.ref x, a1, a2, a3] st h = xa d 286 33 [.ref x, a1, a2, a3] (.ref x :: st) h := xa_aload ((xpm_286 32).trans rfl) rfl
theorem e286_33 (d : Nat) (la : List Value) (a : Nat) (st : List Value) (h : xm_H) : xa d 286 33 la (.ref a :: st) h = x_push (x_fld 25 1 h a) d 286 36 la st h := xa_getf ((xpm_286 33).trans rfl) a
theorem e286_36 (d : Nat) (a0 a1 a2 : Value) (x : Int32) (st : List Value) (h : xm_H) : xa d 286 36 [a0, a1, a2, .int x] st h = xa d 286 37 [a0, a1, a2, .int x] (.int x :: st) h := xa_iload ((xpm_286 36).trans rfl) rfl
theorem e286_37 (d : Nat) (la : List Value) (v0 : Nat) (v1 : Int32) (r0 : Nat) (h : xm_H) : xa (d + 1) 286 37 la [.int v1, .ref v0, .ref r0] h = x_call (xr d 312 [.ref v0, .int v1] h) (d + 1) 286 37 la [.ref r0] := xa_S ((xpm_286 37).trans rfl) rfl (Nat.le_of_ble_eq_true rfl)
theorem e286_40 (d : Nat) (la : List Value) (x : Nat) (y : Nat) (st : List Value) (h : xm_H) : xa d 286 40 la (.ref x :: .ref y :: st) h = xa d 286 41 la (.ref x :: .ref y :: .ref x :: st) h := xa_dup_x1 ((xpm_286 40).trans rfl) rfl rfl
theorem e286_41 (d : Nat) (la : List Value) (a : Nat) (x : Nat) (st : List Value) (h : xm_H) : xa d 286 41 la (.ref x :: .ref a :: st) h = x_heap (x_put 25 1 h a (.ref x)) d 286 44 la st := xa_putf ((xpm_286 41).trans rfl) a rfl
theorem e286_41n (d : Nat) (la : List Value) (a : Nat) (st : List Value) (h : xm_H) : xa d 286 41 la (.null :: .ref a :: st) h = x_heap (x_put 25 1 h a (.null)) d 286 44 la st := xa_putf ((xpm_286 41).trans rfl) a rfl
theorem e286_44 (d : Nat) (la : List Value) (x : Nat) (h : xm_H) : xa d 286 44 la [.ref x] h = some (.returned (some (.ref x)), h) := xa_ra ((xpm_286 44).trans rfl) x
theorem e286_44n (d : Nat) (la : List Value) (h : xm_H) : xa d 286 44 la [.null] h = some (.returned (some .null), h) := xa_raN ((xpm_286 44).trans rfl)
theorem e286_45 (d : Nat) (a1 a2 a3 : Value) (x : Nat) (st : List Value) (h : xm_H) : xa d 286 45 [.ref x, a1, a2, a3] st h = xa d 286 46 [.ref x, a1, a2, a3] (.ref x :: st) h := xa_aload ((xpm_286 45).trans rfl) rfl
theorem e286_46 (d : Nat) (la st : List Value) (h : xm_H) : xa d 286 46 la st h = xa d 286 48 la ((.int 10) :: st) h := xa_push ((xpm_286 46).trans rfl)
theorem e286_48 (d : Nat) (a0 a2 a3 : Value) (x : Int32) (st : List Value) (h : xm_H) : xa d 286 48 [a0, .int x, a2, a3] st h = xa d 286 49 [a0, .int x, a2, a3] (.int x :: st) h := xa_iload ((xpm_286 48).trans rfl) rfl
theorem e286_49 (d : Nat) (la : List Value) (v0 : Int32) (v1 : Int32) (r0 : Nat) (h : xm_H) : xa (d + 1) 286 49 la [.int v1, .int v0, .ref r0] h = x_call (xr d 301 [.int v0, .int v1] h) (d + 1) 286 49 la [.ref r0] := xa_S ((xpm_286 49).trans rfl) rfl (Nat.le_of_ble_eq_true rfl)
theorem e286_52 (d : Nat) (la : List Value) (n : Int32) (st : List Value) (h : xm_H) : xa d 286 52 la (.int n :: st) h = x_made (x_newa 4 .null 100000 h n) h.1 d 286 55 la st := xa_newa ((xpm_286 52).trans rfl) n
theorem e286_55 (d : Nat) (la : List Value) (x : Nat) (y : Nat) (st : List Value) (h : xm_H) : xa d 286 55 la (.ref x :: .ref y :: st) h = xa d 286 56 la (.ref x :: .ref y :: .ref x :: st) h := xa_dup_x1 ((xpm_286 55).trans rfl) rfl rfl
theorem e286_56 (d : Nat) (la : List Value) (a : Nat) (x : Nat) (st : List Value) (h : xm_H) : xa d 286 56 la (.ref x :: .ref a :: st) h = x_heap (x_put 25 1 h a (.ref x)) d 286 59 la st := xa_putf ((xpm_286 56).trans rfl) a rfl
theorem e286_56n (d : Nat) (la : List Value) (a : Nat) (st : List Value) (h : xm_H) : xa d 286 56 la (.null :: .ref a :: st) h = x_heap (x_put 25 1 h a (.null)) d 286 59 la st := xa_putf ((xpm_286 56).trans rfl) a rfl
theorem e286_59 (d : Nat) (la : List Value) (x : Nat) (h : xm_H) : xa d 286 59 la [.ref x] h = some (.returned (some (.ref x)), h) := xa_ra ((xpm_286 59).trans rfl) x
theorem e286_59n (d : Nat) (la : List Value) (h : xm_H) : xa d 286 59 la [.null] h = some (.returned (some .null), h) := xa_raN ((xpm_286 59).trans rfl)
/- 287: java/util/ArrayList.clear()V -/
theorem e287_0 (d : Nat) (a1 a2 a3 : Value) (x : Nat) (st : List Value) (h : xm_H) : xa d 287 0 [.ref x, a1, a2, a3] st h = xa d 287 1 [.ref x, a1, a2, a3] (.ref x :: st) h := xa_aload ((xpm_287 0).trans rfl) rfl
theorem e287_1 (d : Nat) (la : List Value) (x : Nat) (st : List Value) (h : xm_H) : xa d 287 1 la (.ref x :: st) h = xa d 287 2 la (.ref x :: .ref x :: st) h := xa_dup ((xpm_287 1).trans rfl) rfl
theorem e287_1n (d : Nat) (la st : List Value) (h : xm_H) : xa d 287 1 la (.null :: st) h = xa d 287 2 la (.null :: .null :: st) h := xa_dup ((xpm_287 1).trans rfl) rfl
theorem e287_2 (d : Nat) (la : List Value) (a : Nat) (st : List Value) (h : xm_H) : xa d 287 2 la (.ref a :: st) h = x_push (x_fld 25 0 h a) d 287 5 la st h := xa_getf ((xpm_287 2).trans rfl) a
theorem e287_5 (d : Nat) (la st : List Value) (h : xm_H) : xa d 287 5 la st h = xa d 287 6 la ((.int 1) :: st) h := xa_push ((xpm_287 5).trans rfl)
theorem e287_6 (d : Nat) (la : List Value) (x y : Int32) (st : List Value) (h : xm_H) : xa d 287 6 la (.int y :: .int x :: st) h = xa d 287 7 la (.int (x + y) :: st) h := xa_ii ((xpm_287 6).trans rfl) x y
theorem e287_7 (d : Nat) (la : List Value) (a : Nat) (x : Int32) (st : List Value) (h : xm_H) : xa d 287 7 la (.int x :: .ref a :: st) h = x_heap (x_put 25 0 h a (.int x)) d 287 10 la st := xa_putf ((xpm_287 7).trans rfl) a rfl
theorem e287_10 (d : Nat) (a1 a2 a3 : Value) (x : Nat) (st : List Value) (h : xm_H) : xa d 287 10 [.ref x, a1, a2, a3] st h = xa d 287 11 [.ref x, a1, a2, a3] (.ref x :: st) h := xa_aload ((xpm_287 10).trans rfl) rfl
theorem e287_11 (d : Nat) (la : List Value) (a : Nat) (st : List Value) (h : xm_H) : xa d 287 11 la (.ref a :: st) h = x_push (x_fld 25 1 h a) d 287 14 la st h := xa_getf ((xpm_287 11).trans rfl) a
theorem e287_14 (d : Nat) (a0 a1 a2 a3 : Value) (x : Nat) (st : List Value) (h : xm_H) : xa d 287 14 [a0, a1, a2, a3] (.ref x :: st) h = xa d 287 15 [xs_cl a0, .ref x, a2, a3] st h := xa_astore ((xpm_287 14).trans rfl) (Nat.le_of_ble_eq_true rfl) rfl
theorem e287_14n (d : Nat) (a0 a1 a2 a3 : Value) (st : List Value) (h : xm_H) : xa d 287 14 [a0, a1, a2, a3] (.null :: st) h = xa d 287 15 [xs_cl a0, .null, a2, a3] st h := xa_astoreN ((xpm_287 14).trans rfl) (Nat.le_of_ble_eq_true rfl) rfl
theorem e287_15 (d : Nat) (a1 a2 a3 : Value) (x : Nat) (st : List Value) (h : xm_H) : xa d 287 15 [.ref x, a1, a2, a3] st h = xa d 287 16 [.ref x, a1, a2, a3] (.ref x :: st) h := xa_aload ((xpm_287 15).trans rfl) rfl
theorem e287_16 (d : Nat) (la : List Value) (a : Nat) (st : List Value) (h : xm_H) : xa d 287 16 la (.ref a :: st) h = x_push (x_fld 25 2 h a) d 287 19 la st h := xa_getf ((xpm_287 16).trans rfl) a
theorem e287_19 (d : Nat) (a0 a1 a2 a3 : Value) (x : Int32) (st : List Value) (h : xm_H) : xa d 287 19 [a0, a1, a2, a3] (.int x :: st) h = xa d 287 20 [a0, xs_cl a1, .int x, a3] st h := xa_istore ((xpm_287 19).trans rfl) (Nat.le_of_ble_eq_true rfl) rfl
theorem e287_20 (d : Nat) (a1 a2 a3 : Value) (x : Nat) (st : List Value) (h : xm_H) : xa d 287 20 [.ref x, a1, a2, a3] st h = xa d 287 21 [.ref x, a1, a2, a3] (.ref x :: st) h := xa_aload ((xpm_287 20).trans rfl) rfl
theorem e287_21 (d : Nat) (la st : List Value) (h : xm_H) : xa d 287 21 la st h = xa d 287 22 la ((.int 0) :: st) h := xa_push ((xpm_287 21).trans rfl)
theorem e287_22 (d : Nat) (la : List Value) (x : Int32) (y : Nat) (st : List Value) (h : xm_H) : xa d 287 22 la (.int x :: .ref y :: st) h = xa d 287 23 la (.int x :: .ref y :: .int x :: st) h := xa_dup_x1 ((xpm_287 22).trans rfl) rfl rfl
theorem e287_23 (d : Nat) (la : List Value) (a : Nat) (x : Int32) (st : List Value) (h : xm_H) : xa d 287 23 la (.int x :: .ref a :: st) h = x_heap (x_put 25 2 h a (.int x)) d 287 26 la st := xa_putf ((xpm_287 23).trans rfl) a rfl
theorem e287_26 (d : Nat) (a0 a1 a2 a3 : Value) (x : Int32) (st : List Value) (h : xm_H) : xa d 287 26 [a0, a1, a2, a3] (.int x :: st) h = xa d 287 27 [a0, a1, xs_cl a2, .int x] st h := xa_istore ((xpm_287 26).trans rfl) (Nat.le_of_ble_eq_true rfl) rfl
theorem e287_27 (d : Nat) (a0 a1 a2 : Value) (x : Int32) (st : List Value) (h : xm_H) : xa d 287 27 [a0, a1, a2, .int x] st h = xa d 287 28 [a0, a1, a2, .int x] (.int x :: st) h := xa_iload ((xpm_287 27).trans rfl) rfl
theorem e287_28 (d : Nat) (a0 a1 a3 : Value) (x : Int32) (st : List Value) (h : xm_H) : xa d 287 28 [a0, a1, .int x, a3] st h = xa d 287 29 [a0, a1, .int x, a3] (.int x :: st) h := xa_iload ((xpm_287 28).trans rfl) rfl
theorem e287_29 (d : Nat) (la : List Value) (x y : Int32) (st : List Value) (h : xm_H) : xa d 287 29 la (.int y :: .int x :: st) h = if y ≤ x then xa d 287 42 la st h else xa d 287 32 la st h := xa_icmpP (p := fun x y => y ≤ x) ((xpm_287 29).trans rfl) x y
theorem e287_32 (d : Nat) (a0 a2 a3 : Value) (x : Nat) (st : List Value) (h : xm_H) : xa d 287 32 [a0, .ref x, a2, a3] st h = xa d 287 33 [a0, .ref x, a2, a3] (.ref x :: st) h := xa_aload ((xpm_287 32).trans rfl) rfl
theorem e287_32n (d : Nat) (a0 a2 a3 : Value) (st : List Value) (h : xm_H) : xa d 287 32 [a0, .null, a2, a3] st h = xa d 287 33 [a0, .null, a2, a3] (.null :: st) h := xa_aloadN ((xpm_287 32).trans rfl) rfl
theorem e287_33 (d : Nat) (a0 a1 a2 : Value) (x : Int32) (st : List Value) (h : xm_H) : xa d 287 33 [a0, a1, a2, .int x] st h = xa d 287 34 [a0, a1, a2, .int x] (.int x :: st) h := xa_iload ((xpm_287 33).trans rfl) rfl
theorem e287_34 (d : Nat) (la st : List Value) (h : xm_H) : xa d 287 34 la st h = xa d 287 35 la (.null :: st) h := xa_push ((xpm_287 34).trans rfl)
theorem e287_35 (d : Nat) (la : List Value) (a b : Nat) (k : Int32) (st : List Value) (h : xm_H) : xa d 287 35 la (.ref b :: .int k :: .ref a :: st) h = x_heap (x_aast h a k (.ref b)) d 287 36 la st := xa_aastR ((xpm_287 35).trans rfl) a b k
theorem e287_35n (d : Nat) (la : List Value) (a : Nat) (k : Int32) (st : List Value) (h : xm_H) : xa d 287 35 la (.null :: .int k :: .ref a :: st) h = x_heap (x_aast h a k .null) d 287 36 la st := xa_aastN ((xpm_287 35).trans rfl) a k
theorem e287_36 (d : Nat) (a0 a1 a2 : Value) (x : Int32) (st : List Value) (h : xm_H) : xa d 287 36 [a0, a1, a2, .int x] st h = xa d 287 39 [a0, a1, xs_cl a2, .int (x + 1)] st h := xa_iinc ((xpm_287 36).trans rfl) rfl rfl
theorem e287_39 (d : Nat) (la st : List Value) (h : xm_H) : xa d 287 39 la st h = xa d 287 27 la st h := xa_goto ((xpm_287 39).trans rfl)
theorem e287_42 (d : Nat) (la : List Value) (h : xm_H) : xa d 287 42 la [] h = some (.returned none, h) := xa_rv ((xpm_287 42).trans rfl)
/- 288: java/util/ArrayList.isEmpty()Z -/
theorem e288_0 (d : Nat) (x : Nat) (st : List Value) (h : xm_H) : xa d 288 0 [.ref x] st h = xa d 288 1 [.ref x] (.ref x :: st) h := xa_aload ((xpm_288 0).trans rfl) rfl
theorem e288_1 (d : Nat) (la : List Value) (a : Nat) (st : List Value) (h : xm_H) : xa d 288 1 la (.ref a :: st) h = x_push (x_fld 25 2 h a) d 288 4 la st h := xa_getf ((xpm_288 1).trans rfl) a
theorem e288_4 (d : Nat) (la : List Value) (x : Int32) (st : List Value) (h : xm_H) : xa d 288 4 la (.int x :: st) h = if ¬ x = 0 then xa d 288 11 la st h else xa d 288 7 la st h := xa_ifP (p := fun x => ¬ x = 0) ((xpm_288 4).trans rfl) x
theorem e288_7 (d : Nat) (la st : List Value) (h : xm_H) : xa d 288 7 la st h = xa d 288 8 la ((.int 1) :: st) h := xa_push ((xpm_288 7).trans rfl)
theorem e288_8 (d : Nat) (la st : List Value) (h : xm_H) : xa d 288 8 la st h = xa d 288 12 la st h := xa_goto ((xpm_288 8).trans rfl)
theorem e288_11 (d : Nat) (la st : List Value) (h : xm_H) : xa d 288 11 la st h = xa d 288 12 la ((.int 0) :: st) h := xa_push ((xpm_288 11).trans rfl)
theorem e288_12 (d : Nat) (la : List Value) (x : Int32) (h : xm_H) (hx : x = 0 ∨ x = 1) : xa d 288 12 la [.int x] h = some (.returned (some (.int x)), h) := xa_rz ((xpm_288 12).trans rfl) x hx
/- 289: java/lang/String.indexOf(I)I -/
theorem e289_0 (d : Nat) (a1 : Value) (x : Nat) (st : List Value) (h : xm_H) : xa d 289 0 [.ref x, a1] st h = xa d 289 1 [.ref x, a1] (.ref x :: st) h := xa_aload ((xpm_289 0).trans rfl) rfl
theorem e289_1 (d : Nat) (a0 : Value) (x : Int32) (st : List Value) (h : xm_H) : xa d 289 1 [a0, .int x] st h = xa d 289 2 [a0, .int x] (.int x :: st) h := xa_iload ((xpm_289 1).trans rfl) rfl
theorem e289_2 (d : Nat) (la st : List Value) (h : xm_H) : xa d 289 2 la st h = xa d 289 3 la ((.int 0) :: st) h := xa_push ((xpm_289 2).trans rfl)
theorem e289_3 (d : Nat) (la : List Value) (b : Nat) (v0 : Int32) (v1 : Int32) (h : xm_H) (hc : x_cls h b = some 27) : xa (d + 1) 289 3 la [.int v1, .int v0, .ref b] h = x_call (xr d 290 [.ref b, .int v0, .int v1] h) (d + 1) 289 3 la [] := xa_V ((xpm_289 3).trans rfl) rfl (Nat.le_of_ble_eq_true rfl) hc
theorem e289_6 (d : Nat) (la : List Value) (x : Int32) (h : xm_H) : xa d 289 6 la [.int x] h = some (.returned (some (.int x)), h) := xa_ri ((xpm_289 6).trans rfl) x
/- 290: java/lang/String.indexOf(II)I -/
theorem e290_0 (d : Nat) (a1 a2 : Value) (x : Nat) (st : List Value) (h : xm_H) : xa d 290 0 [.ref x, a1, a2] st h = xa d 290 1 [.ref x, a1, a2] (.ref x :: st) h := xa_aload ((xpm_290 0).trans rfl) rfl
theorem e290_1 (d : Nat) (la : List Value) (b : Nat)  (h : xm_H) (hc : x_cls h b = some 27) : xa (d + 1) 290 1 la [.ref b] h = x_call (xr d 291 [.ref b] h) (d + 1) 290 1 la [] := xa_V ((xpm_290 1).trans rfl) rfl (Nat.le_of_ble_eq_true rfl) hc
theorem e290_4 (d : Nat) (la : List Value) (x : Int32) (st : List Value) (h : xm_H) : xa d 290 4 la (.int x :: st) h = if x = 0 then xa d 290 23 la st h else xa d 290 7 la st h := xa_ifP (p := fun x => x = 0) ((xpm_290 4).trans rfl) x
theorem e290_7 (d : Nat) (a1 a2 : Value) (x : Nat) (st : List Value) (h : xm_H) : xa d 290 7 [.ref x, a1, a2] st h = xa d 290 8 [.ref x, a1, a2] (.ref x :: st) h := xa_aload ((xpm_290 7).trans rfl) rfl
theorem e290_8 (d : Nat) (la : List Value) (a : Nat) (st : List Value) (h : xm_H) : xa d 290 8 la (.ref a :: st) h = x_push (x_fld 27 0 h a) d 290 11 la st h := xa_getf ((xpm_290 8).trans rfl) a
theorem e290_11 (d : Nat) (a0 a2 : Value) (x : Int32) (st : List Value) (h : xm_H) : xa d 290 11 [a0, .int x, a2] st h = xa d 290 12 [a0, .int x, a2] (.int x :: st) h := xa_iload ((xpm_290 11).trans rfl) rfl
theorem e290_12 (d : Nat) (a0 a1 : Value) (x : Int32) (st : List Value) (h : xm_H) : xa d 290 12 [a0, a1, .int x] st h = xa d 290 13 [a0, a1, .int x] (.int x :: st) h := xa_iload ((xpm_290 12).trans rfl) rfl
theorem e290_13 (d : Nat) (a1 a2 : Value) (x : Nat) (st : List Value) (h : xm_H) : xa d 290 13 [.ref x, a1, a2] st h = xa d 290 14 [.ref x, a1, a2] (.ref x :: st) h := xa_aload ((xpm_290 13).trans rfl) rfl
theorem e290_14 (d : Nat) (la : List Value) (b : Nat) (r0 : Int32) (r1 : Int32) (r2 : Nat) (h : xm_H) (hc : x_cls h b = some 27) : xa (d + 1) 290 14 la [.ref b, .int r0, .int r1, .ref r2] h = x_call (xr d 292 [.ref b] h) (d + 1) 290 14 la [.int r0, .int r1, .ref r2] := xa_V ((xpm_290 14).trans rfl) rfl (Nat.le_of_ble_eq_true rfl) hc
theorem e290_17 (d : Nat) (la : List Value) (v0 : Nat) (v1 : Int32) (v2 : Int32) (v3 : Int32) (h : xm_H) : xa (d + 1) 290 17 la [.int v3, .int v2, .int v1, .ref v0] h = x_call (xr d 297 [.ref v0, .int v1, .int v2, .int v3] h) (d + 1) 290 17 la [] := xa_S ((xpm_290 17).trans rfl) rfl (Nat.le_of_ble_eq_true rfl)
theorem e290_20 (d : Nat) (la st : List Value) (h : xm_H) : xa d 290 20 la st h = xa d 290 36 la st h := xa_goto ((xpm_290 20).trans rfl)
theorem e290_23 (d : Nat) (a1 a2 : Value) (x : Nat) (st : List Value) (h : xm_H) : xa d 290 23 [.ref x, a1, a2] st h = xa d 290 24 [.ref x, a1, a2] (.ref x :: st) h := xa_aload ((xpm_290 23).trans rfl) rfl
theorem e290_24 (d : Nat) (la : List Value) (a : Nat) (st : List Value) (h : xm_H) : xa d 290 24 la (.ref a :: st) h = x_push (x_fld 27 0 h a) d 290 27 la st h := xa_getf ((xpm_290 24).trans rfl) a
theorem e290_27 (d : Nat) (a0 a2 : Value) (x : Int32) (st : List Value) (h : xm_H) : xa d 290 27 [a0, .int x, a2] st h = xa d 290 28 [a0, .int x, a2] (.int x :: st) h := xa_iload ((xpm_290 27).trans rfl) rfl
theorem e290_28 (d : Nat) (a0 a1 : Value) (x : Int32) (st : List Value) (h : xm_H) : xa d 290 28 [a0, a1, .int x] st h = xa d 290 29 [a0, a1, .int x] (.int x :: st) h := xa_iload ((xpm_290 28).trans rfl) rfl
theorem e290_29 (d : Nat) (a1 a2 : Value) (x : Nat) (st : List Value) (h : xm_H) : xa d 290 29 [.ref x, a1, a2] st h = xa d 290 30 [.ref x, a1, a2] (.ref x :: st) h := xa_aload ((xpm_290 29).trans rfl) rfl
theorem e290_30 (d : Nat) (la : List Value) (b : Nat) (r0 : Int32) (r1 : Int32) (r2 : Nat) (h : xm_H) (hc : x_cls h b = some 27) : xa (d + 1) 290 30 la [.ref b, .int r0, .int r1, .ref r2] h = x_call (xr d 292 [.ref b] h) (d + 1) 290 30 la [.int r0, .int r1, .ref r2] := xa_V ((xpm_290 30).trans rfl) rfl (Nat.le_of_ble_eq_true rfl) hc
theorem e290_36 (d : Nat) (la : List Value) (x : Int32) (h : xm_H) : xa d 290 36 la [.int x] h = some (.returned (some (.int x)), h) := xa_ri ((xpm_290 36).trans rfl) x
/- 291: java/lang/String.isLatin1()Z -/
theorem e291_0 (d : Nat) (la st : List Value) (h : xm_H) : xa d 291 0 la st h = xa d 291 3 la ((.int 1) :: st) h := xa_push ((xpm_291 0).trans rfl)
theorem e291_3 (d : Nat) (la : List Value) (x : Int32) (st : List Value) (h : xm_H) : xa d 291 3 la (.int x :: st) h = if x = 0 then xa d 291 17 la st h else xa d 291 6 la st h := xa_ifP (p := fun x => x = 0) ((xpm_291 3).trans rfl) x
theorem e291_6 (d : Nat) (x : Nat) (st : List Value) (h : xm_H) : xa d 291 6 [.ref x] st h = xa d 291 7 [.ref x] (.ref x :: st) h := xa_aload ((xpm_291 6).trans rfl) rfl
theorem e291_7 (d : Nat) (la : List Value) (a : Nat) (st : List Value) (h : xm_H) : xa d 291 7 la (.ref a :: st) h = x_push (x_fld 27 1 h a) d 291 10 la st h := xa_getf ((xpm_291 7).trans rfl) a
theorem e291_10 (d : Nat) (la : List Value) (x : Int32) (st : List Value) (h : xm_H) : xa d 291 10 la (.int x :: st) h = if ¬ x = 0 then xa d 291 17 la st h else xa d 291 13 la st h := xa_ifP (p := fun x => ¬ x = 0) ((xpm_291 10).trans rfl) x
theorem e291_13 (d : Nat) (la st : List Value) (h : xm_H) : xa d 291 13 la st h = xa d 291 14 la ((.int 1) :: st) h := xa_push ((xpm_291 13).trans rfl)
theorem e291_14 (d : Nat) (la st : List Value) (h : xm_H) : xa d 291 14 la st h = xa d 291 18 la st h := xa_goto ((xpm_291 14).trans rfl)
theorem e291_17 (d : Nat) (la st : List Value) (h : xm_H) : xa d 291 17 la st h = xa d 291 18 la ((.int 0) :: st) h := xa_push ((xpm_291 17).trans rfl)
theorem e291_18 (d : Nat) (la : List Value) (x : Int32) (h : xm_H) (hx : x = 0 ∨ x = 1) : xa d 291 18 la [.int x] h = some (.returned (some (.int x)), h) := xa_rz ((xpm_291 18).trans rfl) x hx
/- 292: java/lang/String.length()I -/
theorem e292_0 (d : Nat) (x : Nat) (st : List Value) (h : xm_H) : xa d 292 0 [.ref x] st h = xa d 292 1 [.ref x] (.ref x :: st) h := xa_aload ((xpm_292 0).trans rfl) rfl
theorem e292_1 (d : Nat) (la : List Value) (a : Nat) (st : List Value) (h : xm_H) : xa d 292 1 la (.ref a :: st) h = x_push (x_fld 27 0 h a) d 292 4 la st h := xa_getf ((xpm_292 1).trans rfl) a
theorem e292_4 (d : Nat) (la : List Value) (a : Nat) (st : List Value) (h : xm_H) : xa d 292 4 la (.ref a :: st) h = x_push (x_alen h a) d 292 5 la st h := xa_alen ((xpm_292 4).trans rfl) a
theorem e292_5 (d : Nat) (x : Nat) (st : List Value) (h : xm_H) : xa d 292 5 [.ref x] st h = xa d 292 6 [.ref x] (.ref x :: st) h := xa_aload ((xpm_292 5).trans rfl) rfl
theorem e292_6 (d : Nat) (la : List Value) (b : Nat) (r0 : Int32) (h : xm_H) (hc : x_cls h b = some 27) : xa (d + 1) 292 6 la [.ref b, .int r0] h = x_call (xr d 293 [.ref b] h) (d + 1) 292 6 la [.int r0] := xa_V ((xpm_292 6).trans rfl) rfl (Nat.le_of_ble_eq_true rfl) hc
theorem e292_9 (d : Nat) (la : List Value) (x y : Int32) (st : List Value) (h : xm_H) : xa d 292 9 la (.int y :: .int x :: st) h = xa d 292 10 la (.int (x >>> (y &&& 31)) :: st) h := xa_ii ((xpm_292 9).trans rfl) x y
theorem e292_10 (d : Nat) (la : List Value) (x : Int32) (h : xm_H) : xa d 292 10 la [.int x] h = some (.returned (some (.int x)), h) := xa_ri ((xpm_292 10).trans rfl) x
/- 293: java/lang/String.coder()B -/
theorem e293_0 (d : Nat) (la st : List Value) (h : xm_H) : xa d 293 0 la st h = xa d 293 3 la ((.int 1) :: st) h := xa_push ((xpm_293 0).trans rfl)
theorem e293_3 (d : Nat) (la : List Value) (x : Int32) (st : List Value) (h : xm_H) : xa d 293 3 la (.int x :: st) h = if x = 0 then xa d 293 13 la st h else xa d 293 6 la st h := xa_ifP (p := fun x => x = 0) ((xpm_293 3).trans rfl) x
theorem e293_6 (d : Nat) (x : Nat) (st : List Value) (h : xm_H) : xa d 293 6 [.ref x] st h = xa d 293 7 [.ref x] (.ref x :: st) h := xa_aload ((xpm_293 6).trans rfl) rfl
theorem e293_7 (d : Nat) (la : List Value) (a : Nat) (st : List Value) (h : xm_H) : xa d 293 7 la (.ref a :: st) h = x_push (x_fld 27 1 h a) d 293 10 la st h := xa_getf ((xpm_293 7).trans rfl) a
theorem e293_10 (d : Nat) (la st : List Value) (h : xm_H) : xa d 293 10 la st h = xa d 293 14 la st h := xa_goto ((xpm_293 10).trans rfl)
theorem e293_13 (d : Nat) (la st : List Value) (h : xm_H) : xa d 293 13 la st h = xa d 293 14 la ((.int 1) :: st) h := xa_push ((xpm_293 13).trans rfl)
theorem e293_14 (d : Nat) (la : List Value) (x : Int32) (h : xm_H) (hx : narrow .byte (.int x) = .int x) : xa d 293 14 la [.int x] h = some (.returned (some (.int x)), h) := xa_rb ((xpm_293 14).trans rfl) x hx
/- 294: java/lang/String.checkBoundsBeginEnd(III)V -/
theorem e294_0 (d : Nat) (a1 a2 : Value) (x : Int32) (st : List Value) (h : xm_H) : xa d 294 0 [.int x, a1, a2] st h = xa d 294 1 [.int x, a1, a2] (.int x :: st) h := xa_iload ((xpm_294 0).trans rfl) rfl
theorem e294_1 (d : Nat) (a0 a2 : Value) (x : Int32) (st : List Value) (h : xm_H) : xa d 294 1 [a0, .int x, a2] st h = xa d 294 2 [a0, .int x, a2] (.int x :: st) h := xa_iload ((xpm_294 1).trans rfl) rfl
theorem e294_2 (d : Nat) (a0 a1 : Value) (x : Int32) (st : List Value) (h : xm_H) : xa d 294 2 [a0, a1, .int x] st h = xa d 294 3 [a0, a1, .int x] (.int x :: st) h := xa_iload ((xpm_294 2).trans rfl) rfl
theorem e294_3 (d : Nat) (la st : List Value) (h : xm_H) : xa d 294 3 la st h = xa d 294 6 la ((.retAddr 1) :: st) h := xa_push ((xpm_294 3).trans rfl)
theorem e294_6 (d : Nat) (la : List Value) (v0 : Int32) (v1 : Int32) (v2 : Int32) (h : xm_H) : xa (d + 1) 294 6 la [.retAddr 1, .int v2, .int v1, .int v0] h = x_call (xr d 304 [.int v0, .int v1, .int v2, .retAddr 1] h) (d + 1) 294 6 la [] := xa_S ((xpm_294 6).trans rfl) rfl (Nat.le_of_ble_eq_true rfl)
theorem e294_9 (d : Nat) (la : List Value) (x : Int32) (st : List Value) (h : xm_H) : xa d 294 9 la (.int x :: st) h = xa d 294 10 la st h := xa_pop ((xpm_294 9).trans rfl) rfl
theorem e294_10 (d : Nat) (la : List Value) (h : xm_H) : xa d 294 10 la [] h = some (.returned none, h) := xa_rv ((xpm_294 10).trans rfl)
/- 295: java/lang/String.charAt(I)C -/
theorem e295_0 (d : Nat) (a1 : Value) (x : Nat) (st : List Value) (h : xm_H) : xa d 295 0 [.ref x, a1] st h = xa d 295 1 [.ref x, a1] (.ref x :: st) h := xa_aload ((xpm_295 0).trans rfl) rfl
theorem e295_1 (d : Nat) (la : List Value) (b : Nat)  (h : xm_H) (hc : x_cls h b = some 27) : xa (d + 1) 295 1 la [.ref b] h = x_call (xr d 291 [.ref b] h) (d + 1) 295 1 la [] := xa_V ((xpm_295 1).trans rfl) rfl (Nat.le_of_ble_eq_true rfl) hc
theorem e295_4 (d : Nat) (la : List Value) (x : Int32) (st : List Value) (h : xm_H) : xa d 295 4 la (.int x :: st) h = if x = 0 then xa d 295 16 la st h else xa d 295 7 la st h := xa_ifP (p := fun x => x = 0) ((xpm_295 4).trans rfl) x
theorem e295_7 (d : Nat) (a1 : Value) (x : Nat) (st : List Value) (h : xm_H) : xa d 295 7 [.ref x, a1] st h = xa d 295 8 [.ref x, a1] (.ref x :: st) h := xa_aload ((xpm_295 7).trans rfl) rfl
theorem e295_8 (d : Nat) (la : List Value) (a : Nat) (st : List Value) (h : xm_H) : xa d 295 8 la (.ref a :: st) h = x_push (x_fld 27 0 h a) d 295 11 la st h := xa_getf ((xpm_295 8).trans rfl) a
theorem e295_11 (d : Nat) (a0 : Value) (x : Int32) (st : List Value) (h : xm_H) : xa d 295 11 [a0, .int x] st h = xa d 295 12 [a0, .int x] (.int x :: st) h := xa_iload ((xpm_295 11).trans rfl) rfl
theorem e295_12 (d : Nat) (la : List Value) (v0 : Nat) (v1 : Int32) (h : xm_H) : xa (d + 1) 295 12 la [.int v1, .ref v0] h = x_call (xr d 300 [.ref v0, .int v1] h) (d + 1) 295 12 la [] := xa_S ((xpm_295 12).trans rfl) rfl (Nat.le_of_ble_eq_true rfl)
theorem e295_15 (d : Nat) (la : List Value) (x : Int32) (h : xm_H) (hx : narrow .char (.int x) = .int x) : xa d 295 15 la [.int x] h = some (.returned (some (.int x)), h) := xa_rc ((xpm_295 15).trans rfl) x hx
theorem e295_16 (d : Nat) (a1 : Value) (x : Nat) (st : List Value) (h : xm_H) : xa d 295 16 [.ref x, a1] st h = xa d 295 17 [.ref x, a1] (.ref x :: st) h := xa_aload ((xpm_295 16).trans rfl) rfl
theorem e295_17 (d : Nat) (la : List Value) (a : Nat) (st : List Value) (h : xm_H) : xa d 295 17 la (.ref a :: st) h = x_push (x_fld 27 0 h a) d 295 20 la st h := xa_getf ((xpm_295 17).trans rfl) a
theorem e295_20 (d : Nat) (a0 : Value) (x : Int32) (st : List Value) (h : xm_H) : xa d 295 20 [a0, .int x] st h = xa d 295 21 [a0, .int x] (.int x :: st) h := xa_iload ((xpm_295 20).trans rfl) rfl
theorem e295_24 (d : Nat) (la : List Value) (x : Int32) (h : xm_H) (hx : narrow .char (.int x) = .int x) : xa d 295 24 la [.int x] h = some (.returned (some (.int x)), h) := xa_rc ((xpm_295 24).trans rfl) x hx
/- 296: java/lang/String.checkIndex(II)V -/
theorem e296_0 (d : Nat) (a1 : Value) (x : Int32) (st : List Value) (h : xm_H) : xa d 296 0 [.int x, a1] st h = xa d 296 1 [.int x, a1] (.int x :: st) h := xa_iload ((xpm_296 0).trans rfl) rfl
theorem e296_1 (d : Nat) (a0 : Value) (x : Int32) (st : List Value) (h : xm_H) : xa d 296 1 [a0, .int x] st h = xa d 296 2 [a0, .int x] (.int x :: st) h := xa_iload ((xpm_296 1).trans rfl) rfl
theorem e296_2 (d : Nat) (la st : List Value) (h : xm_H) : xa d 296 2 la st h = xa d 296 5 la ((.retAddr 1) :: st) h := xa_push ((xpm_296 2).trans rfl)
theorem e296_5 (d : Nat) (la : List Value) (v0 : Int32) (v1 : Int32) (h : xm_H) : xa (d + 1) 296 5 la [.retAddr 1, .int v1, .int v0] h = x_call (xr d 305 [.int v0, .int v1, .retAddr 1] h) (d + 1) 296 5 la [] := xa_S ((xpm_296 5).trans rfl) rfl (Nat.le_of_ble_eq_true rfl)
theorem e296_8 (d : Nat) (la : List Value) (x : Int32) (st : List Value) (h : xm_H) : xa d 296 8 la (.int x :: st) h = xa d 296 9 la st h := xa_pop ((xpm_296 8).trans rfl) rfl
theorem e296_9 (d : Nat) (la : List Value) (h : xm_H) : xa d 296 9 la [] h = some (.returned none, h) := xa_rv ((xpm_296 9).trans rfl)
/- 297: java/lang/StringLatin1.indexOf([BIII)I -/
theorem e297_0 (d : Nat) (a0 a2 a3 : Value) (x : Int32) (st : List Value) (h : xm_H) : xa d 297 0 [a0, .int x, a2, a3] st h = xa d 297 1 [a0, .int x, a2, a3] (.int x :: st) h := xa_iload ((xpm_297 0).trans rfl) rfl
theorem e297_1 (d : Nat) (la : List Value) (v0 : Int32) (h : xm_H) : xa (d + 1) 297 1 la [.int v0] h = x_call (xr d 298 [.int v0] h) (d + 1) 297 1 la [] := xa_S ((xpm_297 1).trans rfl) rfl (Nat.le_of_ble_eq_true rfl)
theorem e297_4 (d : Nat) (la : List Value) (x : Int32) (st : List Value) (h : xm_H) : xa d 297 4 la (.int x :: st) h = if ¬ x = 0 then xa d 297 9 la st h else xa d 297 7 la st h := xa_ifP (p := fun x => ¬ x = 0) ((xpm_297 4).trans rfl) x
theorem e297_7 (d : Nat) (la st : List Value) (h : xm_H) : xa d 297 7 la st h = xa d 297 8 la ((.int (-1)) :: st) h := xa_push ((xpm_297 7).trans rfl)
theorem e297_8 (d : Nat) (la : List Value) (x : Int32) (h : xm_H) : xa d 297 8 la [.int x] h = some (.returned (some (.int x)), h) := xa_ri ((xpm_297 8).trans rfl) x
theorem e297_9 (d : Nat) (a0 a1 a3 : Value) (x : Int32) (st : List Value) (h : xm_H) : xa d 297 9 [a0, a1, .int x, a3] st h = xa d 297 10 [a0, a1, .int x, a3] (.int x :: st) h := xa_iload ((xpm_297 9).trans rfl) rfl
theorem e297_10 (d : Nat) (la st : List Value) (h : xm_H) : xa d 297 10 la st h = xa d 297 11 la ((.int 0) :: st) h := xa_push ((xpm_297 10).trans rfl)
theorem e297_11 (d : Nat) (la : List Value) (v0 : Int32) (v1 : Int32) (h : xm_H) : xa (d + 1) 297 11 la [.int v1, .int v0] h = x_call (xr d 301 [.int v0, .int v1] h) (d + 1) 297 11 la [] := xa_S ((xpm_297 11).trans rfl) rfl (Nat.le_of_ble_eq_true rfl)
theorem e297_14 (d : Nat) (a0 a1 a2 a3 : Value) (x : Int32) (st : List Value) (h : xm_H) : xa d 297 14 [a0, a1, a2, a3] (.int x :: st) h = xa d 297 15 [a0, xs_cl a1, .int x, a3] st h := xa_istore ((xpm_297 14).trans rfl) (Nat.le_of_ble_eq_true rfl) rfl
theorem e297_15 (d : Nat) (a0 a1 a2 : Value) (x : Int32) (st : List Value) (h : xm_H) : xa d 297 15 [a0, a1, a2, .int x] st h = xa d 297 16 [a0, a1, a2, .int x] (.int x :: st) h := xa_iload ((xpm_297 15).trans rfl) rfl
theorem e297_16 (d : Nat) (a1 a2 a3 : Value) (x : Nat) (st : List Value) (h : xm_H) : xa d 297 16 [.ref x, a1, a2, a3] st h = xa d 297 17 [.ref x, a1, a2, a3] (.ref x :: st) h := xa_aload ((xpm_297 16).trans rfl) rfl
theorem e297_16n (d : Nat) (a1 a2 a3 : Value) (st : List Value) (h : xm_H) : xa d 297 16 [.null, a1, a2, a3] st h = xa d 297 17 [.null, a1, a2, a3] (.null :: st) h := xa_aloadN ((xpm_297 16).trans rfl) rfl
theorem e297_17 (d : Nat) (la : List Value) (a : Nat) (st : List Value) (h : xm_H) : xa d 297 17 la (.ref a :: st) h = x_push (x_alen h a) d 297 18 la st h := xa_alen ((xpm_297 17).trans rfl) a
theorem e297_18 (d : Nat) (la : List Value) (v0 : Int32) (v1 : Int32) (h : xm_H) : xa (d + 1) 297 18 la [.int v1, .int v0] h = x_call (xr d 302 [.int v0, .int v1] h) (d + 1) 297 18 la [] := xa_S ((xpm_297 18).trans rfl) rfl (Nat.le_of_ble_eq_true rfl)
theorem e297_21 (d : Nat) (a0 a1 a2 a3 : Value) (x : Int32) (st : List Value) (h : xm_H) : xa d 297 21 [a0, a1, a2, a3] (.int x :: st) h = xa d 297 22 [a0, a1, xs_cl a2, .int x] st h := xa_istore ((xpm_297 21).trans rfl) (Nat.le_of_ble_eq_true rfl) rfl
theorem e297_22 (d : Nat) (a0 a1 a3 : Value) (x : Int32) (st : List Value) (h : xm_H) : xa d 297 22 [a0, a1, .int x, a3] st h = xa d 297 23 [a0, a1, .int x, a3] (.int x :: st) h := xa_iload ((xpm_297 22).trans rfl) rfl
theorem e297_23 (d : Nat) (a0 a1 a2 : Value) (x : Int32) (st : List Value) (h : xm_H) : xa d 297 23 [a0, a1, a2, .int x] st h = xa d 297 24 [a0, a1, a2, .int x] (.int x :: st) h := xa_iload ((xpm_297 23).trans rfl) rfl
theorem e297_24 (d : Nat) (la : List Value) (x y : Int32) (st : List Value) (h : xm_H) : xa d 297 24 la (.int y :: .int x :: st) h = if x < y then xa d 297 29 la st h else xa d 297 27 la st h := xa_icmpP (p := fun x y => x < y) ((xpm_297 24).trans rfl) x y
theorem e297_27 (d : Nat) (la st : List Value) (h : xm_H) : xa d 297 27 la st h = xa d 297 28 la ((.int (-1)) :: st) h := xa_push ((xpm_297 27).trans rfl)
theorem e297_28 (d : Nat) (la : List Value) (x : Int32) (h : xm_H) : xa d 297 28 la [.int x] h = some (.returned (some (.int x)), h) := xa_ri ((xpm_297 28).trans rfl) x
theorem e297_29 (d : Nat) (a1 a2 a3 : Value) (x : Nat) (st : List Value) (h : xm_H) : xa d 297 29 [.ref x, a1, a2, a3] st h = xa d 297 30 [.ref x, a1, a2, a3] (.ref x :: st) h := xa_aload ((xpm_297 29).trans rfl) rfl
theorem e297_29n (d : Nat) (a1 a2 a3 : Value) (st : List Value) (h : xm_H) : xa d 297 29 [.null, a1, a2, a3] st h = xa d 297 30 [.null, a1, a2, a3] (.null :: st) h := xa_aloadN ((xpm_297 29).trans rfl) rfl
theorem e297_30 (d : Nat) (a0 a2 a3 : Value) (x : Int32) (st : List Value) (h : xm_H) : xa d 297 30 [a0, .int x, a2, a3] st h = xa d 297 31 [a0, .int x, a2, a3] (.int x :: st) h := xa_iload ((xpm_297 30).trans rfl) rfl
theorem e297_31 (d : Nat) (a0 a1 a3 : Value) (x : Int32) (st : List Value) (h : xm_H) : xa d 297 31 [a0, a1, .int x, a3] st h = xa d 297 32 [a0, a1, .int x, a3] (.int x :: st) h := xa_iload ((xpm_297 31).trans rfl) rfl
theorem e297_32 (d : Nat) (a0 a1 a2 : Value) (x : Int32) (st : List Value) (h : xm_H) : xa d 297 32 [a0, a1, a2, .int x] st h = xa d 297 33 [a0, a1, a2, .int x] (.int x :: st) h := xa_iload ((xpm_297 32).trans rfl) rfl
theorem e297_33 (d : Nat) (la : List Value) (v0 : Nat) (v1 : Int32) (v2 : Int32) (v3 : Int32) (h : xm_H) : xa (d + 1) 297 33 la [.int v3, .int v2, .int v1, .ref v0] h = x_call (xr d 299 [.ref v0, .int v1, .int v2, .int v3] h) (d + 1) 297 33 la [] := xa_S ((xpm_297 33).trans rfl) rfl (Nat.le_of_ble_eq_true rfl)
theorem e297_36 (d : Nat) (la : List Value) (x : Int32) (h : xm_H) : xa d 297 36 la [.int x] h = some (.returned (some (.int x)), h) := xa_ri ((xpm_297 36).trans rfl) x
/- 298: java/lang/StringLatin1.canEncode(I)Z -/
theorem e298_0 (d : Nat) (x : Int32) (st : List Value) (h : xm_H) : xa d 298 0 [.int x] st h = xa d 298 1 [.int x] (.int x :: st) h := xa_iload ((xpm_298 0).trans rfl) rfl
theorem e298_1 (d : Nat) (la : List Value) (x : Int32) (st : List Value) (h : xm_H) : xa d 298 1 la (.int x :: st) h = if x < 0 then xa d 298 15 la st h else xa d 298 4 la st h := xa_ifP (p := fun x => x < 0) ((xpm_298 1).trans rfl) x
theorem e298_4 (d : Nat) (x : Int32) (st : List Value) (h : xm_H) : xa d 298 4 [.int x] st h = xa d 298 5 [.int x] (.int x :: st) h := xa_iload ((xpm_298 4).trans rfl) rfl
theorem e298_5 (d : Nat) (la st : List Value) (h : xm_H) : xa d 298 5 la st h = xa d 298 8 la ((.int 255) :: st) h := xa_push ((xpm_298 5).trans rfl)
theorem e298_8 (d : Nat) (la : List Value) (x y : Int32) (st : List Value) (h : xm_H) : xa d 298 8 la (.int y :: .int x :: st) h = if y < x then xa d 298 15 la st h else xa d 298 11 la st h := xa_icmpP (p := fun x y => y < x) ((xpm_298 8).trans rfl) x y
theorem e298_11 (d : Nat) (la st : List Value) (h : xm_H) : xa d 298 11 la st h = xa d 298 12 la ((.int 1) :: st) h := xa_push ((xpm_298 11).trans rfl)
theorem e298_12 (d : Nat) (la st : List Value) (h : xm_H) : xa d 298 12 la st h = xa d 298 16 la st h := xa_goto ((xpm_298 12).trans rfl)
theorem e298_15 (d : Nat) (la st : List Value) (h : xm_H) : xa d 298 15 la st h = xa d 298 16 la ((.int 0) :: st) h := xa_push ((xpm_298 15).trans rfl)
theorem e298_16 (d : Nat) (la : List Value) (x : Int32) (h : xm_H) (hx : x = 0 ∨ x = 1) : xa d 298 16 la [.int x] h = some (.returned (some (.int x)), h) := xa_rz ((xpm_298 16).trans rfl) x hx
/- 299: java/lang/StringLatin1.indexOfChar([BIII)I -/
theorem e299_0 (d : Nat) (a0 a2 a3 a4 a5 : Value) (x : Int32) (st : List Value) (h : xm_H) : xa d 299 0 [a0, .int x, a2, a3, a4, a5] st h = xa d 299 1 [a0, .int x, a2, a3, a4, a5] (.int x :: st) h := xa_iload ((xpm_299 0).trans rfl) rfl
theorem e299_1 (d : Nat) (la : List Value) (x : Int32) (st : List Value) (h : xm_H) : xa d 299 1 la (.int x :: st) h = xa d 299 2 la (.int (x.toInt8.toInt32) :: st) h := xa_i ((xpm_299 1).trans rfl) x
theorem e299_2 (d : Nat) (a0 a1 a2 a3 a4 a5 : Value) (x : Int32) (st : List Value) (h : xm_H) : xa d 299 2 [a0, a1, a2, a3, a4, a5] (.int x :: st) h = xa d 299 4 [a0, a1, a2, xs_cl a3, .int x, a5] st h := xa_istore ((xpm_299 2).trans rfl) (Nat.le_of_ble_eq_true rfl) rfl
theorem e299_4 (d : Nat) (a0 a1 a3 a4 a5 : Value) (x : Int32) (st : List Value) (h : xm_H) : xa d 299 4 [a0, a1, .int x, a3, a4, a5] st h = xa d 299 5 [a0, a1, .int x, a3, a4, a5] (.int x :: st) h := xa_iload ((xpm_299 4).trans rfl) rfl
theorem e299_5 (d : Nat) (a0 a1 a2 a3 a4 a5 : Value) (x : Int32) (st : List Value) (h : xm_H) : xa d 299 5 [a0, a1, a2, a3, a4, a5] (.int x :: st) h = xa d 299 7 [a0, a1, a2, a3, xs_cl a4, .int x] st h := xa_istore ((xpm_299 5).trans rfl) (Nat.le_of_ble_eq_true rfl) rfl
theorem e299_7 (d : Nat) (a0 a1 a2 a3 a4 : Value) (x : Int32) (st : List Value) (h : xm_H) : xa d 299 7 [a0, a1, a2, a3, a4, .int x] st h = xa d 299 9 [a0, a1, a2, a3, a4, .int x] (.int x :: st) h := xa_iload ((xpm_299 7).trans rfl) rfl
theorem e299_9 (d : Nat) (a0 a1 a2 a4 a5 : Value) (x : Int32) (st : List Value) (h : xm_H) : xa d 299 9 [a0, a1, a2, .int x, a4, a5] st h = xa d 299 10 [a0, a1, a2, .int x, a4, a5] (.int x :: st) h := xa_iload ((xpm_299 9).trans rfl) rfl
theorem e299_10 (d : Nat) (la : List Value) (x y : Int32) (st : List Value) (h : xm_H) : xa d 299 10 la (.int y :: .int x :: st) h = if y ≤ x then xa d 299 31 la st h else xa d 299 13 la st h := xa_icmpP (p := fun x y => y ≤ x) ((xpm_299 10).trans rfl) x y
theorem e299_13 (d : Nat) (a1 a2 a3 a4 a5 : Value) (x : Nat) (st : List Value) (h : xm_H) : xa d 299 13 [.ref x, a1, a2, a3, a4, a5] st h = xa d 299 14 [.ref x, a1, a2, a3, a4, a5] (.ref x :: st) h := xa_aload ((xpm_299 13).trans rfl) rfl
theorem e299_13n (d : Nat) (a1 a2 a3 a4 a5 : Value) (st : List Value) (h : xm_H) : xa d 299 13 [.null, a1, a2, a3, a4, a5] st h = xa d 299 14 [.null, a1, a2, a3, a4, a5] (.null :: st) h := xa_aloadN ((xpm_299 13).trans rfl) rfl
theorem e299_14 (d : Nat) (a0 a1 a2 a3 a4 : Value) (x : Int32) (st : List Value) (h : xm_H) : xa d 299 14 [a0, a1, a2, a3, a4, .int x] st h = xa d 299 16 [a0, a1, a2, a3, a4, .int x] (.int x :: st) h := xa_iload ((xpm_299 14).trans rfl) rfl
theorem e299_16 (d : Nat) (la : List Value) (a : Nat) (k : Int32) (st : List Value) (h : xm_H) : xa d 299 16 la (.int k :: .ref a :: st) h = x_push (x_ald (fun t => t == 2 || t == 3) h a k) d 299 17 la st h := xa_ald ((xpm_299 16).trans rfl) a k
theorem e299_17 (d : Nat) (a0 a1 a2 a3 a5 : Value) (x : Int32) (st : List Value) (h : xm_H) : xa d 299 17 [a0, a1, a2, a3, .int x, a5] st h = xa d 299 19 [a0, a1, a2, a3, .int x, a5] (.int x :: st) h := xa_iload ((xpm_299 17).trans rfl) rfl
theorem e299_19 (d : Nat) (la : List Value) (x y : Int32) (st : List Value) (h : xm_H) : xa d 299 19 la (.int y :: .int x :: st) h = if ¬ x = y then xa d 299 25 la st h else xa d 299 22 la st h := xa_icmpP (p := fun x y => ¬ x = y) ((xpm_299 19).trans rfl) x y
theorem e299_22 (d : Nat) (a0 a1 a2 a3 a4 : Value) (x : Int32) (st : List Value) (h : xm_H) : xa d 299 22 [a0, a1, a2, a3, a4, .int x] st h = xa d 299 24 [a0, a1, a2, a3, a4, .int x] (.int x :: st) h := xa_iload ((xpm_299 22).trans rfl) rfl
theorem e299_24 (d : Nat) (la : List Value) (x : Int32) (h : xm_H) : xa d 299 24 la [.int x] h = some (.returned (some (.int x)), h) := xa_ri ((xpm_299 24).trans rfl) x
theorem e299_25 (d : Nat) (a0 a1 a2 a3 a4 : Value) (x : Int32) (st : List Value) (h : xm_H) : xa d 299 25 [a0, a1, a2, a3, a4, .int x] st h = xa d 299 28 [a0, a1, a2, a3, xs_cl a4, .int (x + 1)] st h := xa_iinc ((xpm_299 25).trans rfl) rfl rfl
theorem e299_28 (d : Nat) (la st : List Value) (h : xm_H) : xa d 299 28 la st h = xa d 299 7 la st h := xa_goto ((xpm_299 28).trans rfl)
theorem e299_31 (d : Nat) (la st : List Value) (h : xm_H) : xa d 299 31 la st h = xa d 299 32 la ((.int (-1)) :: st) h := xa_push ((xpm_299 31).trans rfl)
theorem e299_32 (d : Nat) (la : List Value) (x : Int32) (h : xm_H) : xa d 299 32 la [.int x] h = some (.returned (some (.int x)), h) := xa_ri ((xpm_299 32).trans rfl) x
/- 300: java/lang/StringLatin1.charAt([BI)C -/
theorem e300_0 (d : Nat) (a0 : Value) (x : Int32) (st : List Value) (h : xm_H) : xa d 300 0 [a0, .int x] st h = xa d 300 1 [a0, .int x] (.int x :: st) h := xa_iload ((xpm_300 0).trans rfl) rfl
theorem e300_1 (d : Nat) (a1 : Value) (x : Nat) (st : List Value) (h : xm_H) : xa d 300 1 [.ref x, a1] st h = xa d 300 2 [.ref x, a1] (.ref x :: st) h := xa_aload ((xpm_300 1).trans rfl) rfl
theorem e300_1n (d : Nat) (a1 : Value) (st : List Value) (h : xm_H) : xa d 300 1 [.null, a1] st h = xa d 300 2 [.null, a1] (.null :: st) h := xa_aloadN ((xpm_300 1).trans rfl) rfl
theorem e300_2 (d : Nat) (la : List Value) (a : Nat) (st : List Value) (h : xm_H) : xa d 300 2 la (.ref a :: st) h = x_push (x_alen h a) d 300 3 la st h := xa_alen ((xpm_300 2).trans rfl) a
theorem e300_3 (d : Nat) (la : List Value) (v0 : Int32) (v1 : Int32) (h : xm_H) : xa (d + 1) 300 3 la [.int v1, .int v0] h = x_call (xr d 296 [.int v0, .int v1] h) (d + 1) 300 3 la [] := xa_S ((xpm_300 3).trans rfl) rfl (Nat.le_of_ble_eq_true rfl)
theorem e300_6 (d : Nat) (a1 : Value) (x : Nat) (st : List Value) (h : xm_H) : xa d 300 6 [.ref x, a1] st h = xa d 300 7 [.ref x, a1] (.ref x :: st) h := xa_aload ((xpm_300 6).trans rfl) rfl
theorem e300_6n (d : Nat) (a1 : Value) (st : List Value) (h : xm_H) : xa d 300 6 [.null, a1] st h = xa d 300 7 [.null, a1] (.null :: st) h := xa_aloadN ((xpm_300 6).trans rfl) rfl
theorem e300_7 (d : Nat) (a0 : Value) (x : Int32) (st : List Value) (h : xm_H) : xa d 300 7 [a0, .int x] st h = xa d 300 8 [a0, .int x] (.int x :: st) h := xa_iload ((xpm_300 7).trans rfl) rfl
theorem e300_8 (d : Nat) (la : List Value) (a : Nat) (k : Int32) (st : List Value) (h : xm_H) : xa d 300 8 la (.int k :: .ref a :: st) h = x_push (x_ald (fun t => t == 2 || t == 3) h a k) d 300 9 la st h := xa_ald ((xpm_300 8).trans rfl) a k
theorem e300_9 (d : Nat) (la st : List Value) (h : xm_H) : xa d 300 9 la st h = xa d 300 12 la ((.int 255) :: st) h := xa_push ((xpm_300 9).trans rfl)
theorem e300_12 (d : Nat) (la : List Value) (x y : Int32) (st : List Value) (h : xm_H) : xa d 300 12 la (.int y :: .int x :: st) h = xa d 300 13 la (.int (x &&& y) :: st) h := xa_ii ((xpm_300 12).trans rfl) x y
theorem e300_13 (d : Nat) (la : List Value) (x : Int32) (st : List Value) (h : xm_H) : xa d 300 13 la (.int x :: st) h = xa d 300 14 la (.int ((x.toUInt32 % 65536).toInt32) :: st) h := xa_i ((xpm_300 13).trans rfl) x
theorem e300_14 (d : Nat) (la : List Value) (x : Int32) (h : xm_H) (hx : narrow .char (.int x) = .int x) : xa d 300 14 la [.int x] h = some (.returned (some (.int x)), h) := xa_rc ((xpm_300 14).trans rfl) x hx
/- 301: java/lang/Math.max(II)I -/
theorem e301_0 (d : Nat) (a1 : Value) (x : Int32) (st : List Value) (h : xm_H) : xa d 301 0 [.int x, a1] st h = xa d 301 1 [.int x, a1] (.int x :: st) h := xa_iload ((xpm_301 0).trans rfl) rfl
theorem e301_1 (d : Nat) (a0 : Value) (x : Int32) (st : List Value) (h : xm_H) : xa d 301 1 [a0, .int x] st h = xa d 301 2 [a0, .int x] (.int x :: st) h := xa_iload ((xpm_301 1).trans rfl) rfl
theorem e301_2 (d : Nat) (la : List Value) (x y : Int32) (st : List Value) (h : xm_H) : xa d 301 2 la (.int y :: .int x :: st) h = if x < y then xa d 301 9 la st h else xa d 301 5 la st h := xa_icmpP (p := fun x y => x < y) ((xpm_301 2).trans rfl) x y
theorem e301_5 (d : Nat) (a1 : Value) (x : Int32) (st : List Value) (h : xm_H) : xa d 301 5 [.int x, a1] st h = xa d 301 6 [.int x, a1] (.int x :: st) h := xa_iload ((xpm_301 5).trans rfl) rfl
theorem e301_6 (d : Nat) (la st : List Value) (h : xm_H) : xa d 301 6 la st h = xa d 301 10 la st h := xa_goto ((xpm_301 6).trans rfl)
theorem e301_9 (d : Nat) (a0 : Value) (x : Int32) (st : List Value) (h : xm_H) : xa d 301 9 [a0, .int x] st h = xa d 301 10 [a0, .int x] (.int x :: st) h := xa_iload ((xpm_301 9).trans rfl) rfl
theorem e301_10 (d : Nat) (la : List Value) (x : Int32) (h : xm_H) : xa d 301 10 la [.int x] h = some (.returned (some (.int x)), h) := xa_ri ((xpm_301 10).trans rfl) x
/- 302: java/lang/Math.min(II)I -/
theorem e302_0 (d : Nat) (a1 : Value) (x : Int32) (st : List Value) (h : xm_H) : xa d 302 0 [.int x, a1] st h = xa d 302 1 [.int x, a1] (.int x :: st) h := xa_iload ((xpm_302 0).trans rfl) rfl
theorem e302_1 (d : Nat) (a0 : Value) (x : Int32) (st : List Value) (h : xm_H) : xa d 302 1 [a0, .int x] st h = xa d 302 2 [a0, .int x] (.int x :: st) h := xa_iload ((xpm_302 1).trans rfl) rfl
theorem e302_2 (d : Nat) (la : List Value) (x y : Int32) (st : List Value) (h : xm_H) : xa d 302 2 la (.int y :: .int x :: st) h = if y < x then xa d 302 9 la st h else xa d 302 5 la st h := xa_icmpP (p := fun x y => y < x) ((xpm_302 2).trans rfl) x y
theorem e302_5 (d : Nat) (a1 : Value) (x : Int32) (st : List Value) (h : xm_H) : xa d 302 5 [.int x, a1] st h = xa d 302 6 [.int x, a1] (.int x :: st) h := xa_iload ((xpm_302 5).trans rfl) rfl
theorem e302_6 (d : Nat) (la st : List Value) (h : xm_H) : xa d 302 6 la st h = xa d 302 10 la st h := xa_goto ((xpm_302 6).trans rfl)
theorem e302_9 (d : Nat) (a0 : Value) (x : Int32) (st : List Value) (h : xm_H) : xa d 302 9 [a0, .int x] st h = xa d 302 10 [a0, .int x] (.int x :: st) h := xa_iload ((xpm_302 9).trans rfl) rfl
theorem e302_10 (d : Nat) (la : List Value) (x : Int32) (h : xm_H) : xa d 302 10 la [.int x] h = some (.returned (some (.int x)), h) := xa_ri ((xpm_302 10).trans rfl) x
/- 303: java/lang/Math.abs(I)I -/
theorem e303_0 (d : Nat) (x : Int32) (st : List Value) (h : xm_H) : xa d 303 0 [.int x] st h = xa d 303 1 [.int x] (.int x :: st) h := xa_iload ((xpm_303 0).trans rfl) rfl
theorem e303_1 (d : Nat) (la : List Value) (x : Int32) (st : List Value) (h : xm_H) : xa d 303 1 la (.int x :: st) h = if 0 ≤ x then xa d 303 9 la st h else xa d 303 4 la st h := xa_ifP (p := fun x => 0 ≤ x) ((xpm_303 1).trans rfl) x
theorem e303_4 (d : Nat) (x : Int32) (st : List Value) (h : xm_H) : xa d 303 4 [.int x] st h = xa d 303 5 [.int x] (.int x :: st) h := xa_iload ((xpm_303 4).trans rfl) rfl
theorem e303_5 (d : Nat) (la : List Value) (x : Int32) (st : List Value) (h : xm_H) : xa d 303 5 la (.int x :: st) h = xa d 303 6 la (.int (-x) :: st) h := xa_i ((xpm_303 5).trans rfl) x
theorem e303_6 (d : Nat) (la st : List Value) (h : xm_H) : xa d 303 6 la st h = xa d 303 10 la st h := xa_goto ((xpm_303 6).trans rfl)
theorem e303_9 (d : Nat) (x : Int32) (st : List Value) (h : xm_H) : xa d 303 9 [.int x] st h = xa d 303 10 [.int x] (.int x :: st) h := xa_iload ((xpm_303 9).trans rfl) rfl
theorem e303_10 (d : Nat) (la : List Value) (x : Int32) (h : xm_H) : xa d 303 10 la [.int x] h = some (.returned (some (.int x)), h) := xa_ri ((xpm_303 10).trans rfl) x
/- 304: jdk/internal/util/Preconditions.checkFromToIndex(IIILjava/util/function/BiFunction;)I -/
theorem e304_0 (d : Nat) (a1 a2 a3 : Value) (x : Int32) (st : List Value) (h : xm_H) : xa d 304 0 [.int x, a1, a2, a3] st h = xa d 304 1 [.int x, a1, a2, a3] (.int x :: st) h := xa_iload ((xpm_304 0).trans rfl) rfl
theorem e304_1 (d : Nat) (la : List Value) (x : Int32) (st : List Value) (h : xm_H) : xa d 304 1 la (.int x :: st) h = if x < 0 then xa d 304 14 la st h else xa d 304 4 la st h := xa_ifP (p := fun x => x < 0) ((xpm_304 1).trans rfl) x
theorem e304_4 (d : Nat) (a1 a2 a3 : Value) (x : Int32) (st : List Value) (h : xm_H) : xa d 304 4 [.int x, a1, a2, a3] st h = xa d 304 5 [.int x, a1, a2, a3] (.int x :: st) h := xa_iload ((xpm_304 4).trans rfl) rfl
theorem e304_5 (d : Nat) (a0 a2 a3 : Value) (x : Int32) (st : List Value) (h : xm_H) : xa d 304 5 [a0, .int x, a2, a3] st h = xa d 304 6 [a0, .int x, a2, a3] (.int x :: st) h := xa_iload ((xpm_304 5).trans rfl) rfl
theorem e304_6 (d : Nat) (la : List Value) (x y : Int32) (st : List Value) (h : xm_H) : xa d 304 6 la (.int y :: .int x :: st) h = if y < x then xa d 304 14 la st h else xa d 304 9 la st h := xa_icmpP (p := fun x y => y < x) ((xpm_304 6).trans rfl) x y
theorem e304_9 (d : Nat) (a0 a2 a3 : Value) (x : Int32) (st : List Value) (h : xm_H) : xa d 304 9 [a0, .int x, a2, a3] st h = xa d 304 10 [a0, .int x, a2, a3] (.int x :: st) h := xa_iload ((xpm_304 9).trans rfl) rfl
theorem e304_10 (d : Nat) (a0 a1 a3 : Value) (x : Int32) (st : List Value) (h : xm_H) : xa d 304 10 [a0, a1, .int x, a3] st h = xa d 304 11 [a0, a1, .int x, a3] (.int x :: st) h := xa_iload ((xpm_304 10).trans rfl) rfl
theorem e304_11 (d : Nat) (la : List Value) (x y : Int32) (st : List Value) (h : xm_H) : xa d 304 11 la (.int y :: .int x :: st) h = if x ≤ y then xa d 304 22 la st h else xa d 304 14 la st h := xa_icmpP (p := fun x y => x ≤ y) ((xpm_304 11).trans rfl) x y
theorem e304_14 (d : Nat) (a0 a1 a2 : Value) (x : Nat) (st : List Value) (h : xm_H) : xa d 304 14 [a0, a1, a2, .ref x] st h = xa d 304 15 [a0, a1, a2, .ref x] (.ref x :: st) h := xa_aload ((xpm_304 14).trans rfl) rfl
theorem e304_14n (d : Nat) (a0 a1 a2 : Value) (st : List Value) (h : xm_H) : xa d 304 14 [a0, a1, a2, .null] st h = xa d 304 15 [a0, a1, a2, .null] (.null :: st) h := xa_aloadN ((xpm_304 14).trans rfl) rfl
theorem e304_15 (d : Nat) (a1 a2 a3 : Value) (x : Int32) (st : List Value) (h : xm_H) : xa d 304 15 [.int x, a1, a2, a3] st h = xa d 304 16 [.int x, a1, a2, a3] (.int x :: st) h := xa_iload ((xpm_304 15).trans rfl) rfl
theorem e304_16 (d : Nat) (a0 a2 a3 : Value) (x : Int32) (st : List Value) (h : xm_H) : xa d 304 16 [a0, .int x, a2, a3] st h = xa d 304 17 [a0, .int x, a2, a3] (.int x :: st) h := xa_iload ((xpm_304 16).trans rfl) rfl
theorem e304_17 (d : Nat) (a0 a1 a3 : Value) (x : Int32) (st : List Value) (h : xm_H) : xa d 304 17 [a0, a1, .int x, a3] st h = xa d 304 18 [a0, a1, .int x, a3] (.int x :: st) h := xa_iload ((xpm_304 17).trans rfl) rfl
theorem e304_22 (d : Nat) (a1 a2 a3 : Value) (x : Int32) (st : List Value) (h : xm_H) : xa d 304 22 [.int x, a1, a2, a3] st h = xa d 304 23 [.int x, a1, a2, a3] (.int x :: st) h := xa_iload ((xpm_304 22).trans rfl) rfl
theorem e304_23 (d : Nat) (la : List Value) (x : Int32) (h : xm_H) : xa d 304 23 la [.int x] h = some (.returned (some (.int x)), h) := xa_ri ((xpm_304 23).trans rfl) x
/- 305: jdk/internal/util/Preconditions.checkIndex(IILjava/util/function/BiFunction;)I -/
theorem e305_0 (d : Nat) (a1 a2 : Value) (x : Int32) (st : List Value) (h : xm_H) : xa d 305 0 [.int x, a1, a2] st h = xa d 305 1 [.int x, a1, a2] (.int x :: st) h := xa_iload ((xpm_305 0).trans rfl) rfl
theorem e305_1 (d : Nat) (la : List Value) (x : Int32) (st : List Value) (h : xm_H) : xa d 305 1 la (.int x :: st) h = if x < 0 then xa d 305 9 la st h else xa d 305 4 la st h := xa_ifP (p := fun x => x < 0) ((xpm_305 1).trans rfl) x
theorem e305_4 (d : Nat) (a1 a2 : Value) (x : Int32) (st : List Value) (h : xm_H) : xa d 305 4 [.int x, a1, a2] st h = xa d 305 5 [.int x, a1, a2] (.int x :: st) h := xa_iload ((xpm_305 4).trans rfl) rfl
theorem e305_5 (d : Nat) (a0 a2 : Value) (x : Int32) (st : List Value) (h : xm_H) : xa d 305 5 [a0, .int x, a2] st h = xa d 305 6 [a0, .int x, a2] (.int x :: st) h := xa_iload ((xpm_305 5).trans rfl) rfl
theorem e305_6 (d : Nat) (la : List Value) (x y : Int32) (st : List Value) (h : xm_H) : xa d 305 6 la (.int y :: .int x :: st) h = if x < y then xa d 305 16 la st h else xa d 305 9 la st h := xa_icmpP (p := fun x y => x < y) ((xpm_305 6).trans rfl) x y
theorem e305_9 (d : Nat) (a0 a1 : Value) (x : Nat) (st : List Value) (h : xm_H) : xa d 305 9 [a0, a1, .ref x] st h = xa d 305 10 [a0, a1, .ref x] (.ref x :: st) h := xa_aload ((xpm_305 9).trans rfl) rfl
theorem e305_9n (d : Nat) (a0 a1 : Value) (st : List Value) (h : xm_H) : xa d 305 9 [a0, a1, .null] st h = xa d 305 10 [a0, a1, .null] (.null :: st) h := xa_aloadN ((xpm_305 9).trans rfl) rfl
theorem e305_10 (d : Nat) (a1 a2 : Value) (x : Int32) (st : List Value) (h : xm_H) : xa d 305 10 [.int x, a1, a2] st h = xa d 305 11 [.int x, a1, a2] (.int x :: st) h := xa_iload ((xpm_305 10).trans rfl) rfl
theorem e305_11 (d : Nat) (a0 a2 : Value) (x : Int32) (st : List Value) (h : xm_H) : xa d 305 11 [a0, .int x, a2] st h = xa d 305 12 [a0, .int x, a2] (.int x :: st) h := xa_iload ((xpm_305 11).trans rfl) rfl
theorem e305_16 (d : Nat) (a1 a2 : Value) (x : Int32) (st : List Value) (h : xm_H) : xa d 305 16 [.int x, a1, a2] st h = xa d 305 17 [.int x, a1, a2] (.int x :: st) h := xa_iload ((xpm_305 16).trans rfl) rfl
theorem e305_17 (d : Nat) (la : List Value) (x : Int32) (h : xm_H) : xa d 305 17 la [.int x] h = some (.returned (some (.int x)), h) := xa_ri ((xpm_305 17).trans rfl) x
/- 306: java/util/Objects.checkIndex(II)I -/
theorem e306_0 (d : Nat) (a1 : Value) (x : Int32) (st : List Value) (h : xm_H) : xa d 306 0 [.int x, a1] st h = xa d 306 1 [.int x, a1] (.int x :: st) h := xa_iload ((xpm_306 0).trans rfl) rfl
theorem e306_1 (d : Nat) (a0 : Value) (x : Int32) (st : List Value) (h : xm_H) : xa d 306 1 [a0, .int x] st h = xa d 306 2 [a0, .int x] (.int x :: st) h := xa_iload ((xpm_306 1).trans rfl) rfl
theorem e306_2 (d : Nat) (la st : List Value) (h : xm_H) : xa d 306 2 la st h = xa d 306 3 la (.null :: st) h := xa_push ((xpm_306 2).trans rfl)
theorem e306_3 (d : Nat) (la : List Value) (v0 : Int32) (v1 : Int32) (v2 : Nat) (h : xm_H) : xa (d + 1) 306 3 la [.ref v2, .int v1, .int v0] h = x_call (xr d 305 [.int v0, .int v1, .ref v2] h) (d + 1) 306 3 la [] := xa_S ((xpm_306 3).trans rfl) rfl (Nat.le_of_ble_eq_true rfl)
theorem e306_6 (d : Nat) (la : List Value) (x : Int32) (h : xm_H) : xa d 306 6 la [.int x] h = some (.returned (some (.int x)), h) := xa_ri ((xpm_306 6).trans rfl) x
/- 307: java/lang/Number.<init>()V -/
theorem e307_0 (d : Nat) (x : Nat) (st : List Value) (h : xm_H) : xa d 307 0 [.ref x] st h = xa d 307 1 [.ref x] (.ref x :: st) h := xa_aload ((xpm_307 0).trans rfl) rfl
theorem e307_1 (d : Nat) (la : List Value) (a : Nat)  (h : xm_H) : xa d 307 1 la (.ref a :: []) h = xa d 307 4 la [] h := xa_objInit ((xpm_307 1).trans rfl) a (Nat.le_of_ble_eq_true rfl)
theorem e307_4 (d : Nat) (la : List Value) (h : xm_H) : xa d 307 4 la [] h = some (.returned none, h) := xa_rv ((xpm_307 4).trans rfl)
/- 308: java/lang/Long.longValue()J -/
theorem e308_0 (d : Nat) (x : Nat) (st : List Value) (h : xm_H) : xa d 308 0 [.ref x] st h = xa d 308 1 [.ref x] (.ref x :: st) h := xa_aload ((xpm_308 0).trans rfl) rfl
theorem e308_1 (d : Nat) (la : List Value) (a : Nat) (st : List Value) (h : xm_H) : xa d 308 1 la (.ref a :: st) h = x_push (x_fld 26 0 h a) d 308 4 la st h := xa_getf ((xpm_308 1).trans rfl) a
theorem e308_4 (d : Nat) (la : List Value) (x : Int64) (h : xm_H) : xa d 308 4 la [.long x] h = some (.returned (some (.long x)), h) := xa_rl ((xpm_308 4).trans rfl) x
/- 309: java/lang/Long.valueOf(J)Ljava/lang/Long; -/
theorem e309_0 (d : Nat) (la st : List Value) (h : xm_H) : xa d 309 0 la st h = xa d 309 3 la ((.int 128) :: st) h := xa_push ((xpm_309 0).trans rfl)
theorem e309_3 (d : Nat) (a0 a1 a2 : Value) (x : Int32) (st : List Value) (h : xm_H) : xa d 309 3 [a0, a1, a2] (.int x :: st) h = xa d 309 4 [a0, xs_cl a1, .int x] st h := xa_istore ((xpm_309 3).trans rfl) (Nat.le_of_ble_eq_true rfl) rfl
theorem e309_4 (d : Nat) (a1 a2 : Value) (x : Int64) (st : List Value) (h : xm_H) : xa d 309 4 [.long x, a1, a2] st h = xa d 309 5 [.long x, a1, a2] (.long x :: st) h := xa_lload ((xpm_309 4).trans rfl) rfl
theorem e309_5 (d : Nat) (la st : List Value) (h : xm_H) : xa d 309 5 la st h = xa d 309 8 la ((.long (-128 : Int64)) :: st) h := xa_push ((xpm_309 5).trans rfl)
theorem e309_8 (d : Nat) (la : List Value) (x y : Int64) (st : List Value) (h : xm_H) : xa d 309 8 la (.long y :: .long x :: st) h = xa d 309 9 la (.int (lg_cmp x y) :: st) h := xa_lcmp ((xpm_309 8).trans rfl) x y
theorem e309_9 (d : Nat) (la : List Value) (x : Int32) (st : List Value) (h : xm_H) : xa d 309 9 la (.int x :: st) h = if x < 0 then xa d 309 31 la st h else xa d 309 12 la st h := xa_ifP (p := fun x => x < 0) ((xpm_309 9).trans rfl) x
theorem e309_12 (d : Nat) (a1 a2 : Value) (x : Int64) (st : List Value) (h : xm_H) : xa d 309 12 [.long x, a1, a2] st h = xa d 309 13 [.long x, a1, a2] (.long x :: st) h := xa_lload ((xpm_309 12).trans rfl) rfl
theorem e309_13 (d : Nat) (la st : List Value) (h : xm_H) : xa d 309 13 la st h = xa d 309 16 la ((.long (127 : Int64)) :: st) h := xa_push ((xpm_309 13).trans rfl)
theorem e309_16 (d : Nat) (la : List Value) (x y : Int64) (st : List Value) (h : xm_H) : xa d 309 16 la (.long y :: .long x :: st) h = xa d 309 17 la (.int (lg_cmp x y) :: st) h := xa_lcmp ((xpm_309 16).trans rfl) x y
theorem e309_17 (d : Nat) (la : List Value) (x : Int32) (st : List Value) (h : xm_H) : xa d 309 17 la (.int x :: st) h = if 0 < x then xa d 309 31 la st h else xa d 309 20 la st h := xa_ifP (p := fun x => 0 < x) ((xpm_309 17).trans rfl) x
theorem e309_20 (d : Nat) (la st : List Value) (h : xm_H) : xa d 309 20 la st h = xa d 309 23 la ((.ref 3) :: st) h := xa_push ((xpm_309 20).trans rfl)
theorem e309_23 (d : Nat) (a1 a2 : Value) (x : Int64) (st : List Value) (h : xm_H) : xa d 309 23 [.long x, a1, a2] st h = xa d 309 24 [.long x, a1, a2] (.long x :: st) h := xa_lload ((xpm_309 23).trans rfl) rfl
theorem e309_24 (d : Nat) (la : List Value) (x : Int64) (st : List Value) (h : xm_H) : xa d 309 24 la (.long x :: st) h = xa d 309 25 la (.int x.toInt32 :: st) h := xa_l2i ((xpm_309 24).trans rfl) x
theorem e309_25 (d : Nat) (la st : List Value) (h : xm_H) : xa d 309 25 la st h = xa d 309 28 la ((.int 128) :: st) h := xa_push ((xpm_309 25).trans rfl)
theorem e309_28 (d : Nat) (la : List Value) (x y : Int32) (st : List Value) (h : xm_H) : xa d 309 28 la (.int y :: .int x :: st) h = xa d 309 29 la (.int (x + y) :: st) h := xa_ii ((xpm_309 28).trans rfl) x y
theorem e309_29 (d : Nat) (la : List Value) (a : Nat) (k : Int32) (st : List Value) (h : xm_H) : xa d 309 29 la (.int k :: .ref a :: st) h = x_push (x_ald (fun t => Nat.ble 4 t) h a k) d 309 30 la st h := xa_ald ((xpm_309 29).trans rfl) a k
theorem e309_30 (d : Nat) (la : List Value) (x : Nat) (h : xm_H) : xa d 309 30 la [.ref x] h = some (.returned (some (.ref x)), h) := xa_ra ((xpm_309 30).trans rfl) x
theorem e309_30n (d : Nat) (la : List Value) (h : xm_H) : xa d 309 30 la [.null] h = some (.returned (some .null), h) := xa_raN ((xpm_309 30).trans rfl)
theorem e309_31 (d : Nat) (la st : List Value) (h : xm_H) : xa d 309 31 la st h = xa d 309 34 la (.ref h.1 :: st) (xm_new h 1 (.inl (26, xk_f26))) := xa_new ((xpm_309 31).trans rfl)
theorem e309_34 (d : Nat) (la : List Value) (x : Nat) (st : List Value) (h : xm_H) : xa d 309 34 la (.ref x :: st) h = xa d 309 35 la (.ref x :: .ref x :: st) h := xa_dup ((xpm_309 34).trans rfl) rfl
theorem e309_34n (d : Nat) (la st : List Value) (h : xm_H) : xa d 309 34 la (.null :: st) h = xa d 309 35 la (.null :: .null :: st) h := xa_dup ((xpm_309 34).trans rfl) rfl
theorem e309_35 (d : Nat) (a1 a2 : Value) (x : Int64) (st : List Value) (h : xm_H) : xa d 309 35 [.long x, a1, a2] st h = xa d 309 36 [.long x, a1, a2] (.long x :: st) h := xa_lload ((xpm_309 35).trans rfl) rfl
theorem e309_36 (d : Nat) (la : List Value) (b : Nat) (v0 : Int64) (r0 : Nat) (h : xm_H) : xa (d + 1) 309 36 la [.long v0, .ref b, .ref r0] h = x_call (xr d 310 [.ref b, .long v0] h) (d + 1) 309 36 la [.ref r0] := xa_I ((xpm_309 36).trans rfl) rfl (Nat.le_of_ble_eq_true rfl)
theorem e309_39 (d : Nat) (la : List Value) (x : Nat) (h : xm_H) : xa d 309 39 la [.ref x] h = some (.returned (some (.ref x)), h) := xa_ra ((xpm_309 39).trans rfl) x
theorem e309_39n (d : Nat) (la : List Value) (h : xm_H) : xa d 309 39 la [.null] h = some (.returned (some .null), h) := xa_raN ((xpm_309 39).trans rfl)
/- 310: java/lang/Long.<init>(J)V -/
theorem e310_0 (d : Nat) (a1 a2 : Value) (x : Nat) (st : List Value) (h : xm_H) : xa d 310 0 [.ref x, a1, a2] st h = xa d 310 1 [.ref x, a1, a2] (.ref x :: st) h := xa_aload ((xpm_310 0).trans rfl) rfl
theorem e310_1 (d : Nat) (la : List Value) (b : Nat)  (h : xm_H) : xa (d + 1) 310 1 la [.ref b] h = x_call (xr d 307 [.ref b] h) (d + 1) 310 1 la [] := xa_I ((xpm_310 1).trans rfl) rfl (Nat.le_of_ble_eq_true rfl)
theorem e310_4 (d : Nat) (a1 a2 : Value) (x : Nat) (st : List Value) (h : xm_H) : xa d 310 4 [.ref x, a1, a2] st h = xa d 310 5 [.ref x, a1, a2] (.ref x :: st) h := xa_aload ((xpm_310 4).trans rfl) rfl
theorem e310_5 (d : Nat) (a0 a2 : Value) (x : Int64) (st : List Value) (h : xm_H) : xa d 310 5 [a0, .long x, a2] st h = xa d 310 6 [a0, .long x, a2] (.long x :: st) h := xa_lload ((xpm_310 5).trans rfl) rfl
theorem e310_6 (d : Nat) (la : List Value) (a : Nat) (x : Int64) (st : List Value) (h : xm_H) : xa d 310 6 la (.long x :: .ref a :: st) h = x_heap (x_put 26 0 h a (.long x)) d 310 9 la st := xa_putf ((xpm_310 6).trans rfl) a rfl
theorem e310_9 (d : Nat) (la : List Value) (h : xm_H) : xa d 310 9 la [] h = some (.returned none, h) := xa_rv ((xpm_310 9).trans rfl)
/- 311: jdk/internal/util/ArraysSupport.newLength(III)I -/
theorem e311_0 (d : Nat) (a1 a2 a3 : Value) (x : Int32) (st : List Value) (h : xm_H) : xa d 311 0 [.int x, a1, a2, a3] st h = xa d 311 1 [.int x, a1, a2, a3] (.int x :: st) h := xa_iload ((xpm_311 0).trans rfl) rfl
theorem e311_1 (d : Nat) (a0 a2 a3 : Value) (x : Int32) (st : List Value) (h : xm_H) : xa d 311 1 [a0, .int x, a2, a3] st h = xa d 311 2 [a0, .int x, a2, a3] (.int x :: st) h := xa_iload ((xpm_311 1).trans rfl) rfl
theorem e311_2 (d : Nat) (a0 a1 a3 : Value) (x : Int32) (st : List Value) (h : xm_H) : xa d 311 2 [a0, a1, .int x, a3] st h = xa d 311 3 [a0, a1, .int x, a3] (.int x :: st) h := xa_iload ((xpm_311 2).trans rfl) rfl
theorem e311_3 (d : Nat) (la : List Value) (v0 : Int32) (v1 : Int32) (r0 : Int32) (h : xm_H) : xa (d + 1) 311 3 la [.int v1, .int v0, .int r0] h = x_call (xr d 301 [.int v0, .int v1] h) (d + 1) 311 3 la [.int r0] := xa_S ((xpm_311 3).trans rfl) rfl (Nat.le_of_ble_eq_true rfl)
theorem e311_6 (d : Nat) (la : List Value) (x y : Int32) (st : List Value) (h : xm_H) : xa d 311 6 la (.int y :: .int x :: st) h = xa d 311 7 la (.int (x + y) :: st) h := xa_ii ((xpm_311 6).trans rfl) x y
theorem e311_7 (d : Nat) (a0 a1 a2 a3 : Value) (x : Int32) (st : List Value) (h : xm_H) : xa d 311 7 [a0, a1, a2, a3] (.int x :: st) h = xa d 311 8 [a0, a1, xs_cl a2, .int x] st h := xa_istore ((xpm_311 7).trans rfl) (Nat.le_of_ble_eq_true rfl) rfl
theorem e311_8 (d : Nat) (la st : List Value) (h : xm_H) : xa d 311 8 la st h = xa d 311 9 la ((.int 0) :: st) h := xa_push ((xpm_311 8).trans rfl)
theorem e311_9 (d : Nat) (a0 a1 a2 : Value) (x : Int32) (st : List Value) (h : xm_H) : xa d 311 9 [a0, a1, a2, .int x] st h = xa d 311 10 [a0, a1, a2, .int x] (.int x :: st) h := xa_iload ((xpm_311 9).trans rfl) rfl
theorem e311_10 (d : Nat) (la : List Value) (x y : Int32) (st : List Value) (h : xm_H) : xa d 311 10 la (.int y :: .int x :: st) h = if y ≤ x then xa d 311 21 la st h else xa d 311 13 la st h := xa_icmpP (p := fun x y => y ≤ x) ((xpm_311 10).trans rfl) x y
theorem e311_13 (d : Nat) (a0 a1 a2 : Value) (x : Int32) (st : List Value) (h : xm_H) : xa d 311 13 [a0, a1, a2, .int x] st h = xa d 311 14 [a0, a1, a2, .int x] (.int x :: st) h := xa_iload ((xpm_311 13).trans rfl) rfl
theorem e311_14 (d : Nat) (la st : List Value) (h : xm_H) : xa d 311 14 la st h = xa d 311 16 la ((.int (2147483639 : Int32)) :: st) h := xa_push ((xpm_311 14).trans rfl)
theorem e311_16 (d : Nat) (la : List Value) (x y : Int32) (st : List Value) (h : xm_H) : xa d 311 16 la (.int y :: .int x :: st) h = if y < x then xa d 311 21 la st h else xa d 311 19 la st h := xa_icmpP (p := fun x y => y < x) ((xpm_311 16).trans rfl) x y
theorem e311_19 (d : Nat) (a0 a1 a2 : Value) (x : Int32) (st : List Value) (h : xm_H) : xa d 311 19 [a0, a1, a2, .int x] st h = xa d 311 20 [a0, a1, a2, .int x] (.int x :: st) h := xa_iload ((xpm_311 19).trans rfl) rfl
theorem e311_20 (d : Nat) (la : List Value) (x : Int32) (h : xm_H) : xa d 311 20 la [.int x] h = some (.returned (some (.int x)), h) := xa_ri ((xpm_311 20).trans rfl) x
theorem e311_21 (d : Nat) (a1 a2 a3 : Value) (x : Int32) (st : List Value) (h : xm_H) : xa d 311 21 [.int x, a1, a2, a3] st h = xa d 311 22 [.int x, a1, a2, a3] (.int x :: st) h := xa_iload ((xpm_311 21).trans rfl) rfl
theorem e311_22 (d : Nat) (a0 a2 a3 : Value) (x : Int32) (st : List Value) (h : xm_H) : xa d 311 22 [a0, .int x, a2, a3] st h = xa d 311 23 [a0, .int x, a2, a3] (.int x :: st) h := xa_iload ((xpm_311 22).trans rfl) rfl
theorem e311_26 (d : Nat) (la : List Value) (x : Int32) (h : xm_H) : xa d 311 26 la [.int x] h = some (.returned (some (.int x)), h) := xa_ri ((xpm_311 26).trans rfl) x
/- 312: java/util/Arrays.copyOf([Ljava/lang/Object;I)[Ljava/lang/Object; -/
theorem e312_0 (d : Nat) (a1 : Value) (x : Nat) (st : List Value) (h : xm_H) : xa d 312 0 [.ref x, a1] st h = xa d 312 1 [.ref x, a1] (.ref x :: st) h := xa_aload ((xpm_312 0).trans rfl) rfl
theorem e312_0n (d : Nat) (a1 : Value) (st : List Value) (h : xm_H) : xa d 312 0 [.null, a1] st h = xa d 312 1 [.null, a1] (.null :: st) h := xa_aloadN ((xpm_312 0).trans rfl) rfl
theorem e312_1 (d : Nat) (a0 : Value) (x : Int32) (st : List Value) (h : xm_H) : xa d 312 1 [a0, .int x] st h = xa d 312 2 [a0, .int x] (.int x :: st) h := xa_iload ((xpm_312 1).trans rfl) rfl
theorem e312_2 (d : Nat) (a1 : Value) (x : Nat) (st : List Value) (h : xm_H) : xa d 312 2 [.ref x, a1] st h = xa d 312 3 [.ref x, a1] (.ref x :: st) h := xa_aload ((xpm_312 2).trans rfl) rfl
theorem e312_2n (d : Nat) (a1 : Value) (st : List Value) (h : xm_H) : xa d 312 2 [.null, a1] st h = xa d 312 3 [.null, a1] (.null :: st) h := xa_aloadN ((xpm_312 2).trans rfl) rfl
theorem e312_6 (d : Nat) (la : List Value) (v0 : Nat) (v1 : Int32) (v2 : Nat) (h : xm_H) : xa (d + 1) 312 6 la [.ref v2, .int v1, .ref v0] h = x_call (xr d 313 [.ref v0, .int v1, .ref v2] h) (d + 1) 312 6 la [] := xa_S ((xpm_312 6).trans rfl) rfl (Nat.le_of_ble_eq_true rfl)
theorem e312_9 (d : Nat) (la : List Value) (x : Nat) (h : xm_H) : xa d 312 9 la [.ref x] h = some (.returned (some (.ref x)), h) := xa_ra ((xpm_312 9).trans rfl) x
theorem e312_9n (d : Nat) (la : List Value) (h : xm_H) : xa d 312 9 la [.null] h = some (.returned (some .null), h) := xa_raN ((xpm_312 9).trans rfl)
/- 313: java/util/Arrays.copyOf([Ljava/lang/Object;ILjava/lang/Class;)[Ljava/lang/Object; -/
theorem e313_0 (d : Nat) (a0 a1 a3 : Value) (x : Nat) (st : List Value) (h : xm_H) : xa d 313 0 [a0, a1, .ref x, a3] st h = xa d 313 1 [a0, a1, .ref x, a3] (.ref x :: st) h := xa_aload ((xpm_313 0).trans rfl) rfl
theorem e313_0n (d : Nat) (a0 a1 a3 : Value) (st : List Value) (h : xm_H) : xa d 313 0 [a0, a1, .null, a3] st h = xa d 313 1 [a0, a1, .null, a3] (.null :: st) h := xa_aloadN ((xpm_313 0).trans rfl) rfl
theorem e313_6 (d : Nat) (a0 a2 a3 : Value) (x : Int32) (st : List Value) (h : xm_H) : xa d 313 6 [a0, .int x, a2, a3] st h = xa d 313 7 [a0, .int x, a2, a3] (.int x :: st) h := xa_iload ((xpm_313 6).trans rfl) rfl
theorem e313_7 (d : Nat) (la : List Value) (n : Int32) (st : List Value) (h : xm_H) : xa d 313 7 la (.int n :: st) h = x_made (x_newa 4 .null 100000 h n) h.1 d 313 10 la st := xa_newa ((xpm_313 7).trans rfl) n
theorem e313_10 (d : Nat) (la st : List Value) (h : xm_H) : xa d 313 10 la st h = xa d 313 24 la st h := xa_goto ((xpm_313 10).trans rfl)
theorem e313_13 (d : Nat) (a0 a1 a3 : Value) (x : Nat) (st : List Value) (h : xm_H) : xa d 313 13 [a0, a1, .ref x, a3] st h = xa d 313 14 [a0, a1, .ref x, a3] (.ref x :: st) h := xa_aload ((xpm_313 13).trans rfl) rfl
theorem e313_13n (d : Nat) (a0 a1 a3 : Value) (st : List Value) (h : xm_H) : xa d 313 13 [a0, a1, .null, a3] st h = xa d 313 14 [a0, a1, .null, a3] (.null :: st) h := xa_aloadN ((xpm_313 13).trans rfl) rfl
theorem e313_24 (d : Nat) (a0 a1 a2 a3 : Value) (x : Nat) (st : List Value) (h : xm_H) : xa d 313 24 [a0, a1, a2, a3] (.ref x :: st) h = xa d 313 25 [a0, a1, xs_cl a2, .ref x] st h := xa_astore ((xpm_313 24).trans rfl) (Nat.le_of_ble_eq_true rfl) rfl
theorem e313_24n (d : Nat) (a0 a1 a2 a3 : Value) (st : List Value) (h : xm_H) : xa d 313 24 [a0, a1, a2, a3] (.null :: st) h = xa d 313 25 [a0, a1, xs_cl a2, .null] st h := xa_astoreN ((xpm_313 24).trans rfl) (Nat.le_of_ble_eq_true rfl) rfl
theorem e313_25 (d : Nat) (a1 a2 a3 : Value) (x : Nat) (st : List Value) (h : xm_H) : xa d 313 25 [.ref x, a1, a2, a3] st h = xa d 313 26 [.ref x, a1, a2, a3] (.ref x :: st) h := xa_aload ((xpm_313 25).trans rfl) rfl
theorem e313_25n (d : Nat) (a1 a2 a3 : Value) (st : List Value) (h : xm_H) : xa d 313 25 [.null, a1, a2, a3] st h = xa d 313 26 [.null, a1, a2, a3] (.null :: st) h := xa_aloadN ((xpm_313 25).trans rfl) rfl
theorem e313_26 (d : Nat) (la st : List Value) (h : xm_H) : xa d 313 26 la st h = xa d 313 27 la ((.int 0) :: st) h := xa_push ((xpm_313 26).trans rfl)
theorem e313_27 (d : Nat) (a0 a1 a2 : Value) (x : Nat) (st : List Value) (h : xm_H) : xa d 313 27 [a0, a1, a2, .ref x] st h = xa d 313 28 [a0, a1, a2, .ref x] (.ref x :: st) h := xa_aload ((xpm_313 27).trans rfl) rfl
theorem e313_27n (d : Nat) (a0 a1 a2 : Value) (st : List Value) (h : xm_H) : xa d 313 27 [a0, a1, a2, .null] st h = xa d 313 28 [a0, a1, a2, .null] (.null :: st) h := xa_aloadN ((xpm_313 27).trans rfl) rfl
theorem e313_28 (d : Nat) (la st : List Value) (h : xm_H) : xa d 313 28 la st h = xa d 313 29 la ((.int 0) :: st) h := xa_push ((xpm_313 28).trans rfl)
theorem e313_29 (d : Nat) (a1 a2 a3 : Value) (x : Nat) (st : List Value) (h : xm_H) : xa d 313 29 [.ref x, a1, a2, a3] st h = xa d 313 30 [.ref x, a1, a2, a3] (.ref x :: st) h := xa_aload ((xpm_313 29).trans rfl) rfl
theorem e313_29n (d : Nat) (a1 a2 a3 : Value) (st : List Value) (h : xm_H) : xa d 313 29 [.null, a1, a2, a3] st h = xa d 313 30 [.null, a1, a2, a3] (.null :: st) h := xa_aloadN ((xpm_313 29).trans rfl) rfl
theorem e313_30 (d : Nat) (la : List Value) (a : Nat) (st : List Value) (h : xm_H) : xa d 313 30 la (.ref a :: st) h = x_push (x_alen h a) d 313 31 la st h := xa_alen ((xpm_313 30).trans rfl) a
theorem e313_31 (d : Nat) (a0 a2 a3 : Value) (x : Int32) (st : List Value) (h : xm_H) : xa d 313 31 [a0, .int x, a2, a3] st h = xa d 313 32 [a0, .int x, a2, a3] (.int x :: st) h := xa_iload ((xpm_313 31).trans rfl) rfl
theorem e313_32 (d : Nat) (la : List Value) (v0 : Int32) (v1 : Int32) (r0 : Int32) (r1 : Nat) (r2 : Int32) (r3 : Nat) (h : xm_H) : xa (d + 1) 313 32 la [.int v1, .int v0, .int r0, .ref r1, .int r2, .ref r3] h = x_call (xr d 302 [.int v0, .int v1] h) (d + 1) 313 32 la [.int r0, .ref r1, .int r2, .ref r3] := xa_S ((xpm_313 32).trans rfl) rfl (Nat.le_of_ble_eq_true rfl)
theorem e313_38 (d : Nat) (a0 a1 a2 : Value) (x : Nat) (st : List Value) (h : xm_H) : xa d 313 38 [a0, a1, a2, .ref x] st h = xa d 313 39 [a0, a1, a2, .ref x] (.ref x :: st) h := xa_aload ((xpm_313 38).trans rfl) rfl
theorem e313_38n (d : Nat) (a0 a1 a2 : Value) (st : List Value) (h : xm_H) : xa d 313 38 [a0, a1, a2, .null] st h = xa d 313 39 [a0, a1, a2, .null] (.null :: st) h := xa_aloadN ((xpm_313 38).trans rfl) rfl
theorem e313_39 (d : Nat) (la : List Value) (x : Nat) (h : xm_H) : xa d 313 39 la [.ref x] h = some (.returned (some (.ref x)), h) := xa_ra ((xpm_313 39).trans rfl) x
theorem e313_39n (d : Nat) (la : List Value) (h : xm_H) : xa d 313 39 la [.null] h = some (.returned (some .null), h) := xa_raN ((xpm_313 39).trans rfl)
