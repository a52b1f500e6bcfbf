/-! ENTRIES of the methods -/
theorem xr_ent {d y m : Nat} {av la : List Value} {h : xm_H} (hm : (xd y).2.2.1 = m) (he : xm_ent m av = la) : xr d y av h = xa d y 0 la [] h := by subst he hm; rfl
theorem n0 (d : Nat) (v0 : Nat) (v1 : Int32) (v2 : Int32) (v3 : Int32) (v4 : Int32) (v5 : Int32) (v6 : Nat) (h : xm_H) : xr d 0 [.ref v0, .int v1, .int v2, .int v3, .int v4, .int v5, .ref v6] h = xa d 0 0 [.ref v0, .int v1, .int v2, .int v3, .int v4, .int v5, .ref v6, .retAddr 0] [] h := xr_ent xdm_0 rfl
theorem n0n6 (d : Nat) (v0 : Nat) (v1 : Int32) (v2 : Int32) (v3 : Int32) (v4 : Int32) (v5 : Int32) (h : xm_H) : xr d 0 [.ref v0, .int v1, .int v2, .int v3, .int v4, .int v5, .null] h = xa d 0 0 [.ref v0, .int v1, .int v2, .int v3, .int v4, .int v5, .null, .retAddr 0] [] h := xr_ent xdm_0 rfl
theorem n1 (d : Nat) (v0 : Nat) (h : xm_H) : xr d 1 [.ref v0] h = xa d 1 0 [.ref v0] [] h := xr_ent xdm_1 rfl
theorem n2 (d : Nat)  (h : xm_H) : xr d 2 [] h = xa d 2 0 [.retAddr 0] [] h := xr_ent xdm_2 rfl
theorem n3 (d : Nat) (v0 : Nat) (v1 : Int64) (v2 : Int64) (v3 : Int64) (h : xm_H) : xr d 3 [.ref v0, .long v1, .long v2, .long v3] h = xa d 3 0 [.ref v0, .long v1, .retAddr 0, .long v2, .retAddr 0, .long v3, .retAddr 0] [] h := xr_ent xdm_3 rfl
theorem n4 (d : Nat) (v0 : Int32) (v1 : Int32) (v2 : Int32) (h : xm_H) : xr d 4 [.int v0, .int v1, .int v2] h = xa d 4 0 [.int v0, .int v1, .int v2] [] h := xr_ent xdm_4 rfl
theorem n5 (d : Nat) (v0 : Nat) (h : xm_H) : xr d 5 [.ref v0] h = xa d 5 0 [.ref v0, .retAddr 0] [] h := xr_ent xdm_5 rfl
theorem n6 (d : Nat) (v0 : Int64) (v1 : Int32) (h : xm_H) : xr d 6 [.long v0, .int v1] h = xa d 6 0 [.long v0, .retAddr 0, .int v1] [] h := xr_ent xdm_6 rfl
theorem n7 (d : Nat) (v0 : Nat) (v1 : Int32) (h : xm_H) : xr d 7 [.ref v0, .int v1] h = xa d 7 0 [.ref v0, .int v1] [] h := xr_ent xdm_7 rfl
theorem n8 (d : Nat) (v0 : Nat) (v1 : Int32) (h : xm_H) : xr d 8 [.ref v0, .int v1] h = xa d 8 0 [.ref v0, .int v1] [] h := xr_ent xdm_8 rfl
theorem n9 (d : Nat) (v0 : Nat) (v1 : Int32) (v2 : Int32) (h : xm_H) : xr d 9 [.ref v0, .int v1, .int v2] h = xa d 9 0 [.ref v0, .int v1, .int v2] [] h := xr_ent xdm_9 rfl
theorem n10 (d : Nat) (v0 : Nat) (v1 : Int32) (h : xm_H) : xr d 10 [.ref v0, .int v1] h = xa d 10 0 [.ref v0, .int v1] [] h := xr_ent xdm_10 rfl
theorem n11 (d : Nat) (v0 : Int32) (h : xm_H) : xr d 11 [.int v0] h = xa d 11 0 [.int v0] [] h := xr_ent xdm_11 rfl
theorem n12 (d : Nat) (v0 : Nat) (h : xm_H) : xr d 12 [.ref v0] h = xa d 12 0 [.ref v0] [] h := xr_ent xdm_12 rfl
theorem n13 (d : Nat) (v0 : Nat) (v1 : Nat) (v2 : Int32) (v3 : Int32) (v4 : Int32) (h : xm_H) : xr d 13 [.ref v0, .ref v1, .int v2, .int v3, .int v4] h = xa d 13 0 [.ref v0, .ref v1, .int v2, .int v3, .int v4, .retAddr 0] [] h := xr_ent xdm_13 rfl
theorem n13n1 (d : Nat) (v0 : Nat) (v2 : Int32) (v3 : Int32) (v4 : Int32) (h : xm_H) : xr d 13 [.ref v0, .null, .int v2, .int v3, .int v4] h = xa d 13 0 [.ref v0, .null, .int v2, .int v3, .int v4, .retAddr 0] [] h := xr_ent xdm_13 rfl
theorem n14 (d : Nat) (v0 : Nat) (v1 : Int32) (v2 : Int32) (h : xm_H) : xr d 14 [.ref v0, .int v1, .int v2] h = xa d 14 0 [.ref v0, .int v1, .int v2] [] h := xr_ent xdm_14 rfl
theorem n15 (d : Nat) (v0 : Nat) (v1 : Int32) (v2 : Int32) (v3 : Int32) (h : xm_H) : xr d 15 [.ref v0, .int v1, .int v2, .int v3] h = xa d 15 0 [.ref v0, .int v1, .int v2, .int v3] [] h := xr_ent xdm_15 rfl
theorem n16 (d : Nat) (v0 : Nat) (v1 : Int32) (h : xm_H) : xr d 16 [.ref v0, .int v1] h = xa d 16 0 [.ref v0, .int v1] [] h := xr_ent xdm_16 rfl
theorem n17 (d : Nat) (v0 : Nat) (v1 : Int32) (v2 : Int32) (v3 : Int32) (h : xm_H) : xr d 17 [.ref v0, .int v1, .int v2, .int v3] h = xa d 17 0 [.ref v0, .int v1, .int v2, .int v3] [] h := xr_ent xdm_17 rfl
theorem n18 (d : Nat) (v0 : Nat) (v1 : Int32) (v2 : Int32) (v3 : Int32) (h : xm_H) : xr d 18 [.ref v0, .int v1, .int v2, .int v3] h = xa d 18 0 [.ref v0, .int v1, .int v2, .int v3, .retAddr 0] [] h := xr_ent xdm_18 rfl
theorem n19 (d : Nat) (v0 : Nat) (h : xm_H) : xr d 19 [.ref v0] h = xa d 19 0 [.ref v0] [] h := xr_ent xdm_19 rfl
theorem n19n0 (d : Nat)  (h : xm_H) : xr d 19 [.null] h = xa d 19 0 [.null] [] h := xr_ent xdm_19 rfl
theorem n20 (d : Nat) (v0 : Nat) (v1 : Int32) (v2 : Int32) (h : xm_H) : xr d 20 [.ref v0, .int v1, .int v2] h = xa d 20 0 [.ref v0, .int v1, .int v2, .retAddr 0] [] h := xr_ent xdm_20 rfl
theorem n21 (d : Nat) (v0 : Nat) (v1 : Int32) (h : xm_H) : xr d 21 [.ref v0, .int v1] h = xa d 21 0 [.ref v0, .int v1] [] h := xr_ent xdm_21 rfl
theorem n22 (d : Nat) (v0 : Nat) (v1 : Int32) (v2 : Int32) (v3 : Int32) (v4 : Int32) (h : xm_H) : xr d 22 [.ref v0, .int v1, .int v2, .int v3, .int v4] h = xa d 22 0 [.ref v0, .int v1, .int v2, .int v3, .int v4] [] h := xr_ent xdm_22 rfl
theorem n23 (d : Nat) (v0 : Int32) (h : xm_H) : xr d 23 [.int v0] h = xa d 23 0 [.int v0] [] h := xr_ent xdm_23 rfl
theorem n24 (d : Nat) (v0 : Nat) (v1 : Int32) (v2 : Int32) (h : xm_H) : xr d 24 [.ref v0, .int v1, .int v2] h = xa d 24 0 [.ref v0, .int v1, .int v2] [] h := xr_ent xdm_24 rfl
theorem n25 (d : Nat) (v0 : Nat) (v1 : Int32) (h : xm_H) : xr d 25 [.ref v0, .int v1] h = xa d 25 0 [.ref v0, .int v1] [] h := xr_ent xdm_25 rfl
theorem n26 (d : Nat) (v0 : Nat) (h : xm_H) : xr d 26 [.ref v0] h = xa d 26 0 [.ref v0] [] h := xr_ent xdm_26 rfl
theorem n27 (d : Nat) (v0 : Nat) (h : xm_H) : xr d 27 [.ref v0] h = xa d 27 0 [.ref v0] [] h := xr_ent xdm_27 rfl
theorem n28 (d : Nat) (v0 : Nat) (v1 : Int32) (h : xm_H) : xr d 28 [.ref v0, .int v1] h = xa d 28 0 [.ref v0, .int v1, .retAddr 0, .retAddr 0, .retAddr 0] [] h := xr_ent xdm_28 rfl
theorem n29 (d : Nat) (v0 : Nat) (v1 : Nat) (h : xm_H) : xr d 29 [.ref v0, .ref v1] h = xa d 29 0 [.ref v0, .ref v1, .retAddr 0, .retAddr 0, .retAddr 0] [] h := xr_ent xdm_29 rfl
theorem n29n1 (d : Nat) (v0 : Nat) (h : xm_H) : xr d 29 [.ref v0, .null] h = xa d 29 0 [.ref v0, .null, .retAddr 0, .retAddr 0, .retAddr 0] [] h := xr_ent xdm_29 rfl
theorem n30 (d : Nat) (v0 : Nat) (v1 : Int32) (v2 : Int32) (v3 : Int32) (h : xm_H) : xr d 30 [.ref v0, .int v1, .int v2, .int v3] h = xa d 30 0 [.ref v0, .int v1, .int v2, .int v3] [] h := xr_ent xdm_30 rfl
theorem n31 (d : Nat) (v0 : Int32) (v1 : Int32) (v2 : Int32) (h : xm_H) : xr d 31 [.int v0, .int v1, .int v2] h = xa d 31 0 [.int v0, .int v1, .int v2] [] h := xr_ent xdm_31 rfl
theorem n32 (d : Nat) (v0 : Nat) (v1 : Int32) (h : xm_H) : xr d 32 [.ref v0, .int v1] h = xa d 32 0 [.ref v0, .int v1] [] h := xr_ent xdm_32 rfl
theorem n33 (d : Nat) (v0 : Nat) (v1 : Int32) (h : xm_H) : xr d 33 [.ref v0, .int v1] h = xa d 33 0 [.ref v0, .int v1] [] h := xr_ent xdm_33 rfl
theorem n34 (d : Nat) (v0 : Nat) (v1 : Int32) (h : xm_H) : xr d 34 [.ref v0, .int v1] h = xa d 34 0 [.ref v0, .int v1, .retAddr 0, .retAddr 0, .retAddr 0] [] h := xr_ent xdm_34 rfl
theorem n35 (d : Nat) (v0 : Int64) (h : xm_H) : xr d 35 [.long v0] h = xa d 35 0 [.long v0, .retAddr 0, .retAddr 0, .retAddr 0, .retAddr 0] [] h := xr_ent xdm_35 rfl
theorem n36 (d : Nat) (v0 : Nat) (v1 : Int32) (h : xm_H) : xr d 36 [.ref v0, .int v1] h = xa d 36 0 [.ref v0, .int v1] [] h := xr_ent xdm_36 rfl
theorem n37 (d : Nat) (v0 : Int64) (v1 : Int64) (h : xm_H) : xr d 37 [.long v0, .long v1] h = xa d 37 0 [.long v0, .retAddr 0, .long v1, .retAddr 0] [] h := xr_ent xdm_37 rfl
theorem n38 (d : Nat) (v0 : Nat) (v1 : Int32) (h : xm_H) : xr d 38 [.ref v0, .int v1] h = xa d 38 0 [.ref v0, .int v1] [] h := xr_ent xdm_38 rfl
theorem n39 (d : Nat) (v0 : Nat) (v1 : Int32) (v2 : Int32) (h : xm_H) : xr d 39 [.ref v0, .int v1, .int v2] h = xa d 39 0 [.ref v0, .int v1, .int v2, .retAddr 0, .retAddr 0, .retAddr 0, .retAddr 0, .retAddr 0, .retAddr 0, .retAddr 0] [] h := xr_ent xdm_39 rfl
theorem n40 (d : Nat) (v0 : Int32) (h : xm_H) : xr d 40 [.int v0] h = xa d 40 0 [.int v0] [] h := xr_ent xdm_40 rfl
theorem n41 (d : Nat) (v0 : Nat) (v1 : Int32) (h : xm_H) : xr d 41 [.ref v0, .int v1] h = xa d 41 0 [.ref v0, .int v1, .retAddr 0, .retAddr 0, .retAddr 0] [] h := xr_ent xdm_41 rfl
theorem n42 (d : Nat) (v0 : Int64) (v1 : Int64) (v2 : Int32) (h : xm_H) : xr d 42 [.long v0, .long v1, .int v2] h = xa d 42 0 [.long v0, .retAddr 0, .long v1, .retAddr 0, .int v2, .retAddr 0, .retAddr 0] [] h := xr_ent xdm_42 rfl
theorem n43 (d : Nat) (v0 : Int64) (v1 : Int64) (h : xm_H) : xr d 43 [.long v0, .long v1] h = xa d 43 0 [.long v0, .retAddr 0, .long v1, .retAddr 0, .retAddr 0, .retAddr 0, .retAddr 0, .retAddr 0, .retAddr 0, .retAddr 0] [] h := xr_ent xdm_43 rfl
theorem n44 (d : Nat) (v0 : Nat) (v1 : Int32) (v2 : Int32) (h : xm_H) : xr d 44 [.ref v0, .int v1, .int v2] h = xa d 44 0 [.ref v0, .int v1, .int v2] [] h := xr_ent xdm_44 rfl
theorem n45 (d : Nat) (v0 : Int32) (v1 : Int32) (h : xm_H) : xr d 45 [.int v0, .int v1] h = xa d 45 0 [.int v0, .int v1] [] h := xr_ent xdm_45 rfl
theorem n46 (d : Nat) (v0 : Nat) (v1 : Int32) (h : xm_H) : xr d 46 [.ref v0, .int v1] h = xa d 46 0 [.ref v0, .int v1] [] h := xr_ent xdm_46 rfl
theorem n47 (d : Nat) (v0 : Nat) (v1 : Int32) (v2 : Int32) (v3 : Int32) (v4 : Int32) (h : xm_H) : xr d 47 [.ref v0, .int v1, .int v2, .int v3, .int v4] h = xa d 47 0 [.ref v0, .int v1, .int v2, .int v3, .int v4] [] h := xr_ent xdm_47 rfl
theorem n48 (d : Nat) (v0 : Nat) (v1 : Int32) (v2 : Int32) (v3 : Int32) (v4 : Int32) (v5 : Int32) (h : xm_H) : xr d 48 [.ref v0, .int v1, .int v2, .int v3, .int v4, .int v5] h = xa d 48 0 [.ref v0, .int v1, .int v2, .int v3, .int v4, .int v5, .retAddr 0, .retAddr 0, .retAddr 0, .retAddr 0, .retAddr 0] [] h := xr_ent xdm_48 rfl
theorem n49 (d : Nat) (v0 : Int32) (v1 : Int32) (h : xm_H) : xr d 49 [.int v0, .int v1] h = xa d 49 0 [.int v0, .int v1] [] h := xr_ent xdm_49 rfl
theorem n50 (d : Nat) (v0 : Nat) (v1 : Int32) (v2 : Int32) (v3 : Int32) (v4 : Int32) (h : xm_H) : xr d 50 [.ref v0, .int v1, .int v2, .int v3, .int v4] h = xa d 50 0 [.ref v0, .int v1, .int v2, .int v3, .int v4] [] h := xr_ent xdm_50 rfl
theorem n51 (d : Nat) (v0 : Nat) (v1 : Int32) (v2 : Int32) (v3 : Int32) (v4 : Int32) (v5 : Int32) (h : xm_H) : xr d 51 [.ref v0, .int v1, .int v2, .int v3, .int v4, .int v5] h = xa d 51 0 [.ref v0, .int v1, .int v2, .int v3, .int v4, .int v5, .retAddr 0, .retAddr 0, .retAddr 0, .retAddr 0, .retAddr 0, .retAddr 0, .retAddr 0, .retAddr 0] [] h := xr_ent xdm_51 rfl
theorem n52 (d : Nat) (v0 : Nat) (v1 : Int64) (v2 : Int32) (v3 : Int32) (v4 : Int32) (v5 : Int32) (h : xm_H) : xr d 52 [.ref v0, .long v1, .int v2, .int v3, .int v4, .int v5] h = xa d 52 0 [.ref v0, .long v1, .retAddr 0, .int v2, .int v3, .int v4, .int v5] [] h := xr_ent xdm_52 rfl
theorem n53 (d : Nat) (v0 : Nat) (h : xm_H) : xr d 53 [.ref v0] h = xa d 53 0 [.ref v0, .retAddr 0, .retAddr 0] [] h := xr_ent xdm_53 rfl
theorem n54 (d : Nat) (v0 : Nat) (v1 : Int32) (v2 : Int32) (h : xm_H) : xr d 54 [.ref v0, .int v1, .int v2] h = xa d 54 0 [.ref v0, .int v1, .int v2, .retAddr 0, .retAddr 0, .retAddr 0, .retAddr 0] [] h := xr_ent xdm_54 rfl
theorem n55 (d : Nat) (v0 : Nat) (v1 : Int32) (v2 : Int32) (v3 : Int32) (v4 : Int32) (h : xm_H) : xr d 55 [.ref v0, .int v1, .int v2, .int v3, .int v4] h = xa d 55 0 [.ref v0, .int v1, .int v2, .int v3, .int v4, .retAddr 0, .retAddr 0] [] h := xr_ent xdm_55 rfl
theorem n56 (d : Nat) (v0 : Nat) (v1 : Int32) (v2 : Int32) (h : xm_H) : xr d 56 [.ref v0, .int v1, .int v2] h = xa d 56 0 [.ref v0, .int v1, .int v2, .retAddr 0, .retAddr 0, .retAddr 0, .retAddr 0] [] h := xr_ent xdm_56 rfl
theorem n57 (d : Nat) (v0 : Int32) (v1 : Int32) (h : xm_H) : xr d 57 [.int v0, .int v1] h = xa d 57 0 [.int v0, .int v1, .retAddr 0] [] h := xr_ent xdm_57 rfl
theorem n58 (d : Nat) (v0 : Nat) (v1 : Int32) (v2 : Int32) (h : xm_H) : xr d 58 [.ref v0, .int v1, .int v2] h = xa d 58 0 [.ref v0, .int v1, .int v2] [] h := xr_ent xdm_58 rfl
theorem n59 (d : Nat) (v0 : Nat) (v1 : Int32) (h : xm_H) : xr d 59 [.ref v0, .int v1] h = xa d 59 0 [.ref v0, .int v1] [] h := xr_ent xdm_59 rfl
theorem n60 (d : Nat) (v0 : Nat) (v1 : Int32) (h : xm_H) : xr d 60 [.ref v0, .int v1] h = xa d 60 0 [.ref v0, .int v1] [] h := xr_ent xdm_60 rfl
theorem n61 (d : Nat) (v0 : Nat) (v1 : Int32) (v2 : Int32) (h : xm_H) : xr d 61 [.ref v0, .int v1, .int v2] h = xa d 61 0 [.ref v0, .int v1, .int v2, .retAddr 0, .retAddr 0] [] h := xr_ent xdm_61 rfl
theorem n62 (d : Nat) (v0 : Nat) (v1 : Int32) (v2 : Int32) (h : xm_H) : xr d 62 [.ref v0, .int v1, .int v2] h = xa d 62 0 [.ref v0, .int v1, .int v2, .retAddr 0] [] h := xr_ent xdm_62 rfl
theorem n63 (d : Nat) (v0 : Nat) (v1 : Nat) (v2 : Int32) (v3 : Int32) (h : xm_H) : xr d 63 [.ref v0, .ref v1, .int v2, .int v3] h = xa d 63 0 [.ref v0, .ref v1, .int v2, .int v3, .retAddr 0] [] h := xr_ent xdm_63 rfl
theorem n63n1 (d : Nat) (v0 : Nat) (v2 : Int32) (v3 : Int32) (h : xm_H) : xr d 63 [.ref v0, .null, .int v2, .int v3] h = xa d 63 0 [.ref v0, .null, .int v2, .int v3, .retAddr 0] [] h := xr_ent xdm_63 rfl
theorem n64 (d : Nat) (v0 : Nat) (v1 : Int32) (v2 : Int32) (v3 : Int32) (v4 : Int32) (h : xm_H) : xr d 64 [.ref v0, .int v1, .int v2, .int v3, .int v4] h = xa d 64 0 [.ref v0, .int v1, .int v2, .int v3, .int v4, .retAddr 0, .retAddr 0, .retAddr 0] [] h := xr_ent xdm_64 rfl
theorem n65 (d : Nat) (v0 : Nat) (v1 : Int32) (v2 : Int32) (h : xm_H) : xr d 65 [.ref v0, .int v1, .int v2] h = xa d 65 0 [.ref v0, .int v1, .int v2, .retAddr 0, .retAddr 0] [] h := xr_ent xdm_65 rfl
theorem n66 (d : Nat) (v0 : Nat) (v1 : Int32) (v2 : Int32) (h : xm_H) : xr d 66 [.ref v0, .int v1, .int v2] h = xa d 66 0 [.ref v0, .int v1, .int v2, .retAddr 0, .retAddr 0] [] h := xr_ent xdm_66 rfl
theorem n67 (d : Nat) (v0 : Nat) (v1 : Int32) (v2 : Int32) (h : xm_H) : xr d 67 [.ref v0, .int v1, .int v2] h = xa d 67 0 [.ref v0, .int v1, .int v2, .retAddr 0, .retAddr 0, .retAddr 0] [] h := xr_ent xdm_67 rfl
theorem n68 (d : Nat) (v0 : Nat) (v1 : Int32) (v2 : Int32) (h : xm_H) : xr d 68 [.ref v0, .int v1, .int v2] h = xa d 68 0 [.ref v0, .int v1, .int v2, .retAddr 0, .retAddr 0, .retAddr 0, .retAddr 0] [] h := xr_ent xdm_68 rfl
theorem n69 (d : Nat) (v0 : Nat) (v1 : Int32) (v2 : Int32) (v3 : Int32) (h : xm_H) : xr d 69 [.ref v0, .int v1, .int v2, .int v3] h = xa d 69 0 [.ref v0, .int v1, .int v2, .int v3] [] h := xr_ent xdm_69 rfl
theorem n70 (d : Nat) (v0 : Nat) (v1 : Int32) (h : xm_H) : xr d 70 [.ref v0, .int v1] h = xa d 70 0 [.ref v0, .int v1] [] h := xr_ent xdm_70 rfl
theorem n71 (d : Nat) (v0 : Nat) (h : xm_H) : xr d 71 [.ref v0] h = xa d 71 0 [.ref v0] [] h := xr_ent xdm_71 rfl
theorem n72 (d : Nat) (v0 : Nat) (v1 : Int32) (h : xm_H) : xr d 72 [.ref v0, .int v1] h = xa d 72 0 [.ref v0, .int v1, .retAddr 0, .retAddr 0, .retAddr 0, .retAddr 0] [] h := xr_ent xdm_72 rfl
theorem n73 (d : Nat) (v0 : Nat) (v1 : Int32) (h : xm_H) : xr d 73 [.ref v0, .int v1] h = xa d 73 0 [.ref v0, .int v1, .retAddr 0, .retAddr 0] [] h := xr_ent xdm_73 rfl
theorem n74 (d : Nat) (v0 : Nat) (v1 : Int32) (v2 : Int32) (h : xm_H) : xr d 74 [.ref v0, .int v1, .int v2] h = xa d 74 0 [.ref v0, .int v1, .int v2, .retAddr 0, .retAddr 0] [] h := xr_ent xdm_74 rfl
theorem n75 (d : Nat) (v0 : Nat) (v1 : Int32) (v2 : Int32) (h : xm_H) : xr d 75 [.ref v0, .int v1, .int v2] h = xa d 75 0 [.ref v0, .int v1, .int v2] [] h := xr_ent xdm_75 rfl
theorem n76 (d : Nat) (v0 : Nat) (v1 : Int32) (v2 : Int32) (v3 : Int32) (h : xm_H) : xr d 76 [.ref v0, .int v1, .int v2, .int v3] h = xa d 76 0 [.ref v0, .int v1, .int v2, .int v3, .retAddr 0] [] h := xr_ent xdm_76 rfl
theorem n77 (d : Nat) (v0 : Nat) (v1 : Int32) (v2 : Int32) (h : xm_H) : xr d 77 [.ref v0, .int v1, .int v2] h = xa d 77 0 [.ref v0, .int v1, .int v2, .retAddr 0, .retAddr 0, .retAddr 0, .retAddr 0, .retAddr 0] [] h := xr_ent xdm_77 rfl
theorem n78 (d : Nat) (v0 : Nat) (v1 : Int32) (v2 : Int32) (v3 : Int32) (v4 : Int32) (h : xm_H) : xr d 78 [.ref v0, .int v1, .int v2, .int v3, .int v4] h = xa d 78 0 [.ref v0, .int v1, .int v2, .int v3, .int v4, .retAddr 0, .retAddr 0, .retAddr 0, .retAddr 0, .retAddr 0, .retAddr 0] [] h := xr_ent xdm_78 rfl
theorem n79 (d : Nat) (v0 : Nat) (v1 : Int32) (v2 : Int32) (h : xm_H) : xr d 79 [.ref v0, .int v1, .int v2] h = xa d 79 0 [.ref v0, .int v1, .int v2, .retAddr 0, .retAddr 0] [] h := xr_ent xdm_79 rfl
theorem n80 (d : Nat) (v0 : Nat) (v1 : Int32) (v2 : Int32) (h : xm_H) : xr d 80 [.ref v0, .int v1, .int v2] h = xa d 80 0 [.ref v0, .int v1, .int v2, .retAddr 0] [] h := xr_ent xdm_80 rfl
theorem n81 (d : Nat) (v0 : Nat) (v1 : Int32) (h : xm_H) : xr d 81 [.ref v0, .int v1] h = xa d 81 0 [.ref v0, .int v1] [] h := xr_ent xdm_81 rfl
theorem n82 (d : Nat) (v0 : Nat) (v1 : Int32) (v2 : Int32) (v3 : Int32) (v4 : Int32) (v5 : Int32) (h : xm_H) : xr d 82 [.ref v0, .int v1, .int v2, .int v3, .int v4, .int v5] h = xa d 82 0 [.ref v0, .int v1, .int v2, .int v3, .int v4, .int v5, .retAddr 0, .retAddr 0, .retAddr 0, .retAddr 0, .retAddr 0, .retAddr 0, .retAddr 0] [] h := xr_ent xdm_82 rfl
theorem n83 (d : Nat) (v0 : Nat) (h : xm_H) : xr d 83 [.ref v0] h = xa d 83 0 [.ref v0] [] h := xr_ent xdm_83 rfl
theorem n84 (d : Nat) (v0 : Nat) (v1 : Int64) (h : xm_H) : xr d 84 [.ref v0, .long v1] h = xa d 84 0 [.ref v0, .long v1, .retAddr 0, .retAddr 0, .retAddr 0] [] h := xr_ent xdm_84 rfl
theorem n85 (d : Nat) (v0 : Nat) (h : xm_H) : xr d 85 [.ref v0] h = xa d 85 0 [.ref v0, .retAddr 0, .retAddr 0] [] h := xr_ent xdm_85 rfl
theorem n86 (d : Nat) (v0 : Nat) (h : xm_H) : xr d 86 [.ref v0] h = xa d 86 0 [.ref v0, .retAddr 0, .retAddr 0, .retAddr 0, .retAddr 0, .retAddr 0, .retAddr 0, .retAddr 0] [] h := xr_ent xdm_86 rfl
theorem n87 (d : Nat) (v0 : Int32) (h : xm_H) : xr d 87 [.int v0] h = xa d 87 0 [.int v0] [] h := xr_ent xdm_87 rfl
theorem n88 (d : Nat) (v0 : Int32) (h : xm_H) : xr d 88 [.int v0] h = xa d 88 0 [.int v0] [] h := xr_ent xdm_88 rfl
theorem n89 (d : Nat) (v0 : Nat) (v1 : Nat) (h : xm_H) : xr d 89 [.ref v0, .ref v1] h = xa d 89 0 [.ref v0, .ref v1] [] h := xr_ent xdm_89 rfl
theorem n89n1 (d : Nat) (v0 : Nat) (h : xm_H) : xr d 89 [.ref v0, .null] h = xa d 89 0 [.ref v0, .null] [] h := xr_ent xdm_89 rfl
theorem n90 (d : Nat) (v0 : Nat) (h : xm_H) : xr d 90 [.ref v0] h = xa d 90 0 [.ref v0, .retAddr 0, .retAddr 0, .retAddr 0] [] h := xr_ent xdm_90 rfl
theorem n91 (d : Nat) (v0 : Nat) (h : xm_H) : xr d 91 [.ref v0] h = xa d 91 0 [.ref v0, .retAddr 0, .retAddr 0, .retAddr 0] [] h := xr_ent xdm_91 rfl
theorem n92 (d : Nat) (v0 : Nat) (v1 : Int32) (h : xm_H) : xr d 92 [.ref v0, .int v1] h = xa d 92 0 [.ref v0, .int v1] [] h := xr_ent xdm_92 rfl
theorem n93 (d : Nat) (v0 : Nat) (v1 : Int32) (h : xm_H) : xr d 93 [.ref v0, .int v1] h = xa d 93 0 [.ref v0, .int v1] [] h := xr_ent xdm_93 rfl
theorem n94 (d : Nat) (v0 : Nat) (h : xm_H) : xr d 94 [.ref v0] h = xa d 94 0 [.ref v0] [] h := xr_ent xdm_94 rfl
theorem n95 (d : Nat) (v0 : Nat) (v1 : Nat) (h : xm_H) : xr d 95 [.ref v0, .ref v1] h = xa d 95 0 [.ref v0, .ref v1, .retAddr 0] [] h := xr_ent xdm_95 rfl
theorem n95n1 (d : Nat) (v0 : Nat) (h : xm_H) : xr d 95 [.ref v0, .null] h = xa d 95 0 [.ref v0, .null, .retAddr 0] [] h := xr_ent xdm_95 rfl
theorem n96 (d : Nat) (v0 : Nat) (v1 : Int32) (v2 : Int32) (h : xm_H) : xr d 96 [.ref v0, .int v1, .int v2] h = xa d 96 0 [.ref v0, .int v1, .int v2] [] h := xr_ent xdm_96 rfl
theorem n97 (d : Nat) (v0 : Nat) (h : xm_H) : xr d 97 [.ref v0] h = xa d 97 0 [.ref v0, .retAddr 0, .retAddr 0] [] h := xr_ent xdm_97 rfl
theorem n98 (d : Nat) (v0 : Nat) (v1 : Nat) (h : xm_H) : xr d 98 [.ref v0, .ref v1] h = xa d 98 0 [.ref v0, .ref v1] [] h := xr_ent xdm_98 rfl
theorem n98n1 (d : Nat) (v0 : Nat) (h : xm_H) : xr d 98 [.ref v0, .null] h = xa d 98 0 [.ref v0, .null] [] h := xr_ent xdm_98 rfl
theorem n99 (d : Nat) (v0 : Nat) (v1 : Nat) (h : xm_H) : xr d 99 [.ref v0, .ref v1] h = xa d 99 0 [.ref v0, .ref v1, .retAddr 0] [] h := xr_ent xdm_99 rfl
theorem n99n1 (d : Nat) (v0 : Nat) (h : xm_H) : xr d 99 [.ref v0, .null] h = xa d 99 0 [.ref v0, .null, .retAddr 0] [] h := xr_ent xdm_99 rfl
theorem n100 (d : Nat) (v0 : Nat) (h : xm_H) : xr d 100 [.ref v0] h = xa d 100 0 [.ref v0, .retAddr 0, .retAddr 0, .retAddr 0, .retAddr 0] [] h := xr_ent xdm_100 rfl
theorem n101 (d : Nat) (v0 : Nat) (v1 : Nat) (h : xm_H) : xr d 101 [.ref v0, .ref v1] h = xa d 101 0 [.ref v0, .ref v1, .retAddr 0] [] h := xr_ent xdm_101 rfl
theorem n101n1 (d : Nat) (v0 : Nat) (h : xm_H) : xr d 101 [.ref v0, .null] h = xa d 101 0 [.ref v0, .null, .retAddr 0] [] h := xr_ent xdm_101 rfl
theorem n102 (d : Nat) (v0 : Nat) (v1 : Nat) (h : xm_H) : xr d 102 [.ref v0, .ref v1] h = xa d 102 0 [.ref v0, .ref v1] [] h := xr_ent xdm_102 rfl
theorem n102n1 (d : Nat) (v0 : Nat) (h : xm_H) : xr d 102 [.ref v0, .null] h = xa d 102 0 [.ref v0, .null] [] h := xr_ent xdm_102 rfl
theorem n103 (d : Nat) (v0 : Nat) (h : xm_H) : xr d 103 [.ref v0] h = xa d 103 0 [.ref v0] [] h := xr_ent xdm_103 rfl
theorem n104 (d : Nat) (v0 : Nat) (h : xm_H) : xr d 104 [.ref v0] h = xa d 104 0 [.ref v0, .retAddr 0, .retAddr 0, .retAddr 0, .retAddr 0] [] h := xr_ent xdm_104 rfl
theorem n105 (d : Nat) (v0 : Nat) (h : xm_H) : xr d 105 [.ref v0] h = xa d 105 0 [.ref v0, .retAddr 0, .retAddr 0, .retAddr 0, .retAddr 0] [] h := xr_ent xdm_105 rfl
theorem n106 (d : Nat) (v0 : Nat) (h : xm_H) : xr d 106 [.ref v0] h = xa d 106 0 [.ref v0, .retAddr 0, .retAddr 0, .retAddr 0, .retAddr 0] [] h := xr_ent xdm_106 rfl
theorem n107 (d : Nat) (v0 : Nat) (h : xm_H) : xr d 107 [.ref v0] h = xa d 107 0 [.ref v0, .retAddr 0, .retAddr 0, .retAddr 0] [] h := xr_ent xdm_107 rfl
theorem n108 (d : Nat) (v0 : Nat) (h : xm_H) : xr d 108 [.ref v0] h = xa d 108 0 [.ref v0, .retAddr 0, .retAddr 0, .retAddr 0] [] h := xr_ent xdm_108 rfl
theorem n109 (d : Nat) (v0 : Nat) (v1 : Int32) (h : xm_H) : xr d 109 [.ref v0, .int v1] h = xa d 109 0 [.ref v0, .int v1] [] h := xr_ent xdm_109 rfl
theorem n110 (d : Nat) (v0 : Nat) (v1 : Int32) (h : xm_H) : xr d 110 [.ref v0, .int v1] h = xa d 110 0 [.ref v0, .int v1] [] h := xr_ent xdm_110 rfl
theorem n111 (d : Nat) (v0 : Nat) (v1 : Int32) (h : xm_H) : xr d 111 [.ref v0, .int v1] h = xa d 111 0 [.ref v0, .int v1, .retAddr 0] [] h := xr_ent xdm_111 rfl
theorem n112 (d : Nat) (v0 : Nat) (v1 : Nat) (h : xm_H) : xr d 112 [.ref v0, .ref v1] h = xa d 112 0 [.ref v0, .ref v1] [] h := xr_ent xdm_112 rfl
theorem n112n1 (d : Nat) (v0 : Nat) (h : xm_H) : xr d 112 [.ref v0, .null] h = xa d 112 0 [.ref v0, .null] [] h := xr_ent xdm_112 rfl
theorem n113 (d : Nat) (v0 : Nat) (h : xm_H) : xr d 113 [.ref v0] h = xa d 113 0 [.ref v0, .retAddr 0, .retAddr 0] [] h := xr_ent xdm_113 rfl
theorem n114 (d : Nat) (v0 : Nat) (v1 : Nat) (h : xm_H) : xr d 114 [.ref v0, .ref v1] h = xa d 114 0 [.ref v0, .ref v1, .retAddr 0] [] h := xr_ent xdm_114 rfl
theorem n114n1 (d : Nat) (v0 : Nat) (h : xm_H) : xr d 114 [.ref v0, .null] h = xa d 114 0 [.ref v0, .null, .retAddr 0] [] h := xr_ent xdm_114 rfl
theorem n115 (d : Nat) (v0 : Nat) (h : xm_H) : xr d 115 [.ref v0] h = xa d 115 0 [.ref v0] [] h := xr_ent xdm_115 rfl
theorem n116 (d : Nat) (v0 : Nat) (v1 : Int64) (h : xm_H) : xr d 116 [.ref v0, .long v1] h = xa d 116 0 [.ref v0, .long v1, .retAddr 0] [] h := xr_ent xdm_116 rfl
theorem n117 (d : Nat) (v0 : Nat) (v1 : Int64) (h : xm_H) : xr d 117 [.ref v0, .long v1] h = xa d 117 0 [.ref v0, .long v1, .retAddr 0, .retAddr 0] [] h := xr_ent xdm_117 rfl
theorem n118 (d : Nat) (v0 : Nat) (v1 : Nat) (h : xm_H) : xr d 118 [.ref v0, .ref v1] h = xa d 118 0 [.ref v0, .ref v1, .retAddr 0, .retAddr 0, .retAddr 0] [] h := xr_ent xdm_118 rfl
theorem n118n1 (d : Nat) (v0 : Nat) (h : xm_H) : xr d 118 [.ref v0, .null] h = xa d 118 0 [.ref v0, .null, .retAddr 0, .retAddr 0, .retAddr 0] [] h := xr_ent xdm_118 rfl
theorem n119 (d : Nat) (v0 : Nat) (h : xm_H) : xr d 119 [.ref v0] h = xa d 119 0 [.ref v0] [] h := xr_ent xdm_119 rfl
theorem n120 (d : Nat) (v0 : Nat) (v1 : Int64) (v2 : Int32) (h : xm_H) : xr d 120 [.ref v0, .long v1, .int v2] h = xa d 120 0 [.ref v0, .long v1, .retAddr 0, .int v2, .retAddr 0, .retAddr 0, .retAddr 0] [] h := xr_ent xdm_120 rfl
theorem n121 (d : Nat) (v0 : Nat) (v1 : Int32) (v2 : Int32) (h : xm_H) : xr d 121 [.ref v0, .int v1, .int v2] h = xa d 121 0 [.ref v0, .int v1, .int v2, .retAddr 0, .retAddr 0, .retAddr 0] [] h := xr_ent xdm_121 rfl
theorem n122 (d : Nat) (v0 : Nat) (v1 : Int32) (h : xm_H) : xr d 122 [.ref v0, .int v1] h = xa d 122 0 [.ref v0, .int v1] [] h := xr_ent xdm_122 rfl
theorem n123 (d : Nat) (v0 : Nat) (h : xm_H) : xr d 123 [.ref v0] h = xa d 123 0 [.ref v0] [] h := xr_ent xdm_123 rfl
theorem n124 (d : Nat) (v0 : Nat) (v1 : Int32) (h : xm_H) : xr d 124 [.ref v0, .int v1] h = xa d 124 0 [.ref v0, .int v1, .retAddr 0] [] h := xr_ent xdm_124 rfl
theorem n125 (d : Nat) (v0 : Nat) (v1 : Int32) (v2 : Int32) (h : xm_H) : xr d 125 [.ref v0, .int v1, .int v2] h = xa d 125 0 [.ref v0, .int v1, .int v2] [] h := xr_ent xdm_125 rfl
theorem n126 (d : Nat) (v0 : Nat) (v1 : Nat) (h : xm_H) : xr d 126 [.ref v0, .ref v1] h = xa d 126 0 [.ref v0, .ref v1] [] h := xr_ent xdm_126 rfl
theorem n126n1 (d : Nat) (v0 : Nat) (h : xm_H) : xr d 126 [.ref v0, .null] h = xa d 126 0 [.ref v0, .null] [] h := xr_ent xdm_126 rfl
theorem n127 (d : Nat) (v0 : Nat) (v1 : Int64) (v2 : Int32) (h : xm_H) : xr d 127 [.ref v0, .long v1, .int v2] h = xa d 127 0 [.ref v0, .long v1, .retAddr 0, .int v2, .retAddr 0, .retAddr 0] [] h := xr_ent xdm_127 rfl
theorem n128 (d : Nat) (v0 : Nat) (h : xm_H) : xr d 128 [.ref v0] h = xa d 128 0 [.ref v0, .retAddr 0, .retAddr 0] [] h := xr_ent xdm_128 rfl
theorem n129 (d : Nat) (v0 : Nat) (v1 : Nat) (h : xm_H) : xr d 129 [.ref v0, .ref v1] h = xa d 129 0 [.ref v0, .ref v1] [] h := xr_ent xdm_129 rfl
theorem n129n1 (d : Nat) (v0 : Nat) (h : xm_H) : xr d 129 [.ref v0, .null] h = xa d 129 0 [.ref v0, .null] [] h := xr_ent xdm_129 rfl
theorem n130 (d : Nat) (v0 : Nat) (v1 : Int64) (v2 : Int32) (v3 : Int32) (h : xm_H) : xr d 130 [.ref v0, .long v1, .int v2, .int v3] h = xa d 130 0 [.ref v0, .long v1, .retAddr 0, .int v2, .int v3, .retAddr 0, .retAddr 0] [] h := xr_ent xdm_130 rfl
theorem n131 (d : Nat) (v0 : Nat) (v1 : Nat) (h : xm_H) : xr d 131 [.ref v0, .ref v1] h = xa d 131 0 [.ref v0, .ref v1] [] h := xr_ent xdm_131 rfl
theorem n131n1 (d : Nat) (v0 : Nat) (h : xm_H) : xr d 131 [.ref v0, .null] h = xa d 131 0 [.ref v0, .null] [] h := xr_ent xdm_131 rfl
theorem n132 (d : Nat) (v0 : Nat) (v1 : Int32) (v2 : Int64) (h : xm_H) : xr d 132 [.ref v0, .int v1, .long v2] h = xa d 132 0 [.ref v0, .int v1, .long v2, .retAddr 0, .retAddr 0] [] h := xr_ent xdm_132 rfl
theorem n133 (d : Nat) (v0 : Nat) (v1 : Int32) (v2 : Int64) (h : xm_H) : xr d 133 [.ref v0, .int v1, .long v2] h = xa d 133 0 [.ref v0, .int v1, .long v2, .retAddr 0, .retAddr 0] [] h := xr_ent xdm_133 rfl
theorem n134 (d : Nat) (v0 : Nat) (v1 : Int32) (h : xm_H) : xr d 134 [.ref v0, .int v1] h = xa d 134 0 [.ref v0, .int v1, .retAddr 0] [] h := xr_ent xdm_134 rfl
theorem n135 (d : Nat) (v0 : Nat) (v1 : Int32) (v2 : Int32) (v3 : Int32) (h : xm_H) : xr d 135 [.ref v0, .int v1, .int v2, .int v3] h = xa d 135 0 [.ref v0, .int v1, .int v2, .int v3, .retAddr 0] [] h := xr_ent xdm_135 rfl
theorem n136 (d : Nat) (v0 : Nat) (v1 : Int32) (h : xm_H) : xr d 136 [.ref v0, .int v1] h = xa d 136 0 [.ref v0, .int v1, .retAddr 0, .retAddr 0] [] h := xr_ent xdm_136 rfl
theorem n137 (d : Nat) (v0 : Nat) (v1 : Int32) (v2 : Int32) (v3 : Int32) (h : xm_H) : xr d 137 [.ref v0, .int v1, .int v2, .int v3] h = xa d 137 0 [.ref v0, .int v1, .int v2, .int v3, .retAddr 0] [] h := xr_ent xdm_137 rfl
theorem n138 (d : Nat) (v0 : Nat) (h : xm_H) : xr d 138 [.ref v0] h = xa d 138 0 [.ref v0] [] h := xr_ent xdm_138 rfl
theorem n139 (d : Nat) (v0 : Nat) (h : xm_H) : xr d 139 [.ref v0] h = xa d 139 0 [.ref v0, .retAddr 0] [] h := xr_ent xdm_139 rfl
theorem n140 (d : Nat) (v0 : Nat) (h : xm_H) : xr d 140 [.ref v0] h = xa d 140 0 [.ref v0] [] h := xr_ent xdm_140 rfl
theorem n141 (d : Nat) (v0 : Nat) (v1 : Int64) (v2 : Int64) (v3 : Int64) (h : xm_H) : xr d 141 [.ref v0, .long v1, .long v2, .long v3] h = xa d 141 0 [.ref v0, .long v1, .retAddr 0, .long v2, .retAddr 0, .long v3, .retAddr 0, .retAddr 0, .retAddr 0, .retAddr 0, .retAddr 0] [] h := xr_ent xdm_141 rfl
theorem n142 (d : Nat) (v0 : Nat) (h : xm_H) : xr d 142 [.ref v0] h = xa d 142 0 [.ref v0, .retAddr 0] [] h := xr_ent xdm_142 rfl
theorem n143 (d : Nat) (v0 : Nat) (h : xm_H) : xr d 143 [.ref v0] h = xa d 143 0 [.ref v0] [] h := xr_ent xdm_143 rfl
theorem n144 (d : Nat) (v0 : Nat) (h : xm_H) : xr d 144 [.ref v0] h = xa d 144 0 [.ref v0, .retAddr 0] [] h := xr_ent xdm_144 rfl
theorem n145 (d : Nat) (v0 : Nat) (v1 : Int32) (h : xm_H) : xr d 145 [.ref v0, .int v1] h = xa d 145 0 [.ref v0, .int v1] [] h := xr_ent xdm_145 rfl
theorem n146 (d : Nat) (v0 : Nat) (h : xm_H) : xr d 146 [.ref v0] h = xa d 146 0 [.ref v0, .retAddr 0] [] h := xr_ent xdm_146 rfl
theorem n147 (d : Nat) (v0 : Nat) (v1 : Int64) (h : xm_H) : xr d 147 [.ref v0, .long v1] h = xa d 147 0 [.ref v0, .long v1, .retAddr 0] [] h := xr_ent xdm_147 rfl
theorem n148 (d : Nat) (v0 : Nat) (h : xm_H) : xr d 148 [.ref v0] h = xa d 148 0 [.ref v0, .retAddr 0] [] h := xr_ent xdm_148 rfl
theorem n149 (d : Nat) (v0 : Nat) (v1 : Int32) (h : xm_H) : xr d 149 [.ref v0, .int v1] h = xa d 149 0 [.ref v0, .int v1] [] h := xr_ent xdm_149 rfl
theorem n150 (d : Nat) (v0 : Nat) (v1 : Int32) (h : xm_H) : xr d 150 [.ref v0, .int v1] h = xa d 150 0 [.ref v0, .int v1] [] h := xr_ent xdm_150 rfl
theorem n151 (d : Nat) (v0 : Nat) (h : xm_H) : xr d 151 [.ref v0] h = xa d 151 0 [.ref v0] [] h := xr_ent xdm_151 rfl
theorem n152 (d : Nat) (v0 : Nat) (v1 : Int32) (h : xm_H) : xr d 152 [.ref v0, .int v1] h = xa d 152 0 [.ref v0, .int v1, .retAddr 0] [] h := xr_ent xdm_152 rfl
theorem n153 (d : Nat) (v0 : Nat) (v1 : Int32) (h : xm_H) : xr d 153 [.ref v0, .int v1] h = xa d 153 0 [.ref v0, .int v1] [] h := xr_ent xdm_153 rfl
theorem n154 (d : Nat) (v0 : Nat) (h : xm_H) : xr d 154 [.ref v0] h = xa d 154 0 [.ref v0] [] h := xr_ent xdm_154 rfl
theorem n155 (d : Nat) (v0 : Nat) (v1 : Int32) (h : xm_H) : xr d 155 [.ref v0, .int v1] h = xa d 155 0 [.ref v0, .int v1] [] h := xr_ent xdm_155 rfl
theorem n156 (d : Nat) (v0 : Nat) (h : xm_H) : xr d 156 [.ref v0] h = xa d 156 0 [.ref v0] [] h := xr_ent xdm_156 rfl
theorem n157 (d : Nat) (v0 : Nat) (v1 : Int64) (h : xm_H) : xr d 157 [.ref v0, .long v1] h = xa d 157 0 [.ref v0, .long v1, .retAddr 0] [] h := xr_ent xdm_157 rfl
theorem n158 (d : Nat) (v0 : Nat) (h : xm_H) : xr d 158 [.ref v0] h = xa d 158 0 [.ref v0, .retAddr 0, .retAddr 0] [] h := xr_ent xdm_158 rfl
theorem n159 (d : Nat) (v0 : Nat) (h : xm_H) : xr d 159 [.ref v0] h = xa d 159 0 [.ref v0, .retAddr 0] [] h := xr_ent xdm_159 rfl
theorem n160 (d : Nat) (v0 : Nat) (h : xm_H) : xr d 160 [.ref v0] h = xa d 160 0 [.ref v0] [] h := xr_ent xdm_160 rfl
theorem n161 (d : Nat) (v0 : Nat) (v1 : Int32) (h : xm_H) : xr d 161 [.ref v0, .int v1] h = xa d 161 0 [.ref v0, .int v1, .retAddr 0, .retAddr 0, .retAddr 0, .retAddr 0, .retAddr 0, .retAddr 0] [] h := xr_ent xdm_161 rfl
theorem n162 (d : Nat) (v0 : Nat) (v1 : Int32) (h : xm_H) : xr d 162 [.ref v0, .int v1] h = xa d 162 0 [.ref v0, .int v1] [] h := xr_ent xdm_162 rfl
theorem n163 (d : Nat) (v0 : Nat) (v1 : Int32) (h : xm_H) : xr d 163 [.ref v0, .int v1] h = xa d 163 0 [.ref v0, .int v1, .retAddr 0, .retAddr 0, .retAddr 0, .retAddr 0] [] h := xr_ent xdm_163 rfl
theorem n164 (d : Nat) (v0 : Nat) (v1 : Int32) (h : xm_H) : xr d 164 [.ref v0, .int v1] h = xa d 164 0 [.ref v0, .int v1, .retAddr 0, .retAddr 0, .retAddr 0, .retAddr 0] [] h := xr_ent xdm_164 rfl
theorem n165 (d : Nat) (v0 : Nat) (v1 : Int32) (h : xm_H) : xr d 165 [.ref v0, .int v1] h = xa d 165 0 [.ref v0, .int v1] [] h := xr_ent xdm_165 rfl
theorem n166 (d : Nat) (v0 : Nat) (v1 : Int32) (h : xm_H) : xr d 166 [.ref v0, .int v1] h = xa d 166 0 [.ref v0, .int v1] [] h := xr_ent xdm_166 rfl
theorem n167 (d : Nat) (v0 : Nat) (v1 : Int32) (h : xm_H) : xr d 167 [.ref v0, .int v1] h = xa d 167 0 [.ref v0, .int v1, .retAddr 0] [] h := xr_ent xdm_167 rfl
theorem n168 (d : Nat) (v0 : Nat) (h : xm_H) : xr d 168 [.ref v0] h = xa d 168 0 [.ref v0] [] h := xr_ent xdm_168 rfl
theorem n169 (d : Nat) (v0 : Nat) (v1 : Int32) (v2 : Int32) (h : xm_H) : xr d 169 [.ref v0, .int v1, .int v2] h = xa d 169 0 [.ref v0, .int v1, .int v2, .retAddr 0] [] h := xr_ent xdm_169 rfl
theorem n170 (d : Nat) (v0 : Nat) (v1 : Int32) (h : xm_H) : xr d 170 [.ref v0, .int v1] h = xa d 170 0 [.ref v0, .int v1] [] h := xr_ent xdm_170 rfl
theorem n171 (d : Nat) (v0 : Int32) (h : xm_H) : xr d 171 [.int v0] h = xa d 171 0 [.int v0] [] h := xr_ent xdm_171 rfl
theorem n172 (d : Nat) (v0 : Nat) (v1 : Int32) (v2 : Int32) (v3 : Int32) (h : xm_H) : xr d 172 [.ref v0, .int v1, .int v2, .int v3] h = xa d 172 0 [.ref v0, .int v1, .int v2, .int v3, .retAddr 0] [] h := xr_ent xdm_172 rfl
theorem n173 (d : Nat) (v0 : Nat) (v1 : Int32) (v2 : Int32) (h : xm_H) : xr d 173 [.ref v0, .int v1, .int v2] h = xa d 173 0 [.ref v0, .int v1, .int v2, .retAddr 0] [] h := xr_ent xdm_173 rfl
theorem n174 (d : Nat) (v0 : Nat) (v1 : Int32) (h : xm_H) : xr d 174 [.ref v0, .int v1] h = xa d 174 0 [.ref v0, .int v1] [] h := xr_ent xdm_174 rfl
theorem n175 (d : Nat) (v0 : Nat) (v1 : Int32) (h : xm_H) : xr d 175 [.ref v0, .int v1] h = xa d 175 0 [.ref v0, .int v1] [] h := xr_ent xdm_175 rfl
theorem n176 (d : Nat) (v0 : Nat) (v1 : Int32) (v2 : Int32) (h : xm_H) : xr d 176 [.ref v0, .int v1, .int v2] h = xa d 176 0 [.ref v0, .int v1, .int v2] [] h := xr_ent xdm_176 rfl
theorem n177 (d : Nat) (v0 : Int64) (v1 : Int32) (h : xm_H) : xr d 177 [.long v0, .int v1] h = xa d 177 0 [.long v0, .retAddr 0, .int v1] [] h := xr_ent xdm_177 rfl
theorem n178 (d : Nat) (v0 : Nat) (v1 : Int32) (v2 : Int32) (v3 : Int32) (h : xm_H) : xr d 178 [.ref v0, .int v1, .int v2, .int v3] h = xa d 178 0 [.ref v0, .int v1, .int v2, .int v3] [] h := xr_ent xdm_178 rfl
theorem n179 (d : Nat) (v0 : Nat) (v1 : Int32) (v2 : Int32) (h : xm_H) : xr d 179 [.ref v0, .int v1, .int v2] h = xa d 179 0 [.ref v0, .int v1, .int v2, .retAddr 0, .retAddr 0, .retAddr 0] [] h := xr_ent xdm_179 rfl
theorem n180 (d : Nat) (v0 : Nat) (v1 : Int32) (v2 : Int32) (v3 : Int32) (h : xm_H) : xr d 180 [.ref v0, .int v1, .int v2, .int v3] h = xa d 180 0 [.ref v0, .int v1, .int v2, .int v3] [] h := xr_ent xdm_180 rfl
theorem n181 (d : Nat) (v0 : Nat) (v1 : Int32) (h : xm_H) : xr d 181 [.ref v0, .int v1] h = xa d 181 0 [.ref v0, .int v1] [] h := xr_ent xdm_181 rfl
theorem n182 (d : Nat) (v0 : Nat) (v1 : Int32) (h : xm_H) : xr d 182 [.ref v0, .int v1] h = xa d 182 0 [.ref v0, .int v1, .retAddr 0, .retAddr 0] [] h := xr_ent xdm_182 rfl
theorem n183 (d : Nat) (v0 : Nat) (v1 : Int32) (h : xm_H) : xr d 183 [.ref v0, .int v1] h = xa d 183 0 [.ref v0, .int v1, .retAddr 0, .retAddr 0] [] h := xr_ent xdm_183 rfl
theorem n184 (d : Nat) (v0 : Nat) (v1 : Int32) (v2 : Int32) (v3 : Int32) (h : xm_H) : xr d 184 [.ref v0, .int v1, .int v2, .int v3] h = xa d 184 0 [.ref v0, .int v1, .int v2, .int v3, .retAddr 0] [] h := xr_ent xdm_184 rfl
theorem n185 (d : Nat) (v0 : Nat) (v1 : Int32) (v2 : Int32) (v3 : Int32) (v4 : Int32) (h : xm_H) : xr d 185 [.ref v0, .int v1, .int v2, .int v3, .int v4] h = xa d 185 0 [.ref v0, .int v1, .int v2, .int v3, .int v4] [] h := xr_ent xdm_185 rfl
theorem n186 (d : Nat) (v0 : Int32) (h : xm_H) : xr d 186 [.int v0] h = xa d 186 0 [.int v0] [] h := xr_ent xdm_186 rfl
theorem n187 (d : Nat) (v0 : Nat) (v1 : Int32) (h : xm_H) : xr d 187 [.ref v0, .int v1] h = xa d 187 0 [.ref v0, .int v1] [] h := xr_ent xdm_187 rfl
theorem n188 (d : Nat) (v0 : Nat) (h : xm_H) : xr d 188 [.ref v0] h = xa d 188 0 [.ref v0, .retAddr 0, .retAddr 0, .retAddr 0, .retAddr 0] [] h := xr_ent xdm_188 rfl
theorem n189 (d : Nat) (v0 : Nat) (v1 : Int32) (v2 : Int32) (h : xm_H) : xr d 189 [.ref v0, .int v1, .int v2] h = xa d 189 0 [.ref v0, .int v1, .int v2] [] h := xr_ent xdm_189 rfl
theorem n190 (d : Nat) (v0 : Nat) (v1 : Int32) (v2 : Int32) (v3 : Int32) (h : xm_H) : xr d 190 [.ref v0, .int v1, .int v2, .int v3] h = xa d 190 0 [.ref v0, .int v1, .int v2, .int v3, .retAddr 0] [] h := xr_ent xdm_190 rfl
theorem n191 (d : Nat) (v0 : Int32) (v1 : Int32) (v2 : Int32) (h : xm_H) : xr d 191 [.int v0, .int v1, .int v2] h = xa d 191 0 [.int v0, .int v1, .int v2] [] h := xr_ent xdm_191 rfl
theorem n192 (d : Nat) (v0 : Nat) (v1 : Int32) (h : xm_H) : xr d 192 [.ref v0, .int v1] h = xa d 192 0 [.ref v0, .int v1, .retAddr 0, .retAddr 0] [] h := xr_ent xdm_192 rfl
theorem n193 (d : Nat) (v0 : Nat) (v1 : Int32) (h : xm_H) : xr d 193 [.ref v0, .int v1] h = xa d 193 0 [.ref v0, .int v1] [] h := xr_ent xdm_193 rfl
theorem n194 (d : Nat) (v0 : Nat) (v1 : Int32) (h : xm_H) : xr d 194 [.ref v0, .int v1] h = xa d 194 0 [.ref v0, .int v1, .retAddr 0, .retAddr 0, .retAddr 0] [] h := xr_ent xdm_194 rfl
theorem n195 (d : Nat) (v0 : Int64) (h : xm_H) : xr d 195 [.long v0] h = xa d 195 0 [.long v0, .retAddr 0, .retAddr 0, .retAddr 0] [] h := xr_ent xdm_195 rfl
theorem n196 (d : Nat) (v0 : Nat) (v1 : Int32) (h : xm_H) : xr d 196 [.ref v0, .int v1] h = xa d 196 0 [.ref v0, .int v1] [] h := xr_ent xdm_196 rfl
theorem n197 (d : Nat) (v0 : Int64) (v1 : Int64) (h : xm_H) : xr d 197 [.long v0, .long v1] h = xa d 197 0 [.long v0, .retAddr 0, .long v1, .retAddr 0] [] h := xr_ent xdm_197 rfl
theorem n198 (d : Nat) (v0 : Nat) (v1 : Int32) (h : xm_H) : xr d 198 [.ref v0, .int v1] h = xa d 198 0 [.ref v0, .int v1] [] h := xr_ent xdm_198 rfl
theorem n199 (d : Nat) (v0 : Nat) (v1 : Int32) (v2 : Int32) (h : xm_H) : xr d 199 [.ref v0, .int v1, .int v2] h = xa d 199 0 [.ref v0, .int v1, .int v2, .retAddr 0, .retAddr 0, .retAddr 0, .retAddr 0, .retAddr 0, .retAddr 0, .retAddr 0] [] h := xr_ent xdm_199 rfl
theorem n200 (d : Nat) (v0 : Int32) (v1 : Int32) (v2 : Int32) (h : xm_H) : xr d 200 [.int v0, .int v1, .int v2] h = xa d 200 0 [.int v0, .int v1, .int v2] [] h := xr_ent xdm_200 rfl
theorem n201 (d : Nat) (v0 : Nat) (v1 : Int32) (h : xm_H) : xr d 201 [.ref v0, .int v1] h = xa d 201 0 [.ref v0, .int v1, .retAddr 0, .retAddr 0, .retAddr 0] [] h := xr_ent xdm_201 rfl
theorem n202 (d : Nat) (v0 : Int64) (v1 : Int64) (v2 : Int32) (h : xm_H) : xr d 202 [.long v0, .long v1, .int v2] h = xa d 202 0 [.long v0, .retAddr 0, .long v1, .retAddr 0, .int v2, .retAddr 0, .retAddr 0, .retAddr 0, .retAddr 0, .retAddr 0, .retAddr 0] [] h := xr_ent xdm_202 rfl
theorem n203 (d : Nat) (v0 : Nat) (v1 : Int32) (v2 : Int32) (h : xm_H) : xr d 203 [.ref v0, .int v1, .int v2] h = xa d 203 0 [.ref v0, .int v1, .int v2, .retAddr 0, .retAddr 0, .retAddr 0] [] h := xr_ent xdm_203 rfl
theorem n204 (d : Nat) (v0 : Nat) (v1 : Int32) (h : xm_H) : xr d 204 [.ref v0, .int v1] h = xa d 204 0 [.ref v0, .int v1, .retAddr 0, .retAddr 0, .retAddr 0] [] h := xr_ent xdm_204 rfl
theorem n205 (d : Nat) (v0 : Nat) (v1 : Int32) (h : xm_H) : xr d 205 [.ref v0, .int v1] h = xa d 205 0 [.ref v0, .int v1, .retAddr 0, .retAddr 0] [] h := xr_ent xdm_205 rfl
theorem n206 (d : Nat) (v0 : Nat) (v1 : Int32) (v2 : Int32) (v3 : Int32) (v4 : Int32) (h : xm_H) : xr d 206 [.ref v0, .int v1, .int v2, .int v3, .int v4] h = xa d 206 0 [.ref v0, .int v1, .int v2, .int v3, .int v4, .retAddr 0, .retAddr 0, .retAddr 0, .retAddr 0, .retAddr 0, .retAddr 0] [] h := xr_ent xdm_206 rfl
theorem n207 (d : Nat) (v0 : Nat) (v1 : Int32) (v2 : Int32) (v3 : Int32) (h : xm_H) : xr d 207 [.ref v0, .int v1, .int v2, .int v3] h = xa d 207 0 [.ref v0, .int v1, .int v2, .int v3] [] h := xr_ent xdm_207 rfl
theorem n208 (d : Nat) (v0 : Nat) (v1 : Int32) (v2 : Int32) (v3 : Int32) (h : xm_H) : xr d 208 [.ref v0, .int v1, .int v2, .int v3] h = xa d 208 0 [.ref v0, .int v1, .int v2, .int v3, .retAddr 0] [] h := xr_ent xdm_208 rfl
theorem n209 (d : Nat) (v0 : Nat) (v1 : Int32) (v2 : Int32) (v3 : Int64) (v4 : Int32) (h : xm_H) : xr d 209 [.ref v0, .int v1, .int v2, .long v3, .int v4] h = xa d 209 0 [.ref v0, .int v1, .int v2, .long v3, .retAddr 0, .int v4, .retAddr 0, .retAddr 0, .retAddr 0, .retAddr 0] [] h := xr_ent xdm_209 rfl
theorem n210 (d : Nat) (v0 : Nat) (v1 : Int32) (v2 : Int32) (v3 : Int32) (v4 : Int32) (h : xm_H) : xr d 210 [.ref v0, .int v1, .int v2, .int v3, .int v4] h = xa d 210 0 [.ref v0, .int v1, .int v2, .int v3, .int v4, .retAddr 0, .retAddr 0, .retAddr 0, .retAddr 0, .retAddr 0, .retAddr 0] [] h := xr_ent xdm_210 rfl
theorem n211 (d : Nat) (v0 : Nat) (v1 : Int32) (v2 : Int32) (v3 : Int32) (v4 : Int32) (v5 : Int32) (h : xm_H) : xr d 211 [.ref v0, .int v1, .int v2, .int v3, .int v4, .int v5] h = xa d 211 0 [.ref v0, .int v1, .int v2, .int v3, .int v4, .int v5, .retAddr 0, .retAddr 0, .retAddr 0, .retAddr 0, .retAddr 0] [] h := xr_ent xdm_211 rfl
theorem n212 (d : Nat) (v0 : Nat) (h : xm_H) : xr d 212 [.ref v0] h = xa d 212 0 [.ref v0, .retAddr 0] [] h := xr_ent xdm_212 rfl
theorem n213 (d : Nat) (v0 : Nat) (v1 : Int32) (v2 : Int32) (h : xm_H) : xr d 213 [.ref v0, .int v1, .int v2] h = xa d 213 0 [.ref v0, .int v1, .int v2, .retAddr 0, .retAddr 0, .retAddr 0, .retAddr 0] [] h := xr_ent xdm_213 rfl
theorem n214 (d : Nat) (v0 : Nat) (v1 : Int32) (v2 : Int32) (v3 : Int32) (v4 : Int32) (h : xm_H) : xr d 214 [.ref v0, .int v1, .int v2, .int v3, .int v4] h = xa d 214 0 [.ref v0, .int v1, .int v2, .int v3, .int v4, .retAddr 0, .retAddr 0] [] h := xr_ent xdm_214 rfl
theorem n215 (d : Nat) (v0 : Nat) (v1 : Int32) (v2 : Int32) (h : xm_H) : xr d 215 [.ref v0, .int v1, .int v2] h = xa d 215 0 [.ref v0, .int v1, .int v2, .retAddr 0, .retAddr 0, .retAddr 0, .retAddr 0] [] h := xr_ent xdm_215 rfl
theorem n216 (d : Nat) (v0 : Int32) (v1 : Int32) (h : xm_H) : xr d 216 [.int v0, .int v1] h = xa d 216 0 [.int v0, .int v1, .retAddr 0] [] h := xr_ent xdm_216 rfl
theorem n217 (d : Nat) (v0 : Nat) (v1 : Int32) (v2 : Int32) (h : xm_H) : xr d 217 [.ref v0, .int v1, .int v2] h = xa d 217 0 [.ref v0, .int v1, .int v2] [] h := xr_ent xdm_217 rfl
theorem n218 (d : Nat) (v0 : Nat) (v1 : Int32) (v2 : Int32) (h : xm_H) : xr d 218 [.ref v0, .int v1, .int v2] h = xa d 218 0 [.ref v0, .int v1, .int v2] [] h := xr_ent xdm_218 rfl
theorem n219 (d : Nat) (v0 : Nat) (v1 : Int32) (v2 : Int32) (h : xm_H) : xr d 219 [.ref v0, .int v1, .int v2] h = xa d 219 0 [.ref v0, .int v1, .int v2] [] h := xr_ent xdm_219 rfl
theorem n220 (d : Nat) (v0 : Nat) (v1 : Int32) (v2 : Int32) (h : xm_H) : xr d 220 [.ref v0, .int v1, .int v2] h = xa d 220 0 [.ref v0, .int v1, .int v2, .retAddr 0, .retAddr 0, .retAddr 0, .retAddr 0] [] h := xr_ent xdm_220 rfl
theorem n221 (d : Nat) (v0 : Nat) (v1 : Int32) (v2 : Int32) (h : xm_H) : xr d 221 [.ref v0, .int v1, .int v2] h = xa d 221 0 [.ref v0, .int v1, .int v2, .retAddr 0, .retAddr 0] [] h := xr_ent xdm_221 rfl
theorem n222 (d : Nat) (v0 : Nat) (v1 : Int32) (v2 : Int32) (v3 : Int32) (v4 : Int32) (v5 : Int32) (h : xm_H) : xr d 222 [.ref v0, .int v1, .int v2, .int v3, .int v4, .int v5] h = xa d 222 0 [.ref v0, .int v1, .int v2, .int v3, .int v4, .int v5, .retAddr 0, .retAddr 0, .retAddr 0, .retAddr 0, .retAddr 0] [] h := xr_ent xdm_222 rfl
theorem n223 (d : Nat) (v0 : Nat) (v1 : Int32) (v2 : Int32) (h : xm_H) : xr d 223 [.ref v0, .int v1, .int v2] h = xa d 223 0 [.ref v0, .int v1, .int v2, .retAddr 0, .retAddr 0] [] h := xr_ent xdm_223 rfl
theorem n224 (d : Nat) (v0 : Nat) (v1 : Int32) (v2 : Int32) (h : xm_H) : xr d 224 [.ref v0, .int v1, .int v2] h = xa d 224 0 [.ref v0, .int v1, .int v2, .retAddr 0, .retAddr 0, .retAddr 0, .retAddr 0, .retAddr 0, .retAddr 0, .retAddr 0] [] h := xr_ent xdm_224 rfl
theorem n225 (d : Nat) (v0 : Nat) (v1 : Int32) (h : xm_H) : xr d 225 [.ref v0, .int v1] h = xa d 225 0 [.ref v0, .int v1] [] h := xr_ent xdm_225 rfl
theorem n226 (d : Nat) (v0 : Nat) (v1 : Int32) (h : xm_H) : xr d 226 [.ref v0, .int v1] h = xa d 226 0 [.ref v0, .int v1, .retAddr 0, .retAddr 0, .retAddr 0, .retAddr 0, .retAddr 0] [] h := xr_ent xdm_226 rfl
theorem n227 (d : Nat) (v0 : Nat) (v1 : Int32) (v2 : Int32) (h : xm_H) : xr d 227 [.ref v0, .int v1, .int v2] h = xa d 227 0 [.ref v0, .int v1, .int v2, .retAddr 0, .retAddr 0] [] h := xr_ent xdm_227 rfl
theorem n228 (d : Nat) (v0 : Nat) (v1 : Int32) (v2 : Int32) (h : xm_H) : xr d 228 [.ref v0, .int v1, .int v2] h = xa d 228 0 [.ref v0, .int v1, .int v2] [] h := xr_ent xdm_228 rfl
theorem n229 (d : Nat) (v0 : Nat) (v1 : Int32) (v2 : Int32) (v3 : Int32) (h : xm_H) : xr d 229 [.ref v0, .int v1, .int v2, .int v3] h = xa d 229 0 [.ref v0, .int v1, .int v2, .int v3, .retAddr 0, .retAddr 0, .retAddr 0] [] h := xr_ent xdm_229 rfl
theorem n230 (d : Nat) (v0 : Nat) (v1 : Int32) (v2 : Int64) (h : xm_H) : xr d 230 [.ref v0, .int v1, .long v2] h = xa d 230 0 [.ref v0, .int v1, .long v2, .retAddr 0, .retAddr 0, .retAddr 0, .retAddr 0] [] h := xr_ent xdm_230 rfl
theorem n231 (d : Nat) (v0 : Nat) (v1 : Int32) (v2 : Int32) (v3 : Int64) (h : xm_H) : xr d 231 [.ref v0, .int v1, .int v2, .long v3] h = xa d 231 0 [.ref v0, .int v1, .int v2, .long v3, .retAddr 0, .retAddr 0] [] h := xr_ent xdm_231 rfl
theorem n232 (d : Nat) (v0 : Nat) (v1 : Int32) (v2 : Int32) (v3 : Int32) (v4 : Int64) (h : xm_H) : xr d 232 [.ref v0, .int v1, .int v2, .int v3, .long v4] h = xa d 232 0 [.ref v0, .int v1, .int v2, .int v3, .long v4, .retAddr 0, .retAddr 0] [] h := xr_ent xdm_232 rfl
theorem n233 (d : Nat) (v0 : Nat) (v1 : Int32) (v2 : Int32) (v3 : Int64) (h : xm_H) : xr d 233 [.ref v0, .int v1, .int v2, .long v3] h = xa d 233 0 [.ref v0, .int v1, .int v2, .long v3, .retAddr 0, .retAddr 0, .retAddr 0, .retAddr 0, .retAddr 0] [] h := xr_ent xdm_233 rfl
theorem n234 (d : Nat) (v0 : Nat) (v1 : Int32) (v2 : Int32) (h : xm_H) : xr d 234 [.ref v0, .int v1, .int v2] h = xa d 234 0 [.ref v0, .int v1, .int v2, .retAddr 0, .retAddr 0] [] h := xr_ent xdm_234 rfl
theorem n235 (d : Nat) (v0 : Nat) (v1 : Int32) (v2 : Int32) (v3 : Int32) (v4 : Int32) (h : xm_H) : xr d 235 [.ref v0, .int v1, .int v2, .int v3, .int v4] h = xa d 235 0 [.ref v0, .int v1, .int v2, .int v3, .int v4, .retAddr 0, .retAddr 0, .retAddr 0, .retAddr 0, .retAddr 0, .retAddr 0] [] h := xr_ent xdm_235 rfl
theorem n236 (d : Nat) (v0 : Nat) (v1 : Int32) (v2 : Int32) (h : xm_H) : xr d 236 [.ref v0, .int v1, .int v2] h = xa d 236 0 [.ref v0, .int v1, .int v2, .retAddr 0, .retAddr 0] [] h := xr_ent xdm_236 rfl
theorem n237 (d : Nat) (v0 : Nat) (v1 : Int32) (v2 : Int32) (h : xm_H) : xr d 237 [.ref v0, .int v1, .int v2] h = xa d 237 0 [.ref v0, .int v1, .int v2, .retAddr 0] [] h := xr_ent xdm_237 rfl
theorem n238 (d : Nat) (v0 : Nat) (v1 : Nat) (v2 : Int32) (v3 : Int32) (h : xm_H) : xr d 238 [.ref v0, .ref v1, .int v2, .int v3] h = xa d 238 0 [.ref v0, .ref v1, .int v2, .int v3, .retAddr 0] [] h := xr_ent xdm_238 rfl
theorem n238n1 (d : Nat) (v0 : Nat) (v2 : Int32) (v3 : Int32) (h : xm_H) : xr d 238 [.ref v0, .null, .int v2, .int v3] h = xa d 238 0 [.ref v0, .null, .int v2, .int v3, .retAddr 0] [] h := xr_ent xdm_238 rfl
theorem n239 (d : Nat) (v0 : Nat) (v1 : Int32) (v2 : Int32) (h : xm_H) : xr d 239 [.ref v0, .int v1, .int v2] h = xa d 239 0 [.ref v0, .int v1, .int v2, .retAddr 0] [] h := xr_ent xdm_239 rfl
theorem n240 (d : Nat) (v0 : Nat) (v1 : Nat) (v2 : Int32) (v3 : Int32) (v4 : Int32) (h : xm_H) : xr d 240 [.ref v0, .ref v1, .int v2, .int v3, .int v4] h = xa d 240 0 [.ref v0, .ref v1, .int v2, .int v3, .int v4, .retAddr 0] [] h := xr_ent xdm_240 rfl
theorem n240n1 (d : Nat) (v0 : Nat) (v2 : Int32) (v3 : Int32) (v4 : Int32) (h : xm_H) : xr d 240 [.ref v0, .null, .int v2, .int v3, .int v4] h = xa d 240 0 [.ref v0, .null, .int v2, .int v3, .int v4, .retAddr 0] [] h := xr_ent xdm_240 rfl
theorem n241 (d : Nat) (v0 : Nat) (v1 : Int32) (h : xm_H) : xr d 241 [.ref v0, .int v1] h = xa d 241 0 [.ref v0, .int v1] [] h := xr_ent xdm_241 rfl
theorem n242 (d : Nat) (v0 : Nat) (v1 : Int32) (h : xm_H) : xr d 242 [.ref v0, .int v1] h = xa d 242 0 [.ref v0, .int v1] [] h := xr_ent xdm_242 rfl
theorem n243 (d : Nat) (v0 : Nat) (v1 : Int32) (h : xm_H) : xr d 243 [.ref v0, .int v1] h = xa d 243 0 [.ref v0, .int v1] [] h := xr_ent xdm_243 rfl
theorem n244 (d : Nat) (v0 : Nat) (h : xm_H) : xr d 244 [.ref v0] h = xa d 244 0 [.ref v0] [] h := xr_ent xdm_244 rfl
theorem n245 (d : Nat) (v0 : Nat) (v1 : Int32) (h : xm_H) : xr d 245 [.ref v0, .int v1] h = xa d 245 0 [.ref v0, .int v1] [] h := xr_ent xdm_245 rfl
theorem n246 (d : Nat) (v0 : Nat) (v1 : Nat) (h : xm_H) : xr d 246 [.ref v0, .ref v1] h = xa d 246 0 [.ref v0, .ref v1] [] h := xr_ent xdm_246 rfl
theorem n246n1 (d : Nat) (v0 : Nat) (h : xm_H) : xr d 246 [.ref v0, .null] h = xa d 246 0 [.ref v0, .null] [] h := xr_ent xdm_246 rfl
theorem n247 (d : Nat) (v0 : Nat) (v1 : Int32) (h : xm_H) : xr d 247 [.ref v0, .int v1] h = xa d 247 0 [.ref v0, .int v1] [] h := xr_ent xdm_247 rfl
theorem n248 (d : Nat) (v0 : Nat) (v1 : Nat) (h : xm_H) : xr d 248 [.ref v0, .ref v1] h = xa d 248 0 [.ref v0, .ref v1] [] h := xr_ent xdm_248 rfl
theorem n248n1 (d : Nat) (v0 : Nat) (h : xm_H) : xr d 248 [.ref v0, .null] h = xa d 248 0 [.ref v0, .null] [] h := xr_ent xdm_248 rfl
theorem n249 (d : Nat) (v0 : Nat) (v1 : Nat) (h : xm_H) : xr d 249 [.ref v0, .ref v1] h = xa d 249 0 [.ref v0, .ref v1] [] h := xr_ent xdm_249 rfl
theorem n249n1 (d : Nat) (v0 : Nat) (h : xm_H) : xr d 249 [.ref v0, .null] h = xa d 249 0 [.ref v0, .null] [] h := xr_ent xdm_249 rfl
theorem n250 (d : Nat) (v0 : Nat) (v1 : Nat) (h : xm_H) : xr d 250 [.ref v0, .ref v1] h = xa d 250 0 [.ref v0, .ref v1] [] h := xr_ent xdm_250 rfl
theorem n250n1 (d : Nat) (v0 : Nat) (h : xm_H) : xr d 250 [.ref v0, .null] h = xa d 250 0 [.ref v0, .null] [] h := xr_ent xdm_250 rfl
theorem n251 (d : Nat) (v0 : Nat) (v1 : Nat) (h : xm_H) : xr d 251 [.ref v0, .ref v1] h = xa d 251 0 [.ref v0, .ref v1] [] h := xr_ent xdm_251 rfl
theorem n251n1 (d : Nat) (v0 : Nat) (h : xm_H) : xr d 251 [.ref v0, .null] h = xa d 251 0 [.ref v0, .null] [] h := xr_ent xdm_251 rfl
theorem n252 (d : Nat) (v0 : Nat) (v1 : Nat) (h : xm_H) : xr d 252 [.ref v0, .ref v1] h = xa d 252 0 [.ref v0, .ref v1, .retAddr 0, .retAddr 0] [] h := xr_ent xdm_252 rfl
theorem n252n1 (d : Nat) (v0 : Nat) (h : xm_H) : xr d 252 [.ref v0, .null] h = xa d 252 0 [.ref v0, .null, .retAddr 0, .retAddr 0] [] h := xr_ent xdm_252 rfl
theorem n253 (d : Nat) (v0 : Nat) (v1 : Nat) (h : xm_H) : xr d 253 [.ref v0, .ref v1] h = xa d 253 0 [.ref v0, .ref v1] [] h := xr_ent xdm_253 rfl
theorem n253n1 (d : Nat) (v0 : Nat) (h : xm_H) : xr d 253 [.ref v0, .null] h = xa d 253 0 [.ref v0, .null] [] h := xr_ent xdm_253 rfl
theorem n254 (d : Nat) (v0 : Nat) (v1 : Int32) (v2 : Nat) (h : xm_H) : xr d 254 [.ref v0, .int v1, .ref v2] h = xa d 254 0 [.ref v0, .int v1, .ref v2] [] h := xr_ent xdm_254 rfl
theorem n254n2 (d : Nat) (v0 : Nat) (v1 : Int32) (h : xm_H) : xr d 254 [.ref v0, .int v1, .null] h = xa d 254 0 [.ref v0, .int v1, .null] [] h := xr_ent xdm_254 rfl
theorem n255 (d : Nat) (v0 : Nat) (v1 : Nat) (h : xm_H) : xr d 255 [.ref v0, .ref v1] h = xa d 255 0 [.ref v0, .ref v1] [] h := xr_ent xdm_255 rfl
theorem n255n1 (d : Nat) (v0 : Nat) (h : xm_H) : xr d 255 [.ref v0, .null] h = xa d 255 0 [.ref v0, .null] [] h := xr_ent xdm_255 rfl
theorem n256 (d : Nat) (v0 : Nat) (v1 : Int32) (v2 : Int32) (h : xm_H) : xr d 256 [.ref v0, .int v1, .int v2] h = xa d 256 0 [.ref v0, .int v1, .int v2] [] h := xr_ent xdm_256 rfl
theorem n257 (d : Nat) (v0 : Nat) (v1 : Nat) (h : xm_H) : xr d 257 [.ref v0, .ref v1] h = xa d 257 0 [.ref v0, .ref v1] [] h := xr_ent xdm_257 rfl
theorem n257n1 (d : Nat) (v0 : Nat) (h : xm_H) : xr d 257 [.ref v0, .null] h = xa d 257 0 [.ref v0, .null] [] h := xr_ent xdm_257 rfl
theorem n258 (d : Nat) (v0 : Nat) (v1 : Int32) (v2 : Int32) (h : xm_H) : xr d 258 [.ref v0, .int v1, .int v2] h = xa d 258 0 [.ref v0, .int v1, .int v2] [] h := xr_ent xdm_258 rfl
theorem n259 (d : Nat) (v0 : Nat) (v1 : Nat) (h : xm_H) : xr d 259 [.ref v0, .ref v1] h = xa d 259 0 [.ref v0, .ref v1] [] h := xr_ent xdm_259 rfl
theorem n259n1 (d : Nat) (v0 : Nat) (h : xm_H) : xr d 259 [.ref v0, .null] h = xa d 259 0 [.ref v0, .null] [] h := xr_ent xdm_259 rfl
theorem n260 (d : Nat) (v0 : Nat) (v1 : Int32) (v2 : Int32) (h : xm_H) : xr d 260 [.ref v0, .int v1, .int v2] h = xa d 260 0 [.ref v0, .int v1, .int v2] [] h := xr_ent xdm_260 rfl
theorem n261 (d : Nat) (v0 : Nat) (v1 : Nat) (h : xm_H) : xr d 261 [.ref v0, .ref v1] h = xa d 261 0 [.ref v0, .ref v1] [] h := xr_ent xdm_261 rfl
theorem n261n1 (d : Nat) (v0 : Nat) (h : xm_H) : xr d 261 [.ref v0, .null] h = xa d 261 0 [.ref v0, .null] [] h := xr_ent xdm_261 rfl
theorem n262 (d : Nat) (v0 : Nat) (v1 : Int32) (v2 : Int32) (h : xm_H) : xr d 262 [.ref v0, .int v1, .int v2] h = xa d 262 0 [.ref v0, .int v1, .int v2] [] h := xr_ent xdm_262 rfl
theorem n263 (d : Nat) (v0 : Nat) (v1 : Nat) (h : xm_H) : xr d 263 [.ref v0, .ref v1] h = xa d 263 0 [.ref v0, .ref v1] [] h := xr_ent xdm_263 rfl
theorem n263n1 (d : Nat) (v0 : Nat) (h : xm_H) : xr d 263 [.ref v0, .null] h = xa d 263 0 [.ref v0, .null] [] h := xr_ent xdm_263 rfl
theorem n264 (d : Nat) (v0 : Nat) (v1 : Int32) (v2 : Int32) (h : xm_H) : xr d 264 [.ref v0, .int v1, .int v2] h = xa d 264 0 [.ref v0, .int v1, .int v2] [] h := xr_ent xdm_264 rfl
theorem n265 (d : Nat) (v0 : Nat) (v1 : Nat) (h : xm_H) : xr d 265 [.ref v0, .ref v1] h = xa d 265 0 [.ref v0, .ref v1] [] h := xr_ent xdm_265 rfl
theorem n265n1 (d : Nat) (v0 : Nat) (h : xm_H) : xr d 265 [.ref v0, .null] h = xa d 265 0 [.ref v0, .null] [] h := xr_ent xdm_265 rfl
theorem n266 (d : Nat) (v0 : Nat) (v1 : Int32) (v2 : Int32) (h : xm_H) : xr d 266 [.ref v0, .int v1, .int v2] h = xa d 266 0 [.ref v0, .int v1, .int v2] [] h := xr_ent xdm_266 rfl
theorem n267 (d : Nat) (v0 : Nat) (v1 : Nat) (h : xm_H) : xr d 267 [.ref v0, .ref v1] h = xa d 267 0 [.ref v0, .ref v1] [] h := xr_ent xdm_267 rfl
theorem n267n1 (d : Nat) (v0 : Nat) (h : xm_H) : xr d 267 [.ref v0, .null] h = xa d 267 0 [.ref v0, .null] [] h := xr_ent xdm_267 rfl
theorem n268 (d : Nat) (v0 : Nat) (v1 : Int32) (v2 : Int32) (h : xm_H) : xr d 268 [.ref v0, .int v1, .int v2] h = xa d 268 0 [.ref v0, .int v1, .int v2] [] h := xr_ent xdm_268 rfl
theorem n269 (d : Nat) (v0 : Nat) (v1 : Nat) (v2 : Int32) (v3 : Int32) (v4 : Nat) (h : xm_H) : xr d 269 [.ref v0, .ref v1, .int v2, .int v3, .ref v4] h = xa d 269 0 [.ref v0, .ref v1, .int v2, .int v3, .ref v4] [] h := xr_ent xdm_269 rfl
theorem n269n1 (d : Nat) (v0 : Nat) (v2 : Int32) (v3 : Int32) (v4 : Nat) (h : xm_H) : xr d 269 [.ref v0, .null, .int v2, .int v3, .ref v4] h = xa d 269 0 [.ref v0, .null, .int v2, .int v3, .ref v4] [] h := xr_ent xdm_269 rfl
theorem n269n4 (d : Nat) (v0 : Nat) (v1 : Nat) (v2 : Int32) (v3 : Int32) (h : xm_H) : xr d 269 [.ref v0, .ref v1, .int v2, .int v3, .null] h = xa d 269 0 [.ref v0, .ref v1, .int v2, .int v3, .null] [] h := xr_ent xdm_269 rfl
theorem n270 (d : Nat) (v0 : Nat) (v1 : Int32) (v2 : Int32) (h : xm_H) : xr d 270 [.ref v0, .int v1, .int v2] h = xa d 270 0 [.ref v0, .int v1, .int v2] [] h := xr_ent xdm_270 rfl
theorem n271 (d : Nat) (v0 : Nat) (v1 : Int32) (v2 : Int32) (v3 : Int32) (v4 : Int32) (h : xm_H) : xr d 271 [.ref v0, .int v1, .int v2, .int v3, .int v4] h = xa d 271 0 [.ref v0, .int v1, .int v2, .int v3, .int v4] [] h := xr_ent xdm_271 rfl
theorem n272 (d : Nat) (v0 : Nat) (v1 : Int32) (h : xm_H) : xr d 272 [.ref v0, .int v1] h = xa d 272 0 [.ref v0, .int v1] [] h := xr_ent xdm_272 rfl
theorem n273 (d : Nat) (v0 : Nat) (v1 : Nat) (h : xm_H) : xr d 273 [.ref v0, .ref v1] h = xa d 273 0 [.ref v0, .ref v1] [] h := xr_ent xdm_273 rfl
theorem n273n1 (d : Nat) (v0 : Nat) (h : xm_H) : xr d 273 [.ref v0, .null] h = xa d 273 0 [.ref v0, .null] [] h := xr_ent xdm_273 rfl
theorem n274 (d : Nat) (v0 : Nat) (h : xm_H) : xr d 274 [.ref v0] h = xa d 274 0 [.ref v0, .retAddr 0, .retAddr 0] [] h := xr_ent xdm_274 rfl
theorem n275 (d : Nat) (v0 : Nat) (v1 : Nat) (h : xm_H) : xr d 275 [.ref v0, .ref v1] h = xa d 275 0 [.ref v0, .ref v1, .retAddr 0] [] h := xr_ent xdm_275 rfl
theorem n275n1 (d : Nat) (v0 : Nat) (h : xm_H) : xr d 275 [.ref v0, .null] h = xa d 275 0 [.ref v0, .null, .retAddr 0] [] h := xr_ent xdm_275 rfl
theorem n276 (d : Nat) (v0 : Nat) (h : xm_H) : xr d 276 [.ref v0] h = xa d 276 0 [.ref v0] [] h := xr_ent xdm_276 rfl
theorem n277 (d : Nat) (v0 : Nat) (h : xm_H) : xr d 277 [.ref v0] h = xa d 277 0 [.ref v0] [] h := xr_ent xdm_277 rfl
theorem n278 (d : Nat) (v0 : Nat) (v1 : Int32) (h : xm_H) : xr d 278 [.ref v0, .int v1] h = xa d 278 0 [.ref v0, .int v1] [] h := xr_ent xdm_278 rfl
theorem n279 (d : Nat) (v0 : Nat) (h : xm_H) : xr d 279 [.ref v0] h = xa d 279 0 [.ref v0] [] h := xr_ent xdm_279 rfl
theorem n280 (d : Nat) (v0 : Nat) (h : xm_H) : xr d 280 [.ref v0] h = xa d 280 0 [.ref v0] [] h := xr_ent xdm_280 rfl
theorem n281 (d : Nat) (v0 : Nat) (v1 : Int32) (h : xm_H) : xr d 281 [.ref v0, .int v1] h = xa d 281 0 [.ref v0, .int v1] [] h := xr_ent xdm_281 rfl
theorem n282 (d : Nat) (v0 : Nat) (v1 : Int32) (h : xm_H) : xr d 282 [.ref v0, .int v1] h = xa d 282 0 [.ref v0, .int v1] [] h := xr_ent xdm_282 rfl
theorem n283 (d : Nat) (v0 : Nat) (v1 : Nat) (h : xm_H) : xr d 283 [.ref v0, .ref v1] h = xa d 283 0 [.ref v0, .ref v1] [] h := xr_ent xdm_283 rfl
theorem n283n1 (d : Nat) (v0 : Nat) (h : xm_H) : xr d 283 [.ref v0, .null] h = xa d 283 0 [.ref v0, .null] [] h := xr_ent xdm_283 rfl
theorem n284 (d : Nat) (v0 : Nat) (v1 : Nat) (v2 : Nat) (v3 : Int32) (h : xm_H) : xr d 284 [.ref v0, .ref v1, .ref v2, .int v3] h = xa d 284 0 [.ref v0, .ref v1, .ref v2, .int v3] [] h := xr_ent xdm_284 rfl
theorem n284n1 (d : Nat) (v0 : Nat) (v2 : Nat) (v3 : Int32) (h : xm_H) : xr d 284 [.ref v0, .null, .ref v2, .int v3] h = xa d 284 0 [.ref v0, .null, .ref v2, .int v3] [] h := xr_ent xdm_284 rfl
theorem n284n2 (d : Nat) (v0 : Nat) (v1 : Nat) (v3 : Int32) (h : xm_H) : xr d 284 [.ref v0, .ref v1, .null, .int v3] h = xa d 284 0 [.ref v0, .ref v1, .null, .int v3] [] h := xr_ent xdm_284 rfl
theorem n285 (d : Nat) (v0 : Nat) (h : xm_H) : xr d 285 [.ref v0] h = xa d 285 0 [.ref v0] [] h := xr_ent xdm_285 rfl
theorem n286 (d : Nat) (v0 : Nat) (v1 : Int32) (h : xm_H) : xr d 286 [.ref v0, .int v1] h = xa d 286 0 [.ref v0, .int v1, .retAddr 0, .retAddr 0] [] h := xr_ent xdm_286 rfl
theorem n287 (d : Nat) (v0 : Nat) (h : xm_H) : xr d 287 [.ref v0] h = xa d 287 0 [.ref v0, .retAddr 0, .retAddr 0, .retAddr 0] [] h := xr_ent xdm_287 rfl
theorem n288 (d : Nat) (v0 : Nat) (h : xm_H) : xr d 288 [.ref v0] h = xa d 288 0 [.ref v0] [] h := xr_ent xdm_288 rfl
theorem n289 (d : Nat) (v0 : Nat) (v1 : Int32) (h : xm_H) : xr d 289 [.ref v0, .int v1] h = xa d 289 0 [.ref v0, .int v1] [] h := xr_ent xdm_289 rfl
theorem n290 (d : Nat) (v0 : Nat) (v1 : Int32) (v2 : Int32) (h : xm_H) : xr d 290 [.ref v0, .int v1, .int v2] h = xa d 290 0 [.ref v0, .int v1, .int v2] [] h := xr_ent xdm_290 rfl
theorem n291 (d : Nat) (v0 : Nat) (h : xm_H) : xr d 291 [.ref v0] h = xa d 291 0 [.ref v0] [] h := xr_ent xdm_291 rfl
theorem n292 (d : Nat) (v0 : Nat) (h : xm_H) : xr d 292 [.ref v0] h = xa d 292 0 [.ref v0] [] h := xr_ent xdm_292 rfl
theorem n293 (d : Nat) (v0 : Nat) (h : xm_H) : xr d 293 [.ref v0] h = xa d 293 0 [.ref v0] [] h := xr_ent xdm_293 rfl
theorem n295 (d : Nat) (v0 : Nat) (v1 : Int32) (h : xm_H) : xr d 295 [.ref v0, .int v1] h = xa d 295 0 [.ref v0, .int v1] [] h := xr_ent xdm_295 rfl
theorem n296 (d : Nat) (v0 : Int32) (v1 : Int32) (h : xm_H) : xr d 296 [.int v0, .int v1] h = xa d 296 0 [.int v0, .int v1] [] h := xr_ent xdm_296 rfl
theorem n297 (d : Nat) (v0 : Nat) (v1 : Int32) (v2 : Int32) (v3 : Int32) (h : xm_H) : xr d 297 [.ref v0, .int v1, .int v2, .int v3] h = xa d 297 0 [.ref v0, .int v1, .int v2, .int v3] [] h := xr_ent xdm_297 rfl
theorem n298 (d : Nat) (v0 : Int32) (h : xm_H) : xr d 298 [.int v0] h = xa d 298 0 [.int v0] [] h := xr_ent xdm_298 rfl
theorem n299 (d : Nat) (v0 : Nat) (v1 : Int32) (v2 : Int32) (v3 : Int32) (h : xm_H) : xr d 299 [.ref v0, .int v1, .int v2, .int v3] h = xa d 299 0 [.ref v0, .int v1, .int v2, .int v3, .retAddr 0, .retAddr 0] [] h := xr_ent xdm_299 rfl
theorem n300 (d : Nat) (v0 : Nat) (v1 : Int32) (h : xm_H) : xr d 300 [.ref v0, .int v1] h = xa d 300 0 [.ref v0, .int v1] [] h := xr_ent xdm_300 rfl
theorem n301 (d : Nat) (v0 : Int32) (v1 : Int32) (h : xm_H) : xr d 301 [.int v0, .int v1] h = xa d 301 0 [.int v0, .int v1] [] h := xr_ent xdm_301 rfl
theorem n302 (d : Nat) (v0 : Int32) (v1 : Int32) (h : xm_H) : xr d 302 [.int v0, .int v1] h = xa d 302 0 [.int v0, .int v1] [] h := xr_ent xdm_302 rfl
theorem n303 (d : Nat) (v0 : Int32) (h : xm_H) : xr d 303 [.int v0] h = xa d 303 0 [.int v0] [] h := xr_ent xdm_303 rfl
theorem n304 (d : Nat) (v0 : Int32) (v1 : Int32) (v2 : Int32) (h : xm_H) : xr d 304 [.int v0, .int v1, .int v2, .retAddr 1] h = xa d 304 0 [.int v0, .int v1, .int v2, .retAddr 1] [] h := xr_ent xdm_304 rfl
theorem n305 (d : Nat) (v0 : Int32) (v1 : Int32) (h : xm_H) : xr d 305 [.int v0, .int v1, .retAddr 1] h = xa d 305 0 [.int v0, .int v1, .retAddr 1] [] h := xr_ent xdm_305 rfl
theorem n306 (d : Nat) (v0 : Int32) (v1 : Int32) (h : xm_H) : xr d 306 [.int v0, .int v1] h = xa d 306 0 [.int v0, .int v1] [] h := xr_ent xdm_306 rfl
theorem n307 (d : Nat) (v0 : Nat) (h : xm_H) : xr d 307 [.ref v0] h = xa d 307 0 [.ref v0] [] h := xr_ent xdm_307 rfl
theorem n308 (d : Nat) (v0 : Nat) (h : xm_H) : xr d 308 [.ref v0] h = xa d 308 0 [.ref v0] [] h := xr_ent xdm_308 rfl
theorem n309 (d : Nat) (v0 : Int64) (h : xm_H) : xr d 309 [.long v0] h = xa d 309 0 [.long v0, .retAddr 0, .retAddr 0] [] h := xr_ent xdm_309 rfl
theorem n310 (d : Nat) (v0 : Nat) (v1 : Int64) (h : xm_H) : xr d 310 [.ref v0, .long v1] h = xa d 310 0 [.ref v0, .long v1, .retAddr 0] [] h := xr_ent xdm_310 rfl
theorem n311 (d : Nat) (v0 : Int32) (v1 : Int32) (v2 : Int32) (h : xm_H) : xr d 311 [.int v0, .int v1, .int v2] h = xa d 311 0 [.int v0, .int v1, .int v2, .retAddr 0] [] h := xr_ent xdm_311 rfl
theorem n312 (d : Nat) (v0 : Nat) (v1 : Int32) (h : xm_H) : xr d 312 [.ref v0, .int v1] h = xa d 312 0 [.ref v0, .int v1] [] h := xr_ent xdm_312 rfl
theorem n313 (d : Nat) (v0 : Nat) (v1 : Int32) (v2 : Nat) (h : xm_H) : xr d 313 [.ref v0, .int v1, .ref v2] h = xa d 313 0 [.ref v0, .int v1, .ref v2, .retAddr 0] [] h := xr_ent xdm_313 rfl
theorem n313n2 (d : Nat) (v0 : Nat) (v1 : Int32) (h : xm_H) : xr d 313 [.ref v0, .int v1, .null] h = xa d 313 0 [.ref v0, .int v1, .null, .retAddr 0] [] h := xr_ent xdm_313 rfl
theorem n314 (d : Nat) (v0 : Nat) (h : xm_H) : xr d 314 [.ref v0] h = xa d 314 0 [.ref v0, .retAddr 0, .retAddr 0, .retAddr 0, .retAddr 0, .retAddr 0, .retAddr 0, .retAddr 0] [] h := xr_ent xdm_314 rfl
