/-! THE MACHINE'S TABLES, by program -/
set_option maxRecDepth 100000
def xk_TW : u_T := fun _ => ("LiarsCock$Wrong", "fault", "I", true)
def xk_TS : u_T := fun k => match k with
  | 0 => ("java/lang/String", "value", "[B", true)
  | _ => ("java/lang/String", "coder", "B", true)
def xk_TN : u_T := fun _ => ("java/lang/Throwable", "cause", "Ljava/lang/Throwable;", false)
def xk_cl : List vw_C := [("LiarsCock", TX1, 11), ("LiarsCock$Reader", TX2, 9), ("LiarsCock$Parish", TX3, 10), ("LiarsCock$Facts", TX4, 1), ("LiarsCock$Cock", TX5, 2), ("LiarsCock$Sets", TX6, 3), ("LiarsCock$Bearings", TX7, 4), ("LiarsCock$Lookout", TX8, 7), ("LiarsCockModel", TX9, 69), ("LiarsCock$Wrong", xk_TW, 1), ("LiarsCock$Person", TX11, 2), ("LiarsCock$Fact", TX13, 1), ("LiarsCock$Plain", TX14, 1), ("LiarsCock$Not", TX15, 1), ("LiarsCock$Chain", TX16, 2), ("LiarsCock$Times", TX18, 1), ("LiarsCock$Plus", TX19, 1), ("LiarsCock$Minus", TX20, 1), ("LiarsCock$Less", TX21, 1), ("LiarsCock$Same", TX22, 1), ("LiarsCock$And", TX23, 1), ("LiarsCock$Or", TX24, 1), ("LiarsCock$Saying", TX25, 4), ("LiarsCock$Look", TX26, 4), ("LiarsCock$Mark", TX27, 6), ("java/util/ArrayList", TJ2, 3), ("java/lang/Long", TJ13, 1), ("java/lang/String", xk_TS, 2), ("java/util/NoSuchElementException", xk_TN, 0)]
def xk_ty : Nat → FieldType := fun t => match t with
  | 0 => .int
  | 1 => .long
  | 2 => .boolean
  | 3 => .byte
  | 4 => .object "java/lang/Object"
  | 5 => .object "java/lang/String"
  | 6 => .object "LiarsCock$Cock"
  | 7 => .object "LiarsCock$Mark"
  | _ => .object "java/lang/Long"
def xk_B : xm_T := (xk_cl, xk_ty, 300)
theorem xk_hB : xm_B xk_B := ⟨rfl, rfl, rfl, rfl, fun t ht => by
  match t, ht with
  | 4, _ => exact ⟨_, rfl⟩
  | 5, _ => exact ⟨_, rfl⟩
  | 6, _ => exact ⟨_, rfl⟩
  | 7, _ => exact ⟨_, rfl⟩
  | t + 8, _ => exact ⟨_, rfl⟩⟩
/-- one class only -/
def xj_1 (ci j : Nat) : Nat → Option Nat := fun c => if c = ci then some j else none
theorem xj_1_ok {F : Nat → Nat → Prop} {ci j : Nat} (h : F ci j) : ∀ c k, xj_1 ci j c = some k → F c k := by
  intro c k hk
  unfold xj_1 at hk
  split at hk
  · rename_i e; cases hk; rw [e]; exact h
  · cases hk
def xj_r (lo hi j : Nat) : Nat → Option Nat := fun c => if lo ≤ c ∧ c ≤ hi then some j else none
theorem xj_r_ok {F : Nat → Nat → Prop} {lo hi j : Nat} (h : ∀ c, lo ≤ c → c ≤ hi → F c j) : ∀ c k, xj_r lo hi j c = some k → F c k := by
  intro c k hk
  unfold xj_r at hk
  split at hk
  · rename_i e; cases hk; exact h c e.1 e.2
  · cases hk
def xj_l (l : List (Nat × Nat)) : Nat → Option Nat := fun c => l.lookup c
theorem xj_l_ok {F : Nat → Nat → Prop} : ∀ {l : List (Nat × Nat)}, (∀ q ∈ l, F q.1 q.2) → ∀ c k, xj_l l c = some k → F c k
  | [], _, c, k, hk => by cases hk
  | q :: l, h, c, k, hk => by
    unfold xj_l at hk
    rw [List.lookup_cons] at hk
    split at hk
    · rename_i e; cases hk; rw [beq_iff_eq.mp e]; exact h q List.mem_cons_self
    · exact xj_l_ok (fun z hz => h z (List.mem_cons_of_mem _ hz)) c k hk
def xd_0 : List (MethodName × ByteArray × Nat × Option FieldType × xm_Hs) := [
  (⟨"LiarsCockLaw", "secret", "(LLiarsCock;IIIII[J)I"⟩, method_3_code, 8, (some (FieldType.int)), [(0, 15, 18, 13, 28)]),
  (⟨"LiarsCock", "<init>", "()V"⟩, prog_1_method_1_code, 1, none, []),
  (⟨"LiarsCock", "none", "()LLiarsCock$Parish;"⟩, prog_1_method_5_code, 1, (some ((FieldType.object "LiarsCock$Parish"))), []),
  (⟨"LiarsCock", "feed", "(JJJ)I"⟩, prog_1_method_6_code, 7, (some (FieldType.int)), []),
  (⟨"LiarsCock", "within", "(III)Z"⟩, prog_1_method_2_code, 3, (some (FieldType.boolean)), []),
  (⟨"LiarsCock", "parish", "()I"⟩, prog_1_method_7_code, 2, (some (FieldType.int)), [(0, 45, 46, 101, 9)]),
  (⟨"LiarsCock", "has", "(JI)Z"⟩, prog_1_method_3_code, 3, (some (FieldType.boolean)), []),
  (⟨"LiarsCock", "truth", "(I)Z"⟩, prog_1_method_16_code, 2, (some (FieldType.boolean)), []),
  (⟨"LiarsCock", "isWorld", "(I)Z"⟩, prog_1_method_11_code, 2, (some (FieldType.boolean)), []),
  (⟨"LiarsCock", "say", "(II)I"⟩, prog_1_method_19_code, 3, (some (FieldType.int)), []),
  (⟨"LiarsCock", "isPerson", "(I)Z"⟩, prog_1_method_9_code, 2, (some (FieldType.boolean)), []),
  (⟨"LiarsCock", "isMinute", "(I)Z"⟩, prog_1_method_12_code, 1, (some (FieldType.boolean)), []),
  (⟨"LiarsCock", "last", "()I"⟩, prog_1_method_17_code, 1, (some (FieldType.int)), []),
  (⟨"LiarsCock", "told", "(Ljava/util/ArrayList;ZII)I"⟩, prog_1_method_18_code, 6, (some (FieldType.int)), [(14, 45, 46, 101, 9)]),
  (⟨"LiarsCock", "offer", "(II)I"⟩, prog_1_method_20_code, 3, (some (FieldType.int)), []),
  (⟨"LiarsCock", "points", "(III)I"⟩, prog_1_method_26_code, 4, (some (FieldType.int)), []),
  (⟨"LiarsCock", "isCock", "(I)Z"⟩, prog_1_method_10_code, 2, (some (FieldType.boolean)), []),
  (⟨"LiarsCock", "pointsAt", "(III)I"⟩, prog_1_method_24_code, 4, (some (FieldType.int)), []),
  (⟨"LiarsCock", "lastLie", "(III)LLiarsCock$Saying;"⟩, prog_1_method_21_code, 5, (some ((FieldType.object "LiarsCock$Saying"))), []),
  (⟨"LiarsCock", "who", "(LLiarsCock$Saying;)I"⟩, prog_1_method_23_code, 1, (some (FieldType.int)), []),
  (⟨"LiarsCock", "lie", "(II)I"⟩, prog_1_method_28_code, 4, (some (FieldType.int)), []),
  (⟨"LiarsCock", "isSaying", "(I)Z"⟩, prog_1_method_27_code, 2, (some (FieldType.boolean)), []),
  (⟨"LiarsCock", "look", "(IIII)I"⟩, prog_1_method_30_code, 5, (some (FieldType.int)), []),
  (⟨"LiarsCock", "isBearing", "(I)Z"⟩, prog_1_method_14_code, 1, (some (FieldType.boolean)), []),
  (⟨"LiarsCock", "watch", "(II)I"⟩, prog_1_method_31_code, 3, (some (FieldType.int)), []),
  (⟨"LiarsCock", "world", "(I)I"⟩, prog_1_method_36_code, 2, (some (FieldType.int)), []),
  (⟨"LiarsCock", "canBe", "()J"⟩, prog_1_method_35_code, 1, (some (FieldType.long)), []),
  (⟨"LiarsCock", "allLooks", "()I"⟩, prog_1_method_34_code, 1, (some (FieldType.int)), []),
  (⟨"LiarsCock", "canBe", "(I)J"⟩, prog_1_method_33_code, 5, (some (FieldType.long)), []),
  (⟨"LiarsCock", "fits", "(LLiarsCock$Look;)J"⟩, prog_1_method_32_code, 5, (some (FieldType.long)), []),
  (⟨"LiarsCock", "bearingAt", "(III)I"⟩, prog_1_method_25_code, 4, (some (FieldType.int)), []),
  (⟨"LiarsCock", "isIn", "(III)Z"⟩, prog_1_method_29_code, 3, (some (FieldType.boolean)), []),
  (⟨"LiarsCock", "worlds", "(I)I"⟩, prog_1_method_38_code, 2, (some (FieldType.int)), []),
  (⟨"LiarsCock", "isFact", "(I)Z"⟩, prog_1_method_8_code, 2, (some (FieldType.boolean)), []),
  (⟨"LiarsCock", "with", "(I)J"⟩, prog_1_method_37_code, 5, (some (FieldType.long)), []),
  (⟨"LiarsCock", "bits", "(J)I"⟩, prog_1_method_4_code, 5, (some (FieldType.int)), []),
  (⟨"LiarsCock", "sureFact", "(I)I"⟩, prog_1_method_40_code, 2, (some (FieldType.int)), []),
  (⟨"LiarsCock", "sureBy", "(JJ)I"⟩, prog_1_method_39_code, 4, (some (FieldType.int)), []),
  (⟨"LiarsCock", "sure", "(I)I"⟩, prog_1_method_41_code, 2, (some (FieldType.int)), []),
  (⟨"LiarsCock", "odds", "(II)J"⟩, prog_1_method_45_code, 10, (some (FieldType.long)), [])]
def xd_1 : List (MethodName × ByteArray × Nat × Option FieldType × xm_Hs) := [
  (⟨"LiarsCock", "isWhat", "(I)Z"⟩, prog_1_method_15_code, 1, (some (FieldType.boolean)), []),
  (⟨"LiarsCock", "weight", "(I)J"⟩, prog_1_method_44_code, 5, (some (FieldType.long)), []),
  (⟨"LiarsCock", "lowest", "(JJI)J"⟩, prog_1_method_43_code, 7, (some (FieldType.long)), []),
  (⟨"LiarsCock", "common", "(JJ)J"⟩, prog_1_method_42_code, 10, (some (FieldType.long)), []),
  (⟨"LiarsCock", "proof", "(II)I"⟩, prog_1_method_47_code, 3, (some (FieldType.int)), []),
  (⟨"LiarsCock", "told", "(II)I"⟩, prog_1_method_46_code, 2, (some (FieldType.int)), []),
  (⟨"LiarsCock", "clash", "(I)I"⟩, prog_1_method_48_code, 2, (some (FieldType.int)), []),
  (⟨"LiarsCock", "next", "(IIII)I"⟩, prog_1_method_49_code, 5, (some (FieldType.int)), []),
  (⟨"LiarsCock", "when", "(IIIIZ)I"⟩, prog_1_method_51_code, 11, (some (FieldType.int)), []),
  (⟨"LiarsCock", "areMinutes", "(II)Z"⟩, prog_1_method_13_code, 2, (some (FieldType.boolean)), []),
  (⟨"LiarsCock", "fog", "(IIII)I"⟩, prog_1_method_50_code, 5, (some (FieldType.int)), []),
  (⟨"LiarsCock", "learns", "(IIZII)I"⟩, prog_1_method_52_code, 14, (some (FieldType.int)), []),
  (⟨"LiarsCock", "seen", "(JIIII)I"⟩, prog_1_method_53_code, 7, (some (FieldType.int)), []),
  (⟨"LiarsCock", "judged", "()I"⟩, prog_1_method_54_code, 3, (some (FieldType.int)), []),
  (⟨"LiarsCock", "turned", "(II)I"⟩, prog_1_method_55_code, 7, (some (FieldType.int)), []),
  (⟨"LiarsCock", "pointed", "(IIII)I"⟩, prog_1_method_56_code, 7, (some (FieldType.int)), []),
  (⟨"LiarsCock", "round", "(II)I"⟩, prog_1_method_58_code, 7, (some (FieldType.int)), []),
  (⟨"LiarsCock", "apart", "(II)I"⟩, prog_1_method_57_code, 3, (some (FieldType.int)), []),
  (⟨"LiarsCock", "hidden", "(II)I"⟩, prog_1_method_64_code, 3, (some (FieldType.int)), []),
  (⟨"LiarsCock", "isHidable", "(I)Z"⟩, prog_1_method_59_code, 2, (some (FieldType.boolean)), []),
  (⟨"LiarsCock", "areOffers", "(I)Z"⟩, prog_1_method_63_code, 2, (some (FieldType.boolean)), []),
  (⟨"LiarsCock", "isHidden", "(II)Z"⟩, prog_1_method_62_code, 5, (some (FieldType.boolean)), []),
  (⟨"LiarsCock", "isAlike", "(II)Z"⟩, prog_1_method_61_code, 4, (some (FieldType.boolean)), []),
  (⟨"LiarsCock", "watched", "(LLiarsCock$Look;II)I"⟩, prog_1_method_60_code, 5, (some (FieldType.int)), []),
  (⟨"LiarsCock", "lastWith", "(IIII)LLiarsCock$Saying;"⟩, prog_1_method_22_code, 8, (some ((FieldType.object "LiarsCock$Saying"))), []),
  (⟨"LiarsCock", "hide", "(II)I"⟩, prog_1_method_65_code, 5, (some (FieldType.int)), []),
  (⟨"LiarsCock", "sector", "(II)I"⟩, prog_1_method_67_code, 5, (some (FieldType.int)), []),
  (⟨"LiarsCock", "blind", "(II)I"⟩, prog_1_method_70_code, 6, (some (FieldType.int)), []),
  (⟨"LiarsCock", "crowd", "(II)I"⟩, prog_1_method_69_code, 7, (some (FieldType.int)), []),
  (⟨"LiarsCock", "areBlind", "(III)Z"⟩, prog_1_method_68_code, 4, (some (FieldType.boolean)), []),
  (⟨"LiarsCock", "told", "(I)I"⟩, prog_1_method_74_code, 2, (some (FieldType.int)), []),
  (⟨"LiarsCock", "everybody", "()I"⟩, prog_1_method_73_code, 1, (some (FieldType.int)), []),
  (⟨"LiarsCock", "toldBy", "(I)I"⟩, prog_1_method_72_code, 6, (some (FieldType.int)), []),
  (⟨"LiarsCock", "knownBy", "(I)I"⟩, prog_1_method_71_code, 4, (some (FieldType.int)), []),
  (⟨"LiarsCock", "fewest", "(II)I"⟩, prog_1_method_75_code, 5, (some (FieldType.int)), []),
  (⟨"LiarsCock", "person", "(II)I"⟩, prog_1_method_76_code, 3, (some (FieldType.int)), []),
  (⟨"LiarsCock", "lookout", "(III)I"⟩, prog_1_method_77_code, 5, (some (FieldType.int)), []),
  (⟨"LiarsCock", "move", "(II)I"⟩, prog_1_method_78_code, 8, (some (FieldType.int)), []),
  (⟨"LiarsCock", "longest", "(IIII)I"⟩, prog_1_method_79_code, 11, (some (FieldType.int)), []),
  (⟨"LiarsCock", "differ", "(II)I"⟩, prog_1_method_80_code, 5, (some (FieldType.int)), [])]
def xd_2 : List (MethodName × ByteArray × Nat × Option FieldType × xm_Hs) := [
  (⟨"LiarsCock", "mark", "(IZ)Z"⟩, prog_1_method_81_code, 4, (some (FieldType.boolean)), []),
  (⟨"LiarsCock", "count", "(I)I"⟩, prog_1_method_82_code, 2, (some (FieldType.int)), []),
  (⟨"LiarsCock", "secret", "(IIIII)J"⟩, prog_1_method_66_code, 13, (some (FieldType.long)), []),
  (⟨"LiarsCock$Reader", "<init>", "()V"⟩, prog_21_method_1_code, 1, none, []),
  (⟨"LiarsCock$Reader", "feed", "(J)V"⟩, prog_21_method_2_code, 5, none, []),
  (⟨"LiarsCock$Reader", "parish", "()LLiarsCock$Parish;"⟩, prog_21_method_16_code, 3, (some ((FieldType.object "LiarsCock$Parish"))), []),
  (⟨"LiarsCock$Reader", "cut", "()V"⟩, prog_21_method_6_code, 8, none, []),
  (⟨"LiarsCock$Reader", "isLetter", "(I)Z"⟩, prog_21_method_4_code, 1, (some (FieldType.boolean)), []),
  (⟨"LiarsCock$Reader", "isDigit", "(I)Z"⟩, prog_21_method_5_code, 1, (some (FieldType.boolean)), []),
  (⟨"LiarsCock$Reader", "isWord", "(Ljava/lang/String;)Z"⟩, prog_21_method_8_code, 2, (some (FieldType.boolean)), []),
  (⟨"LiarsCock$Reader", "word", "(Ljava/lang/String;)J"⟩, prog_21_method_3_code, 4, (some (FieldType.long)), []),
  (⟨"LiarsCock$Reader", "fact", "()V"⟩, prog_21_method_19_code, 4, none, []),
  (⟨"LiarsCock$Reader", "newName", "(Z)J"⟩, prog_21_method_17_code, 2, (some (FieldType.long)), []),
  (⟨"LiarsCock$Reader", "wrong", "(I)LLiarsCock$Wrong;"⟩, prog_21_method_7_code, 2, (some ((FieldType.object "LiarsCock$Wrong"))), []),
  (⟨"LiarsCock$Reader", "isName", "()Z"⟩, prog_21_method_15_code, 1, (some (FieldType.boolean)), []),
  (⟨"LiarsCock$Reader", "which", "([Ljava/lang/String;)I"⟩, prog_21_method_10_code, 3, (some (FieldType.int)), []),
  (⟨"LiarsCock$Reader", "number", "(II)I"⟩, prog_21_method_14_code, 3, (some (FieldType.int)), []),
  (⟨"LiarsCock$Reader", "place", "()V"⟩, prog_21_method_20_code, 3, none, []),
  (⟨"LiarsCock$Reader", "takeWord", "(Ljava/lang/String;)V"⟩, prog_21_method_25_code, 2, none, []),
  (⟨"LiarsCock$Reader", "hasWord", "(Ljava/lang/String;)Z"⟩, prog_21_method_9_code, 3, (some (FieldType.boolean)), []),
  (⟨"LiarsCock$Reader", "person", "()V"⟩, prog_21_method_21_code, 5, none, []),
  (⟨"LiarsCock$Reader", "named", "(Ljava/util/ArrayList;)I"⟩, prog_21_method_18_code, 3, (some (FieldType.int)), []),
  (⟨"LiarsCock$Reader", "common", "(Ljava/util/ArrayList;)V"⟩, prog_21_method_22_code, 2, none, []),
  (⟨"LiarsCock$Reader", "whole", "()LLiarsCock$Expression;"⟩, prog_21_method_26_code, 1, (some ((FieldType.object "LiarsCock$Expression"))), []),
  (⟨"LiarsCock$Reader", "all", "()LLiarsCock$Expression;"⟩, prog_21_method_28_code, 5, (some ((FieldType.object "LiarsCock$Expression"))), []),
  (⟨"LiarsCock$Reader", "test", "()LLiarsCock$Expression;"⟩, prog_21_method_29_code, 5, (some ((FieldType.object "LiarsCock$Expression"))), []),
  (⟨"LiarsCock$Reader", "sum", "()LLiarsCock$Expression;"⟩, prog_21_method_30_code, 5, (some ((FieldType.object "LiarsCock$Expression"))), []),
  (⟨"LiarsCock$Reader", "term", "()LLiarsCock$Expression;"⟩, prog_21_method_31_code, 4, (some ((FieldType.object "LiarsCock$Expression"))), []),
  (⟨"LiarsCock$Reader", "part", "()LLiarsCock$Expression;"⟩, prog_21_method_32_code, 4, (some ((FieldType.object "LiarsCock$Expression"))), []),
  (⟨"LiarsCock$Reader", "isSign", "(I)Z"⟩, prog_21_method_11_code, 2, (some (FieldType.boolean)), []),
  (⟨"LiarsCock$Reader", "sign", "(I)V"⟩, prog_21_method_13_code, 2, none, []),
  (⟨"LiarsCock$Reader", "hasSign", "(I)Z"⟩, prog_21_method_12_code, 3, (some (FieldType.boolean)), []),
  (⟨"LiarsCock$Reader", "chain", "(LLiarsCock$Expression;LLiarsCock$Chain;)LLiarsCock$Chain;"⟩, prog_21_method_27_code, 2, (some ((FieldType.object "LiarsCock$Chain"))), []),
  (⟨"LiarsCock$Reader", "cock", "()V"⟩, prog_21_method_23_code, 3, none, []),
  (⟨"LiarsCock$Reader", "saying", "(LLiarsCock$Parish;)LLiarsCock$Expression;"⟩, prog_21_method_24_code, 3, (some ((FieldType.object "LiarsCock$Expression"))), []),
  (⟨"LiarsCock$Parish", "<init>", "()V"⟩, prog_17_method_1_code, 1, none, []),
  (⟨"LiarsCock$Parish", "isTold", "(J)Z"⟩, prog_17_method_3_code, 3, (some (FieldType.boolean)), []),
  (⟨"LiarsCock$Parish", "find", "(Ljava/util/ArrayList;J)I"⟩, prog_17_method_2_code, 4, (some (FieldType.int)), []),
  (⟨"LiarsCock$Parish", "so", "(LLiarsCock$Expression;)J"⟩, prog_17_method_5_code, 5, (some (FieldType.long)), []),
  (⟨"LiarsCock$Parish", "worlds", "()I"⟩, prog_17_method_4_code, 1, (some (FieldType.int)), [])]
def xd_3 : List (MethodName × ByteArray × Nat × Option FieldType × xm_Hs) := [
  (⟨"LiarsCock$Parish", "known", "(JI)J"⟩, prog_17_method_7_code, 7, (some (FieldType.long)), []),
  (⟨"LiarsCock$Parish", "alike", "(II)J"⟩, prog_17_method_6_code, 6, (some (FieldType.long)), []),
  (⟨"LiarsCock$Parish", "bearing", "(I)I"⟩, prog_17_method_8_code, 2, (some (FieldType.int)), []),
  (⟨"LiarsCock$Facts", "<init>", "()V"⟩, prog_8_method_1_code, 1, none, []),
  (⟨"LiarsCock$Facts", "of", "(I)LLiarsCock$Facts;"⟩, prog_8_method_2_code, 3, (some ((FieldType.object "LiarsCock$Facts"))), []),
  (⟨"LiarsCock$Cock", "<init>", "(II)V"⟩, prog_5_method_1_code, 3, none, []),
  (⟨"LiarsCock$Sets", "<init>", "(LLiarsCock;)V"⟩, prog_24_method_1_code, 2, none, []),
  (⟨"LiarsCock$Sets", "first", "(JI)I"⟩, prog_24_method_3_code, 6, (some (FieldType.int)), []),
  (⟨"LiarsCock$Sets", "find", "()V"⟩, prog_24_method_2_code, 3, none, []),
  (⟨"LiarsCock$Bearings", "<init>", "(LLiarsCock;)V"⟩, prog_3_method_1_code, 2, none, []),
  (⟨"LiarsCock$Bearings", "find", "(JII)V"⟩, prog_3_method_2_code, 7, none, []),
  (⟨"LiarsCock$Lookout", "<init>", "(LLiarsCock;)V"⟩, prog_12_method_1_code, 2, none, []),
  (⟨"LiarsCock$Lookout", "fewest", "(IJ)I"⟩, prog_12_method_4_code, 5, (some (FieldType.int)), []),
  (⟨"LiarsCock$Lookout", "find", "(IJ)V"⟩, prog_12_method_2_code, 5, none, []),
  (⟨"LiarsCock$Lookout", "mayTurn", "(I)Z"⟩, prog_12_method_3_code, 3, (some (FieldType.boolean)), []),
  (⟨"LiarsCock$Lookout", "tells", "(III)Z"⟩, prog_12_method_5_code, 5, (some (FieldType.boolean)), []),
  (⟨"LiarsCock$Lookout", "partsAll", "(I)Z"⟩, prog_12_method_6_code, 4, (some (FieldType.boolean)), []),
  (⟨"LiarsCock$Lookout", "parts", "(III)Z"⟩, prog_12_method_7_code, 5, (some (FieldType.boolean)), []),
  (⟨"LiarsCockModel", "<init>", "()V"⟩, prog_28_method_1_code, 1, none, []),
  (⟨"LiarsCockModel", "forgets", "()V"⟩, prog_28_method_34_code, 2, none, []),
  (⟨"LiarsCockModel", "thrown", "()I"⟩, prog_28_method_2_code, 1, (some (FieldType.int)), []),
  (⟨"LiarsCockModel", "feed", "(JJJ)I"⟩, prog_28_method_7_code, 11, (some (FieldType.int)), []),
  (⟨"LiarsCockModel", "parish", "()I"⟩, prog_28_method_35_code, 2, (some (FieldType.int)), []),
  (⟨"LiarsCockModel", "starts", "()V"⟩, prog_28_method_32_code, 1, none, []),
  (⟨"LiarsCockModel", "nextToken", "()V"⟩, prog_28_method_9_code, 2, none, []),
  (⟨"LiarsCockModel", "signAt", "(I)I"⟩, prog_28_method_8_code, 2, (some (FieldType.int)), []),
  (⟨"LiarsCockModel", "readsParish", "()Z"⟩, prog_28_method_31_code, 2, (some (FieldType.boolean)), []),
  (⟨"LiarsCockModel", "isWord", "(J)Z"⟩, prog_28_method_10_code, 3, (some (FieldType.boolean)), []),
  (⟨"LiarsCockModel", "readsFact", "()Z"⟩, prog_28_method_26_code, 2, (some (FieldType.boolean)), []),
  (⟨"LiarsCockModel", "fails", "(I)Z"⟩, prog_28_method_12_code, 2, (some (FieldType.boolean)), []),
  (⟨"LiarsCockModel", "needsNew", "(I)Z"⟩, prog_28_method_25_code, 2, (some (FieldType.boolean)), []),
  (⟨"LiarsCockModel", "isKept", "()Z"⟩, prog_28_method_14_code, 1, (some (FieldType.boolean)), []),
  (⟨"LiarsCockModel", "whichOf", "(I)I"⟩, prog_28_method_15_code, 3, (some (FieldType.int)), []),
  (⟨"LiarsCockModel", "needsNumber", "(I)Z"⟩, prog_28_method_24_code, 2, (some (FieldType.boolean)), []),
  (⟨"LiarsCockModel", "ends", "()Z"⟩, prog_28_method_22_code, 1, (some (FieldType.boolean)), []),
  (⟨"LiarsCockModel", "isSign", "(I)Z"⟩, prog_28_method_11_code, 2, (some (FieldType.boolean)), []),
  (⟨"LiarsCockModel", "readsPlace", "()Z"⟩, prog_28_method_27_code, 1, (some (FieldType.boolean)), []),
  (⟨"LiarsCockModel", "needsWord", "(J)Z"⟩, prog_28_method_23_code, 3, (some (FieldType.boolean)), []),
  (⟨"LiarsCockModel", "readsPerson", "()Z"⟩, prog_28_method_28_code, 3, (some (FieldType.boolean)), []),
  (⟨"LiarsCockModel", "readsCock", "()Z"⟩, prog_28_method_29_code, 2, (some (FieldType.boolean)), [])]
def xd_4 : List (MethodName × ByteArray × Nat × Option FieldType × xm_Hs) := [
  (⟨"LiarsCockModel", "readsCommon", "()Z"⟩, prog_28_method_30_code, 1, (some (FieldType.boolean)), []),
  (⟨"LiarsCockModel", "reads", "(Z)Z"⟩, prog_28_method_16_code, 8, (some (FieldType.boolean)), []),
  (⟨"LiarsCockModel", "puts", "(I)V"⟩, prog_28_method_13_code, 2, none, []),
  (⟨"LiarsCockModel", "soIn", "(I)J"⟩, prog_28_method_21_code, 6, (some (FieldType.long)), []),
  (⟨"LiarsCockModel", "worked", "(I)I"⟩, prog_28_method_20_code, 6, (some (FieldType.int)), []),
  (⟨"LiarsCockModel", "opens", "(I)V"⟩, prog_28_method_17_code, 2, none, []),
  (⟨"LiarsCockModel", "sums", "(I)V"⟩, prog_28_method_18_code, 2, none, []),
  (⟨"LiarsCockModel", "tests", "(I)V"⟩, prog_28_method_19_code, 3, none, []),
  (⟨"LiarsCockModel", "allWorlds", "()J"⟩, prog_28_method_33_code, 1, (some (FieldType.long)), []),
  (⟨"LiarsCockModel", "say", "(II)I"⟩, prog_28_method_42_code, 4, (some (FieldType.int)), []),
  (⟨"LiarsCockModel", "isPerson", "(I)Z"⟩, prog_28_method_36_code, 2, (some (FieldType.boolean)), []),
  (⟨"LiarsCockModel", "isMinute", "(I)Z"⟩, prog_28_method_40_code, 1, (some (FieldType.boolean)), []),
  (⟨"LiarsCockModel", "lays", "(III)I"⟩, prog_28_method_41_code, 5, (some (FieldType.int)), []),
  (⟨"LiarsCockModel", "offer", "(II)I"⟩, prog_28_method_43_code, 4, (some (FieldType.int)), []),
  (⟨"LiarsCockModel", "truth", "(I)Z"⟩, prog_28_method_44_code, 2, (some (FieldType.boolean)), []),
  (⟨"LiarsCockModel", "isWorld", "(I)Z"⟩, prog_28_method_38_code, 2, (some (FieldType.boolean)), []),
  (⟨"LiarsCockModel", "lie", "(II)I"⟩, prog_28_method_47_code, 3, (some (FieldType.int)), []),
  (⟨"LiarsCockModel", "isIn", "(JI)Z"⟩, prog_28_method_5_code, 3, (some (FieldType.boolean)), []),
  (⟨"LiarsCockModel", "isLie", "(III)Z"⟩, prog_28_method_46_code, 4, (some (FieldType.boolean)), []),
  (⟨"LiarsCockModel", "likeFor", "(II)J"⟩, prog_28_method_45_code, 6, (some (FieldType.long)), []),
  (⟨"LiarsCockModel", "points", "(III)I"⟩, prog_28_method_52_code, 4, (some (FieldType.int)), []),
  (⟨"LiarsCockModel", "isThere", "(I)Z"⟩, prog_28_method_39_code, 2, (some (FieldType.boolean)), []),
  (⟨"LiarsCockModel", "rows", "(I)V"⟩, prog_28_method_49_code, 4, none, []),
  (⟨"LiarsCockModel", "liesOf", "(I)V"⟩, prog_28_method_48_code, 4, none, []),
  (⟨"LiarsCockModel", "pointsTo", "(III)I"⟩, prog_28_method_50_code, 5, (some (FieldType.int)), []),
  (⟨"LiarsCockModel", "look", "(IIII)I"⟩, prog_28_method_55_code, 5, (some (FieldType.int)), []),
  (⟨"LiarsCockModel", "isBearing", "(I)Z"⟩, prog_28_method_53_code, 1, (some (FieldType.boolean)), []),
  (⟨"LiarsCockModel", "world", "(I)I"⟩, prog_28_method_58_code, 2, (some (FieldType.int)), []),
  (⟨"LiarsCockModel", "canBe", "()J"⟩, prog_28_method_57_code, 5, (some (FieldType.long)), []),
  (⟨"LiarsCockModel", "fitsIn", "(II)Z"⟩, prog_28_method_56_code, 3, (some (FieldType.boolean)), []),
  (⟨"LiarsCockModel", "bearingAt", "(III)I"⟩, prog_28_method_51_code, 5, (some (FieldType.int)), []),
  (⟨"LiarsCockModel", "isWithin", "(III)Z"⟩, prog_28_method_54_code, 3, (some (FieldType.boolean)), []),
  (⟨"LiarsCockModel", "worlds", "(I)I"⟩, prog_28_method_60_code, 4, (some (FieldType.int)), []),
  (⟨"LiarsCockModel", "isFact", "(I)Z"⟩, prog_28_method_37_code, 2, (some (FieldType.boolean)), []),
  (⟨"LiarsCockModel", "factSet", "(I)J"⟩, prog_28_method_59_code, 5, (some (FieldType.long)), []),
  (⟨"LiarsCockModel", "bits", "(J)I"⟩, prog_28_method_4_code, 4, (some (FieldType.int)), []),
  (⟨"LiarsCockModel", "sureFact", "(I)I"⟩, prog_28_method_62_code, 2, (some (FieldType.int)), []),
  (⟨"LiarsCockModel", "sureOf", "(JJ)I"⟩, prog_28_method_61_code, 4, (some (FieldType.int)), []),
  (⟨"LiarsCockModel", "sure", "(I)I"⟩, prog_28_method_63_code, 2, (some (FieldType.int)), []),
  (⟨"LiarsCockModel", "odds", "(II)J"⟩, prog_28_method_65_code, 10, (some (FieldType.long)), [])]
def xd_5 : List (MethodName × ByteArray × Nat × Option FieldType × xm_Hs) := [
  (⟨"LiarsCockModel", "within", "(III)Z"⟩, prog_28_method_3_code, 3, (some (FieldType.boolean)), []),
  (⟨"LiarsCockModel", "weight", "(I)J"⟩, prog_28_method_64_code, 5, (some (FieldType.long)), []),
  (⟨"LiarsCockModel", "lowest", "(JJI)J"⟩, prog_28_method_6_code, 11, (some (FieldType.long)), []),
  (⟨"LiarsCockModel", "proof", "(II)I"⟩, prog_28_method_67_code, 6, (some (FieldType.int)), []),
  (⟨"LiarsCockModel", "withLooks", "(I)J"⟩, prog_28_method_66_code, 5, (some (FieldType.long)), []),
  (⟨"LiarsCockModel", "clash", "(I)I"⟩, prog_28_method_68_code, 4, (some (FieldType.int)), []),
  (⟨"LiarsCockModel", "next", "(IIII)I"⟩, prog_28_method_72_code, 11, (some (FieldType.int)), []),
  (⟨"LiarsCockModel", "isSpan", "(III)Z"⟩, prog_28_method_70_code, 4, (some (FieldType.boolean)), []),
  (⟨"LiarsCockModel", "isAsBefore", "(III)Z"⟩, prog_28_method_71_code, 5, (some (FieldType.boolean)), []),
  (⟨"LiarsCockModel", "classes", "(IIJZ)I"⟩, prog_28_method_69_code, 10, (some (FieldType.int)), []),
  (⟨"LiarsCockModel", "fog", "(IIII)I"⟩, prog_28_method_73_code, 11, (some (FieldType.int)), []),
  (⟨"LiarsCockModel", "learns", "(IIZII)I"⟩, prog_28_method_74_code, 11, (some (FieldType.int)), []),
  (⟨"LiarsCockModel", "judged", "()I"⟩, prog_28_method_75_code, 2, (some (FieldType.int)), []),
  (⟨"LiarsCockModel", "turned", "(II)I"⟩, prog_28_method_76_code, 7, (some (FieldType.int)), []),
  (⟨"LiarsCockModel", "pointed", "(IIII)I"⟩, prog_28_method_77_code, 7, (some (FieldType.int)), []),
  (⟨"LiarsCockModel", "round", "(II)I"⟩, prog_28_method_79_code, 7, (some (FieldType.int)), []),
  (⟨"LiarsCockModel", "apart", "(II)I"⟩, prog_28_method_78_code, 3, (some (FieldType.int)), []),
  (⟨"LiarsCockModel", "watch", "(II)I"⟩, prog_28_method_80_code, 3, (some (FieldType.int)), []),
  (⟨"LiarsCockModel", "hidden", "(II)I"⟩, prog_28_method_83_code, 3, (some (FieldType.int)), []),
  (⟨"LiarsCockModel", "isToldLie", "(II)Z"⟩, prog_28_method_82_code, 3, (some (FieldType.boolean)), []),
  (⟨"LiarsCockModel", "isHidden", "(II)Z"⟩, prog_28_method_81_code, 7, (some (FieldType.boolean)), []),
  (⟨"LiarsCockModel", "hide", "(II)I"⟩, prog_28_method_84_code, 5, (some (FieldType.int)), []),
  (⟨"LiarsCockModel", "secret", "(IIIII)J"⟩, prog_28_method_85_code, 11, (some (FieldType.long)), []),
  (⟨"LiarsCockModel", "sector", "(II)I"⟩, prog_28_method_86_code, 5, (some (FieldType.int)), []),
  (⟨"LiarsCockModel", "blind", "(II)I"⟩, prog_28_method_87_code, 10, (some (FieldType.int)), []),
  (⟨"LiarsCockModel", "told", "(I)I"⟩, prog_28_method_89_code, 2, (some (FieldType.int)), []),
  (⟨"LiarsCockModel", "toldBy", "(I)I"⟩, prog_28_method_88_code, 7, (some (FieldType.int)), []),
  (⟨"LiarsCockModel", "fewest", "(II)I"⟩, prog_28_method_90_code, 5, (some (FieldType.int)), []),
  (⟨"LiarsCockModel", "person", "(II)I"⟩, prog_28_method_91_code, 3, (some (FieldType.int)), []),
  (⟨"LiarsCockModel", "lookout", "(III)I"⟩, prog_28_method_96_code, 7, (some (FieldType.int)), []),
  (⟨"LiarsCockModel", "turnsOut", "(IJ)V"⟩, prog_28_method_93_code, 7, none, []),
  (⟨"LiarsCockModel", "turnsIn", "(IIJ)Z"⟩, prog_28_method_92_code, 6, (some (FieldType.boolean)), []),
  (⟨"LiarsCockModel", "finds", "(IIIJ)Z"⟩, prog_28_method_95_code, 7, (some (FieldType.boolean)), []),
  (⟨"LiarsCockModel", "tells", "(IIJ)Z"⟩, prog_28_method_94_code, 9, (some (FieldType.boolean)), []),
  (⟨"LiarsCockModel", "move", "(II)I"⟩, prog_28_method_97_code, 5, (some (FieldType.int)), []),
  (⟨"LiarsCockModel", "longest", "(IIII)I"⟩, prog_28_method_98_code, 11, (some (FieldType.int)), []),
  (⟨"LiarsCockModel", "differ", "(II)I"⟩, prog_28_method_99_code, 5, (some (FieldType.int)), []),
  (⟨"LiarsCockModel", "mark", "(IZ)Z"⟩, prog_28_method_103_code, 4, (some (FieldType.boolean)), []),
  (⟨"LiarsCockModel", "keepsRow", "([IIZ)V"⟩, prog_28_method_101_code, 5, none, []),
  (⟨"LiarsCockModel", "keeps", "(IZ)I"⟩, prog_28_method_100_code, 4, (some (FieldType.int)), [])]
def xd_6 : List (MethodName × ByteArray × Nat × Option FieldType × xm_Hs) := [
  (⟨"LiarsCockModel", "keepsLongs", "([JIIZ)V"⟩, prog_28_method_102_code, 6, none, []),
  (⟨"LiarsCockModel", "count", "(I)I"⟩, prog_28_method_104_code, 2, (some (FieldType.int)), []),
  (⟨"LiarsCock$Wrong", "<init>", "(I)V"⟩, prog_26_method_1_code, 2, none, []),
  (⟨"LiarsCock$Person", "<init>", "(I)V"⟩, prog_18_method_1_code, 2, none, []),
  (⟨"LiarsCock$Expression", "<init>", "()V"⟩, prog_6_method_1_code, 1, none, []),
  (⟨"LiarsCock$Fact", "<init>", "(I)V"⟩, prog_7_method_1_code, 2, none, []),
  (⟨"LiarsCock$Fact", "of", "(LLiarsCock$Facts;)I"⟩, prog_7_method_2_code, 2, (some (FieldType.int)), []),
  (⟨"LiarsCock$Plain", "<init>", "(I)V"⟩, prog_19_method_1_code, 2, none, []),
  (⟨"LiarsCock$Plain", "of", "(LLiarsCock$Facts;)I"⟩, prog_19_method_2_code, 2, (some (FieldType.int)), []),
  (⟨"LiarsCock$Not", "<init>", "(LLiarsCock$Expression;)V"⟩, prog_15_method_1_code, 2, none, []),
  (⟨"LiarsCock$Not", "of", "(LLiarsCock$Facts;)I"⟩, prog_15_method_2_code, 2, (some (FieldType.int)), []),
  (⟨"LiarsCock$Chain", "<init>", "(LLiarsCock$Expression;)V"⟩, prog_4_method_1_code, 2, none, []),
  (⟨"LiarsCock$Chain", "of", "(LLiarsCock$Facts;)I"⟩, prog_4_method_2_code, 4, (some (FieldType.int)), []),
  (⟨"LiarsCock$Link", "<init>", "(LLiarsCock$Expression;)V"⟩, prog_10_method_1_code, 2, none, []),
  (⟨"LiarsCock$Link", "on", "(ILLiarsCock$Facts;)I"⟩, prog_10_method_3_code, 3, (some (FieldType.int)), []),
  (⟨"LiarsCock$Times", "<init>", "(LLiarsCock$Expression;)V"⟩, prog_25_method_1_code, 2, none, []),
  (⟨"LiarsCock$Times", "with", "(II)I"⟩, prog_25_method_2_code, 3, (some (FieldType.int)), []),
  (⟨"LiarsCock$Plus", "<init>", "(LLiarsCock$Expression;)V"⟩, prog_20_method_1_code, 2, none, []),
  (⟨"LiarsCock$Plus", "with", "(II)I"⟩, prog_20_method_2_code, 3, (some (FieldType.int)), []),
  (⟨"LiarsCock$Minus", "<init>", "(LLiarsCock$Expression;)V"⟩, prog_14_method_1_code, 2, none, []),
  (⟨"LiarsCock$Minus", "with", "(II)I"⟩, prog_14_method_2_code, 3, (some (FieldType.int)), []),
  (⟨"LiarsCock$Less", "<init>", "(LLiarsCock$Expression;)V"⟩, prog_9_method_1_code, 2, none, []),
  (⟨"LiarsCock$Less", "with", "(II)I"⟩, prog_9_method_2_code, 3, (some (FieldType.int)), []),
  (⟨"LiarsCock$Same", "<init>", "(LLiarsCock$Expression;)V"⟩, prog_22_method_1_code, 2, none, []),
  (⟨"LiarsCock$Same", "with", "(II)I"⟩, prog_22_method_2_code, 3, (some (FieldType.int)), []),
  (⟨"LiarsCock$And", "<init>", "(LLiarsCock$Expression;)V"⟩, prog_2_method_1_code, 2, none, []),
  (⟨"LiarsCock$And", "with", "(II)I"⟩, prog_2_method_2_code, 3, (some (FieldType.int)), []),
  (⟨"LiarsCock$Or", "<init>", "(LLiarsCock$Expression;)V"⟩, prog_16_method_1_code, 2, none, []),
  (⟨"LiarsCock$Or", "with", "(II)I"⟩, prog_16_method_2_code, 3, (some (FieldType.int)), []),
  (⟨"LiarsCock$Saying", "<init>", "(LLiarsCock$Parish;IILLiarsCock$Expression;)V"⟩, prog_23_method_1_code, 5, none, []),
  (⟨"LiarsCock$Saying", "isLie", "(II)Z"⟩, prog_23_method_2_code, 3, (some (FieldType.boolean)), []),
  (⟨"LiarsCock$Look", "<init>", "(IIII)V"⟩, prog_11_method_1_code, 5, none, []),
  (⟨"LiarsCock$Look", "holds", "(I)Z"⟩, prog_11_method_2_code, 2, (some (FieldType.boolean)), []),
  (⟨"LiarsCock$Mark", "<init>", "(LLiarsCock;)V"⟩, prog_13_method_1_code, 2, none, []),
  (⟨"LiarsCock$Mark", "copied", "(Ljava/util/ArrayList;)Ljava/util/ArrayList;"⟩, prog_13_method_2_code, 3, (some ((FieldType.object "java/util/ArrayList"))), []),
  (⟨"LiarsCock$Mark", "lay", "(Ljava/util/ArrayList;Ljava/util/ArrayList;)V"⟩, prog_13_method_3_code, 3, none, []),
  (⟨"java/util/AbstractCollection", "<init>", "()V"⟩, prog_48_method_1_code, 1, none, []),
  (⟨"java/util/AbstractList", "<init>", "()V"⟩, prog_49_method_1_code, 1, none, []),
  (⟨"java/util/ArrayList", "<init>", "(I)V"⟩, prog_50_method_1_code, 2, none, []),
  (⟨"java/util/ArrayList", "<init>", "()V"⟩, prog_50_method_2_code, 1, none, [])]
def xd_7 : List (MethodName × ByteArray × Nat × Option FieldType × xm_Hs) := [
  (⟨"java/util/ArrayList", "size", "()I"⟩, prog_50_method_8_code, 1, (some (FieldType.int)), []),
  (⟨"java/util/ArrayList", "get", "(I)Ljava/lang/Object;"⟩, prog_50_method_20_code, 2, (some ((FieldType.object "java/lang/Object"))), []),
  (⟨"java/util/ArrayList", "elementData", "(I)Ljava/lang/Object;"⟩, prog_50_method_18_code, 2, (some ((FieldType.object "java/lang/Object"))), []),
  (⟨"java/util/ArrayList", "add", "(Ljava/lang/Object;)Z"⟩, prog_50_method_25_code, 2, (some (FieldType.boolean)), []),
  (⟨"java/util/ArrayList", "add", "(Ljava/lang/Object;[Ljava/lang/Object;I)V"⟩, prog_50_method_24_code, 4, none, []),
  (⟨"java/util/ArrayList", "grow", "()[Ljava/lang/Object;"⟩, prog_50_method_7_code, 1, (some ((FieldType.array (FieldType.object "java/lang/Object")))), []),
  (⟨"java/util/ArrayList", "grow", "(I)[Ljava/lang/Object;"⟩, prog_50_method_6_code, 4, (some ((FieldType.array (FieldType.object "java/lang/Object")))), []),
  (⟨"java/util/ArrayList", "clear", "()V"⟩, prog_50_method_40_code, 4, none, []),
  (⟨"java/util/ArrayList", "isEmpty", "()Z"⟩, prog_50_method_9_code, 1, (some (FieldType.boolean)), []),
  (⟨"java/lang/String", "indexOf", "(I)I"⟩, prog_41_method_79_code, 2, (some (FieldType.int)), []),
  (⟨"java/lang/String", "indexOf", "(II)I"⟩, prog_41_method_80_code, 3, (some (FieldType.int)), []),
  (⟨"java/lang/String", "isLatin1", "()Z"⟩, prog_41_method_154_code, 1, (some (FieldType.boolean)), []),
  (⟨"java/lang/String", "length", "()I"⟩, prog_41_method_54_code, 1, (some (FieldType.int)), []),
  (⟨"java/lang/String", "coder", "()B"⟩, prog_41_method_152_code, 1, (some (FieldType.byte)), []),
  (⟨"java/lang/String", "checkBoundsBeginEnd", "(III)V"⟩, prog_41_method_158_code, 3, none, []),
  (⟨"java/lang/String", "charAt", "(I)C"⟩, prog_41_method_56_code, 2, (some (FieldType.char)), []),
  (⟨"java/lang/String", "checkIndex", "(II)V"⟩, prog_41_method_155_code, 2, none, []),
  (⟨"java/lang/StringLatin1", "indexOf", "([BIII)I"⟩, prog_42_method_22_code, 4, (some (FieldType.int)), []),
  (⟨"java/lang/StringLatin1", "canEncode", "(I)Z"⟩, prog_42_method_4_code, 1, (some (FieldType.boolean)), []),
  (⟨"java/lang/StringLatin1", "indexOfChar", "([BIII)I"⟩, prog_42_method_23_code, 6, (some (FieldType.int)), []),
  (⟨"java/lang/StringLatin1", "charAt", "([BI)C"⟩, prog_42_method_2_code, 2, (some (FieldType.char)), []),
  (⟨"java/lang/Math", "max", "(II)I"⟩, prog_38_method_65_code, 2, (some (FieldType.int)), []),
  (⟨"java/lang/Math", "min", "(II)I"⟩, prog_38_method_69_code, 2, (some (FieldType.int)), []),
  (⟨"java/lang/Math", "abs", "(I)I"⟩, prog_38_method_59_code, 1, (some (FieldType.int)), []),
  (⟨"jdk/internal/util/Preconditions", "checkFromToIndex", "(IIILjava/util/function/BiFunction;)I"⟩, prog_59_method_12_code, 4, (some (FieldType.int)), []),
  (⟨"jdk/internal/util/Preconditions", "checkIndex", "(IILjava/util/function/BiFunction;)I"⟩, prog_59_method_11_code, 3, (some (FieldType.int)), []),
  (⟨"java/util/Objects", "checkIndex", "(II)I"⟩, prog_55_method_17_code, 2, (some (FieldType.int)), []),
  (⟨"java/lang/Number", "<init>", "()V"⟩, prog_39_method_1_code, 1, none, []),
  (⟨"java/lang/Long", "longValue", "()J"⟩, prog_36_method_31_code, 1, (some (FieldType.long)), []),
  (⟨"java/lang/Long", "valueOf", "(J)Ljava/lang/Long;"⟩, prog_36_method_24_code, 3, (some ((FieldType.object "java/lang/Long"))), []),
  (⟨"java/lang/Long", "<init>", "(J)V"⟩, prog_36_method_26_code, 3, none, []),
  (⟨"jdk/internal/util/ArraysSupport", "newLength", "(III)I"⟩, prog_58_method_27_code, 4, (some (FieldType.int)), []),
  (⟨"java/util/Arrays", "copyOf", "([Ljava/lang/Object;I)[Ljava/lang/Object;"⟩, prog_51_method_119_code, 2, (some ((FieldType.array (FieldType.object "java/lang/Object")))), []),
  (⟨"java/util/Arrays", "copyOf", "([Ljava/lang/Object;ILjava/lang/Class;)[Ljava/lang/Object;"⟩, prog_51_method_120_code, 4, (some ((FieldType.array (FieldType.object "java/lang/Object")))), []),
  (⟨"LiarsCockLaw", "law", "([I)Z"⟩, code, 8, (some (FieldType.boolean)), [])]
def xd_L : List (MethodName × ByteArray × Nat × Option FieldType × xm_Hs) := xd_0 ++ xd_1 ++ xd_2 ++ xd_3 ++ xd_4 ++ xd_5 ++ xd_6 ++ xd_7
def xd (i : Nat) : MethodName × ByteArray × Nat × Option FieldType × xm_Hs := xd_L.getD i (⟨"", "", ""⟩, ByteArray.empty, 0, none, [])
abbrev xk_N : Nat := 314
theorem xd_len : xd_L.length = xk_N + 1 := by decide +kernel
theorem xd_get {i : Nat} (h : i < xd_L.length) : xd_L[i]? = some (xd i) := by
  unfold xd
  rw [List.getD_eq_getElem?_getD, List.getElem?_eq_getElem h]; rfl
theorem xd_all_0 : ∀ x ∈ xd_0, xm_DO x := List.forall_mem_cons.mpr ⟨⟨plainFor_of_name (by decide +kernel), q1577, q118⟩, List.forall_mem_cons.mpr ⟨⟨plainFor_of_name (by decide +kernel), q170, q119⟩, List.forall_mem_cons.mpr ⟨⟨plainFor_of_name (by decide +kernel), q230, q119⟩, List.forall_mem_cons.mpr ⟨⟨plainFor_of_name (by decide +kernel), q462, q119⟩, List.forall_mem_cons.mpr ⟨⟨plainFor_of_name (by decide +kernel), q470, q119⟩, List.forall_mem_cons.mpr ⟨⟨plainFor_of_name (by decide +kernel), q474, q119⟩, List.forall_mem_cons.mpr ⟨⟨plainFor_of_name (by decide +kernel), q856, q119⟩, List.forall_mem_cons.mpr ⟨⟨plainFor_of_name (by decide +kernel), q1095, q119⟩, List.forall_mem_cons.mpr ⟨⟨plainFor_of_name (by decide +kernel), q1099, q119⟩, List.forall_mem_cons.mpr ⟨⟨plainFor_of_name (by decide +kernel), q1105, q119⟩, List.forall_mem_cons.mpr ⟨⟨plainFor_of_name (by decide +kernel), q1109, q119⟩, List.forall_mem_cons.mpr ⟨⟨plainFor_of_name (by decide +kernel), q1113, q119⟩, List.forall_mem_cons.mpr ⟨⟨plainFor_of_name (by decide +kernel), q1117, q119⟩, List.forall_mem_cons.mpr ⟨⟨plainFor_of_name (by decide +kernel), q1127, q119⟩, List.forall_mem_cons.mpr ⟨⟨plainFor_of_name (by decide +kernel), q1171, q119⟩, List.forall_mem_cons.mpr ⟨⟨plainFor_of_name (by decide +kernel), q1175, q119⟩, List.forall_mem_cons.mpr ⟨⟨plainFor_of_name (by decide +kernel), q1179, q119⟩, List.forall_mem_cons.mpr ⟨⟨plainFor_of_name (by decide +kernel), q1183, q119⟩, List.forall_mem_cons.mpr ⟨⟨plainFor_of_name (by decide +kernel), q1187, q119⟩, List.forall_mem_cons.mpr ⟨⟨plainFor_of_name (by decide +kernel), q1195, q119⟩, List.forall_mem_cons.mpr ⟨⟨plainFor_of_name (by decide +kernel), q1199, q119⟩, List.forall_mem_cons.mpr ⟨⟨plainFor_of_name (by decide +kernel), q1203, q119⟩, List.forall_mem_cons.mpr ⟨⟨plainFor_of_name (by decide +kernel), q1208, q119⟩, List.forall_mem_cons.mpr ⟨⟨plainFor_of_name (by decide +kernel), q1211, q119⟩, List.forall_mem_cons.mpr ⟨⟨plainFor_of_name (by decide +kernel), q1236, q119⟩, List.forall_mem_cons.mpr ⟨⟨plainFor_of_name (by decide +kernel), q1240, q119⟩, List.forall_mem_cons.mpr ⟨⟨plainFor_of_name (by decide +kernel), q1244, q119⟩, List.forall_mem_cons.mpr ⟨⟨plainFor_of_name (by decide +kernel), q1248, q119⟩, List.forall_mem_cons.mpr ⟨⟨plainFor_of_name (by decide +kernel), q1252, q119⟩, List.forall_mem_cons.mpr ⟨⟨plainFor_of_name (by decide +kernel), q1256, q119⟩, List.forall_mem_cons.mpr ⟨⟨plainFor_of_name (by decide +kernel), q1260, q119⟩, List.forall_mem_cons.mpr ⟨⟨plainFor_of_name (by decide +kernel), q1272, q119⟩, List.forall_mem_cons.mpr ⟨⟨plainFor_of_name (by decide +kernel), q1276, q119⟩, List.forall_mem_cons.mpr ⟨⟨plainFor_of_name (by decide +kernel), q1280, q119⟩, List.forall_mem_cons.mpr ⟨⟨plainFor_of_name (by decide +kernel), q1284, q119⟩, List.forall_mem_cons.mpr ⟨⟨plainFor_of_name (by decide +kernel), q1287, q119⟩, List.forall_mem_cons.mpr ⟨⟨plainFor_of_name (by decide +kernel), q1291, q119⟩, List.forall_mem_cons.mpr ⟨⟨plainFor_of_name (by decide +kernel), q1294, q119⟩, List.forall_mem_cons.mpr ⟨⟨plainFor_of_name (by decide +kernel), q1299, q119⟩, List.forall_mem_cons.mpr ⟨⟨plainFor_of_name (by decide +kernel), q1303, q119⟩, (List.forall_mem_nil _)⟩⟩⟩⟩⟩⟩⟩⟩⟩⟩⟩⟩⟩⟩⟩⟩⟩⟩⟩⟩⟩⟩⟩⟩⟩⟩⟩⟩⟩⟩⟩⟩⟩⟩⟩⟩⟩⟩⟩⟩
theorem xd_all_1 : ∀ x ∈ xd_1, xm_DO x := List.forall_mem_cons.mpr ⟨⟨plainFor_of_name (by decide +kernel), q1306, q119⟩, List.forall_mem_cons.mpr ⟨⟨plainFor_of_name (by decide +kernel), q1310, q119⟩, List.forall_mem_cons.mpr ⟨⟨plainFor_of_name (by decide +kernel), q1313, q119⟩, List.forall_mem_cons.mpr ⟨⟨plainFor_of_name (by decide +kernel), q1316, q119⟩, List.forall_mem_cons.mpr ⟨⟨plainFor_of_name (by decide +kernel), q1320, q119⟩, List.forall_mem_cons.mpr ⟨⟨plainFor_of_name (by decide +kernel), q1340, q119⟩, List.forall_mem_cons.mpr ⟨⟨plainFor_of_name (by decide +kernel), q1344, q119⟩, List.forall_mem_cons.mpr ⟨⟨plainFor_of_name (by decide +kernel), q1348, q119⟩, List.forall_mem_cons.mpr ⟨⟨plainFor_of_name (by decide +kernel), q1352, q119⟩, List.forall_mem_cons.mpr ⟨⟨plainFor_of_name (by decide +kernel), q1355, q119⟩, List.forall_mem_cons.mpr ⟨⟨plainFor_of_name (by decide +kernel), q1367, q119⟩, List.forall_mem_cons.mpr ⟨⟨plainFor_of_name (by decide +kernel), q1371, q119⟩, List.forall_mem_cons.mpr ⟨⟨plainFor_of_name (by decide +kernel), q1381, q119⟩, List.forall_mem_cons.mpr ⟨⟨plainFor_of_name (by decide +kernel), q1385, q119⟩, List.forall_mem_cons.mpr ⟨⟨plainFor_of_name (by decide +kernel), q1389, q119⟩, List.forall_mem_cons.mpr ⟨⟨plainFor_of_name (by decide +kernel), q1393, q119⟩, List.forall_mem_cons.mpr ⟨⟨plainFor_of_name (by decide +kernel), q1397, q119⟩, List.forall_mem_cons.mpr ⟨⟨plainFor_of_name (by decide +kernel), q1400, q119⟩, List.forall_mem_cons.mpr ⟨⟨plainFor_of_name (by decide +kernel), q1408, q119⟩, List.forall_mem_cons.mpr ⟨⟨plainFor_of_name (by decide +kernel), q1412, q119⟩, List.forall_mem_cons.mpr ⟨⟨plainFor_of_name (by decide +kernel), q1416, q119⟩, List.forall_mem_cons.mpr ⟨⟨plainFor_of_name (by decide +kernel), q1420, q119⟩, List.forall_mem_cons.mpr ⟨⟨plainFor_of_name (by decide +kernel), q1424, q119⟩, List.forall_mem_cons.mpr ⟨⟨plainFor_of_name (by decide +kernel), q1428, q119⟩, List.forall_mem_cons.mpr ⟨⟨plainFor_of_name (by decide +kernel), q1432, q119⟩, List.forall_mem_cons.mpr ⟨⟨plainFor_of_name (by decide +kernel), q1436, q119⟩, List.forall_mem_cons.mpr ⟨⟨plainFor_of_name (by decide +kernel), q1440, q119⟩, List.forall_mem_cons.mpr ⟨⟨plainFor_of_name (by decide +kernel), q1445, q119⟩, List.forall_mem_cons.mpr ⟨⟨plainFor_of_name (by decide +kernel), q1449, q119⟩, List.forall_mem_cons.mpr ⟨⟨plainFor_of_name (by decide +kernel), q1453, q119⟩, List.forall_mem_cons.mpr ⟨⟨plainFor_of_name (by decide +kernel), q1458, q119⟩, List.forall_mem_cons.mpr ⟨⟨plainFor_of_name (by decide +kernel), q1462, q119⟩, List.forall_mem_cons.mpr ⟨⟨plainFor_of_name (by decide +kernel), q1466, q119⟩, List.forall_mem_cons.mpr ⟨⟨plainFor_of_name (by decide +kernel), q1470, q119⟩, List.forall_mem_cons.mpr ⟨⟨plainFor_of_name (by decide +kernel), q1474, q119⟩, List.forall_mem_cons.mpr ⟨⟨plainFor_of_name (by decide +kernel), q1478, q119⟩, List.forall_mem_cons.mpr ⟨⟨plainFor_of_name (by decide +kernel), q1482, q119⟩, List.forall_mem_cons.mpr ⟨⟨plainFor_of_name (by decide +kernel), q1516, q119⟩, List.forall_mem_cons.mpr ⟨⟨plainFor_of_name (by decide +kernel), q1520, q119⟩, List.forall_mem_cons.mpr ⟨⟨plainFor_of_name (by decide +kernel), q1524, q119⟩, (List.forall_mem_nil _)⟩⟩⟩⟩⟩⟩⟩⟩⟩⟩⟩⟩⟩⟩⟩⟩⟩⟩⟩⟩⟩⟩⟩⟩⟩⟩⟩⟩⟩⟩⟩⟩⟩⟩⟩⟩⟩⟩⟩⟩
theorem xd_all_2 : ∀ x ∈ xd_2, xm_DO x := List.forall_mem_cons.mpr ⟨⟨plainFor_of_name (by decide +kernel), q1528, q119⟩, List.forall_mem_cons.mpr ⟨⟨plainFor_of_name (by decide +kernel), q1574, q119⟩, List.forall_mem_cons.mpr ⟨⟨plainFor_of_name (by decide +kernel), q1582, q119⟩, List.forall_mem_cons.mpr ⟨⟨plainFor_of_name (by decide +kernel), q178, q120⟩, List.forall_mem_cons.mpr ⟨⟨plainFor_of_name (by decide +kernel), q466, q120⟩, List.forall_mem_cons.mpr ⟨⟨plainFor_of_name (by decide +kernel), q479, q120⟩, List.forall_mem_cons.mpr ⟨⟨plainFor_of_name (by decide +kernel), q483, q120⟩, List.forall_mem_cons.mpr ⟨⟨plainFor_of_name (by decide +kernel), q486, q120⟩, List.forall_mem_cons.mpr ⟨⟨plainFor_of_name (by decide +kernel), q491, q120⟩, List.forall_mem_cons.mpr ⟨⟨plainFor_of_name (by decide +kernel), q588, q120⟩, List.forall_mem_cons.mpr ⟨⟨plainFor_of_name (by decide +kernel), q591, q120⟩, List.forall_mem_cons.mpr ⟨⟨plainFor_of_name (by decide +kernel), q616, q120⟩, List.forall_mem_cons.mpr ⟨⟨plainFor_of_name (by decide +kernel), q624, q120⟩, List.forall_mem_cons.mpr ⟨⟨plainFor_of_name (by decide +kernel), q628, q120⟩, List.forall_mem_cons.mpr ⟨⟨plainFor_of_name (by decide +kernel), q693, q120⟩, List.forall_mem_cons.mpr ⟨⟨plainFor_of_name (by decide +kernel), q697, q120⟩, List.forall_mem_cons.mpr ⟨⟨plainFor_of_name (by decide +kernel), q726, q120⟩, List.forall_mem_cons.mpr ⟨⟨plainFor_of_name (by decide +kernel), q819, q120⟩, List.forall_mem_cons.mpr ⟨⟨plainFor_of_name (by decide +kernel), q823, q120⟩, List.forall_mem_cons.mpr ⟨⟨plainFor_of_name (by decide +kernel), q827, q120⟩, List.forall_mem_cons.mpr ⟨⟨plainFor_of_name (by decide +kernel), q831, q120⟩, List.forall_mem_cons.mpr ⟨⟨plainFor_of_name (by decide +kernel), q837, q120⟩, List.forall_mem_cons.mpr ⟨⟨plainFor_of_name (by decide +kernel), q860, q120⟩, List.forall_mem_cons.mpr ⟨⟨plainFor_of_name (by decide +kernel), q864, q120⟩, List.forall_mem_cons.mpr ⟨⟨plainFor_of_name (by decide +kernel), q868, q120⟩, List.forall_mem_cons.mpr ⟨⟨plainFor_of_name (by decide +kernel), q872, q120⟩, List.forall_mem_cons.mpr ⟨⟨plainFor_of_name (by decide +kernel), q876, q120⟩, List.forall_mem_cons.mpr ⟨⟨plainFor_of_name (by decide +kernel), q880, q120⟩, List.forall_mem_cons.mpr ⟨⟨plainFor_of_name (by decide +kernel), q884, q120⟩, List.forall_mem_cons.mpr ⟨⟨plainFor_of_name (by decide +kernel), q888, q120⟩, List.forall_mem_cons.mpr ⟨⟨plainFor_of_name (by decide +kernel), q925, q120⟩, List.forall_mem_cons.mpr ⟨⟨plainFor_of_name (by decide +kernel), q929, q120⟩, List.forall_mem_cons.mpr ⟨⟨plainFor_of_name (by decide +kernel), q932, q120⟩, List.forall_mem_cons.mpr ⟨⟨plainFor_of_name (by decide +kernel), q1013, q120⟩, List.forall_mem_cons.mpr ⟨⟨plainFor_of_name (by decide +kernel), q1132, q120⟩, List.forall_mem_cons.mpr ⟨⟨plainFor_of_name (by decide +kernel), q235, q121⟩, List.forall_mem_cons.mpr ⟨⟨plainFor_of_name (by decide +kernel), q701, q121⟩, List.forall_mem_cons.mpr ⟨⟨plainFor_of_name (by decide +kernel), q704, q121⟩, List.forall_mem_cons.mpr ⟨⟨plainFor_of_name (by decide +kernel), q1020, q121⟩, List.forall_mem_cons.mpr ⟨⟨plainFor_of_name (by decide +kernel), q1024, q121⟩, (List.forall_mem_nil _)⟩⟩⟩⟩⟩⟩⟩⟩⟩⟩⟩⟩⟩⟩⟩⟩⟩⟩⟩⟩⟩⟩⟩⟩⟩⟩⟩⟩⟩⟩⟩⟩⟩⟩⟩⟩⟩⟩⟩⟩
theorem xd_all_3 : ∀ x ∈ xd_3, xm_DO x := List.forall_mem_cons.mpr ⟨⟨plainFor_of_name (by decide +kernel), q1146, q121⟩, List.forall_mem_cons.mpr ⟨⟨plainFor_of_name (by decide +kernel), q1150, q121⟩, List.forall_mem_cons.mpr ⟨⟨plainFor_of_name (by decide +kernel), q1264, q121⟩, List.forall_mem_cons.mpr ⟨⟨plainFor_of_name (by decide +kernel), q271, q125⟩, List.forall_mem_cons.mpr ⟨⟨plainFor_of_name (by decide +kernel), q1028, q125⟩, List.forall_mem_cons.mpr ⟨⟨plainFor_of_name (by decide +kernel), q330, q126⟩, List.forall_mem_cons.mpr ⟨⟨plainFor_of_name (by decide +kernel), q351, q127⟩, List.forall_mem_cons.mpr ⟨⟨plainFor_of_name (by decide +kernel), q1325, q127⟩, List.forall_mem_cons.mpr ⟨⟨plainFor_of_name (by decide +kernel), q1329, q127⟩, List.forall_mem_cons.mpr ⟨⟨plainFor_of_name (by decide +kernel), q367, q128⟩, List.forall_mem_cons.mpr ⟨⟨plainFor_of_name (by decide +kernel), q1359, q128⟩, List.forall_mem_cons.mpr ⟨⟨plainFor_of_name (by decide +kernel), q388, q129⟩, List.forall_mem_cons.mpr ⟨⟨plainFor_of_name (by decide +kernel), q1486, q129⟩, List.forall_mem_cons.mpr ⟨⟨plainFor_of_name (by decide +kernel), q1490, q129⟩, List.forall_mem_cons.mpr ⟨⟨plainFor_of_name (by decide +kernel), q1495, q129⟩, List.forall_mem_cons.mpr ⟨⟨plainFor_of_name (by decide +kernel), q1502, q129⟩, List.forall_mem_cons.mpr ⟨⟨plainFor_of_name (by decide +kernel), q1506, q129⟩, List.forall_mem_cons.mpr ⟨⟨plainFor_of_name (by decide +kernel), q1511, q129⟩, List.forall_mem_cons.mpr ⟨⟨plainFor_of_name (by decide +kernel), q1608, q130⟩, List.forall_mem_cons.mpr ⟨⟨plainFor_of_name (by decide +kernel), q1613, q130⟩, List.forall_mem_cons.mpr ⟨⟨plainFor_of_name (by decide +kernel), q1826, q130⟩, List.forall_mem_cons.mpr ⟨⟨plainFor_of_name (by decide +kernel), q1830, q130⟩, List.forall_mem_cons.mpr ⟨⟨plainFor_of_name (by decide +kernel), q1835, q130⟩, List.forall_mem_cons.mpr ⟨⟨plainFor_of_name (by decide +kernel), q1839, q130⟩, List.forall_mem_cons.mpr ⟨⟨plainFor_of_name (by decide +kernel), q1843, q130⟩, List.forall_mem_cons.mpr ⟨⟨plainFor_of_name (by decide +kernel), q1847, q130⟩, List.forall_mem_cons.mpr ⟨⟨plainFor_of_name (by decide +kernel), q1853, q130⟩, List.forall_mem_cons.mpr ⟨⟨plainFor_of_name (by decide +kernel), q1858, q130⟩, List.forall_mem_cons.mpr ⟨⟨plainFor_of_name (by decide +kernel), q1862, q130⟩, List.forall_mem_cons.mpr ⟨⟨plainFor_of_name (by decide +kernel), q1866, q130⟩, List.forall_mem_cons.mpr ⟨⟨plainFor_of_name (by decide +kernel), q1870, q130⟩, List.forall_mem_cons.mpr ⟨⟨plainFor_of_name (by decide +kernel), q1874, q130⟩, List.forall_mem_cons.mpr ⟨⟨plainFor_of_name (by decide +kernel), q1891, q130⟩, List.forall_mem_cons.mpr ⟨⟨plainFor_of_name (by decide +kernel), q1895, q130⟩, List.forall_mem_cons.mpr ⟨⟨plainFor_of_name (by decide +kernel), q1899, q130⟩, List.forall_mem_cons.mpr ⟨⟨plainFor_of_name (by decide +kernel), q1903, q130⟩, List.forall_mem_cons.mpr ⟨⟨plainFor_of_name (by decide +kernel), q1907, q130⟩, List.forall_mem_cons.mpr ⟨⟨plainFor_of_name (by decide +kernel), q1911, q130⟩, List.forall_mem_cons.mpr ⟨⟨plainFor_of_name (by decide +kernel), q1915, q130⟩, List.forall_mem_cons.mpr ⟨⟨plainFor_of_name (by decide +kernel), q1919, q130⟩, (List.forall_mem_nil _)⟩⟩⟩⟩⟩⟩⟩⟩⟩⟩⟩⟩⟩⟩⟩⟩⟩⟩⟩⟩⟩⟩⟩⟩⟩⟩⟩⟩⟩⟩⟩⟩⟩⟩⟩⟩⟩⟩⟩⟩
theorem xd_all_4 : ∀ x ∈ xd_4, xm_DO x := List.forall_mem_cons.mpr ⟨⟨plainFor_of_name (by decide +kernel), q1923, q130⟩, List.forall_mem_cons.mpr ⟨⟨plainFor_of_name (by decide +kernel), q1927, q130⟩, List.forall_mem_cons.mpr ⟨⟨plainFor_of_name (by decide +kernel), q1931, q130⟩, List.forall_mem_cons.mpr ⟨⟨plainFor_of_name (by decide +kernel), q1935, q130⟩, List.forall_mem_cons.mpr ⟨⟨plainFor_of_name (by decide +kernel), q1939, q130⟩, List.forall_mem_cons.mpr ⟨⟨plainFor_of_name (by decide +kernel), q1943, q130⟩, List.forall_mem_cons.mpr ⟨⟨plainFor_of_name (by decide +kernel), q1947, q130⟩, List.forall_mem_cons.mpr ⟨⟨plainFor_of_name (by decide +kernel), q1951, q130⟩, List.forall_mem_cons.mpr ⟨⟨plainFor_of_name (by decide +kernel), q1955, q130⟩, List.forall_mem_cons.mpr ⟨⟨plainFor_of_name (by decide +kernel), q1960, q130⟩, List.forall_mem_cons.mpr ⟨⟨plainFor_of_name (by decide +kernel), q1964, q130⟩, List.forall_mem_cons.mpr ⟨⟨plainFor_of_name (by decide +kernel), q1967, q130⟩, List.forall_mem_cons.mpr ⟨⟨plainFor_of_name (by decide +kernel), q1971, q130⟩, List.forall_mem_cons.mpr ⟨⟨plainFor_of_name (by decide +kernel), q1975, q130⟩, List.forall_mem_cons.mpr ⟨⟨plainFor_of_name (by decide +kernel), q1979, q130⟩, List.forall_mem_cons.mpr ⟨⟨plainFor_of_name (by decide +kernel), q1983, q130⟩, List.forall_mem_cons.mpr ⟨⟨plainFor_of_name (by decide +kernel), q1987, q130⟩, List.forall_mem_cons.mpr ⟨⟨plainFor_of_name (by decide +kernel), q1990, q130⟩, List.forall_mem_cons.mpr ⟨⟨plainFor_of_name (by decide +kernel), q1994, q130⟩, List.forall_mem_cons.mpr ⟨⟨plainFor_of_name (by decide +kernel), q1998, q130⟩, List.forall_mem_cons.mpr ⟨⟨plainFor_of_name (by decide +kernel), q2002, q130⟩, List.forall_mem_cons.mpr ⟨⟨plainFor_of_name (by decide +kernel), q2006, q130⟩, List.forall_mem_cons.mpr ⟨⟨plainFor_of_name (by decide +kernel), q2010, q130⟩, List.forall_mem_cons.mpr ⟨⟨plainFor_of_name (by decide +kernel), q2014, q130⟩, List.forall_mem_cons.mpr ⟨⟨plainFor_of_name (by decide +kernel), q2018, q130⟩, List.forall_mem_cons.mpr ⟨⟨plainFor_of_name (by decide +kernel), q2022, q130⟩, List.forall_mem_cons.mpr ⟨⟨plainFor_of_name (by decide +kernel), q2025, q130⟩, List.forall_mem_cons.mpr ⟨⟨plainFor_of_name (by decide +kernel), q2029, q130⟩, List.forall_mem_cons.mpr ⟨⟨plainFor_of_name (by decide +kernel), q2033, q130⟩, List.forall_mem_cons.mpr ⟨⟨plainFor_of_name (by decide +kernel), q2037, q130⟩, List.forall_mem_cons.mpr ⟨⟨plainFor_of_name (by decide +kernel), q2041, q130⟩, List.forall_mem_cons.mpr ⟨⟨plainFor_of_name (by decide +kernel), q2044, q130⟩, List.forall_mem_cons.mpr ⟨⟨plainFor_of_name (by decide +kernel), q2048, q130⟩, List.forall_mem_cons.mpr ⟨⟨plainFor_of_name (by decide +kernel), q2052, q130⟩, List.forall_mem_cons.mpr ⟨⟨plainFor_of_name (by decide +kernel), q2056, q130⟩, List.forall_mem_cons.mpr ⟨⟨plainFor_of_name (by decide +kernel), q2059, q130⟩, List.forall_mem_cons.mpr ⟨⟨plainFor_of_name (by decide +kernel), q2063, q130⟩, List.forall_mem_cons.mpr ⟨⟨plainFor_of_name (by decide +kernel), q2066, q130⟩, List.forall_mem_cons.mpr ⟨⟨plainFor_of_name (by decide +kernel), q2070, q130⟩, List.forall_mem_cons.mpr ⟨⟨plainFor_of_name (by decide +kernel), q2074, q130⟩, (List.forall_mem_nil _)⟩⟩⟩⟩⟩⟩⟩⟩⟩⟩⟩⟩⟩⟩⟩⟩⟩⟩⟩⟩⟩⟩⟩⟩⟩⟩⟩⟩⟩⟩⟩⟩⟩⟩⟩⟩⟩⟩⟩⟩
theorem xd_all_5 : ∀ x ∈ xd_5, xm_DO x := List.forall_mem_cons.mpr ⟨⟨plainFor_of_name (by decide +kernel), q2077, q130⟩, List.forall_mem_cons.mpr ⟨⟨plainFor_of_name (by decide +kernel), q2081, q130⟩, List.forall_mem_cons.mpr ⟨⟨plainFor_of_name (by decide +kernel), q2084, q130⟩, List.forall_mem_cons.mpr ⟨⟨plainFor_of_name (by decide +kernel), q2088, q130⟩, List.forall_mem_cons.mpr ⟨⟨plainFor_of_name (by decide +kernel), q2092, q130⟩, List.forall_mem_cons.mpr ⟨⟨plainFor_of_name (by decide +kernel), q2096, q130⟩, List.forall_mem_cons.mpr ⟨⟨plainFor_of_name (by decide +kernel), q2100, q130⟩, List.forall_mem_cons.mpr ⟨⟨plainFor_of_name (by decide +kernel), q2104, q130⟩, List.forall_mem_cons.mpr ⟨⟨plainFor_of_name (by decide +kernel), q2108, q130⟩, List.forall_mem_cons.mpr ⟨⟨plainFor_of_name (by decide +kernel), q2112, q130⟩, List.forall_mem_cons.mpr ⟨⟨plainFor_of_name (by decide +kernel), q2117, q130⟩, List.forall_mem_cons.mpr ⟨⟨plainFor_of_name (by decide +kernel), q2121, q130⟩, List.forall_mem_cons.mpr ⟨⟨plainFor_of_name (by decide +kernel), q2125, q130⟩, List.forall_mem_cons.mpr ⟨⟨plainFor_of_name (by decide +kernel), q2129, q130⟩, List.forall_mem_cons.mpr ⟨⟨plainFor_of_name (by decide +kernel), q2133, q130⟩, List.forall_mem_cons.mpr ⟨⟨plainFor_of_name (by decide +kernel), q2137, q130⟩, List.forall_mem_cons.mpr ⟨⟨plainFor_of_name (by decide +kernel), q2140, q130⟩, List.forall_mem_cons.mpr ⟨⟨plainFor_of_name (by decide +kernel), q2145, q130⟩, List.forall_mem_cons.mpr ⟨⟨plainFor_of_name (by decide +kernel), q2149, q130⟩, List.forall_mem_cons.mpr ⟨⟨plainFor_of_name (by decide +kernel), q2153, q130⟩, List.forall_mem_cons.mpr ⟨⟨plainFor_of_name (by decide +kernel), q2157, q130⟩, List.forall_mem_cons.mpr ⟨⟨plainFor_of_name (by decide +kernel), q2161, q130⟩, List.forall_mem_cons.mpr ⟨⟨plainFor_of_name (by decide +kernel), q2165, q130⟩, List.forall_mem_cons.mpr ⟨⟨plainFor_of_name (by decide +kernel), q2170, q130⟩, List.forall_mem_cons.mpr ⟨⟨plainFor_of_name (by decide +kernel), q2174, q130⟩, List.forall_mem_cons.mpr ⟨⟨plainFor_of_name (by decide +kernel), q2178, q130⟩, List.forall_mem_cons.mpr ⟨⟨plainFor_of_name (by decide +kernel), q2182, q130⟩, List.forall_mem_cons.mpr ⟨⟨plainFor_of_name (by decide +kernel), q2186, q130⟩, List.forall_mem_cons.mpr ⟨⟨plainFor_of_name (by decide +kernel), q2190, q130⟩, List.forall_mem_cons.mpr ⟨⟨plainFor_of_name (by decide +kernel), q2194, q130⟩, List.forall_mem_cons.mpr ⟨⟨plainFor_of_name (by decide +kernel), q2198, q130⟩, List.forall_mem_cons.mpr ⟨⟨plainFor_of_name (by decide +kernel), q2202, q130⟩, List.forall_mem_cons.mpr ⟨⟨plainFor_of_name (by decide +kernel), q2206, q130⟩, List.forall_mem_cons.mpr ⟨⟨plainFor_of_name (by decide +kernel), q2210, q130⟩, List.forall_mem_cons.mpr ⟨⟨plainFor_of_name (by decide +kernel), q2214, q130⟩, List.forall_mem_cons.mpr ⟨⟨plainFor_of_name (by decide +kernel), q2218, q130⟩, List.forall_mem_cons.mpr ⟨⟨plainFor_of_name (by decide +kernel), q2222, q130⟩, List.forall_mem_cons.mpr ⟨⟨plainFor_of_name (by decide +kernel), q2226, q130⟩, List.forall_mem_cons.mpr ⟨⟨plainFor_of_name (by decide +kernel), q2230, q130⟩, List.forall_mem_cons.mpr ⟨⟨plainFor_of_name (by decide +kernel), q2234, q130⟩, (List.forall_mem_nil _)⟩⟩⟩⟩⟩⟩⟩⟩⟩⟩⟩⟩⟩⟩⟩⟩⟩⟩⟩⟩⟩⟩⟩⟩⟩⟩⟩⟩⟩⟩⟩⟩⟩⟩⟩⟩⟩⟩⟩⟩
theorem xd_all_6 : ∀ x ∈ xd_6, xm_DO x := List.forall_mem_cons.mpr ⟨⟨plainFor_of_name (by decide +kernel), q2238, q130⟩, List.forall_mem_cons.mpr ⟨⟨plainFor_of_name (by decide +kernel), q2242, q130⟩, List.forall_mem_cons.mpr ⟨⟨plainFor_of_name (by decide +kernel), q669, q139⟩, List.forall_mem_cons.mpr ⟨⟨plainFor_of_name (by decide +kernel), q841, q147⟩, List.forall_mem_cons.mpr ⟨⟨plainFor_of_name (by decide +kernel), q896, q148⟩, List.forall_mem_cons.mpr ⟨⟨plainFor_of_name (by decide +kernel), q893, q149⟩, List.forall_mem_cons.mpr ⟨⟨plainFor_of_name (by decide +kernel), q1038, q149⟩, List.forall_mem_cons.mpr ⟨⟨plainFor_of_name (by decide +kernel), q906, q150⟩, List.forall_mem_cons.mpr ⟨⟨plainFor_of_name (by decide +kernel), q1043, q150⟩, List.forall_mem_cons.mpr ⟨⟨plainFor_of_name (by decide +kernel), q916, q151⟩, List.forall_mem_cons.mpr ⟨⟨plainFor_of_name (by decide +kernel), q1040, q151⟩, List.forall_mem_cons.mpr ⟨⟨plainFor_of_name (by decide +kernel), q937, q152⟩, List.forall_mem_cons.mpr ⟨⟨plainFor_of_name (by decide +kernel), q1035, q152⟩, List.forall_mem_cons.mpr ⟨⟨plainFor_of_name (by decide +kernel), q956, q153⟩, List.forall_mem_cons.mpr ⟨⟨plainFor_of_name (by decide +kernel), q1057, q153⟩, List.forall_mem_cons.mpr ⟨⟨plainFor_of_name (by decide +kernel), q953, q154⟩, List.forall_mem_cons.mpr ⟨⟨plainFor_of_name (by decide +kernel), q1082, q154⟩, List.forall_mem_cons.mpr ⟨⟨plainFor_of_name (by decide +kernel), q966, q155⟩, List.forall_mem_cons.mpr ⟨⟨plainFor_of_name (by decide +kernel), q1076, q155⟩, List.forall_mem_cons.mpr ⟨⟨plainFor_of_name (by decide +kernel), q974, q156⟩, List.forall_mem_cons.mpr ⟨⟨plainFor_of_name (by decide +kernel), q1070, q156⟩, List.forall_mem_cons.mpr ⟨⟨plainFor_of_name (by decide +kernel), q982, q157⟩, List.forall_mem_cons.mpr ⟨⟨plainFor_of_name (by decide +kernel), q1067, q157⟩, List.forall_mem_cons.mpr ⟨⟨plainFor_of_name (by decide +kernel), q990, q158⟩, List.forall_mem_cons.mpr ⟨⟨plainFor_of_name (by decide +kernel), q1079, q158⟩, List.forall_mem_cons.mpr ⟨⟨plainFor_of_name (by decide +kernel), q998, q159⟩, List.forall_mem_cons.mpr ⟨⟨plainFor_of_name (by decide +kernel), q1064, q159⟩, List.forall_mem_cons.mpr ⟨⟨plainFor_of_name (by decide +kernel), q1006, q160⟩, List.forall_mem_cons.mpr ⟨⟨plainFor_of_name (by decide +kernel), q1073, q160⟩, List.forall_mem_cons.mpr ⟨⟨plainFor_of_name (by decide +kernel), q1135, q161⟩, List.forall_mem_cons.mpr ⟨⟨plainFor_of_name (by decide +kernel), q1191, q161⟩, List.forall_mem_cons.mpr ⟨⟨plainFor_of_name (by decide +kernel), q1216, q162⟩, List.forall_mem_cons.mpr ⟨⟨plainFor_of_name (by decide +kernel), q1269, q162⟩, List.forall_mem_cons.mpr ⟨⟨plainFor_of_name (by decide +kernel), q1532, q165⟩, List.forall_mem_cons.mpr ⟨⟨plainFor_of_name (by decide +kernel), q1536, q165⟩, List.forall_mem_cons.mpr ⟨⟨plainFor_of_name (by decide +kernel), q1569, q165⟩, List.forall_mem_cons.mpr ⟨⟨plainFor_of_name (by decide +kernel), q247, q122⟩, List.forall_mem_cons.mpr ⟨⟨plainFor_of_name (by decide +kernel), q244, q123⟩, List.forall_mem_cons.mpr ⟨⟨plainFor_of_name (by decide +kernel), q241, q124⟩, List.forall_mem_cons.mpr ⟨⟨plainFor_of_name (by decide +kernel), q344, q124⟩, (List.forall_mem_nil _)⟩⟩⟩⟩⟩⟩⟩⟩⟩⟩⟩⟩⟩⟩⟩⟩⟩⟩⟩⟩⟩⟩⟩⟩⟩⟩⟩⟩⟩⟩⟩⟩⟩⟩⟩⟩⟩⟩⟩⟩
theorem xd_all_7 : ∀ x ∈ (xd_7.take 34), xm_DO x := List.forall_mem_cons.mpr ⟨⟨plainFor_of_name (by decide +kernel), q620, q124⟩, List.forall_mem_cons.mpr ⟨⟨plainFor_of_name (by decide +kernel), q709, q124⟩, List.forall_mem_cons.mpr ⟨⟨plainFor_of_name (by decide +kernel), q717, q124⟩, List.forall_mem_cons.mpr ⟨⟨plainFor_of_name (by decide +kernel), q750, q124⟩, List.forall_mem_cons.mpr ⟨⟨plainFor_of_name (by decide +kernel), q754, q124⟩, List.forall_mem_cons.mpr ⟨⟨plainFor_of_name (by decide +kernel), q758, q124⟩, List.forall_mem_cons.mpr ⟨⟨plainFor_of_name (by decide +kernel), q762, q124⟩, List.forall_mem_cons.mpr ⟨⟨plainFor_of_name (by decide +kernel), q1091, q124⟩, List.forall_mem_cons.mpr ⟨⟨plainFor_of_name (by decide +kernel), q1121, q124⟩, List.forall_mem_cons.mpr ⟨⟨plainFor_of_name (by decide +kernel), q498, q131⟩, List.forall_mem_cons.mpr ⟨⟨plainFor_of_name (by decide +kernel), q502, q131⟩, List.forall_mem_cons.mpr ⟨⟨plainFor_of_name (by decide +kernel), q506, q131⟩, List.forall_mem_cons.mpr ⟨⟨plainFor_of_name (by decide +kernel), q512, q131⟩, List.forall_mem_cons.mpr ⟨⟨plainFor_of_name (by decide +kernel), q516, q131⟩, List.forall_mem_cons.mpr ⟨⟨plainFor_of_name (by decide +kernel), q549, q131⟩, List.forall_mem_cons.mpr ⟨⟨plainFor_of_name (by decide +kernel), q596, q131⟩, List.forall_mem_cons.mpr ⟨⟨plainFor_of_name (by decide +kernel), q602, q131⟩, List.forall_mem_cons.mpr ⟨⟨plainFor_of_name (by decide +kernel), q519, q132⟩, List.forall_mem_cons.mpr ⟨⟨plainFor_of_name (by decide +kernel), q522, q132⟩, List.forall_mem_cons.mpr ⟨⟨plainFor_of_name (by decide +kernel), q531, q132⟩, List.forall_mem_cons.mpr ⟨⟨plainFor_of_name (by decide +kernel), q599, q132⟩, List.forall_mem_cons.mpr ⟨⟨by decide +kernel, q525, q133⟩, List.forall_mem_cons.mpr ⟨⟨by decide +kernel, q528, q133⟩, List.forall_mem_cons.mpr ⟨⟨by decide +kernel, q1403, q133⟩, List.forall_mem_cons.mpr ⟨⟨plainFor_of_name (by decide +kernel), q554, q135⟩, List.forall_mem_cons.mpr ⟨⟨plainFor_of_name (by decide +kernel), q605, q135⟩, List.forall_mem_cons.mpr ⟨⟨plainFor_of_name (by decide +kernel), q712, q140⟩, List.forall_mem_cons.mpr ⟨⟨plainFor_of_name (by decide +kernel), q741, q141⟩, List.forall_mem_cons.mpr ⟨⟨plainFor_of_name (by decide +kernel), q722, q142⟩, List.forall_mem_cons.mpr ⟨⟨plainFor_of_name (by decide +kernel), q729, q142⟩, List.forall_mem_cons.mpr ⟨⟨plainFor_of_name (by decide +kernel), q738, q142⟩, List.forall_mem_cons.mpr ⟨⟨plainFor_of_name (by decide +kernel), q765, q144⟩, List.forall_mem_cons.mpr ⟨⟨plainFor_of_name (by decide +kernel), q773, q145⟩, List.forall_mem_cons.mpr ⟨⟨plainFor_of_name (by decide +kernel), q808, q145⟩, (List.forall_mem_nil _)⟩⟩⟩⟩⟩⟩⟩⟩⟩⟩⟩⟩⟩⟩⟩⟩⟩⟩⟩⟩⟩⟩⟩⟩⟩⟩⟩⟩⟩⟩⟩⟩⟩⟩
theorem xd_all : ∀ x ∈ xd_L.take xk_N, xm_DO x := by
  have e : xd_L.take xk_N = xd_0 ++ xd_1 ++ xd_2 ++ xd_3 ++ xd_4 ++ xd_5 ++ xd_6 ++ (xd_7.take 34) := by rfl
  rw [e]
  intro x hx
  simp only [List.mem_append] at hx
  rcases hx with (((((((hx | hx) | hx) | hx) | hx) | hx) | hx) | hx)
  · exact xd_all_0 x hx
  · exact xd_all_1 x hx
  · exact xd_all_2 x hx
  · exact xd_all_3 x hx
  · exact xd_all_4 x hx
  · exact xd_all_5 x hx
  · exact xd_all_6 x hx
  · exact xd_all_7 x hx
theorem xd_ok : ∀ i, i < xk_N → xm_DO (xd i) := by
  intro i hi
  have key : ∀ x ∈ xd_L.take xk_N, xm_DO x := xd_all
  have h1 : xd_L[i]? = some (xd i) := xd_get (by rw [xd_len]; omega)
  exact key _ (by
    have h2 : (xd_L.take xk_N)[i]? = some (xd i) := by rw [List.getElem?_take_of_lt hi]; exact h1
    exact List.mem_of_getElem? h2)
