/-! THE PROGRAM AS ONE FUNCTION; ITS RUN WITHOUT FUEL -/
set_option maxRecDepth 100000
def xp_L0 : List (List (Nat × xm_O)) := [xp_0, xp_1, xp_2, xp_3, xp_4, xp_5, xp_6, xp_7, xp_8, xp_9, xp_10, xp_11, xp_12, xp_13, xp_14, xp_15, xp_16, xp_17, xp_18, xp_19, xp_20, xp_21, xp_22, xp_23, xp_24, xp_25, xp_26, xp_27, xp_28, xp_29, xp_30, xp_31, xp_32, xp_33, xp_34, xp_35, xp_36, xp_37, xp_38, xp_39]
def xp_L1 : List (List (Nat × xm_O)) := [xp_40, xp_41, xp_42, xp_43, xp_44, xp_45, xp_46, xp_47, xp_48, xp_49, xp_50, xp_51, xp_52, xp_53, xp_54, xp_55, xp_56, xp_57, xp_58, xp_59, xp_60, xp_61, xp_62, xp_63, xp_64, xp_65, xp_66, xp_67, xp_68, xp_69, xp_70, xp_71, xp_72, xp_73, xp_74, xp_75, xp_76, xp_77, xp_78, xp_79]
def xp_L2 : List (List (Nat × xm_O)) := [xp_80, xp_81, xp_82, xp_83, xp_84, xp_85, xp_86, xp_87, xp_88, xp_89, xp_90, xp_91, xp_92, xp_93, xp_94, xp_95, xp_96, xp_97, xp_98, xp_99, xp_100, xp_101, xp_102, xp_103, xp_104, xp_105, xp_106, xp_107, xp_108, xp_109, xp_110, xp_111, xp_112, xp_113, xp_114, xp_115, xp_116, xp_117, xp_118, xp_119]
def xp_L3 : List (List (Nat × xm_O)) := [xp_120, xp_121, xp_122, xp_123, xp_124, xp_125, xp_126, xp_127, xp_128, xp_129, xp_130, xp_131, xp_132, xp_133, xp_134, xp_135, xp_136, xp_137, xp_138, xp_139, xp_140, xp_141, xp_142, xp_143, xp_144, xp_145, xp_146, xp_147, xp_148, xp_149, xp_150, xp_151, xp_152, xp_153, xp_154, xp_155, xp_156, xp_157, xp_158, xp_159]
def xp_L4 : List (List (Nat × xm_O)) := [xp_160, xp_161, xp_162, xp_163, xp_164, xp_165, xp_166, xp_167, xp_168, xp_169, xp_170, xp_171, xp_172, xp_173, xp_174, xp_175, xp_176, xp_177, xp_178, xp_179, xp_180, xp_181, xp_182, xp_183, xp_184, xp_185, xp_186, xp_187, xp_188, xp_189, xp_190, xp_191, xp_192, xp_193, xp_194, xp_195, xp_196, xp_197, xp_198, xp_199]
def xp_L5 : List (List (Nat × xm_O)) := [xp_200, xp_201, xp_202, xp_203, xp_204, xp_205, xp_206, xp_207, xp_208, xp_209, xp_210, xp_211, xp_212, xp_213, xp_214, xp_215, xp_216, xp_217, xp_218, xp_219, xp_220, xp_221, xp_222, xp_223, xp_224, xp_225, xp_226, xp_227, xp_228, xp_229, xp_230, xp_231, xp_232, xp_233, xp_234, xp_235, xp_236, xp_237, xp_238, xp_239]
def xp_L6 : List (List (Nat × xm_O)) := [xp_240, xp_241, xp_242, xp_243, xp_244, xp_245, xp_246, xp_247, xp_248, xp_249, xp_250, xp_251, xp_252, xp_253, xp_254, xp_255, xp_256, xp_257, xp_258, xp_259, xp_260, xp_261, xp_262, xp_263, xp_264, xp_265, xp_266, xp_267, xp_268, xp_269, xp_270, xp_271, xp_272, xp_273, xp_274, xp_275, xp_276, xp_277, xp_278, xp_279]
def xp_L7 : List (List (Nat × xm_O)) := [xp_280, xp_281, xp_282, xp_283, xp_284, xp_285, xp_286, xp_287, xp_288, xp_289, xp_290, xp_291, xp_292, xp_293, xp_294, xp_295, xp_296, xp_297, xp_298, xp_299, xp_300, xp_301, xp_302, xp_303, xp_304, xp_305, xp_306, xp_307, xp_308, xp_309, xp_310, xp_311, xp_312, xp_313, xp_314]
def xp_L : List (List (Nat × xm_O)) := xp_L0 ++ xp_L1 ++ xp_L2 ++ xp_L3 ++ xp_L4 ++ xp_L5 ++ xp_L6 ++ xp_L7
def xp (i pc : Nat) : Option xm_O := (xp_L.getD i []).lookup pc
/-- one step of the run -/
def xm_F1 (P : xm_P) (D : xm_D) (ex : Nat → Nat → Nat → List Value → List Value → xm_H → Option (Outcome × xm_H)) (d i pc : Nat) (la st : List Value) (h : xm_H) : Option (Outcome × xm_H) := match P i pc with
    | none => none
    | some (.inl e) => match e la st h with
      | none => none
      | some q => ex d i q.1 q.2.1 q.2.2.1 q.2.2.2
    | some (.inr (.inl r)) => match r st with
      | none => none
      | some v => some (.returned v, h)
    | some (.inr (.inr (.inl c))) => match d with
      | 0 => none
      | d' + 1 => match c st h with
        | none => none
        | some q => match ex d' q.1 0 (xm_ent (D q.1).2.2.1 q.2.1) [] h with
          | none => none
          | some (.returned v, h1) => ex (d' + 1) i (pc + 3) la (v.toList ++ q.2.2) h1
          | some (.threw a, h1) => match xm_hd (D i).2.2.2.2 pc with
            | none => some (.threw a, h1)
            | some w => match h1.2.2 a with
              | some (.inl o) => if o.1 = w.2 then ex (d' + 1) i w.1 la [.ref a] h1 else none
              | _ => none
    | some (.inr (.inr (.inr _))) => match st with
      | .ref a :: _ => match xm_hd (D i).2.2.2.2 pc with
        | none => some (.threw a, h)
        | some _ => none
      | _ => none
theorem xm_exec_F (P : xm_P) (D : xm_D) (f d i pc : Nat) (la st : List Value) (h : xm_H) : xm_exec P D (f + 1) d i pc la st h = xm_F1 P D (xm_exec P D f) d i pc la st h := by
  conv => lhs; unfold xm_exec
  rfl
theorem xm_F1_mono {P : xm_P} {D : xm_D} {ex ex' : Nat → Nat → Nat → List Value → List Value → xm_H → Option (Outcome × xm_H)} (hm : ∀ d i pc la st h r, ex d i pc la st h = some r → ex' d i pc la st h = some r) (d i pc : Nat) (la st : List Value) (h : xm_H) (r : Outcome × xm_H) (he : xm_F1 P D ex d i pc la st h = some r) : xm_F1 P D ex' d i pc la st h = some r := by
  unfold xm_F1 at he ⊢
  split at he
  · cases he
  · rename_i e hop
    try simp only [hop]
    split at he
    · cases he
    · rename_i q hq
      try simp only [hq]
      exact hm _ _ _ _ _ _ _ he
  · rename_i e hop
    try simp only [hop]
    exact he
  · rename_i e hop
    try simp only [hop]
    split at he
    · cases he
    · split at he
      · cases he
      · rename_i q hq
        try simp only [hq]
        split at he
        · cases he
        · rename_i v h1 h2
          rw [hm _ _ _ _ _ _ _ h2]
          exact hm _ _ _ _ _ _ _ he
        · rename_i a h1 h2
          rw [hm _ _ _ _ _ _ _ h2]
          try simp only
          split at he
          · rename_i hn
            try simp only [hn]
            exact he
          · rename_i w hw
            try simp only [hw]
            split at he
            · rename_i ob hob
              try simp only [hob]
              split at he
              · rename_i hc
                rw [if_pos hc]
                exact hm _ _ _ _ _ _ _ he
              · cases he
            · cases he
  · rename_i e hop
    try simp only [hop]
    exact he
theorem xm_exec_succ {P : xm_P} {D : xm_D} : ∀ (f d i pc : Nat) (la st : List Value) (h : xm_H) (r : Outcome × xm_H), xm_exec P D f d i pc la st h = some r → xm_exec P D (f + 1) d i pc la st h = some r := by
  intro f
  induction f with
  | zero => intro d i pc la st h r he; cases he
  | succ f ih =>
    intro d i pc la st h r he
    rw [xm_exec_F] at he
    rw [xm_exec_F]
    exact xm_F1_mono ih _ _ _ _ _ _ _ he
theorem xm_exec_le {P : xm_P} {D : xm_D} {f g : Nat} (hfg : f ≤ g) {d i pc : Nat} {la st : List Value} {h : xm_H} {r : Outcome × xm_H} (he : xm_exec P D f d i pc la st h = some r) : xm_exec P D g d i pc la st h = some r := by
  induction hfg with
  | refl => exact he
  | step _ ih => exact xm_exec_succ _ _ _ _ _ _ _ _ ih
theorem xa_ex (d i pc : Nat) (la st : List Value) (h : xm_H) : ∃ o : Option (Outcome × xm_H), ∀ r, o = some r ↔ ∃ f, xm_exec xp xd f d i pc la st h = some r := by
  by_cases hh : ∃ r f, xm_exec xp xd f d i pc la st h = some r
  · obtain ⟨r, f, hf⟩ := hh
    refine ⟨some r, fun r' => ⟨fun e => by cases e; exact ⟨f, hf⟩, fun ⟨g, hg⟩ => ?_⟩⟩
    have h1 := xm_exec_le (Nat.le_max_left f g) hf
    have h2 := xm_exec_le (Nat.le_max_right f g) hg
    rw [h1] at h2
    exact h2
  · exact ⟨none, fun r => ⟨(fun e => by cases e), (fun ⟨f, hf⟩ => absurd ⟨r, f, hf⟩ hh)⟩⟩
/-- the run, however long it takes -/
noncomputable def xa (d i pc : Nat) (la st : List Value) (h : xm_H) : Option (Outcome × xm_H) := Classical.choose (xa_ex d i pc la st h)
theorem xa_iff {d i pc : Nat} {la st : List Value} {h : xm_H} {r : Outcome × xm_H} : xa d i pc la st h = some r ↔ ∃ f, xm_exec xp xd f d i pc la st h = some r := Classical.choose_spec (xa_ex d i pc la st h) r
/-- the run is its own step -/
theorem xa_F (d i pc : Nat) (la st : List Value) (h : xm_H) : xa d i pc la st h = xm_F1 xp xd xa d i pc la st h := by
  have key : ∀ r, xa d i pc la st h = some r ↔ xm_F1 xp xd xa d i pc la st h = some r := by
    intro r
    rw [xa_iff]
    constructor
    · rintro ⟨f, hf⟩
      cases f with
      | zero => cases hf
      | succ f =>
        rw [xm_exec_F] at hf
        exact xm_F1_mono (fun d i pc la st h r hr => xa_iff.mpr ⟨f, hr⟩) _ _ _ _ _ _ _ hf
    · intro hf
      unfold xm_F1 at hf
      split at hf
      · cases hf
      · rename_i e hop
        split at hf
        · cases hf
        · rename_i q hq
          obtain ⟨f, hf1⟩ := xa_iff.mp hf
          refine ⟨f + 1, ?_⟩
          rw [xm_exec_F]
          unfold xm_F1
          simp only [hop, hq]
          exact hf1
      · rename_i rr hop
        refine ⟨1, ?_⟩
        rw [xm_exec_F]
        unfold xm_F1
        simp only [hop]
        exact hf
      · rename_i c hop
        split at hf
        · cases hf
        · split at hf
          · cases hf
          · rename_i q hq
            split at hf
            · cases hf
            · rename_i v h1 h2
              obtain ⟨f1, hf1⟩ := xa_iff.mp h2
              obtain ⟨f2, hf2⟩ := xa_iff.mp hf
              refine ⟨max f1 f2 + 1, ?_⟩
              rw [xm_exec_F]
              unfold xm_F1
              simp only [hop, hq]
              rw [xm_exec_le (Nat.le_max_left f1 f2) hf1]
              exact xm_exec_le (Nat.le_max_right f1 f2) hf2
            · rename_i a h1 h2
              obtain ⟨f1, hf1⟩ := xa_iff.mp h2
              split at hf
              · rename_i hn
                refine ⟨f1 + 1, ?_⟩
                rw [xm_exec_F]
                unfold xm_F1
                simp only [hop, hq]
                rw [hf1]
                simp only [hn]
                exact hf
              · rename_i w hw
                split at hf
                · rename_i ob hob
                  split at hf
                  · rename_i hcc
                    obtain ⟨f2, hf2⟩ := xa_iff.mp hf
                    refine ⟨max f1 f2 + 1, ?_⟩
                    rw [xm_exec_F]
                    unfold xm_F1
                    simp only [hop, hq]
                    rw [xm_exec_le (Nat.le_max_left f1 f2) hf1]
                    simp only [hw, hob, if_pos hcc]
                    exact xm_exec_le (Nat.le_max_right f1 f2) hf2
                  · cases hf
                · cases hf
      · rename_i u hop
        refine ⟨1, ?_⟩
        rw [xm_exec_F]
        unfold xm_F1
        simp only [hop]
        exact hf
  cases hx : xm_F1 xp xd xa d i pc la st h with
  | some r => exact (key r).mpr hx
  | none =>
    cases hy : xa d i pc la st h with
    | none => rfl
    | some r => have := (key r).mp hy; rw [hx] at this; cases this
theorem xa_e {d i pc : Nat} {la st : List Value} {h : xm_H} {e : xm_E} (hP : xp i pc = some (.inl e)) : xa d i pc la st h = (e la st h).bind fun q => xa d i q.1 q.2.1 q.2.2.1 q.2.2.2 := by
  rw [xa_F]
  unfold xm_F1
  simp only [hP]
  cases e la st h <;> rfl
theorem xa_ret {d i pc : Nat} {la st : List Value} {h : xm_H} {rr : List Value → Option (Option Value)} (hP : xp i pc = some (.inr (.inl rr))) : xa d i pc la st h = (rr st).map fun v => (Outcome.returned v, h) := by
  rw [xa_F]
  unfold xm_F1
  simp only [hP]
  cases rr st <;> rfl
/-- a method's answer -/
noncomputable def xr (d y : Nat) (av : List Value) (h : xm_H) : Option (Outcome × xm_H) := xa d y 0 (xm_ent (xd y).2.2.1 av) [] h
/-- behind a call -/
noncomputable def x_call (o : Option (Outcome × xm_H)) (d i pc : Nat) (la st : List Value) : Option (Outcome × xm_H) := match o with
  | none => none
  | some (.returned v, h1) => xa d i (pc + 3) la (v.toList ++ st) h1
  | some (.threw a, h1) => match xm_hd (xd i).2.2.2.2 pc with
    | none => some (.threw a, h1)
    | some w => match h1.2.2 a with
      | some (.inl o) => if o.1 = w.2 then xa d i w.1 la [.ref a] h1 else none
      | _ => none
theorem xa_c {d i pc : Nat} {la st : List Value} {h : xm_H} {c : List Value → xm_H → Option (Nat × List Value × List Value)} (hP : xp i pc = some (.inr (.inr (.inl c)))) : xa (d + 1) i pc la st h = (c st h).bind fun q => x_call (xr d q.1 q.2.1 h) (d + 1) i pc la q.2.2 := by
  rw [xa_F]
  unfold xm_F1
  simp only [hP]
  cases c st h with
  | none => rfl
  | some q => rfl
theorem xa_thr {d i pc a : Nat} {la st : List Value} {h : xm_H} (hP : xp i pc = some (.inr (.inr (.inr ())))) (hn : xm_hd (xd i).2.2.2.2 pc = none) : xa d i pc la (.ref a :: st) h = some (.threw a, h) := by
  rw [xa_F]
  unfold xm_F1
  simp only [hP, hn]

