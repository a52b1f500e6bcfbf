/-! THE OLD CELLS THAT THE METHODS NAME: strings and statics; by program -/
def xm_Og (G : xm_G) : Prop :=
  (va_Z "java/util/ArrayList" "EMPTY_ELEMENTDATA" "[Ljava/lang/Object;" (xm_cv G.2.1 (.ref 1)) (fun q => G.1.heap.size ≤ q) G.1 G.1.heap) ∧
  (va_Z "java/util/ArrayList" "DEFAULTCAPACITY_EMPTY_ELEMENTDATA" "[Ljava/lang/Object;" (xm_cv G.2.1 (.ref 2)) (fun q => G.1.heap.size ≤ q) G.1 G.1.heap) ∧
  (va_Z "java/lang/Long$LongCache" "cache" "[Ljava/lang/Long;" (xm_cv G.2.1 (.ref 3)) (fun q => G.1.heap.size ≤ q) G.1 G.1.heap) ∧
  (va_Z "java/lang/String" "COMPACT_STRINGS" "Z" (xm_cv G.2.1 (.int 1)) (fun q => G.1.heap.size ≤ q) G.1 G.1.heap) ∧
  (va_Z "jdk/internal/util/Preconditions" "SIOOBE_FORMATTER" "Ljava/util/function/BiFunction;" (xm_cv G.2.1 (.retAddr 1)) (fun q => G.1.heap.size ≤ q) G.1 G.1.heap) ∧
  (vk_R "LiarsCock$Reader" 11 "fact" (G.2.1 4) G.1) ∧
  (vk_R "LiarsCock$Reader" 13 "chance" (G.2.1 5) G.1) ∧
  (vk_R "LiarsCock$Reader" 15 "place" (G.2.1 6) G.1) ∧
  (vk_R "LiarsCock$Reader" 17 "bearing" (G.2.1 7) G.1) ∧
  (vk_R "LiarsCock$Reader" 19 "person" (G.2.1 8) G.1) ∧
  (vk_R "LiarsCock$Reader" 21 "at" (G.2.1 9) G.1) ∧
  (vk_R "LiarsCock$Reader" 23 "knows" (G.2.1 10) G.1) ∧
  (vk_R "LiarsCock$Reader" 25 "common" (G.2.1 11) G.1) ∧
  (vk_R "LiarsCock$Reader" 27 "cock" (G.2.1 12) G.1) ∧
  (vk_R "LiarsCock$Reader" 29 "law" (G.2.1 13) G.1) ∧
  (vk_R "LiarsCock$Reader" 31 "late" (G.2.1 14) G.1) ∧
  (vk_R "LiarsCock$Reader" 33 "not" (G.2.1 15) G.1) ∧
  (vk_R "LiarsCock$Reader" 35 "and" (G.2.1 16) G.1) ∧
  (vk_R "LiarsCock$Reader" 37 "or" (G.2.1 17) G.1) ∧
  (vk_R "LiarsCock$Reader" 91 "()<=+-*;" (G.2.1 18) G.1)
theorem xog_EMPTY_ELEMENTDATA {G : xm_G} (h : xm_Og G) : va_Z "java/util/ArrayList" "EMPTY_ELEMENTDATA" "[Ljava/lang/Object;" (xm_cv G.2.1 (.ref 1)) (fun q => G.1.heap.size ≤ q) G.1 G.1.heap := h.1
theorem xog_DEFAULTCAPACITY_EMPTY_ELEMENTDATA {G : xm_G} (h : xm_Og G) : va_Z "java/util/ArrayList" "DEFAULTCAPACITY_EMPTY_ELEMENTDATA" "[Ljava/lang/Object;" (xm_cv G.2.1 (.ref 2)) (fun q => G.1.heap.size ≤ q) G.1 G.1.heap := h.2.1
theorem xog_cache {G : xm_G} (h : xm_Og G) : va_Z "java/lang/Long$LongCache" "cache" "[Ljava/lang/Long;" (xm_cv G.2.1 (.ref 3)) (fun q => G.1.heap.size ≤ q) G.1 G.1.heap := h.2.2.1
theorem xog_COMPACT_STRINGS {G : xm_G} (h : xm_Og G) : va_Z "java/lang/String" "COMPACT_STRINGS" "Z" (xm_cv G.2.1 (.int 1)) (fun q => G.1.heap.size ≤ q) G.1 G.1.heap := h.2.2.2.1
theorem xog_SIOOBE_FORMATTER {G : xm_G} (h : xm_Og G) : va_Z "jdk/internal/util/Preconditions" "SIOOBE_FORMATTER" "Ljava/util/function/BiFunction;" (xm_cv G.2.1 (.retAddr 1)) (fun q => G.1.heap.size ≤ q) G.1 G.1.heap := h.2.2.2.2.1
theorem xog_s4 {G : xm_G} (h : xm_Og G) : vk_R "LiarsCock$Reader" 11 "fact" (G.2.1 4) G.1 := h.2.2.2.2.2.1
theorem xog_s5 {G : xm_G} (h : xm_Og G) : vk_R "LiarsCock$Reader" 13 "chance" (G.2.1 5) G.1 := h.2.2.2.2.2.2.1
theorem xog_s6 {G : xm_G} (h : xm_Og G) : vk_R "LiarsCock$Reader" 15 "place" (G.2.1 6) G.1 := h.2.2.2.2.2.2.2.1
theorem xog_s7 {G : xm_G} (h : xm_Og G) : vk_R "LiarsCock$Reader" 17 "bearing" (G.2.1 7) G.1 := h.2.2.2.2.2.2.2.2.1
theorem xog_s8 {G : xm_G} (h : xm_Og G) : vk_R "LiarsCock$Reader" 19 "person" (G.2.1 8) G.1 := h.2.2.2.2.2.2.2.2.2.1
theorem xog_s9 {G : xm_G} (h : xm_Og G) : vk_R "LiarsCock$Reader" 21 "at" (G.2.1 9) G.1 := h.2.2.2.2.2.2.2.2.2.2.1
theorem xog_s10 {G : xm_G} (h : xm_Og G) : vk_R "LiarsCock$Reader" 23 "knows" (G.2.1 10) G.1 := h.2.2.2.2.2.2.2.2.2.2.2.1
theorem xog_s11 {G : xm_G} (h : xm_Og G) : vk_R "LiarsCock$Reader" 25 "common" (G.2.1 11) G.1 := h.2.2.2.2.2.2.2.2.2.2.2.2.1
theorem xog_s12 {G : xm_G} (h : xm_Og G) : vk_R "LiarsCock$Reader" 27 "cock" (G.2.1 12) G.1 := h.2.2.2.2.2.2.2.2.2.2.2.2.2.1
theorem xog_s13 {G : xm_G} (h : xm_Og G) : vk_R "LiarsCock$Reader" 29 "law" (G.2.1 13) G.1 := h.2.2.2.2.2.2.2.2.2.2.2.2.2.2.1
theorem xog_s14 {G : xm_G} (h : xm_Og G) : vk_R "LiarsCock$Reader" 31 "late" (G.2.1 14) G.1 := h.2.2.2.2.2.2.2.2.2.2.2.2.2.2.2.1
theorem xog_s15 {G : xm_G} (h : xm_Og G) : vk_R "LiarsCock$Reader" 33 "not" (G.2.1 15) G.1 := h.2.2.2.2.2.2.2.2.2.2.2.2.2.2.2.2.1
theorem xog_s16 {G : xm_G} (h : xm_Og G) : vk_R "LiarsCock$Reader" 35 "and" (G.2.1 16) G.1 := h.2.2.2.2.2.2.2.2.2.2.2.2.2.2.2.2.2.1
theorem xog_s17 {G : xm_G} (h : xm_Og G) : vk_R "LiarsCock$Reader" 37 "or" (G.2.1 17) G.1 := h.2.2.2.2.2.2.2.2.2.2.2.2.2.2.2.2.2.2.1
theorem xog_s18 {G : xm_G} (h : xm_Og G) : vk_R "LiarsCock$Reader" 91 "()<=+-*;" (G.2.1 18) G.1 := h.2.2.2.2.2.2.2.2.2.2.2.2.2.2.2.2.2.2.2
