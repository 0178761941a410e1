/-! THE GROUND: what holds all through a run beside the words of lw_all: nest links, castables, array classes over, interface entries, the enum's constants -/
def nwL : List Cond := [.fieldLinkNest "TrunkLitters$Tale" 29 "TrunkLitters" "time" "I" "TrunkLitters", .fieldLinkNest "TrunkLitters$Reader" 35 "TrunkLitters" "tape" "[B" "TrunkLitters", .fieldLinkNest "TrunkLitters$Reader" 32 "TrunkLitters" "taped" "I" "TrunkLitters",
  .methodLinkNest "TrunkLitters" 47 ⟨"TrunkLitters$Book", "<init>", "()V"⟩ "TrunkLitters", .methodLinkNest "TrunkLitters" 54 ⟨"TrunkLitters$House", "<init>", "()V"⟩ "TrunkLitters", .methodLinkNest "TrunkLitters" 116 ⟨"TrunkLitters$Reader", "<init>", "(LTrunkLitters;)V"⟩ "TrunkLitters", .methodLinkNest "TrunkLitters$Book" 23 ⟨"TrunkLitters$Ask", "<init>", "()V"⟩ "TrunkLitters", .methodLinkNest "TrunkLitters$Tale" 35 ⟨"TrunkLitters", "sharedAsTold", "(II)I"⟩ "TrunkLitters", .methodLinkNest "TrunkLitters$House" 119 ⟨"TrunkLitters", "shared", "(II)I"⟩ "TrunkLitters", .methodLinkNest "TrunkLitters$Reader" 23 ⟨"TrunkLitters$Book", "<init>", "()V"⟩ "TrunkLitters", .methodLinkNest "TrunkLitters$Reader" 150 ⟨"TrunkLitters", "find", "(Ljava/util/ArrayList;Ljava/lang/String;)I"⟩ "TrunkLitters",
  .castable "TrunkLitters$Room" "TrunkLitters$Named", .castable "TrunkLitters$Trunk" "TrunkLitters$Named", .castable "TrunkLitters$Wrong" "TrunkLitters$Wrong", .castable "TrunkLitters$Room" "java/lang/Object", .castable "TrunkLitters$Trunk" "java/lang/Object", .castable "TrunkLitters$Tale" "java/lang/Object",
  .privateMethod ⟨"java/lang/AbstractStringBuilder", "ensureCapacityInternal", "(I)V"⟩, .castable "[B" "java/lang/Cloneable", .declares ⟨"java/lang/Object", "getClass", "()Ljava/lang/Class;"⟩]
theorem nwL_ok : ∀ w ∈ nwL, w ∈ lw_tbl := by
  refine List.forall_mem_cons.mpr ⟨q374, List.forall_mem_cons.mpr ⟨q364, List.forall_mem_cons.mpr ⟨q366, List.forall_mem_cons.mpr ⟨q166, List.forall_mem_cons.mpr ⟨q267, List.forall_mem_cons.mpr ⟨q462, List.forall_mem_cons.mpr ⟨q201, List.forall_mem_cons.mpr ⟨q1514, List.forall_mem_cons.mpr ⟨q1165, List.forall_mem_cons.mpr ⟨q468, List.forall_mem_cons.mpr ⟨q889, List.forall_mem_cons.mpr ⟨q2258, List.forall_mem_cons.mpr ⟨q2259, List.forall_mem_cons.mpr ⟨q824, List.forall_mem_cons.mpr ⟨q2269, List.forall_mem_cons.mpr ⟨q2272, List.forall_mem_cons.mpr ⟨q2281, List.forall_mem_cons.mpr ⟨q561, List.forall_mem_cons.mpr ⟨q587, List.forall_mem_cons.mpr ⟨q2285, ?_⟩⟩⟩⟩⟩⟩⟩⟩⟩⟩⟩⟩⟩⟩⟩⟩⟩⟩⟩⟩
  intro w h
  cases h
theorem nwL_warm {s U : State} (hW : s.WarmedH U.vm) (h : ∀ w ∈ nwL, va_Nw w s) : ∀ w ∈ nwL, va_Nw w U := by
  intro w hw
  have h1 := h w hw
  simp only [nwL, List.mem_cons, List.not_mem_nil, or_false] at hw
  rcases hw with rfl | rfl | rfl | rfl | rfl | rfl | rfl | rfl | rfl | rfl | rfl | rfl | rfl | rfl | rfl | rfl | rfl | rfl | rfl | rfl
  · exact va_Nw.warmF hW h1
  · exact va_Nw.warmF hW h1
  · exact va_Nw.warmF hW h1
  · exact va_Nw.warmM hW h1
  · exact va_Nw.warmM hW h1
  · exact va_Nw.warmM hW h1
  · exact va_Nw.warmM hW h1
  · exact va_Nw.warmM hW h1
  · exact va_Nw.warmM hW h1
  · exact va_Nw.warmM hW h1
  · exact va_Nw.warmM hW h1
  · exact va_Nw.warmC hW h1
  · exact va_Nw.warmC hW h1
  · exact va_Nw.warmC hW h1
  · exact va_Nw.warmC hW h1
  · exact va_Nw.warmC hW h1
  · exact va_Nw.warmC hW h1
  · exact Cond.privateMethod_warm hW h1
  · exact va_Nw.warmC hW h1
  · exact va_Nw.warmD hW h1
/-- the array class of rows of ints -/
def AOI (U : State) : Prop := (Cond.arrayOver (.array .int)).before #[] U = true
theorem AOI.moved {u U : State} (hvm : u.vm.Alike U.vm) (h : AOI u) : AOI U := by
  unfold AOI Cond.before Cond.holds at h ⊢
  simp only [Cond.value, beq_iff_eq] at h ⊢
  cases hc : u.vm.findClass (FieldType.array .int).toString with
  | none => simp [hc] at h
  | some comp =>
    simp only [hc, Option.bind_some, Option.bind_eq_some_iff, Option.map_eq_some_iff] at h
    obtain ⟨c, hi, k, hk, hb⟩ := h
    obtain ⟨k', hk', he⟩ := hvm.2.2 _ _ hk
    have hbe : U.vm.bare = u.vm.bare := by first | exact hvm.bare_eq | exact hvm.bare_eq.symm
    have h2 := va_idx_bare U.vm comp
    rw [hbe] at h2
    have hi' := h2.symm.trans ((va_idx_bare u.vm comp).trans hi)
    have f1 : U.vm.findClass (FieldType.array .int).toString = some comp := by rw [hvm.findClass]; exact hc
    rw [f1]
    simp only [Option.bind_some, Option.bind_eq_some_iff, Option.map_eq_some_iff]
    refine ⟨c, hi', k', hk', ?_⟩
    rw [he, hvm.findClass]
    exact hb
/-- the classes whose objects are formulas -/
def fwC (i : Nat) : String := ["TrunkLitters$Not", "TrunkLitters$Value", "TrunkLitters$Pair", "TrunkLitters$Asked$1", "TrunkLitters$Asked$2", "TrunkLitters$Asked$3", "TrunkLitters$Asked$4", "TrunkLitters$Asked$5"].getD i ""
def fwX : MethodName := ⟨"TrunkLitters$Node", "of", "(LTrunkLitters$Ask;)I"⟩
def fwY (i : Nat) : MethodName := ⟨fwC i, "of", "(LTrunkLitters$Ask;)I"⟩
def enN (i : Nat) : String := ["HOW_GREAT", "HOW_ALIKE", "WHAT_IS_LEFT", "HOW_MANY", "A_YEAR"].getD i ""
/-- the texts that are written in the program: their entries, texts, lengths, bytes -/
def strI : List Nat := [15, 111, 113, 115, 117, 119, 120, 122, 124, 126, 128, 130, 132, 134, 136, 138, 140, 142, 144]
def strT : List String := ["", "room", "holds", "trunk", "bulk", "at", "marks", "told", "brood", "pines", "tales", "draw", "alike", "left", "many", "year", "and", "or", "not"]
def strN : List Nat := [0, 4, 5, 5, 4, 2, 5, 4, 5, 5, 5, 4, 5, 4, 4, 4, 3, 2, 3]
def strB : List (List Int32) := [[], [114, 111, 111, 109], [104, 111, 108, 100, 115], [116, 114, 117, 110, 107], [98, 117, 108, 107], [97, 116], [109, 97, 114, 107, 115], [116, 111, 108, 100], [98, 114, 111, 111, 100], [112, 105, 110, 101, 115], [116, 97, 108, 101, 115], [100, 114, 97, 119], [97, 108, 105, 107, 101], [108, 101, 102, 116], [109, 97, 110, 121], [121, 101, 97, 114], [97, 110, 100], [111, 114], [110, 111, 116]]
def GX (dA : Nat → Nat) (A : Nat → Prop) (U : State) (H : Heap) : Prop :=
  (∀ w ∈ nwL, va_Nw w U) ∧ va_AO "java/lang/Object" U ∧ va_AO "TrunkLitters$House" U ∧ (∀ i, i < 8 → va_Fw (fwC i) fwX (fwY i) U) ∧ (∀ i, i < 5 → va_Z "TrunkLitters$Asked" (enN i) "LTrunkLitters$Asked;" (.ref (dA (100 + i))) A U H ∧ va_O (fwC (3 + i)) (dA (100 + i)) A U H ∧ ∃ c, ClassAt U (fwC (3 + i)) c) ∧
  va_Z "java/lang/String" "COMPACT_STRINGS" "Z" (.int 1) A U H ∧ (∀ i, i < 19 → vk_R "TrunkLitters$Reader" (strI.getD i 0) (strT.getD i "") (dA (200 + i)) U) ∧ vk_S 19 strN strB (fun i => dA (200 + i)) (fun i => dA (300 + i)) A U H ∧ va_Zq "java/lang/Throwable" "UNASSIGNED_STACK" "[Ljava/lang/StackTraceElement;" A U H ∧ va_Zq "java/lang/Throwable" "SUPPRESSED_SENTINEL" "Ljava/util/List;" A U H ∧ va_Zq "java/util/ArrayList" "DEFAULTCAPACITY_EMPTY_ELEMENTDATA" "[Ljava/lang/Object;" A U H ∧ va_Mi "[Ljava/lang/Object;" (dA 99) U ∧ AOI U
theorem GX.go {dA : Nat → Nat} {A B : Nat → Prop} {s U : State} {H : Heap} (h : GX dA A s s.heap) (hW : s.WarmedH U.vm) (hk : ∀ q : Nat, q < s.heap.size → ¬ A q → H[q]? = s.heap[q]?) (hAB : ∀ q, B q → A q) : GX dA B U H := by
  obtain ⟨h1, h2, h3, h4, h5, h6, h7, h8, h9, h10, h11, h12, h13⟩ := h
  refine ⟨nwL_warm hW h1, h2.moved hW.alike, h3.moved hW.alike, fun i hi => (h4 i hi).moved ⟨by decide, by decide⟩ hW.alike, fun i hi => ?_, ((h6.kept hk).moved hW.alike).narrow hAB, fun i hi => (h7 i hi).warm hW, ((h8.kept hk).moved hW.alike).narrow hAB, ((h9.kept hk).moved hW.alike).narrow hAB, ((h10.kept hk).moved hW.alike).narrow hAB, ((h11.kept hk).moved hW.alike).narrow hAB, h12.moved hW.alike, h13.moved hW.alike⟩
  obtain ⟨a, b, cc, hc⟩ := h5 i hi
  exact ⟨((a.kept hk).moved hW.alike).narrow hAB, ((b.kept hk).moved hW.alike).narrow hAB, cc, classAt_moved hW.alike hc⟩
theorem nwL_tab : ∀ w ∈ nwL, w.onTables = true := by decide +kernel
theorem GX.same {dA : Nat → Nat} {A : Nat → Prop} {s U : State} {H : Heap} (h : GX dA A s H) (hv : s.vm = U.vm) : GX dA A U H := by
  have hal : s.vm.Alike U.vm := by rw [← hv]; exact Vm.Alike.refl _
  obtain ⟨h1, h2, h3, h4, h5, h6, h7, h8, h9, h10, h11, h12, h13⟩ := h
  exact ⟨fun w hw => va_tabs (nwL_tab w hw) hv (h1 w hw), h2.moved hal, h3.moved hal, fun i hi => (h4 i hi).moved ⟨by decide, by decide⟩ hal, fun i hi => ⟨(h5 i hi).1.moved hal, (h5 i hi).2.1.moved hal, (h5 i hi).2.2.imp fun _ h => classAt_moved hal h⟩, h6.moved hal, fun i hi => (h7 i hi).same hv.symm, h8.moved hal, h9.moved hal, h10.moved hal, h11.moved hal, h12.moved hal, h13.moved hal⟩
