/-! kind O: copies, clones, arrays of objects and booleans, calls of nest mates, inherited and private methods -/
def oz {α : Type} (c : Nat) (K : Option α) : Option α := if c = 0 then K else none
theorem oz_some {α : Type} {c : Nat} {K : Option α} {q : α} (h : oz c K = some q) : c = 0 ∧ K = some q := by
  unfold oz at h
  by_cases hc : c = 0
  · rw [if_pos hc] at h; exact ⟨hc, h⟩
  · rw [if_neg hc] at h; cases h
section OROWS2
variable {p : Program} {l : Launch} {e : Env} {R : Room} {s : State} {m : MethodId} {args : Array Value} {below : List Frame} {meth : Method} {c : Code} {H : Heap} {locs : List Loc} {Q : State → Prop}
variable {cc : ByteArray} {pc nL : Nat} {ls : Array Slot} {rest st0 : List Value} {D : va_G} {dA : Nat → ClassId} {A : Nat → Prop} {w w1 : va_W} {z c0 y0 c1 y1 a : Nat} {own : String} {α : Type} {q : α}
theorem o_aald (FX : CallFix p m c cc nL s args lw_all own) (hW : Wo D dA A s w z c0 H locs) {i : Int32} {K : Option Nat → Option α} (hf : hqld w (dA 4) a i K = some q) (hdg : decode cc pc = .ok (.aaload, 1)) (kk : ∀ v : Option Nat, K v = some q → W p l e R s m args below meth c H locs c0 y0 Q (F0 m (pc + 1) ls (va_rf v :: rest))) : W p l e R s m args below meth c H locs c0 y0 Q (F0 m pc ls (.int i :: .ref a :: rest)) := by
  obtain ⟨n, f, he, hin, hf⟩ := hqld_some hf
  obtain ⟨k, hk⟩ := hlk_get he
  exact va_aldq (C := "java/lang/Object") FX.1 FX.2.1 hW.1.2.2.2.1 hW.1.1 k 4 hk rfl hin hdg (kk _ hf)
theorem o_qlen (FX : CallFix p m c cc nL s args lw_all own) (hW : Wo D dA A s w z c0 H locs) {K : Int32 → Option α} (hf : hqlen w (dA 4) a K = some q) (hdg : decode cc pc = .ok (.arraylength, 1)) (kk : ∀ v : Int32, K v = some q → W p l e R s m args below meth c H locs c0 y0 Q (F0 m (pc + 1) ls (.int v :: rest))) : W p l e R s m args below meth c H locs c0 y0 Q (F0 m pc ls (.ref a :: rest)) := by
  obtain ⟨n, f, he, hf⟩ := hqlen_some hf
  obtain ⟨k, hk⟩ := hlk_get he
  exact va_alen FX.1 FX.2.1 hW.1.2.2.2.1 hW.1.1 k 4 hk rfl rfl hdg (kk _ hf)
theorem o_zald (FX : CallFix p m c cc nL s args lw_all own) (hW : Wo D dA A s w z c0 H locs) {i : Int32} {K : Int32 → Option α} (hf : hald w (dA 2) a i K = some q) (hdg : decode cc pc = .ok (.baload, 1)) (kk : ∀ v : Int32, K v = some q → W p l e R s m args below meth c H locs c0 y0 Q (F0 m (pc + 1) ls (.int v :: rest))) : W p l e R s m args below meth c H locs c0 y0 Q (F0 m pc ls (.int i :: .ref a :: rest)) := by
  obtain ⟨n, f, he, hf⟩ := hald_some hf
  obtain ⟨k, hk⟩ := hlk_get he
  exact g_zald FX hW.1 k hk hf hdg kk
theorem op_zast (FX : CallFix p m c cc nL s args lw_all own) (hW : Wo D dA A s w z c0 H locs) {i x : Int32} {K : va_W → Option α} (hf : hast w (dA 2) a i (vp_nar .boolean x) K = some q) (hdg : decode cc pc = .ok (.bastore, 1)) (kk : ∀ (w1 : va_W) (H1 : Heap) (locs1 : List Loc), Wo D dA A s w1 z c0 H1 locs1 → K w1 = some q → W p l e R s m args below meth c H1 locs1 c0 y0 Q (F0 m (pc + 1) ls rest)) : W p l e R s m args below meth c H locs c0 y0 Q (F0 m pc ls (.int x :: .int i :: .ref a :: rest)) := by
  obtain ⟨n, f, he, hin, hf⟩ := hast_some hf
  obtain ⟨⟨hP, hD, hS, hK, hA⟩, hz1, hz⟩ := hW
  obtain ⟨q0, ha⟩ := hlk_get he
  refine W.zast FX.1 FX.2.1 (hP q0 _ ha) ((hK.2 2 _ rfl).1 n (fun j => .int (f j))) (fun q => by cases q) (by show ¬ (i < 0 ∨ (arrV _ _ _).slots.size ≤ _); rw [arrV_size]; exact hin) rfl rfl hdg fun H1 e z oq => ?_
  have g1 := hP.set (e := .inl (dA 2, n, .inl (upd f i.toNatClampNeg (vp_nar .boolean x)))) hD ha (by
    show H1[a]? = some (vp_cell _ _)
    rw [e]
    rw [vp_cell_i, vp_cell_i, arrV_store]
    congr 2
    funext q
    by_cases hq : q = i.toNatClampNeg
    · subst hq
      simp [updV, upd, vp_nar]
      try rfl
    · simp [updV, upd, hq]) oq
  have g2 := hD.set (e := .inl (dA 2, n, .inl (upd f i.toNatClampNeg (vp_nar .boolean x)))) ha
  have g3 := hS.put (k := i.toNatClampNeg) z oq (hD.2 q0 _ ha)
  rw [hup_set hD ha] at g1 g2
  exact kk _ H1 _ ⟨⟨g1, g2, g3, hK, hA⟩, hz1, z.trans hz⟩ hf
/-- a place of an array of objects is emptied: no cell was made yet -/
theorem op_anul (FX : CallFix p m c cc nL s args lw_all own) (hW : Wo D dA A s w z c0 H locs) {i : Int32} {K : va_W → Option α} (hf : oz c0 (hqnl w (dA 4) a i K) = some q) (hdg : decode cc pc = .ok (.aastore, 1)) (kk : ∀ (w1 : va_W) (H1 : Heap) (locs1 : List Loc), Wo D dA A s w1 z c0 H1 locs1 → K w1 = some q → W p l e R s m args below meth c H1 locs1 c0 y0 Q (F0 m (pc + 1) ls rest)) : W p l e R s m args below meth c H locs c0 y0 Q (F0 m pc ls (.null :: .int i :: .ref a :: rest)) := by
  obtain ⟨rfl, hf⟩ := oz_some hf
  obtain ⟨n, f, he, hin, hf⟩ := hqnl_some hf
  obtain ⟨⟨hP, hD, hS, hK, hA⟩, hz1, hz⟩ := hW
  obtain ⟨q0, ha⟩ := hlk_get he
  refine va_astqN (C := "java/lang/Object") FX.1 FX.2.1 hK hP hD hS q0 4 ha rfl hin hdg (fun H1 locs1 g1 g2 g3 => ?_)
  rw [hup_set hD ha] at g1 g2
  have hWd : Wd D dA A s _ H1 locs1 := ⟨g1, g2, g3, hK, hA⟩
  exact o_exact hWd hz1 (Or.inl rfl) (fun hz2 => kk _ H1 locs1 ⟨hWd, hz1, hz2⟩ hf)
/-- a House is laid into a row of Houses: the last cell made stands in the world -/
def hqsh {α : Type} (ws : va_W) (t a : Nat) (i : Int32) (v : Nat) (lim : Nat) (K : va_W → Option α) : Option α := hqst ws t a i v 3 (fun w1 => lst w1 lim (K w1))
theorem op_aasH {v : Nat} (FX : CallFix p m c cc nL s args lw_all own) (hW : Wo D dA A s w z c0 H locs) {i : Int32} {K : va_W → Option α} (hf : hqsh w (dA 5) a i v (z + c0 - 1) K = some q) (hdg : decode cc pc = .ok (.aastore, 1)) (kk : ∀ (w1 : va_W) (H1 : Heap) (locs1 : List Loc), Wo D dA A s w1 z c0 H1 locs1 → K w1 = some q → W p l e R s m args below meth c H1 locs1 c0 y0 Q (F0 m (pc + 1) ls rest)) : W p l e R s m args below meth c H locs c0 y0 Q (F0 m pc ls (.ref v :: .int i :: .ref a :: rest)) := by
  obtain ⟨n, f, vs, he, hv, hin, hf⟩ := hqst_some hf
  obtain ⟨hl, hf⟩ := lst_some hf
  obtain ⟨⟨hP, hD, hS, hK, hA⟩, hz1, hz⟩ := hW
  obtain ⟨q0, ha⟩ := hlk_get he
  obtain ⟨qk, hk⟩ := hlk_get hv
  refine va_astq (r := (RX3, TX3, 14)) FX.1 FX.2.1 hK hP hD hS q0 5 qk 3 ha rfl hk rfl hin hdg (fun H1 locs1 g1 g2 g3 => ?_)
  rw [hup_set hD ha] at g1 g2
  have hWd : Wd D dA A s _ H1 locs1 := ⟨g1, g2, g3, hK, hA⟩
  exact o_exact hWd hz1 (Or.inr hl) (fun hz2 => kk _ H1 locs1 ⟨hWd, hz1, hz2⟩ hf)
/-- bytes copied to an array that was made just now -/
theorem o_cpb (FX : CallFix p m c cc nL s args lw_all own) (hW : Wo D dA A s w z c0 H locs) {index a0 : Nat} (hlink : Cond.methodLink own index arraycopyName ∈ lw_all) (hl : ls.size = nL) {sp n : Int32} {K : va_W → Option α} (hf : hcpb w (dA 1) a0 a (z + c0) sp n K = some q) (hR : 1 ≤ R.frames ∧ 8 + (nativeFrameWords "java/lang/System" "arraycopy" 5 + 11) ≤ R.locals) (hrm : (rest.map fun v => v.category).sum ≤ 8) (hdg : decode cc pc = .ok (.invokestatic index, 3))
    (kk : ∀ (w1 : va_W) (H1 : Heap) (locs1 : List Loc), Wo D dA A s w1 z c0 H1 locs1 → K w1 = some q → W p l e R s m args below meth c H1 locs1 c0 y0 Q (F0 m (pc + 3) ls rest)) : W p l e R s m args below meth c H locs c0 y0 Q (F0 m pc ls (.int n :: .int 0 :: .ref a :: .int sp :: .ref a0 :: rest)) := by
  obtain ⟨n0, n1, f, g, he0, he, hlim, ⟨h1, h3, h4, h5⟩, hfit, hf⟩ := hcpb_some hf
  obtain ⟨⟨hP, hD, hS, hK, hA⟩, hz1, hz⟩ := hW
  obtain ⟨q0, ha0⟩ := hlk_get he0
  obtain ⟨q1, ha⟩ := hlk_get he
  refine va_copyi (ty := .byte) FX.1 FX.2.1 (FX.2.2.1.trans hl.symm) FX.2.2.2.1 (FX.2.2.2.2 _ hlink) (FX.2.2.2.2 _ q594) (FX.2.2.2.2 _ q593) (FX.2.2.2.2 _ q141) hK hP hD hS q0 q1 1 1 ha0 ha rfl rfl rfl h1 (by decide) h3 h4 (by simpa using h5) (fun i hi => bfit_at hfit hi) hR.1 (Nat.le_trans (Nat.add_le_add_right hrm _) hR.2) hdg (fun H1 locs1 g1 g2 g3 => ?_)
  rw [hup_set hD ha] at g1 g2
  have hWd : Wd D dA A s _ H1 locs1 := ⟨g1, g2, g3, hK, hA⟩
  have hlk1 : ∃ x, hlk (hup w a (.inl (dA 1, n1, .inl (va_cpy f g sp.toNatClampNeg 0 n.toNatClampNeg)))) (z + c0 - 1) = some x := by
    refine ⟨_, hlk_of g2 (k := q1) (x := .inl (dA 1, n1, .inl (va_cpy f g sp.toNatClampNeg 0 n.toNatClampNeg))) ?_⟩
    rw [← hup_set hD ha, show z + c0 - 1 = a by omega]
    rw [List.getElem?_set_self (List.getElem?_eq_some_iff.mp ha).1]
  exact o_exact hWd hz1 (Or.inr hlk1) (fun hz2 => kk _ H1 locs1 ⟨hWd, hz1, hz2⟩ hf)
theorem Wo.any (hW : Wo D dA A s w z c0 H locs) {y : Nat} (h : okc w y = true) : va_Any "java/lang/Object" s H y := by
  obtain ⟨ci, fs, he, hci⟩ := okc_some h
  obtain ⟨k, hk⟩ := hlk_get he
  have go : ∀ (r : vw_C), vwCl[ci]? = some r → Cond.castable r.1 "java/lang/Object" ∈ nwL → va_Any "java/lang/Object" s H y := fun r hr hm => by
    refine va_rAny hW.1.2.2.2.1 hW.1.1 hk hr (fun comp c1 e1 e2 => ?_)
    obtain ⟨c2, t2, f1, f2, f3⟩ := Cond.castable_spec (va_Nw.use (A := #[]) rfl (hW.gx.1 _ hm))
    cases f1.symm.trans e2
    cases f2.symm.trans e1
    exact f3
  rcases hci with rfl | rfl | rfl
  · exact go _ rfl (List.mem_of_getElem? (i := 14) rfl)
  · exact go _ rfl (List.mem_of_getElem? (i := 15) rfl)
  · exact go _ rfl (List.mem_of_getElem? (i := 16) rfl)
/-- objects copied to an array that was made just now -/
theorem o_cpq (FX : CallFix p m c cc nL s args lw_all own) (hW : Wo D dA A s w z c0 H locs) {index a0 : Nat} (hlink : Cond.methodLink own index arraycopyName ∈ lw_all) (hl : ls.size = nL) {n : Int32} {K : va_W → Option α} (hf : hcpq w (dA 4) a0 a (z + c0) n K = some q) (hR : 1 ≤ R.frames ∧ 8 + (nativeFrameWords "java/lang/System" "arraycopy" 5 + 11) ≤ R.locals) (hrm : (rest.map fun v => v.category).sum ≤ 8) (hdg : decode cc pc = .ok (.invokestatic index, 3))
    (kk : ∀ (w1 : va_W) (H1 : Heap) (locs1 : List Loc), Wo D dA A s w1 z c0 H1 locs1 → K w1 = some q → W p l e R s m args below meth c H1 locs1 c0 y0 Q (F0 m (pc + 3) ls rest)) : W p l e R s m args below meth c H locs c0 y0 Q (F0 m pc ls (.int n :: .int 0 :: .ref a :: .int 0 :: .ref a0 :: rest)) := by
  obtain ⟨n0, n1, f, g, he0, he, hlim, ⟨h3, h4, h5⟩, hok, hf⟩ := hcpq_some hf
  have hany : ∀ y, okc w y = true → va_Any "java/lang/Object" s H y := fun y h => hW.any h
  obtain ⟨⟨hP, hD, hS, hK, hA⟩, hz1, hz⟩ := hW
  obtain ⟨q0, ha0⟩ := hlk_get he0
  obtain ⟨q1, ha⟩ := hlk_get he
  refine va_copyM (E0 := "java/lang/Object") (E1 := "java/lang/Object") FX.1 FX.2.1 (FX.2.2.1.trans hl.symm) FX.2.2.2.1 (FX.2.2.2.2 _ hlink) (FX.2.2.2.2 _ q594) (FX.2.2.2.2 _ q593) (FX.2.2.2.2 _ q141) hK hP hD hS q0 q1 4 4 ha0 ha rfl rfl (by decide) (by decide) h3 (by simpa using h4) (by simpa using h5) (fun i hi y hy => hany y (okq_at hok hi (by simpa using hy))) hR.1 (Nat.le_trans (Nat.add_le_add_right hrm _) hR.2) hdg (fun H1 locs1 g1 g2 g3 => ?_)
  rw [hup_set hD ha] at g1 g2
  have hWd : Wd D dA A s _ H1 locs1 := ⟨g1, g2, g3, hK, hA⟩
  have hlk1 : ∃ x, hlk (hup w a (.inl (dA 4, n1, .inr (.inr (.inr (.inr (va_cpy f g 0 0 n.toNatClampNeg))))))) (z + c0 - 1) = some x := by
    refine ⟨_, hlk_of g2 (k := q1) (x := .inl (dA 4, n1, .inr (.inr (.inr (.inr (va_cpy f g 0 0 n.toNatClampNeg)))))) ?_⟩
    rw [← hup_set hD ha, show z + c0 - 1 = a by omega]
    rw [List.getElem?_set_self (List.getElem?_eq_some_iff.mp ha).1]
  exact o_exact hWd hz1 (Or.inr hlk1) (fun hz2 => kk _ H1 locs1 ⟨hWd, hz1, hz2⟩ hf)
theorem o_cln (FX : CallFix p m c cc nL s args lw_all own) (hW : Wo D dA A s w z c0 H locs) {index : Nat} (hlink : Cond.methodLink own index ⟨"[B", "clone", "()Ljava/lang/Object;"⟩ ∈ lw_all) (hsame : Cond.sameMethod "[B" "java/lang/Object" "clone" "()Ljava/lang/Object;" ∈ lw_all) (hinst : Cond.instanceMethod ⟨"java/lang/Object", "clone", "()Ljava/lang/Object;"⟩ ∈ lw_all) (hsel : Cond.selects "[B" ⟨"[B", "clone", "()Ljava/lang/Object;"⟩ ⟨"java/lang/Object", "clone", "()Ljava/lang/Object;"⟩ ∈ lw_all) (hl : ls.size = nL) {K : va_W → Nat → Nat → Option α} (hf : hcln R.cells R.slots c0 y0 w (dA 1) a (z + c0) K = some q) (hR : 1 ≤ R.frames ∧ 8 + 14 ≤ R.locals) (hrm : (rest.map fun v => v.category).sum ≤ 8) (hdg : decode cc pc = .ok (.invokevirtual index, 3))
    (kk : ∀ (w1 : va_W) (c1 y1 : Nat) (H1 : Heap), Wo D dA A s w1 z c1 H1 locs → K w1 c1 y1 = some q → W p l e R s m args below meth c H1 locs c1 y1 Q (F0 m (pc + 3) ls (.ref (z + c0) :: rest))) : W p l e R s m args below meth c H locs c0 y0 Q (F0 m pc ls (.ref a :: rest)) := by
  obtain ⟨n, f, he, hfit, hf⟩ := hcln_some hf
  obtain ⟨h1, hf⟩ := gck_some hf
  have hWz : Wz D dA A s (w, z + c0, c0, y0) H locs := hW.toZ
  obtain ⟨q0, ha⟩ := hlk_get he
  have hP := hW.1.1
  have hK := hW.1.2.2.2.1
  have hnm := hW.1.fB
  obtain ⟨cc0, t0', f1, f2, f3⟩ := Cond.castable_spec (va_Nw.use (A := args) rfl (hW.gx.1 _ (show Cond.castable "[B" "java/lang/Cloneable" ∈ nwL from List.mem_of_getElem? (i := 18) rfl)))
  cases hnm.symm.trans f1
  intro T hT X
  have hcellT : T.heap[a]? = some (vp_cell (dA 1) (n, .inl f)) := by rw [hT]; exact hP q0 _ ha
  obtain ⟨-, kA, hkA, comp, hkind⟩ := State.isArrayOf_alike X.warmed.alike ((hK.2 1 _ rfl).1 0 (fun _ => .null))
  obtain ⟨-, kS, hkS, compS, hkindS⟩ := (hK.2 1 _ rfl).1 0 (fun _ => .null)
  have hsz : (vp_cell (dA 1) (n, .inl f)).slots.size = n := arrV_size _ _ _
  obtain ⟨vm', X', st⟩ := X.cloneArray FX.1 FX.2.2.2.1 (FX.2.2.2.2 _ hlink) (FX.2.2.2.2 _ hsame) (FX.2.2.2.2 _ q584) (FX.2.2.2.2 _ hinst) (FX.2.2.2.2 _ hsel) (a := a) (cell := vp_cell (dA 1) (n, .inl f)) hcellT (fun k h => by cases h) (fun h => by cases h) hnm f2 f3
    (fun i v hv => by
      have hk' : T.vm.classes[dA 1]? = some kA := hkA
      have hi : i < n := by rw [← hsz]; exact (Array.getElem?_eq_some_iff.mp hv).1
      have hv2 : v = .int (f i) := by
        rw [vp_cell_i] at hv
        have := arrV_read (dA 1) (fun j => Value.int (f j)) hi
        rw [this] at hv
        exact (Option.some.inj hv).symm
      subst hv2
      have hb1 := bfit_at hfit hi
      have hcl0 : (vp_cell (dA 1) (n, .inl f)).cls = dA 1 := rfl
      rw [hcl0]
      simpa [State.fitsSlot, State.slotType?, hk', hkind] using hb1)
    (g := F0 m pc ls (.ref a :: rest)) rfl (by rw [FX.2.2.1.trans hl.symm]) rfl (by rw [FX.2.1]; exact hdg) hR.1 (by show 2 * 0 + _ + 14 ≤ _; omega) h1.1 (by rw [hsz]; exact h1.2) (hloader := Vm.clonesLoader_of_array hkS hkindS)
  rw [hsz] at X'
  generalize hH1 : H.push (vp_cell (dA 1) (n, .inl f)) = H1
  have z1 : H1.size = z + c0 + 1 := by rw [← hH1, Array.size_push, hW.2.2]
  have e1 : H1[z + c0]? = some (vp_cell (dA 1) (n, .inl f)) := by rw [← hW.2.2, ← hH1, Array.getElem?_push_size]
  have o1 : ∀ q : Nat, q < z + c0 → H1[q]? = H[q]? := fun q hq => by rw [← hH1, Array.getElem?_push, if_neg (by rw [hW.2.2]; exact Nat.ne_of_lt hq)]
  have hW1 : Wo D dA A s (w ++ [(z + c0, .inl (dA 1, n, .inl f))]) z (c0 + 1) H1 locs := by
    have hk : ∀ (k : Nat) (x : Nat × va_E), w[k]? = some x → H1[x.1]? = H[x.1]? := fun k x hx => o1 x.1 (hW.2.2 ▸ (hP k x hx).lt)
    obtain ⟨⟨hP, hD, hS, hK, hA⟩, hz1, hz⟩ := hW
    refine ⟨⟨(hP.kept hk).app (fun k x hx => ?_), hD.push hP hz.symm (hA.1 _ (hz ▸ hS.1)), ⟨Nat.le_trans hS.1 (by omega), fun x h1 h2 => (o1 x (hz ▸ Nat.lt_of_lt_of_le h1 hS.1)).trans (hS.2.1 x h1 h2), hS.2.2⟩, hK, hA⟩, hz1, by rw [z1, Nat.add_assoc]⟩
    have hz9 : k < 1 := (List.getElem?_eq_some_iff.mp hx).1
    rw [show k = 0 by omega] at hx
    cases hx
    exact e1
  obtain ⟨t, b1, b2⟩ := kk _ _ _ H1 hW1 hf _ (by show (T.heap.push _) = H1; rw [hT, ← hH1]; rfl) X'
  refine ⟨t, st t ?_, b2⟩
  rw [hT, hW.2.2] 
  exact b1
end OROWS2
