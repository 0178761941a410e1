section M04
variable {p : Program} {l : Launch} {e : Env} {R : Room} {s : State} {m : MethodId} {args : Array Value} {below : List Frame} {meth : Method} {c : Code} {H : Heap} {locs : List Loc} {cells slots : Nat} {Q : State → Prop}
variable {cc : ByteArray} {pc nL : Nat} {ls : Array Slot} {rest : List Value} {D : va_G} {dA : Nat → ClassId} {A : Nat → Prop} {h0 : Nat} {ad : Nat → Nat}
/-! TrunkLittersModel.here([JII)I: kind R -/
def fX4_here_25_3 (σ : Mst) : Nat → Int32 → Int32 → Int32 → Option Int32
  | 0, _, _, _ => none
  | n + 1, x2, x3, x4 => (if x3 ≤ x4 then some (-1 : Int32) else (if (gF σ 8) = (2 : Int32) then ald 8 (gL σ 25) (x2 + x4) fun v1 => (if (lg_cmp v1 (gN σ)) = 0 then some x4 else fX4_here_25_3 σ n x2 x3 (x4 + (1 : Int32))) else fX4_here_25_3 σ n x2 x3 (x4 + (1 : Int32))))
def fX4_here_25 (x2 : Int32) (x3 : Int32) (σ : Mst) : Option Int32 := fX4_here_25_3 σ FU x2 x3 (0 : Int32)
abbrev rX4_here_25 : Room := { frames := 0, cells := 0, slots := 0, locals := 0 }
set_option maxHeartbeats 4000000 in
set_option maxRecDepth 100000 in
theorem wX4_here_25_3 {q : Int32} {σ : Mst} (FX : CallFix p m c cX4_here 5 s args lw_all RX4) (hr : meth.sig.returnType = (some .int)) (hlk : meth.locks = false) : ∀ n : Nat, ∀ (x2 : Int32) (x3 : Int32) (x4 : Int32) (H : Heap) (locs : List Loc) (ls : Array Slot), lv_has ls 5 [(0, .ref h0), (1, .ref (ad 25)), (2, .int x2), (3, .int x3), (4, .int x4)] → Wd D dA A s (Mc dA h0 ad σ) H locs → fX4_here_25_3 σ n x2 x3 x4 = some q → W p l e rX4_here_25 s m args below meth c H locs 0 0 (QI D dA A below args s 0 0 q (Mc dA h0 ad σ)) (F0 m 3 ls []) := by
  have hx := FX.1; have hb := FX.2.1; have hown := FX.2.2.2.1; have hts := FX.2.2.2.2
  intro n
  induction n with
  | zero =>
    intro x2 x3 x4 H locs ls hl hW hf
    cases (show (none : Option Int32) = some q from hf)
  | succ n ih =>
    intro x2 x3 x4 H locs ls hl hW hf
    rw [fX4_here_25_3] at hf
    refine lv_iload hx hb dX4_here_3 (lv_at hl 4 rfl) ?_
    refine lv_iload_n hx hb dX4_here_5 rfl (lv_at hl 3 rfl) ?_
    refine lv_icmp_ge (tgt := 40) hx hb dX4_here_6 (by decide) (fun c6 => ?_) (fun c6 => ?_)
    · have hf := ifp c6 hf
      refine lv_iconst (v := -1) hx hb dX4_here_40 (by decide) ?_
      exact g_iret FX hr hlk hW (Option.some.inj hf) dX4_here_41
    · have hf := ifn c6 hf
      refine lv_aload_n hx hb dX4_here_9 rfl (lv_at hl 0 rfl) ?_
      refine Mg8 FX hW dX4_here_10 ?_
      refine lv_iconst (v := 2) hx hb dX4_here_13 (by decide) ?_
      refine lv_icmp_ne (tgt := 34) hx hb dX4_here_14 (by decide) (fun c14 => ?_) (fun c14 => ?_)
      · have hf := ifn c14 hf
        refine lv_iinc (v := (x4 + (1 : Int32))) (lv' := [(4, .int (x4 + (1 : Int32))), (0, .ref h0), (1, .ref (ad 25)), (2, .int x2), (3, .int x3)]) hx hb dX4_here_34 hl (k := 4) rfl rfl (by decide) rfl (fun ls hl => ?_)
        refine lv_goto (tgt := 3) hx hb dX4_here_37 (by decide) ?_
        exact ih x2 x3 (x4 + (1 : Int32)) _ _ _ (lv_sub hl [1, 2, 3, 4, 0] rfl) hW hf
      · have hf := ifp c14 hf
        refine lv_aload_n hx hb dX4_here_17 rfl (lv_at hl 1 rfl) ?_
        refine lv_iload_n hx hb dX4_here_18 rfl (lv_at hl 2 rfl) ?_
        refine lv_iload hx hb dX4_here_19 (lv_at hl 4 rfl) ?_
        refine lv_iadd hx hb dX4_here_21 ?_
        refine g_lald FX hW 17 Mp25 hf dX4_here_22 (fun v1 hf => ?_)
        refine lv_aload_n hx hb dX4_here_23 rfl (lv_at hl 0 rfl) ?_
        refine Mg10 FX hW dX4_here_24 ?_
        refine W.lcmp hx hb dX4_here_27 ?_
        refine lv_if_ne (tgt := 34) hx hb dX4_here_28 (by decide) (fun c28 => ?_) (fun c28 => ?_)
        · have hf := ifn c28 hf
          refine lv_iinc (v := (x4 + (1 : Int32))) (lv' := [(4, .int (x4 + (1 : Int32))), (0, .ref h0), (1, .ref (ad 25)), (2, .int x2), (3, .int x3)]) hx hb dX4_here_34 hl (k := 4) rfl rfl (by decide) rfl (fun ls hl => ?_)
          refine lv_goto (tgt := 3) hx hb dX4_here_37 (by decide) ?_
          exact ih x2 x3 (x4 + (1 : Int32)) _ _ _ (lv_sub hl [1, 2, 3, 4, 0] rfl) hW hf
        · have hf := ifp c28 hf
          refine lv_iload hx hb dX4_here_31 (lv_at hl 4 rfl) ?_
          exact g_iret FX hr hlk hW (Option.some.inj hf) dX4_here_33
set_option maxHeartbeats 4000000 in
set_option maxRecDepth 100000 in
theorem mX4_here_25  {x2 : Int32} {x3 : Int32} {σ : Mst} {q : Int32} (hf : fX4_here_25 x2 x3 σ = some q) : CtI l yX4_here cX4_here 5 (some .int) rX4_here_25 D dA [.ref h0, .ref (ad 25), .int x2, .int x3] (Mc dA h0 ad σ) q (Mc dA h0 ad σ) := by
  refine e_I (by decide) (Nat.le_of_ble_eq_true rfl) ?_
  intro p e s m below meth c ls A FX hr hlk hl hW
  have hx := FX.1; have hb := FX.2.1; have hown := FX.2.2.2.1; have hts := FX.2.2.2.2
  have hl : lv_has ls 5 [(0, .ref h0), (1, .ref (ad 25)), (2, .int x2), (3, .int x3)] := hl
  rw [fX4_here_25] at hf
  refine lv_iconst (v := 0) hx hb dX4_here_0 (by decide) ?_
  refine lv_istore (lv' := [(4, .int (0 : Int32)), (0, .ref h0), (1, .ref (ad 25)), (2, .int x2), (3, .int x3)]) hx hb dX4_here_1 hl (by decide) rfl (fun ls hl => ?_)
  exact wX4_here_25_3 FX hr hlk _ x2 x3 (0 : Int32) _ _ _ (lv_sub hl [1, 2, 3, 4, 0] rfl) hW hf
set_option maxHeartbeats 4000000 in
set_option maxRecDepth 100000 in
theorem kX4_here_25 {α : Type} {q : α} {k : Int32 → Option α} {x2 : Int32} {x3 : Int32} {σ : Mst} (FX : CallFix p m c cc nL s args lw_all RX4) (hR : rX4_here_25.frames + 1 ≤ R.frames ∧ 8 + (5 + 11) + rX4_here_25.locals ≤ R.locals) (hcs : cells ≤ R.cells ∧ slots ≤ R.slots) (hl : ls.size = nL) (hrm : (rest.map fun v => v.category).sum ≤ 8) (hW : Wd D dA A s (Mc dA h0 ad σ) H locs) (hf : (fX4_here_25 x2 x3 σ).bind k = some q) (hdg : decode cc pc = .ok (.invokevirtual 282, 3)) (kk : ∀ (r : Int32) (H1 : Heap) (locs1 : List Loc), Wd D dA A s (Mc dA h0 ad σ) H1 locs1 → k r = some q → W p l e R s m args below meth c H1 locs1 cells slots Q (F0 m (pc + 3) ls (.int r :: rest))) : W p l e R s m args below meth c H locs cells slots Q (F0 m pc ls (.int x3 :: .int x2 :: .ref (ad 25) :: .ref h0 :: rest)) := by
  obtain ⟨r1, h1, hf⟩ := bnd hf
  refine w_Vi (C := RX4) (As := [.ref (ad 25), .int x2, .int x3]) (rest := rest) (n := 3) (wr := []) FX (mX4_here_25 h1) (cwV 3 FX.2.2.2.2 (lw_V q1820 q1822 qs65 q132 q1823) rfl rfl rfl (by decide +kernel) hR) (va_recv hW.2.2.2.1 hW.1 (ci := 4) (q0 := 0) rfl rfl) rfl hl rfl hrm ⟨Nat.le_trans (Nat.le_of_eq (Nat.add_zero cells)) hcs.1, Nat.le_trans (Nat.le_of_eq (Nat.add_zero slots)) hcs.2⟩ hdg hW.nil ?_
  exact fun H1 locs1 hW1 => kk r1 H1 locs1 hW1.nil' hf
/-! TrunkLittersModel.here([JII)I: kind R -/
def fX4_here_26_3 (σ : Mst) : Nat → Int32 → Int32 → Int32 → Option Int32
  | 0, _, _, _ => none
  | n + 1, x2, x3, x4 => (if x3 ≤ x4 then some (-1 : Int32) else (if (gF σ 8) = (2 : Int32) then ald 12 (gL σ 26) (x2 + x4) fun v1 => (if (lg_cmp v1 (gN σ)) = 0 then some x4 else fX4_here_26_3 σ n x2 x3 (x4 + (1 : Int32))) else fX4_here_26_3 σ n x2 x3 (x4 + (1 : Int32))))
def fX4_here_26 (x2 : Int32) (x3 : Int32) (σ : Mst) : Option Int32 := fX4_here_26_3 σ FU x2 x3 (0 : Int32)
abbrev rX4_here_26 : Room := { frames := 0, cells := 0, slots := 0, locals := 0 }
set_option maxHeartbeats 4000000 in
set_option maxRecDepth 100000 in
theorem wX4_here_26_3 {q : Int32} {σ : Mst} (FX : CallFix p m c cX4_here 5 s args lw_all RX4) (hr : meth.sig.returnType = (some .int)) (hlk : meth.locks = false) : ∀ n : Nat, ∀ (x2 : Int32) (x3 : Int32) (x4 : Int32) (H : Heap) (locs : List Loc) (ls : Array Slot), lv_has ls 5 [(0, .ref h0), (1, .ref (ad 26)), (2, .int x2), (3, .int x3), (4, .int x4)] → Wd D dA A s (Mc dA h0 ad σ) H locs → fX4_here_26_3 σ n x2 x3 x4 = some q → W p l e rX4_here_26 s m args below meth c H locs 0 0 (QI D dA A below args s 0 0 q (Mc dA h0 ad σ)) (F0 m 3 ls []) := by
  have hx := FX.1; have hb := FX.2.1; have hown := FX.2.2.2.1; have hts := FX.2.2.2.2
  intro n
  induction n with
  | zero =>
    intro x2 x3 x4 H locs ls hl hW hf
    cases (show (none : Option Int32) = some q from hf)
  | succ n ih =>
    intro x2 x3 x4 H locs ls hl hW hf
    rw [fX4_here_26_3] at hf
    refine lv_iload hx hb dX4_here_3 (lv_at hl 4 rfl) ?_
    refine lv_iload_n hx hb dX4_here_5 rfl (lv_at hl 3 rfl) ?_
    refine lv_icmp_ge (tgt := 40) hx hb dX4_here_6 (by decide) (fun c6 => ?_) (fun c6 => ?_)
    · have hf := ifp c6 hf
      refine lv_iconst (v := -1) hx hb dX4_here_40 (by decide) ?_
      exact g_iret FX hr hlk hW (Option.some.inj hf) dX4_here_41
    · have hf := ifn c6 hf
      refine lv_aload_n hx hb dX4_here_9 rfl (lv_at hl 0 rfl) ?_
      refine Mg8 FX hW dX4_here_10 ?_
      refine lv_iconst (v := 2) hx hb dX4_here_13 (by decide) ?_
      refine lv_icmp_ne (tgt := 34) hx hb dX4_here_14 (by decide) (fun c14 => ?_) (fun c14 => ?_)
      · have hf := ifn c14 hf
        refine lv_iinc (v := (x4 + (1 : Int32))) (lv' := [(4, .int (x4 + (1 : Int32))), (0, .ref h0), (1, .ref (ad 26)), (2, .int x2), (3, .int x3)]) hx hb dX4_here_34 hl (k := 4) rfl rfl (by decide) rfl (fun ls hl => ?_)
        refine lv_goto (tgt := 3) hx hb dX4_here_37 (by decide) ?_
        exact ih x2 x3 (x4 + (1 : Int32)) _ _ _ (lv_sub hl [1, 2, 3, 4, 0] rfl) hW hf
      · have hf := ifp c14 hf
        refine lv_aload_n hx hb dX4_here_17 rfl (lv_at hl 1 rfl) ?_
        refine lv_iload_n hx hb dX4_here_18 rfl (lv_at hl 2 rfl) ?_
        refine lv_iload hx hb dX4_here_19 (lv_at hl 4 rfl) ?_
        refine lv_iadd hx hb dX4_here_21 ?_
        refine g_lald FX hW 18 Mp26 hf dX4_here_22 (fun v1 hf => ?_)
        refine lv_aload_n hx hb dX4_here_23 rfl (lv_at hl 0 rfl) ?_
        refine Mg10 FX hW dX4_here_24 ?_
        refine W.lcmp hx hb dX4_here_27 ?_
        refine lv_if_ne (tgt := 34) hx hb dX4_here_28 (by decide) (fun c28 => ?_) (fun c28 => ?_)
        · have hf := ifn c28 hf
          refine lv_iinc (v := (x4 + (1 : Int32))) (lv' := [(4, .int (x4 + (1 : Int32))), (0, .ref h0), (1, .ref (ad 26)), (2, .int x2), (3, .int x3)]) hx hb dX4_here_34 hl (k := 4) rfl rfl (by decide) rfl (fun ls hl => ?_)
          refine lv_goto (tgt := 3) hx hb dX4_here_37 (by decide) ?_
          exact ih x2 x3 (x4 + (1 : Int32)) _ _ _ (lv_sub hl [1, 2, 3, 4, 0] rfl) hW hf
        · have hf := ifp c28 hf
          refine lv_iload hx hb dX4_here_31 (lv_at hl 4 rfl) ?_
          exact g_iret FX hr hlk hW (Option.some.inj hf) dX4_here_33
set_option maxHeartbeats 4000000 in
set_option maxRecDepth 100000 in
theorem mX4_here_26  {x2 : Int32} {x3 : Int32} {σ : Mst} {q : Int32} (hf : fX4_here_26 x2 x3 σ = some q) : CtI l yX4_here cX4_here 5 (some .int) rX4_here_26 D dA [.ref h0, .ref (ad 26), .int x2, .int x3] (Mc dA h0 ad σ) q (Mc dA h0 ad σ) := by
  refine e_I (by decide) (Nat.le_of_ble_eq_true rfl) ?_
  intro p e s m below meth c ls A FX hr hlk hl hW
  have hx := FX.1; have hb := FX.2.1; have hown := FX.2.2.2.1; have hts := FX.2.2.2.2
  have hl : lv_has ls 5 [(0, .ref h0), (1, .ref (ad 26)), (2, .int x2), (3, .int x3)] := hl
  rw [fX4_here_26] at hf
  refine lv_iconst (v := 0) hx hb dX4_here_0 (by decide) ?_
  refine lv_istore (lv' := [(4, .int (0 : Int32)), (0, .ref h0), (1, .ref (ad 26)), (2, .int x2), (3, .int x3)]) hx hb dX4_here_1 hl (by decide) rfl (fun ls hl => ?_)
  exact wX4_here_26_3 FX hr hlk _ x2 x3 (0 : Int32) _ _ _ (lv_sub hl [1, 2, 3, 4, 0] rfl) hW hf
set_option maxHeartbeats 4000000 in
set_option maxRecDepth 100000 in
theorem kX4_here_26 {α : Type} {q : α} {k : Int32 → Option α} {x2 : Int32} {x3 : Int32} {σ : Mst} (FX : CallFix p m c cc nL s args lw_all RX4) (hR : rX4_here_26.frames + 1 ≤ R.frames ∧ 8 + (5 + 11) + rX4_here_26.locals ≤ R.locals) (hcs : cells ≤ R.cells ∧ slots ≤ R.slots) (hl : ls.size = nL) (hrm : (rest.map fun v => v.category).sum ≤ 8) (hW : Wd D dA A s (Mc dA h0 ad σ) H locs) (hf : (fX4_here_26 x2 x3 σ).bind k = some q) (hdg : decode cc pc = .ok (.invokevirtual 282, 3)) (kk : ∀ (r : Int32) (H1 : Heap) (locs1 : List Loc), Wd D dA A s (Mc dA h0 ad σ) H1 locs1 → k r = some q → W p l e R s m args below meth c H1 locs1 cells slots Q (F0 m (pc + 3) ls (.int r :: rest))) : W p l e R s m args below meth c H locs cells slots Q (F0 m pc ls (.int x3 :: .int x2 :: .ref (ad 26) :: .ref h0 :: rest)) := by
  obtain ⟨r1, h1, hf⟩ := bnd hf
  refine w_Vi (C := RX4) (As := [.ref (ad 26), .int x2, .int x3]) (rest := rest) (n := 3) (wr := []) FX (mX4_here_26 h1) (cwV 3 FX.2.2.2.2 (lw_V q1820 q1822 qs65 q132 q1823) rfl rfl rfl (by decide +kernel) hR) (va_recv hW.2.2.2.1 hW.1 (ci := 4) (q0 := 0) rfl rfl) rfl hl rfl hrm ⟨Nat.le_trans (Nat.le_of_eq (Nat.add_zero cells)) hcs.1, Nat.le_trans (Nat.le_of_eq (Nat.add_zero slots)) hcs.2⟩ hdg hW.nil ?_
  exact fun H1 locs1 hW1 => kk r1 H1 locs1 hW1.nil' hf
/-! TrunkLittersModel.roomHere()I: kind R -/
def fX4_roomHere (σ : Mst) : Option Int32 := ald 2 (gA σ 11) (gF σ 33) fun v1 => (fX4_here_25 ((4 : Int32) * (gF σ 33)) v1 σ).bind fun r2 => some r2
abbrev rX4_roomHere : Room := { frames := 1, cells := 0, slots := 0, locals := 24 }
set_option maxHeartbeats 4000000 in
set_option maxRecDepth 100000 in
theorem mX4_roomHere  {σ : Mst} {q : Int32} (hf : fX4_roomHere σ = some q) : CtI l yX4_roomHere cX4_roomHere 1 (some .int) rX4_roomHere D dA [.ref h0] (Mc dA h0 ad σ) q (Mc dA h0 ad σ) := by
  refine e_I (by decide) (Nat.le_of_ble_eq_true rfl) ?_
  intro p e s m below meth c ls A FX hr hlk hl hW
  have hx := FX.1; have hb := FX.2.1; have hown := FX.2.2.2.1; have hts := FX.2.2.2.2
  have hl : lv_has ls 1 [(0, .ref h0)] := hl
  rw [fX4_roomHere] at hf
  refine lv_aload_n hx hb dX4_roomHere_0 rfl (lv_at hl 0 rfl) ?_
  refine lv_aload_n hx hb dX4_roomHere_1 rfl (lv_at hl 0 rfl) ?_
  refine Mg25 FX hW dX4_roomHere_2 ?_
  refine lv_iconst (v := 4) hx hb dX4_roomHere_5 (by decide) ?_
  refine lv_aload_n hx hb dX4_roomHere_6 rfl (lv_at hl 0 rfl) ?_
  refine Mg33 FX hW dX4_roomHere_7 ?_
  refine lv_imul hx hb dX4_roomHere_10 ?_
  refine lv_aload_n hx hb dX4_roomHere_11 rfl (lv_at hl 0 rfl) ?_
  refine Mg11 FX hW dX4_roomHere_12 ?_
  refine lv_aload_n hx hb dX4_roomHere_15 rfl (lv_at hl 0 rfl) ?_
  refine Mg33 FX hW dX4_roomHere_16 ?_
  refine g_iald FX hW 3 Mp11 hf dX4_roomHere_19 (fun v1 hf => ?_)
  refine kX4_here_25 FX ⟨Nat.le_of_ble_eq_true rfl, Nat.le_of_ble_eq_true rfl⟩ ⟨Nat.zero_le _, Nat.zero_le _⟩ hl.1 (Nat.le_of_ble_eq_true rfl) hW hf dX4_roomHere_20 (fun r2 H locs hW hf => ?_)
  exact g_iret FX hr hlk hW (Option.some.inj hf) dX4_roomHere_23
set_option maxHeartbeats 4000000 in
set_option maxRecDepth 100000 in
theorem kX4_roomHere {α : Type} {q : α} {k : Int32 → Option α} {σ : Mst} (FX : CallFix p m c cc nL s args lw_all RX4) (hR : rX4_roomHere.frames + 1 ≤ R.frames ∧ 8 + (1 + 11) + rX4_roomHere.locals ≤ R.locals) (hcs : cells ≤ R.cells ∧ slots ≤ R.slots) (hl : ls.size = nL) (hrm : (rest.map fun v => v.category).sum ≤ 8) (hW : Wd D dA A s (Mc dA h0 ad σ) H locs) (hf : (fX4_roomHere σ).bind k = some q) (hdg : decode cc pc = .ok (.invokevirtual 257, 3)) (kk : ∀ (r : Int32) (H1 : Heap) (locs1 : List Loc), Wd D dA A s (Mc dA h0 ad σ) H1 locs1 → k r = some q → W p l e R s m args below meth c H1 locs1 cells slots Q (F0 m (pc + 3) ls (.int r :: rest))) : W p l e R s m args below meth c H locs cells slots Q (F0 m pc ls (.ref h0 :: rest)) := by
  obtain ⟨r1, h1, hf⟩ := bnd hf
  refine w_Vi (C := RX4) (As := []) (rest := rest) (n := 0) (wr := []) FX (mX4_roomHere h1) (cwV 0 FX.2.2.2.2 (lw_V q1816 q1818 qs64 q132 q1819) rfl rfl rfl (by decide +kernel) hR) (va_recv hW.2.2.2.1 hW.1 (ci := 4) (q0 := 0) rfl rfl) rfl hl rfl hrm ⟨Nat.le_trans (Nat.le_of_eq (Nat.add_zero cells)) hcs.1, Nat.le_trans (Nat.le_of_eq (Nat.add_zero slots)) hcs.2⟩ hdg hW.nil ?_
  exact fun H1 locs1 hW1 => kk r1 H1 locs1 hW1.nil' hf
/-! TrunkLittersModel.fresh(I)J: kind W -/
def fX4_fresh_37 (σ : Mst) : Option (Int64 × Mst) := (fX4_isGood σ).bind fun r1 => (if r1 = 0 then some ((gN σ), σ) else (fX4_goOn σ).bind fun s2 => some ((gN σ), s2))
def fX4_fresh (x1 : Int32) (σ : Mst) : Option (Int64 × Mst) := (fX4_isGood σ).bind fun r1 => (if r1 = 0 then some ((0 : Int64), σ) else (if (gF σ 8) = (2 : Int32) then (if x1 < 0 then fX4_fresh_37 σ else (fX4_fails (3 : Int32) (gF σ 6) σ).bind fun s2 => fX4_fresh_37 s2) else (fX4_misplaced σ).bind fun s3 => fX4_fresh_37 s3))
abbrev rX4_fresh : Room := { frames := 2, cells := 0, slots := 0, locals := 44 }
set_option maxHeartbeats 4000000 in
set_option maxRecDepth 100000 in
theorem wX4_fresh_37 {q : (Int64 × Mst)} (FX : CallFix p m c cX4_fresh 4 s args lw_all RX4) (hr : meth.sig.returnType = (some .long)) (hlk : meth.locks = false) : ∀ (σ : Mst) (H : Heap) (locs : List Loc) (ls : Array Slot), lv_has ls 4 [(0, .ref h0)] → Wd D dA A s (Mc dA h0 ad σ) H locs → fX4_fresh_37 σ = some q → W p l e rX4_fresh s m args below meth c H locs 0 0 (QL D dA A below args s 0 0 q.1 (Mc dA h0 ad q.2)) (F0 m 37 ls []) := by
  have hx := FX.1; have hb := FX.2.1; have hown := FX.2.2.2.1; have hts := FX.2.2.2.2
  intro σ H locs ls hl hW hf
  rw [fX4_fresh_37] at hf
  refine lv_aload_n hx hb dX4_fresh_37 rfl (lv_at hl 0 rfl) ?_
  refine Mg10 FX hW dX4_fresh_38 ?_
  refine lv_lstore_n (lv' := [(2, .long (gN σ)), (0, .ref h0)]) hx hb dX4_fresh_41 rfl hl (by decide) rfl (fun ls hl => ?_)
  refine lv_aload_n hx hb dX4_fresh_42 rfl (lv_at hl 1 rfl) ?_
  refine kX4_isGood FX ⟨Nat.le_of_ble_eq_true rfl, Nat.le_of_ble_eq_true rfl⟩ ⟨Nat.zero_le _, Nat.zero_le _⟩ hl.1 (Nat.le_of_ble_eq_true rfl) hW hf dX4_fresh_43 (fun r1 H locs hW hf => ?_)
  refine lv_if_eq (tgt := 53) hx hb dX4_fresh_46 (by decide) (fun c46 => ?_) (fun c46 => ?_)
  · have hf := ifp c46 hf
    refine lv_lload_n hx hb dX4_fresh_53 rfl (lv_at hl 0 rfl) ?_
    obtain rfl := Option.some.inj hf
    exact g_lret FX hr hlk hW rfl dX4_fresh_54
  · have hf := ifn c46 hf
    refine lv_aload_n hx hb dX4_fresh_49 rfl (lv_at hl 1 rfl) ?_
    refine kX4_goOn FX ⟨Nat.le_of_ble_eq_true rfl, Nat.le_of_ble_eq_true rfl⟩ ⟨Nat.zero_le _, Nat.zero_le _⟩ hl.1 (Nat.le_of_ble_eq_true rfl) hW hf dX4_fresh_50 (fun s2 H locs hW hf => ?_)
    refine lv_lload_n hx hb dX4_fresh_53 rfl (lv_at hl 0 rfl) ?_
    obtain rfl := Option.some.inj hf
    exact g_lret FX hr hlk hW rfl dX4_fresh_54
set_option maxHeartbeats 4000000 in
set_option maxRecDepth 100000 in
theorem mX4_fresh  {x1 : Int32} {σ : Mst} {q : (Int64 × Mst)} (hf : fX4_fresh x1 σ = some q) : CtL l yX4_fresh cX4_fresh 4 (some .long) rX4_fresh D dA [.ref h0, .int x1] (Mc dA h0 ad σ) q.1 (Mc dA h0 ad q.2) := by
  refine e_L (by decide) (Nat.le_of_ble_eq_true rfl) ?_
  intro p e s m below meth c ls A FX hr hlk hl hW
  have hx := FX.1; have hb := FX.2.1; have hown := FX.2.2.2.1; have hts := FX.2.2.2.2
  have hl : lv_has ls 4 [(0, .ref h0), (1, .int x1)] := hl
  rw [fX4_fresh] at hf
  refine lv_aload_n hx hb dX4_fresh_0 rfl (lv_at hl 0 rfl) ?_
  refine kX4_isGood FX ⟨Nat.le_of_ble_eq_true rfl, Nat.le_of_ble_eq_true rfl⟩ ⟨Nat.zero_le _, Nat.zero_le _⟩ hl.1 (Nat.le_of_ble_eq_true rfl) hW hf dX4_fresh_1 (fun r1 H locs hW hf => ?_)
  refine lv_if_ne (tgt := 9) hx hb dX4_fresh_4 (by decide) (fun c4 => ?_) (fun c4 => ?_)
  · have hf := ifn c4 hf
    refine lv_aload_n hx hb dX4_fresh_9 rfl (lv_at hl 0 rfl) ?_
    refine Mg8 FX hW dX4_fresh_10 ?_
    refine lv_iconst (v := 2) hx hb dX4_fresh_13 (by decide) ?_
    refine lv_icmp_eq (tgt := 24) hx hb dX4_fresh_14 (by decide) (fun c14 => ?_) (fun c14 => ?_)
    · have hf := ifp c14 hf
      refine lv_iload_n hx hb dX4_fresh_24 rfl (lv_at hl 1 rfl) ?_
      refine lv_if_lt (tgt := 37) hx hb dX4_fresh_25 (by decide) (fun c25 => ?_) (fun c25 => ?_)
      · have hf := ifp c25 hf
        exact wX4_fresh_37 FX hr hlk σ _ _ _ (lv_sub hl [0] rfl) hW hf
      · have hf := ifn c25 hf
        refine lv_aload_n hx hb dX4_fresh_28 rfl (lv_at hl 0 rfl) ?_
        refine lv_iconst (v := 3) hx hb dX4_fresh_29 (by decide) ?_
        refine lv_aload_n hx hb dX4_fresh_30 rfl (lv_at hl 0 rfl) ?_
        refine Mg6 FX hW dX4_fresh_31 ?_
        refine kX4_fails FX ⟨Nat.le_of_ble_eq_true rfl, Nat.le_of_ble_eq_true rfl⟩ ⟨Nat.zero_le _, Nat.zero_le _⟩ hl.1 (Nat.le_of_ble_eq_true rfl) hW hf dX4_fresh_34 (fun s2 H locs hW hf => ?_)
        exact wX4_fresh_37 FX hr hlk s2 _ _ _ (lv_sub hl [0] rfl) hW hf
    · have hf := ifn c14 hf
      refine lv_aload_n hx hb dX4_fresh_17 rfl (lv_at hl 0 rfl) ?_
      refine kX4_misplaced FX ⟨Nat.le_of_ble_eq_true rfl, Nat.le_of_ble_eq_true rfl⟩ ⟨Nat.zero_le _, Nat.zero_le _⟩ hl.1 (Nat.le_of_ble_eq_true rfl) hW hf dX4_fresh_18 (fun s3 H locs hW hf => ?_)
      refine lv_goto (tgt := 37) hx hb dX4_fresh_21 (by decide) ?_
      exact wX4_fresh_37 FX hr hlk s3 _ _ _ (lv_sub hl [0] rfl) hW hf
  · have hf := ifp c4 hf
    refine lv_lconst (v := 0) hx hb dX4_fresh_7 (by decide) ?_
    obtain rfl := Option.some.inj hf
    exact g_lret FX hr hlk hW rfl dX4_fresh_8
set_option maxHeartbeats 4000000 in
set_option maxRecDepth 100000 in
theorem kX4_fresh {α : Type} {q : α} {k : Int64 → Mst → Option α} {x1 : Int32} {σ : Mst} (FX : CallFix p m c cc nL s args lw_all RX4) (hR : rX4_fresh.frames + 1 ≤ R.frames ∧ 8 + (4 + 11) + rX4_fresh.locals ≤ R.locals) (hcs : cells ≤ R.cells ∧ slots ≤ R.slots) (hl : ls.size = nL) (hrm : (rest.map fun v => v.category).sum ≤ 8) (hW : Wd D dA A s (Mc dA h0 ad σ) H locs) (hf : bnd2 (fX4_fresh x1 σ) k = some q) (hdg : decode cc pc = .ok (.invokevirtual 261, 3)) (kk : ∀ (r : Int64) (σ1 : Mst) (H1 : Heap) (locs1 : List Loc), Wd D dA A s (Mc dA h0 ad σ1) H1 locs1 → k r σ1 = some q → W p l e R s m args below meth c H1 locs1 cells slots Q (F0 m (pc + 3) ls (.long r :: rest))) : W p l e R s m args below meth c H locs cells slots Q (F0 m pc ls (.int x1 :: .ref h0 :: rest)) := by
  obtain ⟨r1, h1, hf⟩ := bnd (bnd2_eq hf)
  refine w_Vl (C := RX4) (As := [.int x1]) (rest := rest) (n := 1) (wr := []) FX (mX4_fresh h1) (cwV 1 FX.2.2.2.2 (lw_V q1824 q1826 qs66 q132 q1827) rfl rfl rfl (by decide +kernel) hR) (va_recv hW.2.2.2.1 hW.1 (ci := 4) (q0 := 0) rfl rfl) rfl hl rfl hrm ⟨Nat.le_trans (Nat.le_of_eq (Nat.add_zero cells)) hcs.1, Nat.le_trans (Nat.le_of_eq (Nat.add_zero slots)) hcs.2⟩ hdg hW.nil ?_
  exact fun H1 locs1 hW1 => kk r1.1 r1.2 H1 locs1 hW1.nil' hf
/-! TrunkLittersModel.readTrunk()V: kind W -/
def fX4_readTrunk_291 (σ : Mst) : Option Mst := ald 2 (gA σ 12) (gF σ 33) fun v1 => ast 2 (gF σ 33) (stp (sA σ 12 (gF σ 33) (v1 + (1 : Int32))) fun s2 => some s2)
def fX4_readTrunk_231 (x1 : Int32) (y1 : Int32) (σ : Mst) : Option Mst := (fX4_must y1 σ).bind fun s1 => bnd2 (fX4_after (469786323827 : Int64) (0 : Int32) (63 : Int32) s1) fun r2 s3 => ast 12 x1 (stp (sA s3 21 x1 r2) fun s4 => ast 12 x1 (stp (sA s4 22 x1 (0 : Int32)) fun s5 => (fX4_isGood s5).bind fun r6 => (if r6 = 0 then fX4_readTrunk_291 s5 else (fX4_isWord (1953459300 : Int64) s5).bind fun r7 => (if r7 = 0 then fX4_readTrunk_291 s5 else (fX4_goOn s5).bind fun s8 => bnd2 (fX4_numeral (0 : Int32) (9 : Int32) s8) fun r9 s10 => ast 12 x1 (stp (sA s10 22 x1 r9) fun s11 => fX4_readTrunk_291 s11)))))
def fX4_readTrunk_210 (x1 : Int32) (x2 : Int32) (σ : Mst) : Option Mst := ast 12 x1 (stp (sA σ 20 x1 x2) fun s1 => (if (gF s1 8) = (2 : Int32) then fX4_readTrunk_231 x1 (1 : Int32) s1 else fX4_readTrunk_231 x1 (0 : Int32) s1))
def fX4_readTrunk_123 : Nat → Int32 → Int32 → Int32 → Int32 → Mst → Option Mst
  | 0, _, _, _, _, _ => none
  | n + 1, x1, x2, x3, x4, σ => (if x1 ≤ x4 then (if (gF σ 8) = (2 : Int32) then (if 0 ≤ x2 then ald 12 (gA σ 19) x1 fun v1 => (if v1 ≤ x3 then fX4_readTrunk_210 x1 x2 σ else (fX4_fails (3 : Int32) (gF σ 6) σ).bind fun s2 => fX4_readTrunk_210 x1 x2 s2) else (fX4_fails (5 : Int32) (gF σ 6) σ).bind fun s3 => fX4_readTrunk_210 x1 x2 s3) else (fX4_misplaced σ).bind fun s4 => fX4_readTrunk_210 x1 x2 s4) else ald 12 (gA σ 20) x4 fun v5 => (if v5 = x2 then ald 12 (gA σ 19) x4 fun v6 => fX4_readTrunk_123 n x1 x2 (x3 - v6) (x4 + (1 : Int32)) σ else fX4_readTrunk_123 n x1 x2 (x3 - (0 : Int32)) (x4 + (1 : Int32)) σ))
def fX4_readTrunk_113 (x1 : Int32) (x2 : Int32) (y0 : Int32) (σ : Mst) : Option Mst := fX4_readTrunk_123 FU x1 x2 y0 ((6 : Int32) * (gF σ 33)) σ
def fX4_readTrunk (σ : Mst) : Option Mst := ald 2 (gA σ 12) (gF σ 33) fun v1 => ald 2 (gA σ 12) (gF σ 33) fun v2 => (fX4_here_26 ((6 : Int32) * (gF σ 33)) v2 σ).bind fun r3 => bnd2 (fX4_fresh r3 σ) fun r4 s5 => ast 12 (((6 : Int32) * (gF σ 33)) + v1) (stp (sL s5 26 (((6 : Int32) * (gF σ 33)) + v1) r4) fun s6 => bnd2 (fX4_after (1651862635 : Int64) (1 : Int32) (20 : Int32) s6) fun r7 s8 => ast 12 (((6 : Int32) * (gF σ 33)) + v1) (stp (sA s8 19 (((6 : Int32) * (gF σ 33)) + v1) r7) fun s9 => (fX4_isWord (24948 : Int64) s9).bind fun r10 => (fX4_must r10 s9).bind fun s11 => (fX4_isGood s11).bind fun r12 => (if r12 = 0 then some s11 else (fX4_roomHere s11).bind fun r13 => (if 0 ≤ r13 then ald 8 (gA s11 18) (((4 : Int32) * (gF s11 33)) + r13) fun v14 => fX4_readTrunk_113 (((6 : Int32) * (gF σ 33)) + v1) r13 v14 s11 else fX4_readTrunk_113 (((6 : Int32) * (gF σ 33)) + v1) r13 (0 : Int32) s11))))
abbrev rX4_readTrunk : Room := { frames := 4, cells := 0, slots := 0, locals := 91 }
set_option maxHeartbeats 4000000 in
set_option maxRecDepth 100000 in
theorem wX4_readTrunk_291 {q : Mst} (FX : CallFix p m c cX4_readTrunk 5 s args lw_all RX4) (hr : meth.sig.returnType = none) (hlk : meth.locks = false) : ∀ (σ : Mst) (H : Heap) (locs : List Loc) (ls : Array Slot), lv_has ls 5 [(0, .ref h0)] → Wd D dA A s (Mc dA h0 ad σ) H locs → fX4_readTrunk_291 σ = some q → W p l e rX4_readTrunk s m args below meth c H locs 0 0 (QV D dA A below args s 0 0 (Mc dA h0 ad q)) (F0 m 291 ls []) := by
  have hx := FX.1; have hb := FX.2.1; have hown := FX.2.2.2.1; have hts := FX.2.2.2.2
  intro σ H locs ls hl hW hf
  rw [fX4_readTrunk_291] at hf
  refine lv_aload_n hx hb dX4_readTrunk_291 rfl (lv_at hl 0 rfl) ?_
  refine Mg12 FX hW dX4_readTrunk_292 ?_
  refine lv_aload_n hx hb dX4_readTrunk_295 rfl (lv_at hl 0 rfl) ?_
  refine Mg33 FX hW dX4_readTrunk_296 ?_
  refine lv_dup2_11 hx hb dX4_readTrunk_299 rfl rfl ?_
  refine g_iald FX hW 4 Mp12 hf dX4_readTrunk_300 (fun v1 hf => ?_)
  refine lv_iconst (v := 1) hx hb dX4_readTrunk_301 (by decide) ?_
  refine lv_iadd hx hb dX4_readTrunk_302 ?_
  refine g_iast FX hW 4 Mp12 (L := Mc dA h0 ad) (Mt12) hf dX4_readTrunk_303 (fun s2 H locs hW hf => ?_)
  obtain rfl := Option.some.inj hf
  exact g_vret FX hr hlk hW dX4_readTrunk_304
set_option maxHeartbeats 4000000 in
set_option maxRecDepth 100000 in
theorem wX4_readTrunk_231 {q : Mst} (FX : CallFix p m c cX4_readTrunk 5 s args lw_all RX4) (hr : meth.sig.returnType = none) (hlk : meth.locks = false) : ∀ (x1 : Int32) (y1 : Int32) (σ : Mst) (H : Heap) (locs : List Loc) (ls : Array Slot), lv_has ls 5 [(0, .ref h0), (1, .int x1)] → Wd D dA A s (Mc dA h0 ad σ) H locs → fX4_readTrunk_231 x1 y1 σ = some q → W p l e rX4_readTrunk s m args below meth c H locs 0 0 (QV D dA A below args s 0 0 (Mc dA h0 ad q)) (F0 m 231 ls [.int y1, .ref h0]) := by
  have hx := FX.1; have hb := FX.2.1; have hown := FX.2.2.2.1; have hts := FX.2.2.2.2
  intro x1 y1 σ H locs ls hl hW hf
  rw [fX4_readTrunk_231] at hf
  refine kX4_must FX ⟨Nat.le_of_ble_eq_true rfl, Nat.le_of_ble_eq_true rfl⟩ ⟨Nat.zero_le _, Nat.zero_le _⟩ hl.1 (Nat.le_of_ble_eq_true rfl) hW hf dX4_readTrunk_231 (fun s1 H locs hW hf => ?_)
  refine lv_aload_n hx hb dX4_readTrunk_234 rfl (lv_at hl 0 rfl) ?_
  refine Mg21 FX hW dX4_readTrunk_235 ?_
  refine lv_iload_n hx hb dX4_readTrunk_238 rfl (lv_at hl 1 rfl) ?_
  refine lv_aload_n hx hb dX4_readTrunk_239 rfl (lv_at hl 0 rfl) ?_
  refine lv_ldc2 (v := 469786323827) hx hb hown (hts _ q1770) dX4_readTrunk_240 ?_
  refine lv_iconst (v := 0) hx hb dX4_readTrunk_243 (by decide) ?_
  refine lv_bipush (v := 63) hx hb dX4_readTrunk_244 (by decide) ?_
  refine kX4_after FX ⟨Nat.le_of_ble_eq_true rfl, Nat.le_of_ble_eq_true rfl⟩ ⟨Nat.zero_le _, Nat.zero_le _⟩ hl.1 (Nat.le_of_ble_eq_true rfl) hW hf dX4_readTrunk_246 (fun r2 s3 H locs hW hf => ?_)
  refine g_iast FX hW 13 Mp21 (L := Mc dA h0 ad) (Mt21) hf dX4_readTrunk_249 (fun s4 H locs hW hf => ?_)
  refine lv_aload_n hx hb dX4_readTrunk_250 rfl (lv_at hl 0 rfl) ?_
  refine Mg22 FX hW dX4_readTrunk_251 ?_
  refine lv_iload_n hx hb dX4_readTrunk_254 rfl (lv_at hl 1 rfl) ?_
  refine lv_iconst (v := 0) hx hb dX4_readTrunk_255 (by decide) ?_
  refine g_iast FX hW 14 Mp22 (L := Mc dA h0 ad) (Mt22) hf dX4_readTrunk_256 (fun s5 H locs hW hf => ?_)
  refine lv_aload_n hx hb dX4_readTrunk_257 rfl (lv_at hl 0 rfl) ?_
  refine kX4_isGood FX ⟨Nat.le_of_ble_eq_true rfl, Nat.le_of_ble_eq_true rfl⟩ ⟨Nat.zero_le _, Nat.zero_le _⟩ hl.1 (Nat.le_of_ble_eq_true rfl) hW hf dX4_readTrunk_258 (fun r6 H locs hW hf => ?_)
  refine lv_if_eq (tgt := 291) hx hb dX4_readTrunk_261 (by decide) (fun c261 => ?_) (fun c261 => ?_)
  · have hf := ifp c261 hf
    exact wX4_readTrunk_291 FX hr hlk s5 _ _ _ (lv_sub hl [0] rfl) hW hf
  · have hf := ifn c261 hf
    refine lv_aload_n hx hb dX4_readTrunk_264 rfl (lv_at hl 0 rfl) ?_
    refine lv_ldc2 (v := 1953459300) hx hb hown (hts _ q1771) dX4_readTrunk_265 ?_
    refine kX4_isWord FX ⟨Nat.le_of_ble_eq_true rfl, Nat.le_of_ble_eq_true rfl⟩ ⟨Nat.zero_le _, Nat.zero_le _⟩ hl.1 (Nat.le_of_ble_eq_true rfl) hW hf dX4_readTrunk_268 (fun r7 H locs hW hf => ?_)
    refine lv_if_eq (tgt := 291) hx hb dX4_readTrunk_271 (by decide) (fun c271 => ?_) (fun c271 => ?_)
    · have hf := ifp c271 hf
      exact wX4_readTrunk_291 FX hr hlk s5 _ _ _ (lv_sub hl [0] rfl) hW hf
    · have hf := ifn c271 hf
      refine lv_aload_n hx hb dX4_readTrunk_274 rfl (lv_at hl 0 rfl) ?_
      refine kX4_goOn FX ⟨Nat.le_of_ble_eq_true rfl, Nat.le_of_ble_eq_true rfl⟩ ⟨Nat.zero_le _, Nat.zero_le _⟩ hl.1 (Nat.le_of_ble_eq_true rfl) hW hf dX4_readTrunk_275 (fun s8 H locs hW hf => ?_)
      refine lv_aload_n hx hb dX4_readTrunk_278 rfl (lv_at hl 0 rfl) ?_
      refine Mg22 FX hW dX4_readTrunk_279 ?_
      refine lv_iload_n hx hb dX4_readTrunk_282 rfl (lv_at hl 1 rfl) ?_
      refine lv_aload_n hx hb dX4_readTrunk_283 rfl (lv_at hl 0 rfl) ?_
      refine lv_iconst (v := 0) hx hb dX4_readTrunk_284 (by decide) ?_
      refine lv_bipush (v := 9) hx hb dX4_readTrunk_285 (by decide) ?_
      refine kX4_numeral FX ⟨Nat.le_of_ble_eq_true rfl, Nat.le_of_ble_eq_true rfl⟩ ⟨Nat.zero_le _, Nat.zero_le _⟩ hl.1 (Nat.le_of_ble_eq_true rfl) hW hf dX4_readTrunk_287 (fun r9 s10 H locs hW hf => ?_)
      refine g_iast FX hW 14 Mp22 (L := Mc dA h0 ad) (Mt22) hf dX4_readTrunk_290 (fun s11 H locs hW hf => ?_)
      exact wX4_readTrunk_291 FX hr hlk s11 _ _ _ (lv_sub hl [0] rfl) hW hf
set_option maxHeartbeats 4000000 in
set_option maxRecDepth 100000 in
theorem wX4_readTrunk_210 {q : Mst} (FX : CallFix p m c cX4_readTrunk 5 s args lw_all RX4) (hr : meth.sig.returnType = none) (hlk : meth.locks = false) : ∀ (x1 : Int32) (x2 : Int32) (σ : Mst) (H : Heap) (locs : List Loc) (ls : Array Slot), lv_has ls 5 [(0, .ref h0), (1, .int x1), (2, .int x2)] → Wd D dA A s (Mc dA h0 ad σ) H locs → fX4_readTrunk_210 x1 x2 σ = some q → W p l e rX4_readTrunk s m args below meth c H locs 0 0 (QV D dA A below args s 0 0 (Mc dA h0 ad q)) (F0 m 210 ls []) := by
  have hx := FX.1; have hb := FX.2.1; have hown := FX.2.2.2.1; have hts := FX.2.2.2.2
  intro x1 x2 σ H locs ls hl hW hf
  rw [fX4_readTrunk_210] at hf
  refine lv_aload_n hx hb dX4_readTrunk_210 rfl (lv_at hl 0 rfl) ?_
  refine Mg20 FX hW dX4_readTrunk_211 ?_
  refine lv_iload_n hx hb dX4_readTrunk_214 rfl (lv_at hl 1 rfl) ?_
  refine lv_iload_n hx hb dX4_readTrunk_215 rfl (lv_at hl 2 rfl) ?_
  refine g_iast FX hW 12 Mp20 (L := Mc dA h0 ad) (Mt20) hf dX4_readTrunk_216 (fun s1 H locs hW hf => ?_)
  refine lv_aload_n hx hb dX4_readTrunk_217 rfl (lv_at hl 0 rfl) ?_
  refine lv_aload_n hx hb dX4_readTrunk_218 rfl (lv_at hl 0 rfl) ?_
  refine Mg8 FX hW dX4_readTrunk_219 ?_
  refine lv_iconst (v := 2) hx hb dX4_readTrunk_222 (by decide) ?_
  refine lv_icmp_ne (tgt := 230) hx hb dX4_readTrunk_223 (by decide) (fun c223 => ?_) (fun c223 => ?_)
  · have hf := ifn c223 hf
    refine lv_iconst (v := 0) hx hb dX4_readTrunk_230 (by decide) ?_
    exact wX4_readTrunk_231 FX hr hlk x1 (0 : Int32) s1 _ _ _ (lv_sub hl [0, 1] rfl) hW hf
  · have hf := ifp c223 hf
    refine lv_iconst (v := 1) hx hb dX4_readTrunk_226 (by decide) ?_
    refine lv_goto (tgt := 231) hx hb dX4_readTrunk_227 (by decide) ?_
    exact wX4_readTrunk_231 FX hr hlk x1 (1 : Int32) s1 _ _ _ (lv_sub hl [0, 1] rfl) hW hf
set_option maxHeartbeats 4000000 in
set_option maxRecDepth 100000 in
theorem wX4_readTrunk_123 {q : Mst} (FX : CallFix p m c cX4_readTrunk 5 s args lw_all RX4) (hr : meth.sig.returnType = none) (hlk : meth.locks = false) : ∀ n : Nat, ∀ (x1 : Int32) (x2 : Int32) (x3 : Int32) (x4 : Int32) (σ : Mst) (H : Heap) (locs : List Loc) (ls : Array Slot), lv_has ls 5 [(0, .ref h0), (1, .int x1), (2, .int x2), (3, .int x3), (4, .int x4)] → Wd D dA A s (Mc dA h0 ad σ) H locs → fX4_readTrunk_123 n x1 x2 x3 x4 σ = some q → W p l e rX4_readTrunk s m args below meth c H locs 0 0 (QV D dA A below args s 0 0 (Mc dA h0 ad q)) (F0 m 123 ls []) := by
  have hx := FX.1; have hb := FX.2.1; have hown := FX.2.2.2.1; have hts := FX.2.2.2.2
  intro n
  induction n with
  | zero =>
    intro x1 x2 x3 x4 σ H locs ls hl hW hf
    cases (show (none : Option Mst) = some q from hf)
  | succ n ih =>
    intro x1 x2 x3 x4 σ H locs ls hl hW hf
    rw [fX4_readTrunk_123] at hf
    refine lv_iload hx hb dX4_readTrunk_123 (lv_at hl 4 rfl) ?_
    refine lv_iload_n hx hb dX4_readTrunk_125 rfl (lv_at hl 1 rfl) ?_
    refine lv_icmp_ge (tgt := 160) hx hb dX4_readTrunk_126 (by decide) (fun c126 => ?_) (fun c126 => ?_)
    · have hf := ifp c126 hf
      refine lv_aload_n hx hb dX4_readTrunk_160 rfl (lv_at hl 0 rfl) ?_
      refine Mg8 FX hW dX4_readTrunk_161 ?_
      refine lv_iconst (v := 2) hx hb dX4_readTrunk_164 (by decide) ?_
      refine lv_icmp_eq (tgt := 175) hx hb dX4_readTrunk_165 (by decide) (fun c165 => ?_) (fun c165 => ?_)
      · have hf := ifp c165 hf
        refine lv_iload_n hx hb dX4_readTrunk_175 rfl (lv_at hl 2 rfl) ?_
        refine lv_if_ge (tgt := 191) hx hb dX4_readTrunk_176 (by decide) (fun c176 => ?_) (fun c176 => ?_)
        · have hf := ifp c176 hf
          refine lv_iload_n hx hb dX4_readTrunk_191 rfl (lv_at hl 3 rfl) ?_
          refine lv_aload_n hx hb dX4_readTrunk_192 rfl (lv_at hl 0 rfl) ?_
          refine Mg19 FX hW dX4_readTrunk_193 ?_
          refine lv_iload_n hx hb dX4_readTrunk_196 rfl (lv_at hl 1 rfl) ?_
          refine g_iald FX hW 11 Mp19 hf dX4_readTrunk_197 (fun v1 hf => ?_)
          refine lv_icmp_ge (tgt := 210) hx hb dX4_readTrunk_198 (by decide) (fun c198 => ?_) (fun c198 => ?_)
          · have hf := ifp c198 hf
            exact wX4_readTrunk_210 FX hr hlk x1 x2 σ _ _ _ (lv_sub hl [0, 1, 2] rfl) hW hf
          · have hf := ifn c198 hf
            refine lv_aload_n hx hb dX4_readTrunk_201 rfl (lv_at hl 0 rfl) ?_
            refine lv_iconst (v := 3) hx hb dX4_readTrunk_202 (by decide) ?_
            refine lv_aload_n hx hb dX4_readTrunk_203 rfl (lv_at hl 0 rfl) ?_
            refine Mg6 FX hW dX4_readTrunk_204 ?_
            refine kX4_fails FX ⟨Nat.le_of_ble_eq_true rfl, Nat.le_of_ble_eq_true rfl⟩ ⟨Nat.zero_le _, Nat.zero_le _⟩ hl.1 (Nat.le_of_ble_eq_true rfl) hW hf dX4_readTrunk_207 (fun s2 H locs hW hf => ?_)
            exact wX4_readTrunk_210 FX hr hlk x1 x2 s2 _ _ _ (lv_sub hl [0, 1, 2] rfl) hW hf
        · have hf := ifn c176 hf
          refine lv_aload_n hx hb dX4_readTrunk_179 rfl (lv_at hl 0 rfl) ?_
          refine lv_iconst (v := 5) hx hb dX4_readTrunk_180 (by decide) ?_
          refine lv_aload_n hx hb dX4_readTrunk_181 rfl (lv_at hl 0 rfl) ?_
          refine Mg6 FX hW dX4_readTrunk_182 ?_
          refine kX4_fails FX ⟨Nat.le_of_ble_eq_true rfl, Nat.le_of_ble_eq_true rfl⟩ ⟨Nat.zero_le _, Nat.zero_le _⟩ hl.1 (Nat.le_of_ble_eq_true rfl) hW hf dX4_readTrunk_185 (fun s3 H locs hW hf => ?_)
          refine lv_goto (tgt := 210) hx hb dX4_readTrunk_188 (by decide) ?_
          exact wX4_readTrunk_210 FX hr hlk x1 x2 s3 _ _ _ (lv_sub hl [0, 1, 2] rfl) hW hf
      · have hf := ifn c165 hf
        refine lv_aload_n hx hb dX4_readTrunk_168 rfl (lv_at hl 0 rfl) ?_
        refine kX4_misplaced FX ⟨Nat.le_of_ble_eq_true rfl, Nat.le_of_ble_eq_true rfl⟩ ⟨Nat.zero_le _, Nat.zero_le _⟩ hl.1 (Nat.le_of_ble_eq_true rfl) hW hf dX4_readTrunk_169 (fun s4 H locs hW hf => ?_)
        refine lv_goto (tgt := 210) hx hb dX4_readTrunk_172 (by decide) ?_
        exact wX4_readTrunk_210 FX hr hlk x1 x2 s4 _ _ _ (lv_sub hl [0, 1, 2] rfl) hW hf
    · have hf := ifn c126 hf
      refine lv_iload_n hx hb dX4_readTrunk_129 rfl (lv_at hl 3 rfl) ?_
      refine lv_aload_n hx hb dX4_readTrunk_130 rfl (lv_at hl 0 rfl) ?_
      refine Mg20 FX hW dX4_readTrunk_131 ?_
      refine lv_iload hx hb dX4_readTrunk_134 (lv_at hl 4 rfl) ?_
      refine g_iald FX hW 12 Mp20 hf dX4_readTrunk_136 (fun v5 hf => ?_)
      refine lv_iload_n hx hb dX4_readTrunk_137 rfl (lv_at hl 2 rfl) ?_
      refine lv_icmp_ne (tgt := 151) hx hb dX4_readTrunk_138 (by decide) (fun c138 => ?_) (fun c138 => ?_)
      · have hf := ifn c138 hf
        refine lv_iconst (v := 0) hx hb dX4_readTrunk_151 (by decide) ?_
        refine lv_isub hx hb dX4_readTrunk_152 ?_
        refine lv_istore_n (lv' := [(3, .int (x3 - (0 : Int32))), (0, .ref h0), (1, .int x1), (2, .int x2), (4, .int x4)]) hx hb dX4_readTrunk_153 rfl hl (by decide) rfl (fun ls hl => ?_)
        refine lv_iinc (v := (x4 + (1 : Int32))) (lv' := [(4, .int (x4 + (1 : Int32))), (3, .int (x3 - (0 : Int32))), (0, .ref h0), (1, .int x1), (2, .int x2)]) hx hb dX4_readTrunk_154 hl (k := 4) rfl rfl (by decide) rfl (fun ls hl => ?_)
        refine lv_goto (tgt := 123) hx hb dX4_readTrunk_157 (by decide) ?_
        exact ih x1 x2 (x3 - (0 : Int32)) (x4 + (1 : Int32)) σ _ _ _ (lv_sub hl [2, 3, 4, 1, 0] rfl) hW hf
      · have hf := ifp c138 hf
        refine lv_aload_n hx hb dX4_readTrunk_141 rfl (lv_at hl 0 rfl) ?_
        refine Mg19 FX hW dX4_readTrunk_142 ?_
        refine lv_iload hx hb dX4_readTrunk_145 (lv_at hl 4 rfl) ?_
        refine g_iald FX hW 11 Mp19 hf dX4_readTrunk_147 (fun v6 hf => ?_)
        refine lv_goto (tgt := 152) hx hb dX4_readTrunk_148 (by decide) ?_
        refine lv_isub hx hb dX4_readTrunk_152 ?_
        refine lv_istore_n (lv' := [(3, .int (x3 - v6)), (0, .ref h0), (1, .int x1), (2, .int x2), (4, .int x4)]) hx hb dX4_readTrunk_153 rfl hl (by decide) rfl (fun ls hl => ?_)
        refine lv_iinc (v := (x4 + (1 : Int32))) (lv' := [(4, .int (x4 + (1 : Int32))), (3, .int (x3 - v6)), (0, .ref h0), (1, .int x1), (2, .int x2)]) hx hb dX4_readTrunk_154 hl (k := 4) rfl rfl (by decide) rfl (fun ls hl => ?_)
        refine lv_goto (tgt := 123) hx hb dX4_readTrunk_157 (by decide) ?_
        exact ih x1 x2 (x3 - v6) (x4 + (1 : Int32)) σ _ _ _ (lv_sub hl [2, 3, 4, 1, 0] rfl) hW hf
set_option maxHeartbeats 4000000 in
set_option maxRecDepth 100000 in
theorem wX4_readTrunk_113 {q : Mst} (FX : CallFix p m c cX4_readTrunk 5 s args lw_all RX4) (hr : meth.sig.returnType = none) (hlk : meth.locks = false) : ∀ (x1 : Int32) (x2 : Int32) (y0 : Int32) (σ : Mst) (H : Heap) (locs : List Loc) (ls : Array Slot), lv_has ls 5 [(0, .ref h0), (1, .int x1), (2, .int x2)] → Wd D dA A s (Mc dA h0 ad σ) H locs → fX4_readTrunk_113 x1 x2 y0 σ = some q → W p l e rX4_readTrunk s m args below meth c H locs 0 0 (QV D dA A below args s 0 0 (Mc dA h0 ad q)) (F0 m 113 ls [.int y0]) := by
  have hx := FX.1; have hb := FX.2.1; have hown := FX.2.2.2.1; have hts := FX.2.2.2.2
  intro x1 x2 y0 σ H locs ls hl hW hf
  rw [fX4_readTrunk_113] at hf
  refine lv_istore_n (lv' := [(3, .int y0), (0, .ref h0), (1, .int x1), (2, .int x2)]) hx hb dX4_readTrunk_113 rfl hl (by decide) rfl (fun ls hl => ?_)
  refine lv_bipush (v := 6) hx hb dX4_readTrunk_114 (by decide) ?_
  refine lv_aload_n hx hb dX4_readTrunk_116 rfl (lv_at hl 1 rfl) ?_
  refine Mg33 FX hW dX4_readTrunk_117 ?_
  refine lv_imul hx hb dX4_readTrunk_120 ?_
  refine lv_istore (lv' := [(4, .int ((6 : Int32) * (gF σ 33))), (3, .int y0), (0, .ref h0), (1, .int x1), (2, .int x2)]) hx hb dX4_readTrunk_121 hl (by decide) rfl (fun ls hl => ?_)
  exact wX4_readTrunk_123 FX hr hlk _ x1 x2 y0 ((6 : Int32) * (gF σ 33)) σ _ _ _ (lv_sub hl [2, 3, 4, 1, 0] rfl) hW hf
set_option maxHeartbeats 4000000 in
set_option maxRecDepth 100000 in
theorem mX4_readTrunk  {σ : Mst} {q : Mst} (hf : fX4_readTrunk σ = some q) : CtV l yX4_readTrunk cX4_readTrunk 5 none rX4_readTrunk D dA [.ref h0] (Mc dA h0 ad σ) (Mc dA h0 ad q) := by
  refine e_V (by decide) (Nat.le_of_ble_eq_true rfl) ?_
  intro p e s m below meth c ls A FX hr hlk hl hW
  have hx := FX.1; have hb := FX.2.1; have hown := FX.2.2.2.1; have hts := FX.2.2.2.2
  have hl : lv_has ls 5 [(0, .ref h0)] := hl
  rw [fX4_readTrunk] at hf
  refine lv_bipush (v := 6) hx hb dX4_readTrunk_0 (by decide) ?_
  refine lv_aload_n hx hb dX4_readTrunk_2 rfl (lv_at hl 0 rfl) ?_
  refine Mg33 FX hW dX4_readTrunk_3 ?_
  refine lv_imul hx hb dX4_readTrunk_6 ?_
  refine lv_aload_n hx hb dX4_readTrunk_7 rfl (lv_at hl 0 rfl) ?_
  refine Mg12 FX hW dX4_readTrunk_8 ?_
  refine lv_aload_n hx hb dX4_readTrunk_11 rfl (lv_at hl 0 rfl) ?_
  refine Mg33 FX hW dX4_readTrunk_12 ?_
  refine g_iald FX hW 4 Mp12 hf dX4_readTrunk_15 (fun v1 hf => ?_)
  refine lv_iadd hx hb dX4_readTrunk_16 ?_
  refine lv_istore_n (lv' := [(1, .int (((6 : Int32) * (gF σ 33)) + v1)), (0, .ref h0)]) hx hb dX4_readTrunk_17 rfl hl (by decide) rfl (fun ls hl => ?_)
  refine lv_aload_n hx hb dX4_readTrunk_18 rfl (lv_at hl 1 rfl) ?_
  refine Mg26 FX hW dX4_readTrunk_19 ?_
  refine lv_iload_n hx hb dX4_readTrunk_22 rfl (lv_at hl 0 rfl) ?_
  refine lv_aload_n hx hb dX4_readTrunk_23 rfl (lv_at hl 1 rfl) ?_
  refine lv_aload_n hx hb dX4_readTrunk_24 rfl (lv_at hl 1 rfl) ?_
  refine lv_aload_n hx hb dX4_readTrunk_25 rfl (lv_at hl 1 rfl) ?_
  refine Mg26 FX hW dX4_readTrunk_26 ?_
  refine lv_bipush (v := 6) hx hb dX4_readTrunk_29 (by decide) ?_
  refine lv_aload_n hx hb dX4_readTrunk_31 rfl (lv_at hl 1 rfl) ?_
  refine Mg33 FX hW dX4_readTrunk_32 ?_
  refine lv_imul hx hb dX4_readTrunk_35 ?_
  refine lv_aload_n hx hb dX4_readTrunk_36 rfl (lv_at hl 1 rfl) ?_
  refine Mg12 FX hW dX4_readTrunk_37 ?_
  refine lv_aload_n hx hb dX4_readTrunk_40 rfl (lv_at hl 1 rfl) ?_
  refine Mg33 FX hW dX4_readTrunk_41 ?_
  refine g_iald FX hW 4 Mp12 hf dX4_readTrunk_44 (fun v2 hf => ?_)
  refine kX4_here_26 FX ⟨Nat.le_of_ble_eq_true rfl, Nat.le_of_ble_eq_true rfl⟩ ⟨Nat.zero_le _, Nat.zero_le _⟩ hl.1 (Nat.le_of_ble_eq_true rfl) hW hf dX4_readTrunk_45 (fun r3 H locs hW hf => ?_)
  refine kX4_fresh FX ⟨Nat.le_of_ble_eq_true rfl, Nat.le_of_ble_eq_true rfl⟩ ⟨Nat.zero_le _, Nat.zero_le _⟩ hl.1 (Nat.le_of_ble_eq_true rfl) hW hf dX4_readTrunk_48 (fun r4 s5 H locs hW hf => ?_)
  refine g_last FX hW 18 Mp26 (L := Mc dA h0 ad) (Mt26) hf dX4_readTrunk_51 (fun s6 H locs hW hf => ?_)
  refine lv_aload_n hx hb dX4_readTrunk_52 rfl (lv_at hl 1 rfl) ?_
  refine Mg19 FX hW dX4_readTrunk_53 ?_
  refine lv_iload_n hx hb dX4_readTrunk_56 rfl (lv_at hl 0 rfl) ?_
  refine lv_aload_n hx hb dX4_readTrunk_57 rfl (lv_at hl 1 rfl) ?_
  refine lv_ldc2 (v := 1651862635) hx hb hown (hts _ q1768) dX4_readTrunk_58 ?_
  refine lv_iconst (v := 1) hx hb dX4_readTrunk_61 (by decide) ?_
  refine lv_bipush (v := 20) hx hb dX4_readTrunk_62 (by decide) ?_
  refine kX4_after FX ⟨Nat.le_of_ble_eq_true rfl, Nat.le_of_ble_eq_true rfl⟩ ⟨Nat.zero_le _, Nat.zero_le _⟩ hl.1 (Nat.le_of_ble_eq_true rfl) hW hf dX4_readTrunk_64 (fun r7 s8 H locs hW hf => ?_)
  refine g_iast FX hW 11 Mp19 (L := Mc dA h0 ad) (Mt19) hf dX4_readTrunk_67 (fun s9 H locs hW hf => ?_)
  refine lv_aload_n hx hb dX4_readTrunk_68 rfl (lv_at hl 1 rfl) ?_
  refine lv_aload_n hx hb dX4_readTrunk_69 rfl (lv_at hl 1 rfl) ?_
  refine lv_ldc2 (v := 24948) hx hb hown (hts _ q1769) dX4_readTrunk_70 ?_
  refine kX4_isWord FX ⟨Nat.le_of_ble_eq_true rfl, Nat.le_of_ble_eq_true rfl⟩ ⟨Nat.zero_le _, Nat.zero_le _⟩ hl.1 (Nat.le_of_ble_eq_true rfl) hW hf dX4_readTrunk_73 (fun r10 H locs hW hf => ?_)
  refine kX4_must FX ⟨Nat.le_of_ble_eq_true rfl, Nat.le_of_ble_eq_true rfl⟩ ⟨Nat.zero_le _, Nat.zero_le _⟩ hl.1 (Nat.le_of_ble_eq_true rfl) hW hf dX4_readTrunk_76 (fun s11 H locs hW hf => ?_)
  refine lv_aload_n hx hb dX4_readTrunk_79 rfl (lv_at hl 1 rfl) ?_
  refine kX4_isGood FX ⟨Nat.le_of_ble_eq_true rfl, Nat.le_of_ble_eq_true rfl⟩ ⟨Nat.zero_le _, Nat.zero_le _⟩ hl.1 (Nat.le_of_ble_eq_true rfl) hW hf dX4_readTrunk_80 (fun r12 H locs hW hf => ?_)
  refine lv_if_ne (tgt := 87) hx hb dX4_readTrunk_83 (by decide) (fun c83 => ?_) (fun c83 => ?_)
  · have hf := ifn c83 hf
    refine lv_aload_n hx hb dX4_readTrunk_87 rfl (lv_at hl 1 rfl) ?_
    refine kX4_roomHere FX ⟨Nat.le_of_ble_eq_true rfl, Nat.le_of_ble_eq_true rfl⟩ ⟨Nat.zero_le _, Nat.zero_le _⟩ hl.1 (Nat.le_of_ble_eq_true rfl) hW hf dX4_readTrunk_88 (fun r13 H locs hW hf => ?_)
    refine lv_istore_n (lv' := [(2, .int r13), (1, .int (((6 : Int32) * (gF σ 33)) + v1)), (0, .ref h0)]) hx hb dX4_readTrunk_91 rfl hl (by decide) rfl (fun ls hl => ?_)
    refine lv_iload_n hx hb dX4_readTrunk_92 rfl (lv_at hl 0 rfl) ?_
    refine lv_if_ge (tgt := 100) hx hb dX4_readTrunk_93 (by decide) (fun c93 => ?_) (fun c93 => ?_)
    · have hf := ifp c93 hf
      refine lv_aload_n hx hb dX4_readTrunk_100 rfl (lv_at hl 2 rfl) ?_
      refine Mg18 FX hW dX4_readTrunk_101 ?_
      refine lv_iconst (v := 4) hx hb dX4_readTrunk_104 (by decide) ?_
      refine lv_aload_n hx hb dX4_readTrunk_105 rfl (lv_at hl 2 rfl) ?_
      refine Mg33 FX hW dX4_readTrunk_106 ?_
      refine lv_imul hx hb dX4_readTrunk_109 ?_
      refine lv_iload_n hx hb dX4_readTrunk_110 rfl (lv_at hl 0 rfl) ?_
      refine lv_iadd hx hb dX4_readTrunk_111 ?_
      refine g_iald FX hW 10 Mp18 hf dX4_readTrunk_112 (fun v14 hf => ?_)
      exact wX4_readTrunk_113 FX hr hlk (((6 : Int32) * (gF σ 33)) + v1) r13 v14 s11 _ _ _ (lv_sub hl [2, 1, 0] rfl) hW hf
    · have hf := ifn c93 hf
      refine lv_iconst (v := 0) hx hb dX4_readTrunk_96 (by decide) ?_
      refine lv_goto (tgt := 113) hx hb dX4_readTrunk_97 (by decide) ?_
      exact wX4_readTrunk_113 FX hr hlk (((6 : Int32) * (gF σ 33)) + v1) r13 (0 : Int32) s11 _ _ _ (lv_sub hl [2, 1, 0] rfl) hW hf
  · have hf := ifp c83 hf
    obtain rfl := Option.some.inj hf
    exact g_vret FX hr hlk hW dX4_readTrunk_86
set_option maxHeartbeats 4000000 in
set_option maxRecDepth 100000 in
theorem kX4_readTrunk {α : Type} {q : α} {k : Mst → Option α} {σ : Mst} (FX : CallFix p m c cc nL s args lw_all RX4) (hR : rX4_readTrunk.frames + 1 ≤ R.frames ∧ 8 + (5 + 11) + rX4_readTrunk.locals ≤ R.locals) (hcs : cells ≤ R.cells ∧ slots ≤ R.slots) (hl : ls.size = nL) (hrm : (rest.map fun v => v.category).sum ≤ 8) (hW : Wd D dA A s (Mc dA h0 ad σ) H locs) (hf : (fX4_readTrunk σ).bind k = some q) (hdg : decode cc pc = .ok (.invokevirtual 269, 3)) (kk : ∀ (σ1 : Mst) (H1 : Heap) (locs1 : List Loc), Wd D dA A s (Mc dA h0 ad σ1) H1 locs1 → k σ1 = some q → W p l e R s m args below meth c H1 locs1 cells slots Q (F0 m (pc + 3) ls (rest))) : W p l e R s m args below meth c H locs cells slots Q (F0 m pc ls (.ref h0 :: rest)) := by
  obtain ⟨r1, h1, hf⟩ := bnd hf
  refine w_Vv (C := RX4) (As := []) (rest := rest) (n := 0) (wr := []) FX (mX4_readTrunk h1) (cwV 0 FX.2.2.2.2 (lw_V q1840 q1842 qs70 q132 q1843) rfl rfl rfl (by decide +kernel) hR) (va_recv hW.2.2.2.1 hW.1 (ci := 4) (q0 := 0) rfl rfl) rfl hl rfl hrm ⟨Nat.le_trans (Nat.le_of_eq (Nat.add_zero cells)) hcs.1, Nat.le_trans (Nat.le_of_eq (Nat.add_zero slots)) hcs.2⟩ hdg hW.nil ?_
  exact fun H1 locs1 hW1 => kk r1 H1 locs1 hW1.nil' hf
/-! TrunkLittersModel.pushE(II)V: kind W -/
def fX4_pushE (x1 : Int32) (x2 : Int32) (σ : Mst) : Option Mst := ast 90 (gF σ 36) (stp (sA σ 29 (gF σ 36) x1) fun s1 => ast 90 (gF s1 36) (stp (sA s1 30 (gF s1 36) x2) fun s2 => stp (sF s2 36 ((gF s2 36) + (1 : Int32))) fun s3 => some s3))
abbrev rX4_pushE : Room := { frames := 0, cells := 0, slots := 0, locals := 0 }
set_option maxHeartbeats 4000000 in
set_option maxRecDepth 100000 in
theorem mX4_pushE  {x1 : Int32} {x2 : Int32} {σ : Mst} {q : Mst} (hf : fX4_pushE x1 x2 σ = some q) : CtV l yX4_pushE cX4_pushE 3 none rX4_pushE D dA [.ref h0, .int x1, .int x2] (Mc dA h0 ad σ) (Mc dA h0 ad q) := by
  refine e_V (by decide) (Nat.le_of_ble_eq_true rfl) ?_
  intro p e s m below meth c ls A FX hr hlk hl hW
  have hx := FX.1; have hb := FX.2.1; have hown := FX.2.2.2.1; have hts := FX.2.2.2.2
  have hl : lv_has ls 3 [(0, .ref h0), (1, .int x1), (2, .int x2)] := hl
  rw [fX4_pushE] at hf
  refine lv_aload_n hx hb dX4_pushE_0 rfl (lv_at hl 0 rfl) ?_
  refine Mg29 FX hW dX4_pushE_1 ?_
  refine lv_aload_n hx hb dX4_pushE_4 rfl (lv_at hl 0 rfl) ?_
  refine Mg36 FX hW dX4_pushE_5 ?_
  refine lv_iload_n hx hb dX4_pushE_8 rfl (lv_at hl 1 rfl) ?_
  refine g_iast FX hW 21 Mp29 (L := Mc dA h0 ad) (Mt29) hf dX4_pushE_9 (fun s1 H locs hW hf => ?_)
  refine lv_aload_n hx hb dX4_pushE_10 rfl (lv_at hl 0 rfl) ?_
  refine Mg30 FX hW dX4_pushE_11 ?_
  refine lv_aload_n hx hb dX4_pushE_14 rfl (lv_at hl 0 rfl) ?_
  refine Mg36 FX hW dX4_pushE_15 ?_
  refine lv_iload_n hx hb dX4_pushE_18 rfl (lv_at hl 2 rfl) ?_
  refine g_iast FX hW 22 Mp30 (L := Mc dA h0 ad) (Mt30) hf dX4_pushE_19 (fun s2 H locs hW hf => ?_)
  refine lv_aload_n hx hb dX4_pushE_20 rfl (lv_at hl 0 rfl) ?_
  refine lv_dup hx hb dX4_pushE_21 rfl ?_
  refine Mg36 FX hW dX4_pushE_22 ?_
  refine lv_iconst (v := 1) hx hb dX4_pushE_25 (by decide) ?_
  refine lv_iadd hx hb dX4_pushE_26 ?_
  refine Ms36 FX hW hf dX4_pushE_27 (fun s3 H locs hW hf => ?_)
  obtain rfl := Option.some.inj hf
  exact g_vret FX hr hlk hW dX4_pushE_30
set_option maxHeartbeats 4000000 in
set_option maxRecDepth 100000 in
theorem kX4_pushE {α : Type} {q : α} {k : Mst → Option α} {x1 : Int32} {x2 : Int32} {σ : Mst} (FX : CallFix p m c cc nL s args lw_all RX4) (hR : rX4_pushE.frames + 1 ≤ R.frames ∧ 8 + (3 + 11) + rX4_pushE.locals ≤ R.locals) (hcs : cells ≤ R.cells ∧ slots ≤ R.slots) (hl : ls.size = nL) (hrm : (rest.map fun v => v.category).sum ≤ 8) (hW : Wd D dA A s (Mc dA h0 ad σ) H locs) (hf : (fX4_pushE x1 x2 σ).bind k = some q) (hdg : decode cc pc = .ok (.invokevirtual 298, 3)) (kk : ∀ (σ1 : Mst) (H1 : Heap) (locs1 : List Loc), Wd D dA A s (Mc dA h0 ad σ1) H1 locs1 → k σ1 = some q → W p l e R s m args below meth c H1 locs1 cells slots Q (F0 m (pc + 3) ls (rest))) : W p l e R s m args below meth c H locs cells slots Q (F0 m pc ls (.int x2 :: .int x1 :: .ref h0 :: rest)) := by
  obtain ⟨r1, h1, hf⟩ := bnd hf
  refine w_Vv (C := RX4) (As := [.int x1, .int x2]) (rest := rest) (n := 2) (wr := []) FX (mX4_pushE h1) (cwV 2 FX.2.2.2.2 (lw_V q1852 q1854 qs73 q132 q1855) rfl rfl rfl (by decide +kernel) hR) (va_recv hW.2.2.2.1 hW.1 (ci := 4) (q0 := 0) rfl rfl) rfl hl rfl hrm ⟨Nat.le_trans (Nat.le_of_eq (Nat.add_zero cells)) hcs.1, Nat.le_trans (Nat.le_of_eq (Nat.add_zero slots)) hcs.2⟩ hdg hW.nil ?_
  exact fun H1 locs1 hW1 => kk r1 H1 locs1 hW1.nil' hf
/-! TrunkLittersModel.wordHere()I: kind R -/
def fX4_wordHere (σ : Mst) : Option Int32 := (fX4_isWord (1651862635 : Int64) σ).bind fun r1 => (if r1 = 0 then (fX4_isWord (418430675813 : Int64) σ).bind fun r2 => (if r2 = 0 then (fX4_isWord (1818584692 : Int64) σ).bind fun r3 => (if r3 = 0 then (fX4_isWord (1835101817 : Int64) σ).bind fun r4 => (if r4 = 0 then (fX4_isWord (2036687218 : Int64) σ).bind fun r5 => (if r5 = 0 then some (0 : Int32) else some (121 : Int32)) else some (109 : Int32)) else some (108 : Int32)) else some (97 : Int32)) else some (98 : Int32))
abbrev rX4_wordHere : Room := { frames := 1, cells := 0, slots := 0, locals := 22 }
set_option maxHeartbeats 4000000 in
set_option maxRecDepth 100000 in
theorem mX4_wordHere  {σ : Mst} {q : Int32} (hf : fX4_wordHere σ = some q) : CtI l yX4_wordHere cX4_wordHere 1 (some .int) rX4_wordHere D dA [.ref h0] (Mc dA h0 ad σ) q (Mc dA h0 ad σ) := by
  refine e_I (by decide) (Nat.le_of_ble_eq_true rfl) ?_
  intro p e s m below meth c ls A FX hr hlk hl hW
  have hx := FX.1; have hb := FX.2.1; have hown := FX.2.2.2.1; have hts := FX.2.2.2.2
  have hl : lv_has ls 1 [(0, .ref h0)] := hl
  rw [fX4_wordHere] at hf
  refine lv_aload_n hx hb dX4_wordHere_0 rfl (lv_at hl 0 rfl) ?_
  refine lv_ldc2 (v := 1651862635) hx hb hown (hts _ q1768) dX4_wordHere_1 ?_
  refine kX4_isWord FX ⟨Nat.le_of_ble_eq_true rfl, Nat.le_of_ble_eq_true rfl⟩ ⟨Nat.zero_le _, Nat.zero_le _⟩ hl.1 (Nat.le_of_ble_eq_true rfl) hW hf dX4_wordHere_4 (fun r1 H locs hW hf => ?_)
  refine lv_if_eq (tgt := 13) hx hb dX4_wordHere_7 (by decide) (fun c7 => ?_) (fun c7 => ?_)
  · have hf := ifp c7 hf
    refine lv_aload_n hx hb dX4_wordHere_13 rfl (lv_at hl 0 rfl) ?_
    refine lv_ldc2 (v := 418430675813) hx hb hown (hts _ q1776) dX4_wordHere_14 ?_
    refine kX4_isWord FX ⟨Nat.le_of_ble_eq_true rfl, Nat.le_of_ble_eq_true rfl⟩ ⟨Nat.zero_le _, Nat.zero_le _⟩ hl.1 (Nat.le_of_ble_eq_true rfl) hW hf dX4_wordHere_17 (fun r2 H locs hW hf => ?_)
    refine lv_if_eq (tgt := 26) hx hb dX4_wordHere_20 (by decide) (fun c20 => ?_) (fun c20 => ?_)
    · have hf := ifp c20 hf
      refine lv_aload_n hx hb dX4_wordHere_26 rfl (lv_at hl 0 rfl) ?_
      refine lv_ldc2 (v := 1818584692) hx hb hown (hts _ q1777) dX4_wordHere_27 ?_
      refine kX4_isWord FX ⟨Nat.le_of_ble_eq_true rfl, Nat.le_of_ble_eq_true rfl⟩ ⟨Nat.zero_le _, Nat.zero_le _⟩ hl.1 (Nat.le_of_ble_eq_true rfl) hW hf dX4_wordHere_30 (fun r3 H locs hW hf => ?_)
      refine lv_if_eq (tgt := 39) hx hb dX4_wordHere_33 (by decide) (fun c33 => ?_) (fun c33 => ?_)
      · have hf := ifp c33 hf
        refine lv_aload_n hx hb dX4_wordHere_39 rfl (lv_at hl 0 rfl) ?_
        refine lv_ldc2 (v := 1835101817) hx hb hown (hts _ q1778) dX4_wordHere_40 ?_
        refine kX4_isWord FX ⟨Nat.le_of_ble_eq_true rfl, Nat.le_of_ble_eq_true rfl⟩ ⟨Nat.zero_le _, Nat.zero_le _⟩ hl.1 (Nat.le_of_ble_eq_true rfl) hW hf dX4_wordHere_43 (fun r4 H locs hW hf => ?_)
        refine lv_if_eq (tgt := 52) hx hb dX4_wordHere_46 (by decide) (fun c46 => ?_) (fun c46 => ?_)
        · have hf := ifp c46 hf
          refine lv_aload_n hx hb dX4_wordHere_52 rfl (lv_at hl 0 rfl) ?_
          refine lv_ldc2 (v := 2036687218) hx hb hown (hts _ q1779) dX4_wordHere_53 ?_
          refine kX4_isWord FX ⟨Nat.le_of_ble_eq_true rfl, Nat.le_of_ble_eq_true rfl⟩ ⟨Nat.zero_le _, Nat.zero_le _⟩ hl.1 (Nat.le_of_ble_eq_true rfl) hW hf dX4_wordHere_56 (fun r5 H locs hW hf => ?_)
          refine lv_if_eq (tgt := 67) hx hb dX4_wordHere_59 (by decide) (fun c59 => ?_) (fun c59 => ?_)
          · have hf := ifp c59 hf
            refine lv_iconst (v := 0) hx hb dX4_wordHere_67 (by decide) ?_
            exact g_iret FX hr hlk hW (Option.some.inj hf) dX4_wordHere_68
          · have hf := ifn c59 hf
            refine lv_bipush (v := 121) hx hb dX4_wordHere_62 (by decide) ?_
            refine lv_goto (tgt := 68) hx hb dX4_wordHere_64 (by decide) ?_
            exact g_iret FX hr hlk hW (Option.some.inj hf) dX4_wordHere_68
        · have hf := ifn c46 hf
          refine lv_bipush (v := 109) hx hb dX4_wordHere_49 (by decide) ?_
          exact g_iret FX hr hlk hW (Option.some.inj hf) dX4_wordHere_51
      · have hf := ifn c33 hf
        refine lv_bipush (v := 108) hx hb dX4_wordHere_36 (by decide) ?_
        exact g_iret FX hr hlk hW (Option.some.inj hf) dX4_wordHere_38
    · have hf := ifn c20 hf
      refine lv_bipush (v := 97) hx hb dX4_wordHere_23 (by decide) ?_
      exact g_iret FX hr hlk hW (Option.some.inj hf) dX4_wordHere_25
  · have hf := ifn c7 hf
    refine lv_bipush (v := 98) hx hb dX4_wordHere_10 (by decide) ?_
    exact g_iret FX hr hlk hW (Option.some.inj hf) dX4_wordHere_12
set_option maxHeartbeats 4000000 in
set_option maxRecDepth 100000 in
theorem kX4_wordHere {α : Type} {q : α} {k : Int32 → Option α} {σ : Mst} (FX : CallFix p m c cc nL s args lw_all RX4) (hR : rX4_wordHere.frames + 1 ≤ R.frames ∧ 8 + (1 + 11) + rX4_wordHere.locals ≤ R.locals) (hcs : cells ≤ R.cells ∧ slots ≤ R.slots) (hl : ls.size = nL) (hrm : (rest.map fun v => v.category).sum ≤ 8) (hW : Wd D dA A s (Mc dA h0 ad σ) H locs) (hf : (fX4_wordHere σ).bind k = some q) (hdg : decode cc pc = .ok (.invokevirtual 307, 3)) (kk : ∀ (r : Int32) (H1 : Heap) (locs1 : List Loc), Wd D dA A s (Mc dA h0 ad σ) H1 locs1 → k r = some q → W p l e R s m args below meth c H1 locs1 cells slots Q (F0 m (pc + 3) ls (.int r :: rest))) : W p l e R s m args below meth c H locs cells slots Q (F0 m pc ls (.ref h0 :: rest)) := by
  obtain ⟨r1, h1, hf⟩ := bnd hf
  refine w_Vi (C := RX4) (As := []) (rest := rest) (n := 0) (wr := []) FX (mX4_wordHere h1) (cwV 0 FX.2.2.2.2 (lw_V q1864 q1866 qs76 q132 q1867) rfl rfl rfl (by decide +kernel) hR) (va_recv hW.2.2.2.1 hW.1 (ci := 4) (q0 := 0) rfl rfl) rfl hl rfl hrm ⟨Nat.le_trans (Nat.le_of_eq (Nat.add_zero cells)) hcs.1, Nat.le_trans (Nat.le_of_eq (Nat.add_zero slots)) hcs.2⟩ hdg hW.nil ?_
  exact fun H1 locs1 hW1 => kk r1 H1 locs1 hW1.nil' hf
/-! TrunkLittersModel.emit(II)V: kind W -/
def fX4_emit (x1 : Int32) (x2 : Int32) (σ : Mst) : Option Mst := ast 1120 (gF σ 34) (stp (sA σ 27 (gF σ 34) x1) fun s1 => ast 1120 (gF s1 34) (stp (sA s1 28 (gF s1 34) x2) fun s2 => stp (sF s2 34 ((gF s2 34) + (1 : Int32))) fun s3 => some s3))
abbrev rX4_emit : Room := { frames := 0, cells := 0, slots := 0, locals := 0 }
set_option maxHeartbeats 4000000 in
set_option maxRecDepth 100000 in
theorem mX4_emit  {x1 : Int32} {x2 : Int32} {σ : Mst} {q : Mst} (hf : fX4_emit x1 x2 σ = some q) : CtV l yX4_emit cX4_emit 3 none rX4_emit D dA [.ref h0, .int x1, .int x2] (Mc dA h0 ad σ) (Mc dA h0 ad q) := by
  refine e_V (by decide) (Nat.le_of_ble_eq_true rfl) ?_
  intro p e s m below meth c ls A FX hr hlk hl hW
  have hx := FX.1; have hb := FX.2.1; have hown := FX.2.2.2.1; have hts := FX.2.2.2.2
  have hl : lv_has ls 3 [(0, .ref h0), (1, .int x1), (2, .int x2)] := hl
  rw [fX4_emit] at hf
  refine lv_aload_n hx hb dX4_emit_0 rfl (lv_at hl 0 rfl) ?_
  refine Mg27 FX hW dX4_emit_1 ?_
  refine lv_aload_n hx hb dX4_emit_4 rfl (lv_at hl 0 rfl) ?_
  refine Mg34 FX hW dX4_emit_5 ?_
  refine lv_iload_n hx hb dX4_emit_8 rfl (lv_at hl 1 rfl) ?_
  refine g_iast FX hW 19 Mp27 (L := Mc dA h0 ad) (Mt27) hf dX4_emit_9 (fun s1 H locs hW hf => ?_)
  refine lv_aload_n hx hb dX4_emit_10 rfl (lv_at hl 0 rfl) ?_
  refine Mg28 FX hW dX4_emit_11 ?_
  refine lv_aload_n hx hb dX4_emit_14 rfl (lv_at hl 0 rfl) ?_
  refine Mg34 FX hW dX4_emit_15 ?_
  refine lv_iload_n hx hb dX4_emit_18 rfl (lv_at hl 2 rfl) ?_
  refine g_iast FX hW 20 Mp28 (L := Mc dA h0 ad) (Mt28) hf dX4_emit_19 (fun s2 H locs hW hf => ?_)
  refine lv_aload_n hx hb dX4_emit_20 rfl (lv_at hl 0 rfl) ?_
  refine lv_dup hx hb dX4_emit_21 rfl ?_
  refine Mg34 FX hW dX4_emit_22 ?_
  refine lv_iconst (v := 1) hx hb dX4_emit_25 (by decide) ?_
  refine lv_iadd hx hb dX4_emit_26 ?_
  refine Ms34 FX hW hf dX4_emit_27 (fun s3 H locs hW hf => ?_)
  obtain rfl := Option.some.inj hf
  exact g_vret FX hr hlk hW dX4_emit_30
set_option maxHeartbeats 4000000 in
set_option maxRecDepth 100000 in
theorem kX4_emit {α : Type} {q : α} {k : Mst → Option α} {x1 : Int32} {x2 : Int32} {σ : Mst} (FX : CallFix p m c cc nL s args lw_all RX4) (hR : rX4_emit.frames + 1 ≤ R.frames ∧ 8 + (3 + 11) + rX4_emit.locals ≤ R.locals) (hcs : cells ≤ R.cells ∧ slots ≤ R.slots) (hl : ls.size = nL) (hrm : (rest.map fun v => v.category).sum ≤ 8) (hW : Wd D dA A s (Mc dA h0 ad σ) H locs) (hf : (fX4_emit x1 x2 σ).bind k = some q) (hdg : decode cc pc = .ok (.invokevirtual 310, 3)) (kk : ∀ (σ1 : Mst) (H1 : Heap) (locs1 : List Loc), Wd D dA A s (Mc dA h0 ad σ1) H1 locs1 → k σ1 = some q → W p l e R s m args below meth c H1 locs1 cells slots Q (F0 m (pc + 3) ls (rest))) : W p l e R s m args below meth c H locs cells slots Q (F0 m pc ls (.int x2 :: .int x1 :: .ref h0 :: rest)) := by
  obtain ⟨r1, h1, hf⟩ := bnd hf
  refine w_Vv (C := RX4) (As := [.int x1, .int x2]) (rest := rest) (n := 2) (wr := []) FX (mX4_emit h1) (cwV 2 FX.2.2.2.2 (lw_V q1868 q1870 qs77 q132 q1871) rfl rfl rfl (by decide +kernel) hR) (va_recv hW.2.2.2.1 hW.1 (ci := 4) (q0 := 0) rfl rfl) rfl hl rfl hrm ⟨Nat.le_trans (Nat.le_of_eq (Nat.add_zero cells)) hcs.1, Nat.le_trans (Nat.le_of_eq (Nat.add_zero slots)) hcs.2⟩ hdg hW.nil ?_
  exact fun H1 locs1 hW1 => kk r1 H1 locs1 hW1.nil' hf
/-! TrunkLittersModel.unit()Z: kind W -/
def fX4_unit_233 (y1 : Int32) (σ : Mst) : Option (Int32 × Mst) := (fX4_pushE y1 (126 : Int32) σ).bind fun s1 => stp (sF s1 35 ((gF s1 35) + (1 : Int32))) fun s2 => some ((1 : Int32), s2)
def fX4_unit_222 (x2 : Int32) (σ : Mst) : Option (Int32 × Mst) := (if x2 = 0 then fX4_unit_233 (7 : Int32) σ else fX4_unit_233 (3 : Int32) σ)
def fX4_unit_263 (x6 : Int32) (y1 : Int32) (σ : Mst) : Option (Int32 × Mst) := (fX4_emit y1 x6 σ).bind fun s1 => some ((0 : Int32), s1)
def fX4_unit_208 (x2 : Int32) (x3 : Int32) (x4 : Int32) (y0 : Int32) (σ : Mst) : Option (Int32 × Mst) := (fX4_goOn σ).bind fun s1 => (if x2 = 0 then (if x3 = 0 then (if x4 = 0 then fX4_unit_263 y0 (110 : Int32) s1 else fX4_unit_263 y0 x4 s1) else fX4_unit_222 x2 s1) else fX4_unit_222 x2 s1)
def fX4_unit_191 (x2 : Int32) (x3 : Int32) (x4 : Int32) (y1 : Int32) (y2 : Int32) (σ : Mst) : Option (Int32 × Mst) := stp (sF σ 37 (y1 + y2)) fun s1 => (if x4 = 0 then fX4_unit_208 x2 x3 x4 (gF s1 9) s1 else fX4_unit_208 x2 x3 x4 (0 : Int32) s1)
def fX4_unit_175 (x2 : Int32) (x3 : Int32) (x4 : Int32) (y1 : Int32) (y2 : Int32) (y3 : Int32) (σ : Mst) : Option (Int32 × Mst) := ast 2 y1 (stp (sA σ 13 y1 (y2 + y3)) fun s1 => (if x2 = 0 then fX4_unit_191 x2 x3 x4 (gF s1 37) (1 : Int32) s1 else fX4_unit_191 x2 x3 x4 (gF s1 37) (0 : Int32) s1))
def fX4_unit_147 (x2 : Int32) (x3 : Int32) (x4 : Int32) (σ : Mst) : Option (Int32 × Mst) := (fX4_isGood σ).bind fun r1 => (if r1 = 0 then some ((1 : Int32), σ) else ald 2 (gA σ 13) (gF σ 33) fun v2 => (if x2 = 0 then fX4_unit_175 x2 x3 x4 (gF σ 33) v2 (1 : Int32) σ else fX4_unit_175 x2 x3 x4 (gF σ 33) v2 (0 : Int32) σ))
def fX4_unit_143 (x2 : Int32) (x3 : Int32) (x4 : Int32) (σ : Mst) : Option (Int32 × Mst) := (fX4_misplaced σ).bind fun s1 => fX4_unit_147 x2 x3 x4 s1
def fX4_unit_134 (x2 : Int32) (x3 : Int32) (x4 : Int32) (σ : Mst) : Option (Int32 × Mst) := (if (gF σ 35) = (7 : Int32) then fX4_unit_143 x2 x3 x4 σ else fX4_unit_147 x2 x3 x4 σ)
def fX4_unit_126 (x2 : Int32) (x3 : Int32) (x4 : Int32) (σ : Mst) : Option (Int32 × Mst) := (if x2 = 0 then (if x3 = 0 then fX4_unit_147 x2 x3 x4 σ else fX4_unit_134 x2 x3 x4 σ) else fX4_unit_134 x2 x3 x4 σ)
def fX4_unit_121 (x2 : Int32) (x3 : Int32) (x4 : Int32) (x5 : Int32) (σ : Mst) : Option (Int32 × Mst) := (if x5 = 0 then fX4_unit_126 x2 x3 x4 σ else fX4_unit_143 x2 x3 x4 σ)
def fX4_unit_98 (x2 : Int32) (x3 : Int32) (x4 : Int32) (y0 : Int32) (σ : Mst) : Option (Int32 × Mst) := (if x2 = 0 then (if x4 = 0 then (if (gF σ 8) = (4 : Int32) then fX4_unit_121 x2 x3 x4 y0 σ else (if x3 = 0 then fX4_unit_143 x2 x3 x4 σ else fX4_unit_121 x2 x3 x4 y0 σ)) else fX4_unit_121 x2 x3 x4 y0 σ) else fX4_unit_126 x2 x3 x4 σ)
def fX4_unit_93 (x2 : Int32) (x3 : Int32) (x4 : Int32) (σ : Mst) : Option (Int32 × Mst) := fX4_unit_98 x2 x3 x4 (1 : Int32) σ
def fX4_unit_56 (y0 : Int32) (σ : Mst) : Option (Int32 × Mst) := (fX4_isSignHere (40 : Int32) σ).bind fun r1 => (fX4_wordHere σ).bind fun r2 => ald 2 (gA σ 13) (gF σ 33) fun v3 => (if v3 = (60 : Int32) then fX4_unit_93 y0 r1 r2 σ else (if (gF σ 37) = (30 : Int32) then fX4_unit_93 y0 r1 r2 σ else fX4_unit_98 y0 r1 r2 (0 : Int32) σ))
def fX4_unit_55 (σ : Mst) : Option (Int32 × Mst) := fX4_unit_56 (0 : Int32) σ
def fX4_unit_36 (y0 : Int32) (σ : Mst) : Option (Int32 × Mst) := (if y0 = 0 then fX4_unit_55 σ else (fX4_isWord (7237492 : Int64) σ).bind fun r1 => (if r1 = 0 then fX4_unit_55 σ else fX4_unit_56 (1 : Int32) σ))
def fX4_unit_31 (σ : Mst) : Option (Int32 × Mst) := fX4_unit_36 (1 : Int32) σ
def fX4_unit (σ : Mst) : Option (Int32 × Mst) := ald 90 (gA σ 29) ((gF σ 36) - (1 : Int32)) fun v1 => (if v1 ≤ (3 : Int32) then fX4_unit_31 σ else ald 90 (gA σ 29) ((gF σ 36) - (1 : Int32)) fun v2 => (if v2 < (7 : Int32) then fX4_unit_36 (0 : Int32) σ else fX4_unit_31 σ))
abbrev rX4_unit : Room := { frames := 2, cells := 0, slots := 0, locals := 44 }
set_option maxHeartbeats 4000000 in
set_option maxRecDepth 100000 in
theorem wX4_unit_233 {q : (Int32 × Mst)} (FX : CallFix p m c cX4_unit 7 s args lw_all RX4) (hr : meth.sig.returnType = (some .boolean)) (hlk : meth.locks = false) : ∀ (y1 : Int32) (σ : Mst) (H : Heap) (locs : List Loc) (ls : Array Slot), lv_has ls 7 [(0, .ref h0)] → Wd D dA A s (Mc dA h0 ad σ) H locs → fX4_unit_233 y1 σ = some q → W p l e rX4_unit s m args below meth c H locs 0 0 (QI D dA A below args s 0 0 q.1 (Mc dA h0 ad q.2)) (F0 m 233 ls [.int y1, .ref h0]) := by
  have hx := FX.1; have hb := FX.2.1; have hown := FX.2.2.2.1; have hts := FX.2.2.2.2
  intro y1 σ H locs ls hl hW hf
  rw [fX4_unit_233] at hf
  refine lv_bipush (v := 126) hx hb dX4_unit_233 (by decide) ?_
  refine kX4_pushE FX ⟨Nat.le_of_ble_eq_true rfl, Nat.le_of_ble_eq_true rfl⟩ ⟨Nat.zero_le _, Nat.zero_le _⟩ hl.1 (Nat.le_of_ble_eq_true rfl) hW hf dX4_unit_235 (fun s1 H locs hW hf => ?_)
  refine lv_aload_n hx hb dX4_unit_238 rfl (lv_at hl 0 rfl) ?_
  refine lv_dup hx hb dX4_unit_239 rfl ?_
  refine Mg35 FX hW dX4_unit_240 ?_
  refine lv_iconst (v := 1) hx hb dX4_unit_243 (by decide) ?_
  refine lv_iadd hx hb dX4_unit_244 ?_
  refine Ms35 FX hW hf dX4_unit_245 (fun s2 H locs hW hf => ?_)
  refine lv_iconst (v := 1) hx hb dX4_unit_248 (by decide) ?_
  obtain rfl := Option.some.inj hf
  exact g_zret FX hr hlk hW rfl rfl dX4_unit_249
set_option maxHeartbeats 4000000 in
set_option maxRecDepth 100000 in
theorem wX4_unit_222 {q : (Int32 × Mst)} (FX : CallFix p m c cX4_unit 7 s args lw_all RX4) (hr : meth.sig.returnType = (some .boolean)) (hlk : meth.locks = false) : ∀ (x2 : Int32) (σ : Mst) (H : Heap) (locs : List Loc) (ls : Array Slot), lv_has ls 7 [(0, .ref h0), (2, .int x2)] → Wd D dA A s (Mc dA h0 ad σ) H locs → fX4_unit_222 x2 σ = some q → W p l e rX4_unit s m args below meth c H locs 0 0 (QI D dA A below args s 0 0 q.1 (Mc dA h0 ad q.2)) (F0 m 222 ls []) := by
  have hx := FX.1; have hb := FX.2.1; have hown := FX.2.2.2.1; have hts := FX.2.2.2.2
  intro x2 σ H locs ls hl hW hf
  rw [fX4_unit_222] at hf
  refine lv_aload_n hx hb dX4_unit_222 rfl (lv_at hl 0 rfl) ?_
  refine lv_iload_n hx hb dX4_unit_223 rfl (lv_at hl 1 rfl) ?_
  refine lv_if_eq (tgt := 231) hx hb dX4_unit_224 (by decide) (fun c224 => ?_) (fun c224 => ?_)
  · have hf := ifp c224 hf
    refine lv_bipush (v := 7) hx hb dX4_unit_231 (by decide) ?_
    exact wX4_unit_233 FX hr hlk (7 : Int32) σ _ _ _ (lv_sub hl [0] rfl) hW hf
  · have hf := ifn c224 hf
    refine lv_iconst (v := 3) hx hb dX4_unit_227 (by decide) ?_
    refine lv_goto (tgt := 233) hx hb dX4_unit_228 (by decide) ?_
    exact wX4_unit_233 FX hr hlk (3 : Int32) σ _ _ _ (lv_sub hl [0] rfl) hW hf
set_option maxHeartbeats 4000000 in
set_option maxRecDepth 100000 in
theorem wX4_unit_263 {q : (Int32 × Mst)} (FX : CallFix p m c cX4_unit 7 s args lw_all RX4) (hr : meth.sig.returnType = (some .boolean)) (hlk : meth.locks = false) : ∀ (x6 : Int32) (y1 : Int32) (σ : Mst) (H : Heap) (locs : List Loc) (ls : Array Slot), lv_has ls 7 [(6, .int x6)] → Wd D dA A s (Mc dA h0 ad σ) H locs → fX4_unit_263 x6 y1 σ = some q → W p l e rX4_unit s m args below meth c H locs 0 0 (QI D dA A below args s 0 0 q.1 (Mc dA h0 ad q.2)) (F0 m 263 ls [.int y1, .ref h0]) := by
  have hx := FX.1; have hb := FX.2.1; have hown := FX.2.2.2.1; have hts := FX.2.2.2.2
  intro x6 y1 σ H locs ls hl hW hf
  rw [fX4_unit_263] at hf
  refine lv_iload hx hb dX4_unit_263 (lv_at hl 0 rfl) ?_
  refine kX4_emit FX ⟨Nat.le_of_ble_eq_true rfl, Nat.le_of_ble_eq_true rfl⟩ ⟨Nat.zero_le _, Nat.zero_le _⟩ hl.1 (Nat.le_of_ble_eq_true rfl) hW hf dX4_unit_265 (fun s1 H locs hW hf => ?_)
  refine lv_iconst (v := 0) hx hb dX4_unit_268 (by decide) ?_
  obtain rfl := Option.some.inj hf
  exact g_zret FX hr hlk hW rfl rfl dX4_unit_269
set_option maxHeartbeats 4000000 in
set_option maxRecDepth 100000 in
theorem wX4_unit_208 {q : (Int32 × Mst)} (FX : CallFix p m c cX4_unit 7 s args lw_all RX4) (hr : meth.sig.returnType = (some .boolean)) (hlk : meth.locks = false) : ∀ (x2 : Int32) (x3 : Int32) (x4 : Int32) (y0 : Int32) (σ : Mst) (H : Heap) (locs : List Loc) (ls : Array Slot), lv_has ls 7 [(0, .ref h0), (2, .int x2), (3, .int x3), (4, .int x4)] → Wd D dA A s (Mc dA h0 ad σ) H locs → fX4_unit_208 x2 x3 x4 y0 σ = some q → W p l e rX4_unit s m args below meth c H locs 0 0 (QI D dA A below args s 0 0 q.1 (Mc dA h0 ad q.2)) (F0 m 208 ls [.int y0]) := by
  have hx := FX.1; have hb := FX.2.1; have hown := FX.2.2.2.1; have hts := FX.2.2.2.2
  intro x2 x3 x4 y0 σ H locs ls hl hW hf
  rw [fX4_unit_208] at hf
  refine lv_istore (lv' := [(6, .int y0), (0, .ref h0), (2, .int x2), (3, .int x3), (4, .int x4)]) hx hb dX4_unit_208 hl (by decide) rfl (fun ls hl => ?_)
  refine lv_aload_n hx hb dX4_unit_210 rfl (lv_at hl 1 rfl) ?_
  refine kX4_goOn FX ⟨Nat.le_of_ble_eq_true rfl, Nat.le_of_ble_eq_true rfl⟩ ⟨Nat.zero_le _, Nat.zero_le _⟩ hl.1 (Nat.le_of_ble_eq_true rfl) hW hf dX4_unit_211 (fun s1 H locs hW hf => ?_)
  refine lv_iload_n hx hb dX4_unit_214 rfl (lv_at hl 2 rfl) ?_
  refine lv_if_ne (tgt := 222) hx hb dX4_unit_215 (by decide) (fun c215 => ?_) (fun c215 => ?_)
  · have hf := ifn c215 hf
    exact wX4_unit_222 FX hr hlk x2 s1 _ _ _ (lv_sub hl [1, 2] rfl) hW hf
  · have hf := ifp c215 hf
    refine lv_iload_n hx hb dX4_unit_218 rfl (lv_at hl 3 rfl) ?_
    refine lv_if_eq (tgt := 250) hx hb dX4_unit_219 (by decide) (fun c219 => ?_) (fun c219 => ?_)
    · have hf := ifp c219 hf
      refine lv_aload_n hx hb dX4_unit_250 rfl (lv_at hl 1 rfl) ?_
      refine lv_iload hx hb dX4_unit_251 (lv_at hl 4 rfl) ?_
      refine lv_if_ne (tgt := 261) hx hb dX4_unit_253 (by decide) (fun c253 => ?_) (fun c253 => ?_)
      · have hf := ifn c253 hf
        refine lv_iload hx hb dX4_unit_261 (lv_at hl 4 rfl) ?_
        exact wX4_unit_263 FX hr hlk y0 x4 s1 _ _ _ (lv_sub hl [0] rfl) hW hf
      · have hf := ifp c253 hf
        refine lv_bipush (v := 110) hx hb dX4_unit_256 (by decide) ?_
        refine lv_goto (tgt := 263) hx hb dX4_unit_258 (by decide) ?_
        exact wX4_unit_263 FX hr hlk y0 (110 : Int32) s1 _ _ _ (lv_sub hl [0] rfl) hW hf
    · have hf := ifn c219 hf
      exact wX4_unit_222 FX hr hlk x2 s1 _ _ _ (lv_sub hl [1, 2] rfl) hW hf
set_option maxHeartbeats 4000000 in
set_option maxRecDepth 100000 in
theorem wX4_unit_191 {q : (Int32 × Mst)} (FX : CallFix p m c cX4_unit 7 s args lw_all RX4) (hr : meth.sig.returnType = (some .boolean)) (hlk : meth.locks = false) : ∀ (x2 : Int32) (x3 : Int32) (x4 : Int32) (y1 : Int32) (y2 : Int32) (σ : Mst) (H : Heap) (locs : List Loc) (ls : Array Slot), lv_has ls 7 [(0, .ref h0), (2, .int x2), (3, .int x3), (4, .int x4)] → Wd D dA A s (Mc dA h0 ad σ) H locs → fX4_unit_191 x2 x3 x4 y1 y2 σ = some q → W p l e rX4_unit s m args below meth c H locs 0 0 (QI D dA A below args s 0 0 q.1 (Mc dA h0 ad q.2)) (F0 m 191 ls [.int y2, .int y1, .ref h0]) := by
  have hx := FX.1; have hb := FX.2.1; have hown := FX.2.2.2.1; have hts := FX.2.2.2.2
  intro x2 x3 x4 y1 y2 σ H locs ls hl hW hf
  rw [fX4_unit_191] at hf
  refine lv_iadd hx hb dX4_unit_191 ?_
  refine Ms37 FX hW hf dX4_unit_192 (fun s1 H locs hW hf => ?_)
  refine lv_iload hx hb dX4_unit_195 (lv_at hl 3 rfl) ?_
  refine lv_if_ne (tgt := 207) hx hb dX4_unit_197 (by decide) (fun c197 => ?_) (fun c197 => ?_)
  · have hf := ifn c197 hf
    refine lv_iconst (v := 0) hx hb dX4_unit_207 (by decide) ?_
    exact wX4_unit_208 FX hr hlk x2 x3 x4 (0 : Int32) s1 _ _ _ (lv_sub hl [0, 1, 2, 3] rfl) hW hf
  · have hf := ifp c197 hf
    refine lv_aload_n hx hb dX4_unit_200 rfl (lv_at hl 0 rfl) ?_
    refine Mg9 FX hW dX4_unit_201 ?_
    refine lv_goto (tgt := 208) hx hb dX4_unit_204 (by decide) ?_
    exact wX4_unit_208 FX hr hlk x2 x3 x4 (gF s1 9) s1 _ _ _ (lv_sub hl [0, 1, 2, 3] rfl) hW hf
set_option maxHeartbeats 4000000 in
set_option maxRecDepth 100000 in
theorem wX4_unit_175 {q : (Int32 × Mst)} (FX : CallFix p m c cX4_unit 7 s args lw_all RX4) (hr : meth.sig.returnType = (some .boolean)) (hlk : meth.locks = false) : ∀ (x2 : Int32) (x3 : Int32) (x4 : Int32) (y1 : Int32) (y2 : Int32) (y3 : Int32) (σ : Mst) (H : Heap) (locs : List Loc) (ls : Array Slot), lv_has ls 7 [(0, .ref h0), (2, .int x2), (3, .int x3), (4, .int x4)] → Wd D dA A s (Mc dA h0 ad σ) H locs → fX4_unit_175 x2 x3 x4 y1 y2 y3 σ = some q → W p l e rX4_unit s m args below meth c H locs 0 0 (QI D dA A below args s 0 0 q.1 (Mc dA h0 ad q.2)) (F0 m 175 ls [.int y3, .int y2, .int y1, .ref (ad 13)]) := by
  have hx := FX.1; have hb := FX.2.1; have hown := FX.2.2.2.1; have hts := FX.2.2.2.2
  intro x2 x3 x4 y1 y2 y3 σ H locs ls hl hW hf
  rw [fX4_unit_175] at hf
  refine lv_iadd hx hb dX4_unit_175 ?_
  refine g_iast FX hW 5 Mp13 (L := Mc dA h0 ad) (Mt13) hf dX4_unit_176 (fun s1 H locs hW hf => ?_)
  refine lv_aload_n hx hb dX4_unit_177 rfl (lv_at hl 0 rfl) ?_
  refine lv_dup hx hb dX4_unit_178 rfl ?_
  refine Mg37 FX hW dX4_unit_179 ?_
  refine lv_iload_n hx hb dX4_unit_182 rfl (lv_at hl 1 rfl) ?_
  refine lv_if_eq (tgt := 190) hx hb dX4_unit_183 (by decide) (fun c183 => ?_) (fun c183 => ?_)
  · have hf := ifp c183 hf
    refine lv_iconst (v := 1) hx hb dX4_unit_190 (by decide) ?_
    exact wX4_unit_191 FX hr hlk x2 x3 x4 (gF s1 37) (1 : Int32) s1 _ _ _ (lv_sub hl [0, 1, 2, 3] rfl) hW hf
  · have hf := ifn c183 hf
    refine lv_iconst (v := 0) hx hb dX4_unit_186 (by decide) ?_
    refine lv_goto (tgt := 191) hx hb dX4_unit_187 (by decide) ?_
    exact wX4_unit_191 FX hr hlk x2 x3 x4 (gF s1 37) (0 : Int32) s1 _ _ _ (lv_sub hl [0, 1, 2, 3] rfl) hW hf
set_option maxHeartbeats 4000000 in
set_option maxRecDepth 100000 in
theorem wX4_unit_147 {q : (Int32 × Mst)} (FX : CallFix p m c cX4_unit 7 s args lw_all RX4) (hr : meth.sig.returnType = (some .boolean)) (hlk : meth.locks = false) : ∀ (x2 : Int32) (x3 : Int32) (x4 : Int32) (σ : Mst) (H : Heap) (locs : List Loc) (ls : Array Slot), lv_has ls 7 [(0, .ref h0), (2, .int x2), (3, .int x3), (4, .int x4)] → Wd D dA A s (Mc dA h0 ad σ) H locs → fX4_unit_147 x2 x3 x4 σ = some q → W p l e rX4_unit s m args below meth c H locs 0 0 (QI D dA A below args s 0 0 q.1 (Mc dA h0 ad q.2)) (F0 m 147 ls []) := by
  have hx := FX.1; have hb := FX.2.1; have hown := FX.2.2.2.1; have hts := FX.2.2.2.2
  intro x2 x3 x4 σ H locs ls hl hW hf
  rw [fX4_unit_147] at hf
  refine lv_aload_n hx hb dX4_unit_147 rfl (lv_at hl 0 rfl) ?_
  refine kX4_isGood FX ⟨Nat.le_of_ble_eq_true rfl, Nat.le_of_ble_eq_true rfl⟩ ⟨Nat.zero_le _, Nat.zero_le _⟩ hl.1 (Nat.le_of_ble_eq_true rfl) hW hf dX4_unit_148 (fun r1 H locs hW hf => ?_)
  refine lv_if_ne (tgt := 156) hx hb dX4_unit_151 (by decide) (fun c151 => ?_) (fun c151 => ?_)
  · have hf := ifn c151 hf
    refine lv_aload_n hx hb dX4_unit_156 rfl (lv_at hl 0 rfl) ?_
    refine Mg13 FX hW dX4_unit_157 ?_
    refine lv_aload_n hx hb dX4_unit_160 rfl (lv_at hl 0 rfl) ?_
    refine Mg33 FX hW dX4_unit_161 ?_
    refine lv_dup2_11 hx hb dX4_unit_164 rfl rfl ?_
    refine g_iald FX hW 5 Mp13 hf dX4_unit_165 (fun v2 hf => ?_)
    refine lv_iload_n hx hb dX4_unit_166 rfl (lv_at hl 1 rfl) ?_
    refine lv_if_eq (tgt := 174) hx hb dX4_unit_167 (by decide) (fun c167 => ?_) (fun c167 => ?_)
    · have hf := ifp c167 hf
      refine lv_iconst (v := 1) hx hb dX4_unit_174 (by decide) ?_
      exact wX4_unit_175 FX hr hlk x2 x3 x4 (gF σ 33) v2 (1 : Int32) σ _ _ _ (lv_sub hl [0, 1, 2, 3] rfl) hW hf
    · have hf := ifn c167 hf
      refine lv_iconst (v := 0) hx hb dX4_unit_170 (by decide) ?_
      refine lv_goto (tgt := 175) hx hb dX4_unit_171 (by decide) ?_
      exact wX4_unit_175 FX hr hlk x2 x3 x4 (gF σ 33) v2 (0 : Int32) σ _ _ _ (lv_sub hl [0, 1, 2, 3] rfl) hW hf
  · have hf := ifp c151 hf
    refine lv_iconst (v := 1) hx hb dX4_unit_154 (by decide) ?_
    obtain rfl := Option.some.inj hf
    exact g_zret FX hr hlk hW rfl rfl dX4_unit_155
set_option maxHeartbeats 4000000 in
set_option maxRecDepth 100000 in
theorem wX4_unit_143 {q : (Int32 × Mst)} (FX : CallFix p m c cX4_unit 7 s args lw_all RX4) (hr : meth.sig.returnType = (some .boolean)) (hlk : meth.locks = false) : ∀ (x2 : Int32) (x3 : Int32) (x4 : Int32) (σ : Mst) (H : Heap) (locs : List Loc) (ls : Array Slot), lv_has ls 7 [(0, .ref h0), (2, .int x2), (3, .int x3), (4, .int x4)] → Wd D dA A s (Mc dA h0 ad σ) H locs → fX4_unit_143 x2 x3 x4 σ = some q → W p l e rX4_unit s m args below meth c H locs 0 0 (QI D dA A below args s 0 0 q.1 (Mc dA h0 ad q.2)) (F0 m 143 ls []) := by
  have hx := FX.1; have hb := FX.2.1; have hown := FX.2.2.2.1; have hts := FX.2.2.2.2
  intro x2 x3 x4 σ H locs ls hl hW hf
  rw [fX4_unit_143] at hf
  refine lv_aload_n hx hb dX4_unit_143 rfl (lv_at hl 0 rfl) ?_
  refine kX4_misplaced FX ⟨Nat.le_of_ble_eq_true rfl, Nat.le_of_ble_eq_true rfl⟩ ⟨Nat.zero_le _, Nat.zero_le _⟩ hl.1 (Nat.le_of_ble_eq_true rfl) hW hf dX4_unit_144 (fun s1 H locs hW hf => ?_)
  exact wX4_unit_147 FX hr hlk x2 x3 x4 s1 _ _ _ (lv_sub hl [0, 1, 2, 3] rfl) hW hf
set_option maxHeartbeats 4000000 in
set_option maxRecDepth 100000 in
theorem wX4_unit_134 {q : (Int32 × Mst)} (FX : CallFix p m c cX4_unit 7 s args lw_all RX4) (hr : meth.sig.returnType = (some .boolean)) (hlk : meth.locks = false) : ∀ (x2 : Int32) (x3 : Int32) (x4 : Int32) (σ : Mst) (H : Heap) (locs : List Loc) (ls : Array Slot), lv_has ls 7 [(0, .ref h0), (2, .int x2), (3, .int x3), (4, .int x4)] → Wd D dA A s (Mc dA h0 ad σ) H locs → fX4_unit_134 x2 x3 x4 σ = some q → W p l e rX4_unit s m args below meth c H locs 0 0 (QI D dA A below args s 0 0 q.1 (Mc dA h0 ad q.2)) (F0 m 134 ls []) := by
  have hx := FX.1; have hb := FX.2.1; have hown := FX.2.2.2.1; have hts := FX.2.2.2.2
  intro x2 x3 x4 σ H locs ls hl hW hf
  rw [fX4_unit_134] at hf
  refine lv_aload_n hx hb dX4_unit_134 rfl (lv_at hl 0 rfl) ?_
  refine Mg35 FX hW dX4_unit_135 ?_
  refine lv_bipush (v := 7) hx hb dX4_unit_138 (by decide) ?_
  refine lv_icmp_ne (tgt := 147) hx hb dX4_unit_140 (by decide) (fun c140 => ?_) (fun c140 => ?_)
  · have hf := ifn c140 hf
    exact wX4_unit_147 FX hr hlk x2 x3 x4 σ _ _ _ (lv_sub hl [0, 1, 2, 3] rfl) hW hf
  · have hf := ifp c140 hf
    exact wX4_unit_143 FX hr hlk x2 x3 x4 σ _ _ _ (lv_sub hl [0, 1, 2, 3] rfl) hW hf
set_option maxHeartbeats 4000000 in
set_option maxRecDepth 100000 in
theorem wX4_unit_126 {q : (Int32 × Mst)} (FX : CallFix p m c cX4_unit 7 s args lw_all RX4) (hr : meth.sig.returnType = (some .boolean)) (hlk : meth.locks = false) : ∀ (x2 : Int32) (x3 : Int32) (x4 : Int32) (σ : Mst) (H : Heap) (locs : List Loc) (ls : Array Slot), lv_has ls 7 [(0, .ref h0), (2, .int x2), (3, .int x3), (4, .int x4)] → Wd D dA A s (Mc dA h0 ad σ) H locs → fX4_unit_126 x2 x3 x4 σ = some q → W p l e rX4_unit s m args below meth c H locs 0 0 (QI D dA A below args s 0 0 q.1 (Mc dA h0 ad q.2)) (F0 m 126 ls []) := by
  have hx := FX.1; have hb := FX.2.1; have hown := FX.2.2.2.1; have hts := FX.2.2.2.2
  intro x2 x3 x4 σ H locs ls hl hW hf
  rw [fX4_unit_126] at hf
  refine lv_iload_n hx hb dX4_unit_126 rfl (lv_at hl 1 rfl) ?_
  refine lv_if_ne (tgt := 134) hx hb dX4_unit_127 (by decide) (fun c127 => ?_) (fun c127 => ?_)
  · have hf := ifn c127 hf
    exact wX4_unit_134 FX hr hlk x2 x3 x4 σ _ _ _ (lv_sub hl [0, 1, 2, 3] rfl) hW hf
  · have hf := ifp c127 hf
    refine lv_iload_n hx hb dX4_unit_130 rfl (lv_at hl 2 rfl) ?_
    refine lv_if_eq (tgt := 147) hx hb dX4_unit_131 (by decide) (fun c131 => ?_) (fun c131 => ?_)
    · have hf := ifp c131 hf
      exact wX4_unit_147 FX hr hlk x2 x3 x4 σ _ _ _ (lv_sub hl [0, 1, 2, 3] rfl) hW hf
    · have hf := ifn c131 hf
      exact wX4_unit_134 FX hr hlk x2 x3 x4 σ _ _ _ (lv_sub hl [0, 1, 2, 3] rfl) hW hf
set_option maxHeartbeats 4000000 in
set_option maxRecDepth 100000 in
theorem wX4_unit_121 {q : (Int32 × Mst)} (FX : CallFix p m c cX4_unit 7 s args lw_all RX4) (hr : meth.sig.returnType = (some .boolean)) (hlk : meth.locks = false) : ∀ (x2 : Int32) (x3 : Int32) (x4 : Int32) (x5 : Int32) (σ : Mst) (H : Heap) (locs : List Loc) (ls : Array Slot), lv_has ls 7 [(0, .ref h0), (2, .int x2), (3, .int x3), (4, .int x4), (5, .int x5)] → Wd D dA A s (Mc dA h0 ad σ) H locs → fX4_unit_121 x2 x3 x4 x5 σ = some q → W p l e rX4_unit s m args below meth c H locs 0 0 (QI D dA A below args s 0 0 q.1 (Mc dA h0 ad q.2)) (F0 m 121 ls []) := by
  have hx := FX.1; have hb := FX.2.1; have hown := FX.2.2.2.1; have hts := FX.2.2.2.2
  intro x2 x3 x4 x5 σ H locs ls hl hW hf
  rw [fX4_unit_121] at hf
  refine lv_iload hx hb dX4_unit_121 (lv_at hl 4 rfl) ?_
  refine lv_if_ne (tgt := 143) hx hb dX4_unit_123 (by decide) (fun c123 => ?_) (fun c123 => ?_)
  · have hf := ifn c123 hf
    exact wX4_unit_143 FX hr hlk x2 x3 x4 σ _ _ _ (lv_sub hl [0, 1, 2, 3] rfl) hW hf
  · have hf := ifp c123 hf
    exact wX4_unit_126 FX hr hlk x2 x3 x4 σ _ _ _ (lv_sub hl [0, 1, 2, 3] rfl) hW hf
set_option maxHeartbeats 4000000 in
set_option maxRecDepth 100000 in
theorem wX4_unit_98 {q : (Int32 × Mst)} (FX : CallFix p m c cX4_unit 7 s args lw_all RX4) (hr : meth.sig.returnType = (some .boolean)) (hlk : meth.locks = false) : ∀ (x2 : Int32) (x3 : Int32) (x4 : Int32) (y0 : Int32) (σ : Mst) (H : Heap) (locs : List Loc) (ls : Array Slot), lv_has ls 7 [(0, .ref h0), (2, .int x2), (3, .int x3), (4, .int x4)] → Wd D dA A s (Mc dA h0 ad σ) H locs → fX4_unit_98 x2 x3 x4 y0 σ = some q → W p l e rX4_unit s m args below meth c H locs 0 0 (QI D dA A below args s 0 0 q.1 (Mc dA h0 ad q.2)) (F0 m 98 ls [.int y0]) := by
  have hx := FX.1; have hb := FX.2.1; have hown := FX.2.2.2.1; have hts := FX.2.2.2.2
  intro x2 x3 x4 y0 σ H locs ls hl hW hf
  rw [fX4_unit_98] at hf
  refine lv_istore (lv' := [(5, .int y0), (0, .ref h0), (2, .int x2), (3, .int x3), (4, .int x4)]) hx hb dX4_unit_98 hl (by decide) rfl (fun ls hl => ?_)
  refine lv_iload_n hx hb dX4_unit_100 rfl (lv_at hl 2 rfl) ?_
  refine lv_if_ne (tgt := 126) hx hb dX4_unit_101 (by decide) (fun c101 => ?_) (fun c101 => ?_)
  · have hf := ifn c101 hf
    exact wX4_unit_126 FX hr hlk x2 x3 x4 σ _ _ _ (lv_sub hl [1, 2, 3, 4] rfl) hW hf
  · have hf := ifp c101 hf
    refine lv_iload hx hb dX4_unit_104 (lv_at hl 4 rfl) ?_
    refine lv_if_ne (tgt := 121) hx hb dX4_unit_106 (by decide) (fun c106 => ?_) (fun c106 => ?_)
    · have hf := ifn c106 hf
      exact wX4_unit_121 FX hr hlk x2 x3 x4 y0 σ _ _ _ (lv_sub hl [1, 2, 3, 4, 0] rfl) hW hf
    · have hf := ifp c106 hf
      refine lv_aload_n hx hb dX4_unit_109 rfl (lv_at hl 1 rfl) ?_
      refine Mg8 FX hW dX4_unit_110 ?_
      refine lv_iconst (v := 4) hx hb dX4_unit_113 (by decide) ?_
      refine lv_icmp_eq (tgt := 121) hx hb dX4_unit_114 (by decide) (fun c114 => ?_) (fun c114 => ?_)
      · have hf := ifp c114 hf
        exact wX4_unit_121 FX hr hlk x2 x3 x4 y0 σ _ _ _ (lv_sub hl [1, 2, 3, 4, 0] rfl) hW hf
      · have hf := ifn c114 hf
        refine lv_iload_n hx hb dX4_unit_117 rfl (lv_at hl 3 rfl) ?_
        refine lv_if_eq (tgt := 143) hx hb dX4_unit_118 (by decide) (fun c118 => ?_) (fun c118 => ?_)
        · have hf := ifp c118 hf
          exact wX4_unit_143 FX hr hlk x2 x3 x4 σ _ _ _ (lv_sub hl [1, 2, 3, 4] rfl) hW hf
        · have hf := ifn c118 hf
          exact wX4_unit_121 FX hr hlk x2 x3 x4 y0 σ _ _ _ (lv_sub hl [1, 2, 3, 4, 0] rfl) hW hf
set_option maxHeartbeats 4000000 in
set_option maxRecDepth 100000 in
theorem wX4_unit_93 {q : (Int32 × Mst)} (FX : CallFix p m c cX4_unit 7 s args lw_all RX4) (hr : meth.sig.returnType = (some .boolean)) (hlk : meth.locks = false) : ∀ (x2 : Int32) (x3 : Int32) (x4 : Int32) (σ : Mst) (H : Heap) (locs : List Loc) (ls : Array Slot), lv_has ls 7 [(0, .ref h0), (2, .int x2), (3, .int x3), (4, .int x4)] → Wd D dA A s (Mc dA h0 ad σ) H locs → fX4_unit_93 x2 x3 x4 σ = some q → W p l e rX4_unit s m args below meth c H locs 0 0 (QI D dA A below args s 0 0 q.1 (Mc dA h0 ad q.2)) (F0 m 93 ls []) := by
  have hx := FX.1; have hb := FX.2.1; have hown := FX.2.2.2.1; have hts := FX.2.2.2.2
  intro x2 x3 x4 σ H locs ls hl hW hf
  rw [fX4_unit_93] at hf
  refine lv_iconst (v := 1) hx hb dX4_unit_93 (by decide) ?_
  refine lv_goto (tgt := 98) hx hb dX4_unit_94 (by decide) ?_
  exact wX4_unit_98 FX hr hlk x2 x3 x4 (1 : Int32) σ _ _ _ (lv_sub hl [0, 1, 2, 3] rfl) hW hf
set_option maxHeartbeats 4000000 in
set_option maxRecDepth 100000 in
theorem wX4_unit_56 {q : (Int32 × Mst)} (FX : CallFix p m c cX4_unit 7 s args lw_all RX4) (hr : meth.sig.returnType = (some .boolean)) (hlk : meth.locks = false) : ∀ (y0 : Int32) (σ : Mst) (H : Heap) (locs : List Loc) (ls : Array Slot), lv_has ls 7 [(0, .ref h0)] → Wd D dA A s (Mc dA h0 ad σ) H locs → fX4_unit_56 y0 σ = some q → W p l e rX4_unit s m args below meth c H locs 0 0 (QI D dA A below args s 0 0 q.1 (Mc dA h0 ad q.2)) (F0 m 56 ls [.int y0]) := by
  have hx := FX.1; have hb := FX.2.1; have hown := FX.2.2.2.1; have hts := FX.2.2.2.2
  intro y0 σ H locs ls hl hW hf
  rw [fX4_unit_56] at hf
  refine lv_istore_n (lv' := [(2, .int y0), (0, .ref h0)]) hx hb dX4_unit_56 rfl hl (by decide) rfl (fun ls hl => ?_)
  refine lv_aload_n hx hb dX4_unit_57 rfl (lv_at hl 1 rfl) ?_
  refine lv_bipush (v := 40) hx hb dX4_unit_58 (by decide) ?_
  refine kX4_isSignHere FX ⟨Nat.le_of_ble_eq_true rfl, Nat.le_of_ble_eq_true rfl⟩ ⟨Nat.zero_le _, Nat.zero_le _⟩ hl.1 (Nat.le_of_ble_eq_true rfl) hW hf dX4_unit_60 (fun r1 H locs hW hf => ?_)
  refine lv_istore_n (lv' := [(3, .int r1), (2, .int y0), (0, .ref h0)]) hx hb dX4_unit_63 rfl hl (by decide) rfl (fun ls hl => ?_)
  refine lv_aload_n hx hb dX4_unit_64 rfl (lv_at hl 2 rfl) ?_
  refine kX4_wordHere FX ⟨Nat.le_of_ble_eq_true rfl, Nat.le_of_ble_eq_true rfl⟩ ⟨Nat.zero_le _, Nat.zero_le _⟩ hl.1 (Nat.le_of_ble_eq_true rfl) hW hf dX4_unit_65 (fun r2 H locs hW hf => ?_)
  refine lv_istore (lv' := [(4, .int r2), (3, .int r1), (2, .int y0), (0, .ref h0)]) hx hb dX4_unit_68 hl (by decide) rfl (fun ls hl => ?_)
  refine lv_aload_n hx hb dX4_unit_70 rfl (lv_at hl 3 rfl) ?_
  refine Mg13 FX hW dX4_unit_71 ?_
  refine lv_aload_n hx hb dX4_unit_74 rfl (lv_at hl 3 rfl) ?_
  refine Mg33 FX hW dX4_unit_75 ?_
  refine g_iald FX hW 5 Mp13 hf dX4_unit_78 (fun v3 hf => ?_)
  refine lv_bipush (v := 60) hx hb dX4_unit_79 (by decide) ?_
  refine lv_icmp_eq (tgt := 93) hx hb dX4_unit_81 (by decide) (fun c81 => ?_) (fun c81 => ?_)
  · have hf := ifp c81 hf
    exact wX4_unit_93 FX hr hlk y0 r1 r2 σ _ _ _ (lv_sub hl [3, 2, 1, 0] rfl) hW hf
  · have hf := ifn c81 hf
    refine lv_aload_n hx hb dX4_unit_84 rfl (lv_at hl 3 rfl) ?_
    refine Mg37 FX hW dX4_unit_85 ?_
    refine lv_bipush (v := 30) hx hb dX4_unit_88 (by decide) ?_
    refine lv_icmp_ne (tgt := 97) hx hb dX4_unit_90 (by decide) (fun c90 => ?_) (fun c90 => ?_)
    · have hf := ifn c90 hf
      refine lv_iconst (v := 0) hx hb dX4_unit_97 (by decide) ?_
      exact wX4_unit_98 FX hr hlk y0 r1 r2 (0 : Int32) σ _ _ _ (lv_sub hl [3, 2, 1, 0] rfl) hW hf
    · have hf := ifp c90 hf
      exact wX4_unit_93 FX hr hlk y0 r1 r2 σ _ _ _ (lv_sub hl [3, 2, 1, 0] rfl) hW hf
set_option maxHeartbeats 4000000 in
set_option maxRecDepth 100000 in
theorem wX4_unit_55 {q : (Int32 × Mst)} (FX : CallFix p m c cX4_unit 7 s args lw_all RX4) (hr : meth.sig.returnType = (some .boolean)) (hlk : meth.locks = false) : ∀ (σ : Mst) (H : Heap) (locs : List Loc) (ls : Array Slot), lv_has ls 7 [(0, .ref h0)] → Wd D dA A s (Mc dA h0 ad σ) H locs → fX4_unit_55 σ = some q → W p l e rX4_unit s m args below meth c H locs 0 0 (QI D dA A below args s 0 0 q.1 (Mc dA h0 ad q.2)) (F0 m 55 ls []) := by
  have hx := FX.1; have hb := FX.2.1; have hown := FX.2.2.2.1; have hts := FX.2.2.2.2
  intro σ H locs ls hl hW hf
  rw [fX4_unit_55] at hf
  refine lv_iconst (v := 0) hx hb dX4_unit_55 (by decide) ?_
  exact wX4_unit_56 FX hr hlk (0 : Int32) σ _ _ _ (lv_sub hl [0] rfl) hW hf
set_option maxHeartbeats 4000000 in
set_option maxRecDepth 100000 in
theorem wX4_unit_36 {q : (Int32 × Mst)} (FX : CallFix p m c cX4_unit 7 s args lw_all RX4) (hr : meth.sig.returnType = (some .boolean)) (hlk : meth.locks = false) : ∀ (y0 : Int32) (σ : Mst) (H : Heap) (locs : List Loc) (ls : Array Slot), lv_has ls 7 [(0, .ref h0)] → Wd D dA A s (Mc dA h0 ad σ) H locs → fX4_unit_36 y0 σ = some q → W p l e rX4_unit s m args below meth c H locs 0 0 (QI D dA A below args s 0 0 q.1 (Mc dA h0 ad q.2)) (F0 m 36 ls [.int y0]) := by
  have hx := FX.1; have hb := FX.2.1; have hown := FX.2.2.2.1; have hts := FX.2.2.2.2
  intro y0 σ H locs ls hl hW hf
  rw [fX4_unit_36] at hf
  refine lv_istore_n (lv' := [(1, .int y0), (0, .ref h0)]) hx hb dX4_unit_36 rfl hl (by decide) rfl (fun ls hl => ?_)
  refine lv_iload_n hx hb dX4_unit_37 rfl (lv_at hl 0 rfl) ?_
  refine lv_if_eq (tgt := 55) hx hb dX4_unit_38 (by decide) (fun c38 => ?_) (fun c38 => ?_)
  · have hf := ifp c38 hf
    exact wX4_unit_55 FX hr hlk σ _ _ _ (lv_sub hl [1] rfl) hW hf
  · have hf := ifn c38 hf
    refine lv_aload_n hx hb dX4_unit_41 rfl (lv_at hl 1 rfl) ?_
    refine lv_ldc2 (v := 7237492) hx hb hown (hts _ q1782) dX4_unit_42 ?_
    refine kX4_isWord FX ⟨Nat.le_of_ble_eq_true rfl, Nat.le_of_ble_eq_true rfl⟩ ⟨Nat.zero_le _, Nat.zero_le _⟩ hl.1 (Nat.le_of_ble_eq_true rfl) hW hf dX4_unit_45 (fun r1 H locs hW hf => ?_)
    refine lv_if_eq (tgt := 55) hx hb dX4_unit_48 (by decide) (fun c48 => ?_) (fun c48 => ?_)
    · have hf := ifp c48 hf
      exact wX4_unit_55 FX hr hlk σ _ _ _ (lv_sub hl [1] rfl) hW hf
    · have hf := ifn c48 hf
      refine lv_iconst (v := 1) hx hb dX4_unit_51 (by decide) ?_
      refine lv_goto (tgt := 56) hx hb dX4_unit_52 (by decide) ?_
      exact wX4_unit_56 FX hr hlk (1 : Int32) σ _ _ _ (lv_sub hl [1] rfl) hW hf
set_option maxHeartbeats 4000000 in
set_option maxRecDepth 100000 in
theorem wX4_unit_31 {q : (Int32 × Mst)} (FX : CallFix p m c cX4_unit 7 s args lw_all RX4) (hr : meth.sig.returnType = (some .boolean)) (hlk : meth.locks = false) : ∀ (σ : Mst) (H : Heap) (locs : List Loc) (ls : Array Slot), lv_has ls 7 [(0, .ref h0)] → Wd D dA A s (Mc dA h0 ad σ) H locs → fX4_unit_31 σ = some q → W p l e rX4_unit s m args below meth c H locs 0 0 (QI D dA A below args s 0 0 q.1 (Mc dA h0 ad q.2)) (F0 m 31 ls []) := by
  have hx := FX.1; have hb := FX.2.1; have hown := FX.2.2.2.1; have hts := FX.2.2.2.2
  intro σ H locs ls hl hW hf
  rw [fX4_unit_31] at hf
  refine lv_iconst (v := 1) hx hb dX4_unit_31 (by decide) ?_
  refine lv_goto (tgt := 36) hx hb dX4_unit_32 (by decide) ?_
  exact wX4_unit_36 FX hr hlk (1 : Int32) σ _ _ _ (lv_sub hl [0] rfl) hW hf
set_option maxHeartbeats 4000000 in
set_option maxRecDepth 100000 in
theorem mX4_unit  {σ : Mst} {q : (Int32 × Mst)} (hf : fX4_unit σ = some q) : CtI l yX4_unit cX4_unit 7 (some .boolean) rX4_unit D dA [.ref h0] (Mc dA h0 ad σ) q.1 (Mc dA h0 ad q.2) := by
  refine e_I (by decide) (Nat.le_of_ble_eq_true rfl) ?_
  intro p e s m below meth c ls A FX hr hlk hl hW
  have hx := FX.1; have hb := FX.2.1; have hown := FX.2.2.2.1; have hts := FX.2.2.2.2
  have hl : lv_has ls 7 [(0, .ref h0)] := hl
  rw [fX4_unit] at hf
  refine lv_aload_n hx hb dX4_unit_0 rfl (lv_at hl 0 rfl) ?_
  refine Mg29 FX hW dX4_unit_1 ?_
  refine lv_aload_n hx hb dX4_unit_4 rfl (lv_at hl 0 rfl) ?_
  refine Mg36 FX hW dX4_unit_5 ?_
  refine lv_iconst (v := 1) hx hb dX4_unit_8 (by decide) ?_
  refine lv_isub hx hb dX4_unit_9 ?_
  refine g_iald FX hW 21 Mp29 hf dX4_unit_10 (fun v1 hf => ?_)
  refine lv_iconst (v := 3) hx hb dX4_unit_11 (by decide) ?_
  refine lv_icmp_le (tgt := 31) hx hb dX4_unit_12 (by decide) (fun c12 => ?_) (fun c12 => ?_)
  · have hf := ifp c12 hf
    exact wX4_unit_31 FX hr hlk σ _ _ _ (lv_sub hl [0] rfl) hW hf
  · have hf := ifn c12 hf
    refine lv_aload_n hx hb dX4_unit_15 rfl (lv_at hl 0 rfl) ?_
    refine Mg29 FX hW dX4_unit_16 ?_
    refine lv_aload_n hx hb dX4_unit_19 rfl (lv_at hl 0 rfl) ?_
    refine Mg36 FX hW dX4_unit_20 ?_
    refine lv_iconst (v := 1) hx hb dX4_unit_23 (by decide) ?_
    refine lv_isub hx hb dX4_unit_24 ?_
    refine g_iald FX hW 21 Mp29 hf dX4_unit_25 (fun v2 hf => ?_)
    refine lv_bipush (v := 7) hx hb dX4_unit_26 (by decide) ?_
    refine lv_icmp_lt (tgt := 35) hx hb dX4_unit_28 (by decide) (fun c28 => ?_) (fun c28 => ?_)
    · have hf := ifp c28 hf
      refine lv_iconst (v := 0) hx hb dX4_unit_35 (by decide) ?_
      exact wX4_unit_36 FX hr hlk (0 : Int32) σ _ _ _ (lv_sub hl [0] rfl) hW hf
    · have hf := ifn c28 hf
      exact wX4_unit_31 FX hr hlk σ _ _ _ (lv_sub hl [0] rfl) hW hf
set_option maxHeartbeats 4000000 in
set_option maxRecDepth 100000 in
theorem kX4_unit {α : Type} {q : α} {k : Int32 → Mst → Option α} {σ : Mst} (FX : CallFix p m c cc nL s args lw_all RX4) (hR : rX4_unit.frames + 1 ≤ R.frames ∧ 8 + (7 + 11) + rX4_unit.locals ≤ R.locals) (hcs : cells ≤ R.cells ∧ slots ≤ R.slots) (hl : ls.size = nL) (hrm : (rest.map fun v => v.category).sum ≤ 8) (hW : Wd D dA A s (Mc dA h0 ad σ) H locs) (hf : bnd2 (fX4_unit σ) k = some q) (hdg : decode cc pc = .ok (.invokevirtual 301, 3)) (kk : ∀ (r : Int32) (σ1 : Mst) (H1 : Heap) (locs1 : List Loc), Wd D dA A s (Mc dA h0 ad σ1) H1 locs1 → k r σ1 = some q → W p l e R s m args below meth c H1 locs1 cells slots Q (F0 m (pc + 3) ls (.int r :: rest))) : W p l e R s m args below meth c H locs cells slots Q (F0 m pc ls (.ref h0 :: rest)) := by
  obtain ⟨r1, h1, hf⟩ := bnd (bnd2_eq hf)
  refine w_Vi (C := RX4) (As := []) (rest := rest) (n := 0) (wr := []) FX (mX4_unit h1) (cwV 0 FX.2.2.2.2 (lw_V q1856 q1858 qs74 q132 q1859) rfl rfl rfl (by decide +kernel) hR) (va_recv hW.2.2.2.1 hW.1 (ci := 4) (q0 := 0) rfl rfl) rfl hl rfl hrm ⟨Nat.le_trans (Nat.le_of_eq (Nat.add_zero cells)) hcs.1, Nat.le_trans (Nat.le_of_eq (Nat.add_zero slots)) hcs.2⟩ hdg hW.nil ?_
  exact fun H1 locs1 hW1 => kk r1.1 r1.2 H1 locs1 hW1.nil' hf
/-! TrunkLittersModel.rankHere()I: kind R -/
def fX4_rankHere_100 (σ : Mst) : Option Int32 := some (6 : Int32)
def fX4_rankHere (σ : Mst) : Option Int32 := (fX4_isWord (6385252 : Int64) σ).bind fun r1 => (if r1 = 0 then (fX4_isWord (28530 : Int64) σ).bind fun r2 => (if r2 = 0 then (fX4_isSignHere (60 : Int32) σ).bind fun r3 => (if r3 = 0 then (fX4_isSignHere (62 : Int32) σ).bind fun r4 => (if r4 = 0 then (fX4_isSignHere (61 : Int32) σ).bind fun r5 => (if r5 = 0 then (fX4_isSignHere (43 : Int32) σ).bind fun r6 => (if r6 = 0 then (fX4_isSignHere (45 : Int32) σ).bind fun r7 => (if r7 = 0 then (fX4_isSignHere (42 : Int32) σ).bind fun r8 => (if r8 = 0 then (fX4_isSignHere (47 : Int32) σ).bind fun r9 => (if r9 = 0 then (fX4_isSignHere (37 : Int32) σ).bind fun r10 => (if r10 = 0 then some (0 : Int32) else fX4_rankHere_100 σ) else fX4_rankHere_100 σ) else fX4_rankHere_100 σ) else some (5 : Int32)) else some (5 : Int32)) else some (4 : Int32)) else some (4 : Int32)) else some (4 : Int32)) else some (1 : Int32)) else some (2 : Int32))
abbrev rX4_rankHere : Room := { frames := 2, cells := 0, slots := 0, locals := 42 }
set_option maxHeartbeats 4000000 in
set_option maxRecDepth 100000 in
theorem wX4_rankHere_100 {q : Int32} {σ : Mst} (FX : CallFix p m c cX4_rankHere 1 s args lw_all RX4) (hr : meth.sig.returnType = (some .int)) (hlk : meth.locks = false) : ∀ (H : Heap) (locs : List Loc) (ls : Array Slot), lv_has ls 1 [] → Wd D dA A s (Mc dA h0 ad σ) H locs → fX4_rankHere_100 σ = some q → W p l e rX4_rankHere s m args below meth c H locs 0 0 (QI D dA A below args s 0 0 q (Mc dA h0 ad σ)) (F0 m 100 ls []) := by
  have hx := FX.1; have hb := FX.2.1; have hown := FX.2.2.2.1; have hts := FX.2.2.2.2
  intro  H locs ls hl hW hf
  rw [fX4_rankHere_100] at hf
  refine lv_bipush (v := 6) hx hb dX4_rankHere_100 (by decide) ?_
  refine lv_goto (tgt := 106) hx hb dX4_rankHere_102 (by decide) ?_
  exact g_iret FX hr hlk hW (Option.some.inj hf) dX4_rankHere_106
set_option maxHeartbeats 4000000 in
set_option maxRecDepth 100000 in
theorem mX4_rankHere  {σ : Mst} {q : Int32} (hf : fX4_rankHere σ = some q) : CtI l yX4_rankHere cX4_rankHere 1 (some .int) rX4_rankHere D dA [.ref h0] (Mc dA h0 ad σ) q (Mc dA h0 ad σ) := by
  refine e_I (by decide) (Nat.le_of_ble_eq_true rfl) ?_
  intro p e s m below meth c ls A FX hr hlk hl hW
  have hx := FX.1; have hb := FX.2.1; have hown := FX.2.2.2.1; have hts := FX.2.2.2.2
  have hl : lv_has ls 1 [(0, .ref h0)] := hl
  rw [fX4_rankHere] at hf
  refine lv_aload_n hx hb dX4_rankHere_0 rfl (lv_at hl 0 rfl) ?_
  refine lv_ldc2 (v := 6385252) hx hb hown (hts _ q1781) dX4_rankHere_1 ?_
  refine kX4_isWord FX ⟨Nat.le_of_ble_eq_true rfl, Nat.le_of_ble_eq_true rfl⟩ ⟨Nat.zero_le _, Nat.zero_le _⟩ hl.1 (Nat.le_of_ble_eq_true rfl) hW hf dX4_rankHere_4 (fun r1 H locs hW hf => ?_)
  refine lv_if_eq (tgt := 12) hx hb dX4_rankHere_7 (by decide) (fun c7 => ?_) (fun c7 => ?_)
  · have hf := ifp c7 hf
    refine lv_aload_n hx hb dX4_rankHere_12 rfl (lv_at hl 0 rfl) ?_
    refine lv_ldc2 (v := 28530) hx hb hown (hts _ q1780) dX4_rankHere_13 ?_
    refine kX4_isWord FX ⟨Nat.le_of_ble_eq_true rfl, Nat.le_of_ble_eq_true rfl⟩ ⟨Nat.zero_le _, Nat.zero_le _⟩ hl.1 (Nat.le_of_ble_eq_true rfl) hW hf dX4_rankHere_16 (fun r2 H locs hW hf => ?_)
    refine lv_if_eq (tgt := 24) hx hb dX4_rankHere_19 (by decide) (fun c19 => ?_) (fun c19 => ?_)
    · have hf := ifp c19 hf
      refine lv_aload_n hx hb dX4_rankHere_24 rfl (lv_at hl 0 rfl) ?_
      refine lv_bipush (v := 60) hx hb dX4_rankHere_25 (by decide) ?_
      refine kX4_isSignHere FX ⟨Nat.le_of_ble_eq_true rfl, Nat.le_of_ble_eq_true rfl⟩ ⟨Nat.zero_le _, Nat.zero_le _⟩ hl.1 (Nat.le_of_ble_eq_true rfl) hW hf dX4_rankHere_27 (fun r3 H locs hW hf => ?_)
      refine lv_if_ne (tgt := 51) hx hb dX4_rankHere_30 (by decide) (fun c30 => ?_) (fun c30 => ?_)
      · have hf := ifn c30 hf
        refine lv_iconst (v := 4) hx hb dX4_rankHere_51 (by decide) ?_
        exact g_iret FX hr hlk hW (Option.some.inj hf) dX4_rankHere_52
      · have hf := ifp c30 hf
        refine lv_aload_n hx hb dX4_rankHere_33 rfl (lv_at hl 0 rfl) ?_
        refine lv_bipush (v := 62) hx hb dX4_rankHere_34 (by decide) ?_
        refine kX4_isSignHere FX ⟨Nat.le_of_ble_eq_true rfl, Nat.le_of_ble_eq_true rfl⟩ ⟨Nat.zero_le _, Nat.zero_le _⟩ hl.1 (Nat.le_of_ble_eq_true rfl) hW hf dX4_rankHere_36 (fun r4 H locs hW hf => ?_)
        refine lv_if_ne (tgt := 51) hx hb dX4_rankHere_39 (by decide) (fun c39 => ?_) (fun c39 => ?_)
        · have hf := ifn c39 hf
          refine lv_iconst (v := 4) hx hb dX4_rankHere_51 (by decide) ?_
          exact g_iret FX hr hlk hW (Option.some.inj hf) dX4_rankHere_52
        · have hf := ifp c39 hf
          refine lv_aload_n hx hb dX4_rankHere_42 rfl (lv_at hl 0 rfl) ?_
          refine lv_bipush (v := 61) hx hb dX4_rankHere_43 (by decide) ?_
          refine kX4_isSignHere FX ⟨Nat.le_of_ble_eq_true rfl, Nat.le_of_ble_eq_true rfl⟩ ⟨Nat.zero_le _, Nat.zero_le _⟩ hl.1 (Nat.le_of_ble_eq_true rfl) hW hf dX4_rankHere_45 (fun r5 H locs hW hf => ?_)
          refine lv_if_eq (tgt := 53) hx hb dX4_rankHere_48 (by decide) (fun c48 => ?_) (fun c48 => ?_)
          · have hf := ifp c48 hf
            refine lv_aload_n hx hb dX4_rankHere_53 rfl (lv_at hl 0 rfl) ?_
            refine lv_bipush (v := 43) hx hb dX4_rankHere_54 (by decide) ?_
            refine kX4_isSignHere FX ⟨Nat.le_of_ble_eq_true rfl, Nat.le_of_ble_eq_true rfl⟩ ⟨Nat.zero_le _, Nat.zero_le _⟩ hl.1 (Nat.le_of_ble_eq_true rfl) hW hf dX4_rankHere_56 (fun r6 H locs hW hf => ?_)
            refine lv_if_ne (tgt := 71) hx hb dX4_rankHere_59 (by decide) (fun c59 => ?_) (fun c59 => ?_)
            · have hf := ifn c59 hf
              refine lv_iconst (v := 5) hx hb dX4_rankHere_71 (by decide) ?_
              exact g_iret FX hr hlk hW (Option.some.inj hf) dX4_rankHere_72
            · have hf := ifp c59 hf
              refine lv_aload_n hx hb dX4_rankHere_62 rfl (lv_at hl 0 rfl) ?_
              refine lv_bipush (v := 45) hx hb dX4_rankHere_63 (by decide) ?_
              refine kX4_isSignHere FX ⟨Nat.le_of_ble_eq_true rfl, Nat.le_of_ble_eq_true rfl⟩ ⟨Nat.zero_le _, Nat.zero_le _⟩ hl.1 (Nat.le_of_ble_eq_true rfl) hW hf dX4_rankHere_65 (fun r7 H locs hW hf => ?_)
              refine lv_if_eq (tgt := 73) hx hb dX4_rankHere_68 (by decide) (fun c68 => ?_) (fun c68 => ?_)
              · have hf := ifp c68 hf
                refine lv_aload_n hx hb dX4_rankHere_73 rfl (lv_at hl 0 rfl) ?_
                refine lv_bipush (v := 42) hx hb dX4_rankHere_74 (by decide) ?_
                refine kX4_isSignHere FX ⟨Nat.le_of_ble_eq_true rfl, Nat.le_of_ble_eq_true rfl⟩ ⟨Nat.zero_le _, Nat.zero_le _⟩ hl.1 (Nat.le_of_ble_eq_true rfl) hW hf dX4_rankHere_76 (fun r8 H locs hW hf => ?_)
                refine lv_if_ne (tgt := 100) hx hb dX4_rankHere_79 (by decide) (fun c79 => ?_) (fun c79 => ?_)
                · have hf := ifn c79 hf
                  exact wX4_rankHere_100 FX hr hlk _ _ _ (lv_sub hl [] rfl) hW hf
                · have hf := ifp c79 hf
                  refine lv_aload_n hx hb dX4_rankHere_82 rfl (lv_at hl 0 rfl) ?_
                  refine lv_bipush (v := 47) hx hb dX4_rankHere_83 (by decide) ?_
                  refine kX4_isSignHere FX ⟨Nat.le_of_ble_eq_true rfl, Nat.le_of_ble_eq_true rfl⟩ ⟨Nat.zero_le _, Nat.zero_le _⟩ hl.1 (Nat.le_of_ble_eq_true rfl) hW hf dX4_rankHere_85 (fun r9 H locs hW hf => ?_)
                  refine lv_if_ne (tgt := 100) hx hb dX4_rankHere_88 (by decide) (fun c88 => ?_) (fun c88 => ?_)
                  · have hf := ifn c88 hf
                    exact wX4_rankHere_100 FX hr hlk _ _ _ (lv_sub hl [] rfl) hW hf
                  · have hf := ifp c88 hf
                    refine lv_aload_n hx hb dX4_rankHere_91 rfl (lv_at hl 0 rfl) ?_
                    refine lv_bipush (v := 37) hx hb dX4_rankHere_92 (by decide) ?_
                    refine kX4_isSignHere FX ⟨Nat.le_of_ble_eq_true rfl, Nat.le_of_ble_eq_true rfl⟩ ⟨Nat.zero_le _, Nat.zero_le _⟩ hl.1 (Nat.le_of_ble_eq_true rfl) hW hf dX4_rankHere_94 (fun r10 H locs hW hf => ?_)
                    refine lv_if_eq (tgt := 105) hx hb dX4_rankHere_97 (by decide) (fun c97 => ?_) (fun c97 => ?_)
                    · have hf := ifp c97 hf
                      refine lv_iconst (v := 0) hx hb dX4_rankHere_105 (by decide) ?_
                      exact g_iret FX hr hlk hW (Option.some.inj hf) dX4_rankHere_106
                    · have hf := ifn c97 hf
                      exact wX4_rankHere_100 FX hr hlk _ _ _ (lv_sub hl [] rfl) hW hf
              · have hf := ifn c68 hf
                refine lv_iconst (v := 5) hx hb dX4_rankHere_71 (by decide) ?_
                exact g_iret FX hr hlk hW (Option.some.inj hf) dX4_rankHere_72
          · have hf := ifn c48 hf
            refine lv_iconst (v := 4) hx hb dX4_rankHere_51 (by decide) ?_
            exact g_iret FX hr hlk hW (Option.some.inj hf) dX4_rankHere_52
    · have hf := ifn c19 hf
      refine lv_iconst (v := 1) hx hb dX4_rankHere_22 (by decide) ?_
      exact g_iret FX hr hlk hW (Option.some.inj hf) dX4_rankHere_23
  · have hf := ifn c7 hf
    refine lv_iconst (v := 2) hx hb dX4_rankHere_10 (by decide) ?_
    exact g_iret FX hr hlk hW (Option.some.inj hf) dX4_rankHere_11
set_option maxHeartbeats 4000000 in
set_option maxRecDepth 100000 in
theorem kX4_rankHere {α : Type} {q : α} {k : Int32 → Option α} {σ : Mst} (FX : CallFix p m c cc nL s args lw_all RX4) (hR : rX4_rankHere.frames + 1 ≤ R.frames ∧ 8 + (1 + 11) + rX4_rankHere.locals ≤ R.locals) (hcs : cells ≤ R.cells ∧ slots ≤ R.slots) (hl : ls.size = nL) (hrm : (rest.map fun v => v.category).sum ≤ 8) (hW : Wd D dA A s (Mc dA h0 ad σ) H locs) (hf : (fX4_rankHere σ).bind k = some q) (hdg : decode cc pc = .ok (.invokevirtual 313, 3)) (kk : ∀ (r : Int32) (H1 : Heap) (locs1 : List Loc), Wd D dA A s (Mc dA h0 ad σ) H1 locs1 → k r = some q → W p l e R s m args below meth c H1 locs1 cells slots Q (F0 m (pc + 3) ls (.int r :: rest))) : W p l e R s m args below meth c H locs cells slots Q (F0 m pc ls (.ref h0 :: rest)) := by
  obtain ⟨r1, h1, hf⟩ := bnd hf
  refine w_Vi (C := RX4) (As := []) (rest := rest) (n := 0) (wr := []) FX (mX4_rankHere h1) (cwV 0 FX.2.2.2.2 (lw_V q1876 q1878 qs79 q132 q1879) rfl rfl rfl (by decide +kernel) hR) (va_recv hW.2.2.2.1 hW.1 (ci := 4) (q0 := 0) rfl rfl) rfl hl rfl hrm ⟨Nat.le_trans (Nat.le_of_eq (Nat.add_zero cells)) hcs.1, Nat.le_trans (Nat.le_of_eq (Nat.add_zero slots)) hcs.2⟩ hdg hW.nil ?_
  exact fun H1 locs1 hW1 => kk r1 H1 locs1 hW1.nil' hf
end M04
