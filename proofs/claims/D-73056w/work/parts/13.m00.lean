section M00
variable {p : Program} {l : Launch} {e : Env} {R : Room} {s : State} {m : MethodId} {args : Array Value} {below : List Frame} {meth : Method} {c : Code} {H : Heap} {locs : List Loc} {cells slots : Nat} {Q : State → Prop}
variable {cc : ByteArray} {pc nL : Nat} {ls : Array Slot} {rest : List Value} {D : va_G} {dA : Nat → ClassId} {A : Nat → Prop} {h0 : Nat} {ad : Nat → Nat}
/-! TrunkLittersModel.holdsOf(I)I: kind R -/
def fX4_holdsOf (x1 : Int32) (σ : Mst) : Option Int32 := ald 8 (gA σ 18) (((4 : Int32) * (gF σ 32)) + x1) fun v1 => some v1
abbrev rX4_holdsOf : Room := { frames := 0, cells := 0, slots := 0, locals := 0 }
set_option maxHeartbeats 4000000 in
set_option maxRecDepth 100000 in
theorem mX4_holdsOf  {x1 : Int32} {σ : Mst} {q : Int32} (hf : fX4_holdsOf x1 σ = some q) : CtI l yX4_holdsOf cX4_holdsOf 2 (some .int) rX4_holdsOf D dA [.ref h0, .int x1] (Mc dA h0 ad σ) q (Mc dA h0 ad σ) := by
  refine e_I (by decide) (Nat.le_of_ble_eq_true rfl) ?_
  intro p e s m below meth c ls A FX hr hlk hl hW
  have hx := FX.1; have hb := FX.2.1; have hown := FX.2.2.2.1; have hts := FX.2.2.2.2
  have hl : lv_has ls 2 [(0, .ref h0), (1, .int x1)] := hl
  rw [fX4_holdsOf] at hf
  refine lv_aload_n hx hb dX4_holdsOf_0 rfl (lv_at hl 0 rfl) ?_
  refine Mg18 FX hW dX4_holdsOf_1 ?_
  refine lv_iconst (v := 4) hx hb dX4_holdsOf_4 (by decide) ?_
  refine lv_aload_n hx hb dX4_holdsOf_5 rfl (lv_at hl 0 rfl) ?_
  refine Mg32 FX hW dX4_holdsOf_6 ?_
  refine lv_imul hx hb dX4_holdsOf_9 ?_
  refine lv_iload_n hx hb dX4_holdsOf_10 rfl (lv_at hl 1 rfl) ?_
  refine lv_iadd hx hb dX4_holdsOf_11 ?_
  refine g_iald FX hW 10 Mp18 hf dX4_holdsOf_12 (fun v1 hf => ?_)
  exact g_iret FX hr hlk hW (Option.some.inj hf) dX4_holdsOf_13
set_option maxHeartbeats 4000000 in
set_option maxRecDepth 100000 in
theorem kX4_holdsOf {α : Type} {q : α} {k : Int32 → Option α} {x1 : Int32} {σ : Mst} (FX : CallFix p m c cc nL s args lw_all RX4) (hR : rX4_holdsOf.frames + 1 ≤ R.frames ∧ 8 + (2 + 11) + rX4_holdsOf.locals ≤ R.locals) (hcs : cells ≤ R.cells ∧ slots ≤ R.slots) (hl : ls.size = nL) (hrm : (rest.map fun v => v.category).sum ≤ 8) (hW : Wd D dA A s (Mc dA h0 ad σ) H locs) (hf : (fX4_holdsOf x1 σ).bind k = some q) (hdg : decode cc pc = .ok (.invokevirtual 350, 3)) (kk : ∀ (r : Int32) (H1 : Heap) (locs1 : List Loc), Wd D dA A s (Mc dA h0 ad σ) H1 locs1 → k r = some q → W p l e R s m args below meth c H1 locs1 cells slots Q (F0 m (pc + 3) ls (.int r :: rest))) : W p l e R s m args below meth c H locs cells slots Q (F0 m pc ls (.int x1 :: .ref h0 :: rest)) := by
  obtain ⟨r1, h1, hf⟩ := bnd hf
  refine w_Vi (C := RX4) (As := [.int x1]) (rest := rest) (n := 1) (wr := []) FX (mX4_holdsOf h1) (cwV 1 FX.2.2.2.2 (lw_V q1907 q1909 qs84 q132 q1910) rfl rfl rfl (by decide +kernel) hR) (va_recv hW.2.2.2.1 hW.1 (ci := 4) (q0 := 0) rfl rfl) rfl hl rfl hrm ⟨Nat.le_trans (Nat.le_of_eq (Nat.add_zero cells)) hcs.1, Nat.le_trans (Nat.le_of_eq (Nat.add_zero slots)) hcs.2⟩ hdg hW.nil ?_
  exact fun H1 locs1 hW1 => kk r1 H1 locs1 hW1.nil' hf
/-! TrunkLittersModel.thoseIn(I)I: kind R -/
def fX4_thoseIn_4 (σ : Mst) : Nat → Int32 → Int32 → Int32 → Option Int32
  | 0, _, _, _ => none
  | n + 1, x1, x2, x3 => (if (8 : Int32) ≤ x3 then some x2 else ald 59 (gA σ 40) ((0 : Int32) + x3) fun v1 => (if v1 ≤ 0 then fX4_thoseIn_4 σ n x1 x2 (x3 + (1 : Int32)) else ald 59 (gA σ 40) ((8 : Int32) + x3) fun v2 => (if v2 = x1 then fX4_thoseIn_4 σ n x1 (x2 ||| ((1 : Int32) <<< (x3 &&& 31))) (x3 + (1 : Int32)) else fX4_thoseIn_4 σ n x1 x2 (x3 + (1 : Int32)))))
def fX4_thoseIn (x1 : Int32) (σ : Mst) : Option Int32 := fX4_thoseIn_4 σ FU x1 (0 : Int32) (0 : Int32)
abbrev rX4_thoseIn : Room := { frames := 0, cells := 0, slots := 0, locals := 0 }
set_option maxHeartbeats 4000000 in
set_option maxRecDepth 100000 in
theorem wX4_thoseIn_4 {q : Int32} {σ : Mst} (FX : CallFix p m c cX4_thoseIn 4 s args lw_all RX4) (hr : meth.sig.returnType = (some .int)) (hlk : meth.locks = false) : ∀ n : Nat, ∀ (x1 : Int32) (x2 : Int32) (x3 : Int32) (H : Heap) (locs : List Loc) (ls : Array Slot), lv_has ls 4 [(0, .ref h0), (1, .int x1), (2, .int x2), (3, .int x3)] → Wd D dA A s (Mc dA h0 ad σ) H locs → fX4_thoseIn_4 σ n x1 x2 x3 = some q → W p l e rX4_thoseIn s m args below meth c H locs 0 0 (QI D dA A below args s 0 0 q (Mc dA h0 ad σ)) (F0 m 4 ls []) := by
  have hx := FX.1; have hb := FX.2.1; have hown := FX.2.2.2.1; have hts := FX.2.2.2.2
  intro n
  induction n with
  | zero =>
    intro x1 x2 x3 H locs ls hl hW hf
    cases (show (none : Option Int32) = some q from hf)
  | succ n ih =>
    intro x1 x2 x3 H locs ls hl hW hf
    rw [fX4_thoseIn_4] at hf
    refine lv_iload_n hx hb dX4_thoseIn_4 rfl (lv_at hl 3 rfl) ?_
    refine lv_bipush (v := 8) hx hb dX4_thoseIn_5 (by decide) ?_
    refine lv_icmp_ge (tgt := 46) hx hb dX4_thoseIn_7 (by decide) (fun c7 => ?_) (fun c7 => ?_)
    · have hf := ifp c7 hf
      refine lv_iload_n hx hb dX4_thoseIn_46 rfl (lv_at hl 2 rfl) ?_
      exact g_iret FX hr hlk hW (Option.some.inj hf) dX4_thoseIn_47
    · have hf := ifn c7 hf
      refine lv_aload_n hx hb dX4_thoseIn_10 rfl (lv_at hl 0 rfl) ?_
      refine Mg40 FX hW dX4_thoseIn_11 ?_
      refine lv_iconst (v := 0) hx hb dX4_thoseIn_14 (by decide) ?_
      refine lv_iload_n hx hb dX4_thoseIn_15 rfl (lv_at hl 3 rfl) ?_
      refine lv_iadd hx hb dX4_thoseIn_16 ?_
      refine g_iald FX hW 24 Mp40 hf dX4_thoseIn_17 (fun v1 hf => ?_)
      refine lv_if_le (tgt := 40) hx hb dX4_thoseIn_18 (by decide) (fun c18 => ?_) (fun c18 => ?_)
      · have hf := ifp c18 hf
        refine lv_iinc (v := (x3 + (1 : Int32))) (lv' := [(3, .int (x3 + (1 : Int32))), (0, .ref h0), (1, .int x1), (2, .int x2)]) hx hb dX4_thoseIn_40 hl (k := 3) rfl rfl (by decide) rfl (fun ls hl => ?_)
        refine lv_goto (tgt := 4) hx hb dX4_thoseIn_43 (by decide) ?_
        exact ih x1 x2 (x3 + (1 : Int32)) _ _ _ (lv_sub hl [1, 2, 3, 0] rfl) hW hf
      · have hf := ifn c18 hf
        refine lv_aload_n hx hb dX4_thoseIn_21 rfl (lv_at hl 0 rfl) ?_
        refine Mg40 FX hW dX4_thoseIn_22 ?_
        refine lv_bipush (v := 8) hx hb dX4_thoseIn_25 (by decide) ?_
        refine lv_iload_n hx hb dX4_thoseIn_27 rfl (lv_at hl 3 rfl) ?_
        refine lv_iadd hx hb dX4_thoseIn_28 ?_
        refine g_iald FX hW 24 Mp40 hf dX4_thoseIn_29 (fun v2 hf => ?_)
        refine lv_iload_n hx hb dX4_thoseIn_30 rfl (lv_at hl 1 rfl) ?_
        refine lv_icmp_ne (tgt := 40) hx hb dX4_thoseIn_31 (by decide) (fun c31 => ?_) (fun c31 => ?_)
        · have hf := ifn c31 hf
          refine lv_iinc (v := (x3 + (1 : Int32))) (lv' := [(3, .int (x3 + (1 : Int32))), (0, .ref h0), (1, .int x1), (2, .int x2)]) hx hb dX4_thoseIn_40 hl (k := 3) rfl rfl (by decide) rfl (fun ls hl => ?_)
          refine lv_goto (tgt := 4) hx hb dX4_thoseIn_43 (by decide) ?_
          exact ih x1 x2 (x3 + (1 : Int32)) _ _ _ (lv_sub hl [1, 2, 3, 0] rfl) hW hf
        · have hf := ifp c31 hf
          refine lv_iload_n hx hb dX4_thoseIn_34 rfl (lv_at hl 2 rfl) ?_
          refine lv_iconst (v := 1) hx hb dX4_thoseIn_35 (by decide) ?_
          refine lv_iload_n hx hb dX4_thoseIn_36 rfl (lv_at hl 3 rfl) ?_
          refine lv_ishl hx hb dX4_thoseIn_37 ?_
          refine lv_ior hx hb dX4_thoseIn_38 ?_
          refine lv_istore_n (lv' := [(2, .int (x2 ||| ((1 : Int32) <<< (x3 &&& 31)))), (0, .ref h0), (1, .int x1), (3, .int x3)]) hx hb dX4_thoseIn_39 rfl hl (by decide) rfl (fun ls hl => ?_)
          refine lv_iinc (v := (x3 + (1 : Int32))) (lv' := [(3, .int (x3 + (1 : Int32))), (2, .int (x2 ||| ((1 : Int32) <<< (x3 &&& 31)))), (0, .ref h0), (1, .int x1)]) hx hb dX4_thoseIn_40 hl (k := 3) rfl rfl (by decide) rfl (fun ls hl => ?_)
          refine lv_goto (tgt := 4) hx hb dX4_thoseIn_43 (by decide) ?_
          exact ih x1 (x2 ||| ((1 : Int32) <<< (x3 &&& 31))) (x3 + (1 : Int32)) _ _ _ (lv_sub hl [2, 3, 1, 0] rfl) hW hf
set_option maxHeartbeats 4000000 in
set_option maxRecDepth 100000 in
theorem mX4_thoseIn  {x1 : Int32} {σ : Mst} {q : Int32} (hf : fX4_thoseIn x1 σ = some q) : CtI l yX4_thoseIn cX4_thoseIn 4 (some .int) rX4_thoseIn D dA [.ref h0, .int x1] (Mc dA h0 ad σ) q (Mc dA h0 ad σ) := by
  refine e_I (by decide) (Nat.le_of_ble_eq_true rfl) ?_
  intro p e s m below meth c ls A FX hr hlk hl hW
  have hx := FX.1; have hb := FX.2.1; have hown := FX.2.2.2.1; have hts := FX.2.2.2.2
  have hl : lv_has ls 4 [(0, .ref h0), (1, .int x1)] := hl
  rw [fX4_thoseIn] at hf
  refine lv_iconst (v := 0) hx hb dX4_thoseIn_0 (by decide) ?_
  refine lv_istore_n (lv' := [(2, .int (0 : Int32)), (0, .ref h0), (1, .int x1)]) hx hb dX4_thoseIn_1 rfl hl (by decide) rfl (fun ls hl => ?_)
  refine lv_iconst (v := 0) hx hb dX4_thoseIn_2 (by decide) ?_
  refine lv_istore_n (lv' := [(3, .int (0 : Int32)), (2, .int (0 : Int32)), (0, .ref h0), (1, .int x1)]) hx hb dX4_thoseIn_3 rfl hl (by decide) rfl (fun ls hl => ?_)
  exact wX4_thoseIn_4 FX hr hlk _ x1 (0 : Int32) (0 : Int32) _ _ _ (lv_sub hl [2, 3, 1, 0] rfl) hW hf
set_option maxHeartbeats 4000000 in
set_option maxRecDepth 100000 in
theorem kX4_thoseIn {α : Type} {q : α} {k : Int32 → Option α} {x1 : Int32} {σ : Mst} (FX : CallFix p m c cc nL s args lw_all RX4) (hR : rX4_thoseIn.frames + 1 ≤ R.frames ∧ 8 + (4 + 11) + rX4_thoseIn.locals ≤ R.locals) (hcs : cells ≤ R.cells ∧ slots ≤ R.slots) (hl : ls.size = nL) (hrm : (rest.map fun v => v.category).sum ≤ 8) (hW : Wd D dA A s (Mc dA h0 ad σ) H locs) (hf : (fX4_thoseIn x1 σ).bind k = some q) (hdg : decode cc pc = .ok (.invokevirtual 353, 3)) (kk : ∀ (r : Int32) (H1 : Heap) (locs1 : List Loc), Wd D dA A s (Mc dA h0 ad σ) H1 locs1 → k r = some q → W p l e R s m args below meth c H1 locs1 cells slots Q (F0 m (pc + 3) ls (.int r :: rest))) : W p l e R s m args below meth c H locs cells slots Q (F0 m pc ls (.int x1 :: .ref h0 :: rest)) := by
  obtain ⟨r1, h1, hf⟩ := bnd hf
  refine w_Vi (C := RX4) (As := [.int x1]) (rest := rest) (n := 1) (wr := []) FX (mX4_thoseIn h1) (cwV 1 FX.2.2.2.2 (lw_V q1915 q1917 qs86 q132 q1918) rfl rfl rfl (by decide +kernel) hR) (va_recv hW.2.2.2.1 hW.1 (ci := 4) (q0 := 0) rfl rfl) rfl hl rfl hrm ⟨Nat.le_trans (Nat.le_of_eq (Nat.add_zero cells)) hcs.1, Nat.le_trans (Nat.le_of_eq (Nat.add_zero slots)) hcs.2⟩ hdg hW.nil ?_
  exact fun H1 locs1 hW1 => kk r1 H1 locs1 hW1.nil' hf
/-! TrunkLittersModel.bit(II)Z: kind S -/
def fX4_bit (x0 : Int32) (x1 : Int32) : Option Int32 := (if ((x0 >>> (x1 &&& 31)) &&& (1 : Int32)) = (1 : Int32) then some (1 : Int32) else some (0 : Int32))
abbrev rX4_bit : Room := { frames := 0, cells := 0, slots := 0, locals := 0 }
set_option maxHeartbeats 4000000 in
set_option maxRecDepth 100000 in
theorem mX4_bit  {x0 : Int32} {x1 : Int32} {q : Int32} (hf : fX4_bit x0 x1 = some q) : CtI l yX4_bit cX4_bit 2 (some .boolean) rX4_bit D dA [.int x0, .int x1] [] q [] := by
  refine e_I (by decide) (Nat.le_of_ble_eq_true rfl) ?_
  intro p e s m below meth c ls A FX hr hlk hl hW
  have hx := FX.1; have hb := FX.2.1; have hown := FX.2.2.2.1; have hts := FX.2.2.2.2
  have hl : lv_has ls 2 [(0, .int x0), (1, .int x1)] := hl
  rw [fX4_bit] at hf
  refine lv_iload_n hx hb dX4_bit_0 rfl (lv_at hl 0 rfl) ?_
  refine lv_iload_n hx hb dX4_bit_1 rfl (lv_at hl 1 rfl) ?_
  refine lv_ishr hx hb dX4_bit_2 ?_
  refine lv_iconst (v := 1) hx hb dX4_bit_3 (by decide) ?_
  refine lv_iand hx hb dX4_bit_4 ?_
  refine lv_iconst (v := 1) hx hb dX4_bit_5 (by decide) ?_
  refine lv_icmp_ne (tgt := 13) hx hb dX4_bit_6 (by decide) (fun c6 => ?_) (fun c6 => ?_)
  · have hf := ifn c6 hf
    refine lv_iconst (v := 0) hx hb dX4_bit_13 (by decide) ?_
    exact g_zret FX hr hlk hW rfl (Option.some.inj hf) dX4_bit_14
  · have hf := ifp c6 hf
    refine lv_iconst (v := 1) hx hb dX4_bit_9 (by decide) ?_
    refine lv_goto (tgt := 14) hx hb dX4_bit_10 (by decide) ?_
    exact g_zret FX hr hlk hW rfl (Option.some.inj hf) dX4_bit_14
set_option maxHeartbeats 4000000 in
set_option maxRecDepth 100000 in
theorem kX4_bit {α : Type} {q : α} {k : Int32 → Option α} {x0 : Int32} {x1 : Int32} {ws : va_W} (FX : CallFix p m c cc nL s args lw_all RX4) (hR : rX4_bit.frames + 1 ≤ R.frames ∧ 8 + (2 + 11) + rX4_bit.locals ≤ R.locals) (hcs : cells ≤ R.cells ∧ slots ≤ R.slots) (hl : ls.size = nL) (hrm : (rest.map fun v => v.category).sum ≤ 8) (hW : Wd D dA A s ws H locs) (hf : (fX4_bit x0 x1).bind k = some q) (hdg : decode cc pc = .ok (.invokestatic 250, 3)) (kk : ∀ (r : Int32) (H1 : Heap) (locs1 : List Loc), Wd D dA A s ws H1 locs1 → k r = some q → W p l e R s m args below meth c H1 locs1 cells slots Q (F0 m (pc + 3) ls (.int r :: rest))) : W p l e R s m args below meth c H locs cells slots Q (F0 m pc ls (.int x1 :: .int x0 :: rest)) := by
  obtain ⟨r1, h1, hf⟩ := bnd hf
  refine w_Si (As := [.int x0, .int x1]) (rest := rest) (n := 2) (wr := ws) FX (mX4_bit h1) (va_cwS 2 FX.2.2.2.2 (lw_S q1805 q1806 q132 q1807) rfl rfl rfl (by decide +kernel) hR) rfl hl rfl hrm ⟨Nat.le_trans (Nat.le_of_eq (Nat.add_zero cells)) hcs.1, Nat.le_trans (Nat.le_of_eq (Nat.add_zero slots)) hcs.2⟩ hdg hW ?_
  exact fun H1 locs1 hW1 => kk r1 H1 locs1 hW1 hf
/-! TrunkLittersModel.bulkOf(I)I: kind R -/
def fX4_bulkOf_4 (σ : Mst) : Nat → Int32 → Int32 → Int32 → Option Int32
  | 0, _, _, _ => none
  | n + 1, x1, x2, x3 => (if (8 : Int32) ≤ x3 then some x2 else (fX4_bit x1 x3).bind fun r1 => (if r1 = 0 then fX4_bulkOf_4 σ n x1 (x2 + (0 : Int32)) (x3 + (1 : Int32)) else ald 59 (gA σ 40) ((0 : Int32) + x3) fun v2 => fX4_bulkOf_4 σ n x1 (x2 + v2) (x3 + (1 : Int32))))
def fX4_bulkOf (x1 : Int32) (σ : Mst) : Option Int32 := fX4_bulkOf_4 σ FU x1 (0 : Int32) (0 : Int32)
abbrev rX4_bulkOf : Room := { frames := 1, cells := 0, slots := 0, locals := 21 }
set_option maxHeartbeats 4000000 in
set_option maxRecDepth 100000 in
theorem wX4_bulkOf_4 {q : Int32} {σ : Mst} (FX : CallFix p m c cX4_bulkOf 4 s args lw_all RX4) (hr : meth.sig.returnType = (some .int)) (hlk : meth.locks = false) : ∀ n : Nat, ∀ (x1 : Int32) (x2 : Int32) (x3 : Int32) (H : Heap) (locs : List Loc) (ls : Array Slot), lv_has ls 4 [(0, .ref h0), (1, .int x1), (2, .int x2), (3, .int x3)] → Wd D dA A s (Mc dA h0 ad σ) H locs → fX4_bulkOf_4 σ n x1 x2 x3 = some q → W p l e rX4_bulkOf s m args below meth c H locs 0 0 (QI D dA A below args s 0 0 q (Mc dA h0 ad σ)) (F0 m 4 ls []) := by
  have hx := FX.1; have hb := FX.2.1; have hown := FX.2.2.2.1; have hts := FX.2.2.2.2
  intro n
  induction n with
  | zero =>
    intro x1 x2 x3 H locs ls hl hW hf
    cases (show (none : Option Int32) = some q from hf)
  | succ n ih =>
    intro x1 x2 x3 H locs ls hl hW hf
    rw [fX4_bulkOf_4] at hf
    refine lv_iload_n hx hb dX4_bulkOf_4 rfl (lv_at hl 3 rfl) ?_
    refine lv_bipush (v := 8) hx hb dX4_bulkOf_5 (by decide) ?_
    refine lv_icmp_ge (tgt := 39) hx hb dX4_bulkOf_7 (by decide) (fun c7 => ?_) (fun c7 => ?_)
    · have hf := ifp c7 hf
      refine lv_iload_n hx hb dX4_bulkOf_39 rfl (lv_at hl 2 rfl) ?_
      exact g_iret FX hr hlk hW (Option.some.inj hf) dX4_bulkOf_40
    · have hf := ifn c7 hf
      refine lv_iload_n hx hb dX4_bulkOf_10 rfl (lv_at hl 2 rfl) ?_
      refine lv_iload_n hx hb dX4_bulkOf_11 rfl (lv_at hl 1 rfl) ?_
      refine lv_iload_n hx hb dX4_bulkOf_12 rfl (lv_at hl 3 rfl) ?_
      refine kX4_bit FX ⟨Nat.le_of_ble_eq_true rfl, Nat.le_of_ble_eq_true rfl⟩ ⟨Nat.zero_le _, Nat.zero_le _⟩ hl.1 (Nat.le_of_ble_eq_true rfl) hW hf dX4_bulkOf_13 (fun r1 H locs hW hf => ?_)
      refine lv_if_eq (tgt := 30) hx hb dX4_bulkOf_16 (by decide) (fun c16 => ?_) (fun c16 => ?_)
      · have hf := ifp c16 hf
        refine lv_iconst (v := 0) hx hb dX4_bulkOf_30 (by decide) ?_
        refine lv_iadd hx hb dX4_bulkOf_31 ?_
        refine lv_istore_n (lv' := [(2, .int (x2 + (0 : Int32))), (0, .ref h0), (1, .int x1), (3, .int x3)]) hx hb dX4_bulkOf_32 rfl hl (by decide) rfl (fun ls hl => ?_)
        refine lv_iinc (v := (x3 + (1 : Int32))) (lv' := [(3, .int (x3 + (1 : Int32))), (2, .int (x2 + (0 : Int32))), (0, .ref h0), (1, .int x1)]) hx hb dX4_bulkOf_33 hl (k := 3) rfl rfl (by decide) rfl (fun ls hl => ?_)
        refine lv_goto (tgt := 4) hx hb dX4_bulkOf_36 (by decide) ?_
        exact ih x1 (x2 + (0 : Int32)) (x3 + (1 : Int32)) _ _ _ (lv_sub hl [2, 3, 1, 0] rfl) hW hf
      · have hf := ifn c16 hf
        refine lv_aload_n hx hb dX4_bulkOf_19 rfl (lv_at hl 0 rfl) ?_
        refine Mg40 FX hW dX4_bulkOf_20 ?_
        refine lv_iconst (v := 0) hx hb dX4_bulkOf_23 (by decide) ?_
        refine lv_iload_n hx hb dX4_bulkOf_24 rfl (lv_at hl 3 rfl) ?_
        refine lv_iadd hx hb dX4_bulkOf_25 ?_
        refine g_iald FX hW 24 Mp40 hf dX4_bulkOf_26 (fun v2 hf => ?_)
        refine lv_goto (tgt := 31) hx hb dX4_bulkOf_27 (by decide) ?_
        refine lv_iadd hx hb dX4_bulkOf_31 ?_
        refine lv_istore_n (lv' := [(2, .int (x2 + v2)), (0, .ref h0), (1, .int x1), (3, .int x3)]) hx hb dX4_bulkOf_32 rfl hl (by decide) rfl (fun ls hl => ?_)
        refine lv_iinc (v := (x3 + (1 : Int32))) (lv' := [(3, .int (x3 + (1 : Int32))), (2, .int (x2 + v2)), (0, .ref h0), (1, .int x1)]) hx hb dX4_bulkOf_33 hl (k := 3) rfl rfl (by decide) rfl (fun ls hl => ?_)
        refine lv_goto (tgt := 4) hx hb dX4_bulkOf_36 (by decide) ?_
        exact ih x1 (x2 + v2) (x3 + (1 : Int32)) _ _ _ (lv_sub hl [2, 3, 1, 0] rfl) hW hf
set_option maxHeartbeats 4000000 in
set_option maxRecDepth 100000 in
theorem mX4_bulkOf  {x1 : Int32} {σ : Mst} {q : Int32} (hf : fX4_bulkOf x1 σ = some q) : CtI l yX4_bulkOf cX4_bulkOf 4 (some .int) rX4_bulkOf D dA [.ref h0, .int x1] (Mc dA h0 ad σ) q (Mc dA h0 ad σ) := by
  refine e_I (by decide) (Nat.le_of_ble_eq_true rfl) ?_
  intro p e s m below meth c ls A FX hr hlk hl hW
  have hx := FX.1; have hb := FX.2.1; have hown := FX.2.2.2.1; have hts := FX.2.2.2.2
  have hl : lv_has ls 4 [(0, .ref h0), (1, .int x1)] := hl
  rw [fX4_bulkOf] at hf
  refine lv_iconst (v := 0) hx hb dX4_bulkOf_0 (by decide) ?_
  refine lv_istore_n (lv' := [(2, .int (0 : Int32)), (0, .ref h0), (1, .int x1)]) hx hb dX4_bulkOf_1 rfl hl (by decide) rfl (fun ls hl => ?_)
  refine lv_iconst (v := 0) hx hb dX4_bulkOf_2 (by decide) ?_
  refine lv_istore_n (lv' := [(3, .int (0 : Int32)), (2, .int (0 : Int32)), (0, .ref h0), (1, .int x1)]) hx hb dX4_bulkOf_3 rfl hl (by decide) rfl (fun ls hl => ?_)
  exact wX4_bulkOf_4 FX hr hlk _ x1 (0 : Int32) (0 : Int32) _ _ _ (lv_sub hl [2, 3, 1, 0] rfl) hW hf
set_option maxHeartbeats 4000000 in
set_option maxRecDepth 100000 in
theorem kX4_bulkOf {α : Type} {q : α} {k : Int32 → Option α} {x1 : Int32} {σ : Mst} (FX : CallFix p m c cc nL s args lw_all RX4) (hR : rX4_bulkOf.frames + 1 ≤ R.frames ∧ 8 + (4 + 11) + rX4_bulkOf.locals ≤ R.locals) (hcs : cells ≤ R.cells ∧ slots ≤ R.slots) (hl : ls.size = nL) (hrm : (rest.map fun v => v.category).sum ≤ 8) (hW : Wd D dA A s (Mc dA h0 ad σ) H locs) (hf : (fX4_bulkOf x1 σ).bind k = some q) (hdg : decode cc pc = .ok (.invokevirtual 356, 3)) (kk : ∀ (r : Int32) (H1 : Heap) (locs1 : List Loc), Wd D dA A s (Mc dA h0 ad σ) H1 locs1 → k r = some q → W p l e R s m args below meth c H1 locs1 cells slots Q (F0 m (pc + 3) ls (.int r :: rest))) : W p l e R s m args below meth c H locs cells slots Q (F0 m pc ls (.int x1 :: .ref h0 :: rest)) := by
  obtain ⟨r1, h1, hf⟩ := bnd hf
  refine w_Vi (C := RX4) (As := [.int x1]) (rest := rest) (n := 1) (wr := []) FX (mX4_bulkOf h1) (cwV 1 FX.2.2.2.2 (lw_V q1919 q1921 qs87 q132 q1922) rfl rfl rfl (by decide +kernel) hR) (va_recv hW.2.2.2.1 hW.1 (ci := 4) (q0 := 0) rfl rfl) rfl hl rfl hrm ⟨Nat.le_trans (Nat.le_of_eq (Nat.add_zero cells)) hcs.1, Nat.le_trans (Nat.le_of_eq (Nat.add_zero slots)) hcs.2⟩ hdg hW.nil ?_
  exact fun H1 locs1 hW1 => kk r1 H1 locs1 hW1.nil' hf
/-! TrunkLittersModel.leftBut(III)I: kind R -/
def fX4_leftBut (x1 : Int32) (x2 : Int32) (x3 : Int32) (σ : Mst) : Option Int32 := (fX4_holdsOf x1 σ).bind fun r1 => (fX4_thoseIn x1 σ).bind fun r2 => (fX4_bulkOf ((r2 &&& (((1 : Int32) <<< (x2 &&& 31)) ^^^ (-1 : Int32))) &&& (((1 : Int32) <<< (x3 &&& 31)) ^^^ (-1 : Int32))) σ).bind fun r3 => some (r1 - r3)
abbrev rX4_leftBut : Room := { frames := 2, cells := 0, slots := 0, locals := 44 }
set_option maxHeartbeats 4000000 in
set_option maxRecDepth 100000 in
theorem mX4_leftBut  {x1 : Int32} {x2 : Int32} {x3 : Int32} {σ : Mst} {q : Int32} (hf : fX4_leftBut x1 x2 x3 σ = some q) : CtI l yX4_leftBut cX4_leftBut 4 (some .int) rX4_leftBut D dA [.ref h0, .int x1, .int x2, .int x3] (Mc dA h0 ad σ) q (Mc dA h0 ad σ) := by
  refine e_I (by decide) (Nat.le_of_ble_eq_true rfl) ?_
  intro p e s m below meth c ls A FX hr hlk hl hW
  have hx := FX.1; have hb := FX.2.1; have hown := FX.2.2.2.1; have hts := FX.2.2.2.2
  have hl : lv_has ls 4 [(0, .ref h0), (1, .int x1), (2, .int x2), (3, .int x3)] := hl
  rw [fX4_leftBut] at hf
  refine lv_aload_n hx hb dX4_leftBut_0 rfl (lv_at hl 0 rfl) ?_
  refine lv_iload_n hx hb dX4_leftBut_1 rfl (lv_at hl 1 rfl) ?_
  refine kX4_holdsOf FX ⟨Nat.le_of_ble_eq_true rfl, Nat.le_of_ble_eq_true rfl⟩ ⟨Nat.zero_le _, Nat.zero_le _⟩ hl.1 (Nat.le_of_ble_eq_true rfl) hW hf dX4_leftBut_2 (fun r1 H locs hW hf => ?_)
  refine lv_aload_n hx hb dX4_leftBut_5 rfl (lv_at hl 0 rfl) ?_
  refine lv_aload_n hx hb dX4_leftBut_6 rfl (lv_at hl 0 rfl) ?_
  refine lv_iload_n hx hb dX4_leftBut_7 rfl (lv_at hl 1 rfl) ?_
  refine kX4_thoseIn FX ⟨Nat.le_of_ble_eq_true rfl, Nat.le_of_ble_eq_true rfl⟩ ⟨Nat.zero_le _, Nat.zero_le _⟩ hl.1 (Nat.le_of_ble_eq_true rfl) hW hf dX4_leftBut_8 (fun r2 H locs hW hf => ?_)
  refine lv_iconst (v := 1) hx hb dX4_leftBut_11 (by decide) ?_
  refine lv_iload_n hx hb dX4_leftBut_12 rfl (lv_at hl 2 rfl) ?_
  refine lv_ishl hx hb dX4_leftBut_13 ?_
  refine lv_iconst (v := -1) hx hb dX4_leftBut_14 (by decide) ?_
  refine lv_ixor hx hb dX4_leftBut_15 ?_
  refine lv_iand hx hb dX4_leftBut_16 ?_
  refine lv_iconst (v := 1) hx hb dX4_leftBut_17 (by decide) ?_
  refine lv_iload_n hx hb dX4_leftBut_18 rfl (lv_at hl 3 rfl) ?_
  refine lv_ishl hx hb dX4_leftBut_19 ?_
  refine lv_iconst (v := -1) hx hb dX4_leftBut_20 (by decide) ?_
  refine lv_ixor hx hb dX4_leftBut_21 ?_
  refine lv_iand hx hb dX4_leftBut_22 ?_
  refine kX4_bulkOf FX ⟨Nat.le_of_ble_eq_true rfl, Nat.le_of_ble_eq_true rfl⟩ ⟨Nat.zero_le _, Nat.zero_le _⟩ hl.1 (Nat.le_of_ble_eq_true rfl) hW hf dX4_leftBut_23 (fun r3 H locs hW hf => ?_)
  refine lv_isub hx hb dX4_leftBut_26 ?_
  exact g_iret FX hr hlk hW (Option.some.inj hf) dX4_leftBut_27
set_option maxHeartbeats 4000000 in
set_option maxRecDepth 100000 in
theorem kX4_leftBut {α : Type} {q : α} {k : Int32 → Option α} {x1 : Int32} {x2 : Int32} {x3 : Int32} {σ : Mst} (FX : CallFix p m c cc nL s args lw_all RX4) (hR : rX4_leftBut.frames + 1 ≤ R.frames ∧ 8 + (4 + 11) + rX4_leftBut.locals ≤ R.locals) (hcs : cells ≤ R.cells ∧ slots ≤ R.slots) (hl : ls.size = nL) (hrm : (rest.map fun v => v.category).sum ≤ 8) (hW : Wd D dA A s (Mc dA h0 ad σ) H locs) (hf : (fX4_leftBut x1 x2 x3 σ).bind k = some q) (hdg : decode cc pc = .ok (.invokevirtual 449, 3)) (kk : ∀ (r : Int32) (H1 : Heap) (locs1 : List Loc), Wd D dA A s (Mc dA h0 ad σ) H1 locs1 → k r = some q → W p l e R s m args below meth c H1 locs1 cells slots Q (F0 m (pc + 3) ls (.int r :: rest))) : W p l e R s m args below meth c H locs cells slots Q (F0 m pc ls (.int x3 :: .int x2 :: .int x1 :: .ref h0 :: rest)) := by
  obtain ⟨r1, h1, hf⟩ := bnd hf
  refine w_Vi (C := RX4) (As := [.int x1, .int x2, .int x3]) (rest := rest) (n := 3) (wr := []) FX (mX4_leftBut h1) (cwV 3 FX.2.2.2.2 (lw_V q2142 q2144 qs112 q132 q2145) rfl rfl rfl (by decide +kernel) hR) (va_recv hW.2.2.2.1 hW.1 (ci := 4) (q0 := 0) rfl rfl) rfl hl rfl hrm ⟨Nat.le_trans (Nat.le_of_eq (Nat.add_zero cells)) hcs.1, Nat.le_trans (Nat.le_of_eq (Nat.add_zero slots)) hcs.2⟩ hdg hW.nil ?_
  exact fun H1 locs1 hW1 => kk r1 H1 locs1 hW1.nil' hf
/-! TrunkLittersModel.gainOf(IIII)I: kind R -/
def fX4_gainOf_34 (σ : Mst) (y0 : Int32) (y1 : Int32) : Option Int32 := (if 0 ≤ (y0 - y1) then some (y0 - y1) else some (-1 : Int32))
def fX4_gainOf (x1 : Int32) (x2 : Int32) (x3 : Int32) (x4 : Int32) (σ : Mst) : Option Int32 := (fX4_leftBut x3 x1 x2 σ).bind fun r1 => ald 59 (gA σ 40) ((0 : Int32) + x1) fun v2 => (if x3 = x4 then ald 59 (gA σ 40) ((0 : Int32) + x2) fun v3 => fX4_gainOf_34 σ (r1 - v2) v3 else fX4_gainOf_34 σ (r1 - v2) (0 : Int32))
abbrev rX4_gainOf : Room := { frames := 3, cells := 0, slots := 0, locals := 67 }
set_option maxHeartbeats 4000000 in
set_option maxRecDepth 100000 in
theorem wX4_gainOf_34 {q : Int32} {σ : Mst} (FX : CallFix p m c cX4_gainOf 6 s args lw_all RX4) (hr : meth.sig.returnType = (some .int)) (hlk : meth.locks = false) : ∀ (y0 : Int32) (y1 : Int32) (H : Heap) (locs : List Loc) (ls : Array Slot), lv_has ls 6 [] → Wd D dA A s (Mc dA h0 ad σ) H locs → fX4_gainOf_34 σ y0 y1 = some q → W p l e rX4_gainOf s m args below meth c H locs 0 0 (QI D dA A below args s 0 0 q (Mc dA h0 ad σ)) (F0 m 34 ls [.int y1, .int y0]) := by
  have hx := FX.1; have hb := FX.2.1; have hown := FX.2.2.2.1; have hts := FX.2.2.2.2
  intro y0 y1 H locs ls hl hW hf
  rw [fX4_gainOf_34] at hf
  refine lv_isub hx hb dX4_gainOf_34 ?_
  refine lv_istore (lv' := [(5, .int (y0 - y1))]) hx hb dX4_gainOf_35 hl (by decide) rfl (fun ls hl => ?_)
  refine lv_iload hx hb dX4_gainOf_37 (lv_at hl 0 rfl) ?_
  refine lv_if_ge (tgt := 46) hx hb dX4_gainOf_39 (by decide) (fun c39 => ?_) (fun c39 => ?_)
  · have hf := ifp c39 hf
    refine lv_iload hx hb dX4_gainOf_46 (lv_at hl 0 rfl) ?_
    exact g_iret FX hr hlk hW (Option.some.inj hf) dX4_gainOf_48
  · have hf := ifn c39 hf
    refine lv_iconst (v := -1) hx hb dX4_gainOf_42 (by decide) ?_
    refine lv_goto (tgt := 48) hx hb dX4_gainOf_43 (by decide) ?_
    exact g_iret FX hr hlk hW (Option.some.inj hf) dX4_gainOf_48
set_option maxHeartbeats 4000000 in
set_option maxRecDepth 100000 in
theorem mX4_gainOf  {x1 : Int32} {x2 : Int32} {x3 : Int32} {x4 : Int32} {σ : Mst} {q : Int32} (hf : fX4_gainOf x1 x2 x3 x4 σ = some q) : CtI l yX4_gainOf cX4_gainOf 6 (some .int) rX4_gainOf D dA [.ref h0, .int x1, .int x2, .int x3, .int x4] (Mc dA h0 ad σ) q (Mc dA h0 ad σ) := by
  refine e_I (by decide) (Nat.le_of_ble_eq_true rfl) ?_
  intro p e s m below meth c ls A FX hr hlk hl hW
  have hx := FX.1; have hb := FX.2.1; have hown := FX.2.2.2.1; have hts := FX.2.2.2.2
  have hl : lv_has ls 6 [(0, .ref h0), (1, .int x1), (2, .int x2), (3, .int x3), (4, .int x4)] := hl
  rw [fX4_gainOf] at hf
  refine lv_aload_n hx hb dX4_gainOf_0 rfl (lv_at hl 0 rfl) ?_
  refine lv_iload_n hx hb dX4_gainOf_1 rfl (lv_at hl 3 rfl) ?_
  refine lv_iload_n hx hb dX4_gainOf_2 rfl (lv_at hl 1 rfl) ?_
  refine lv_iload_n hx hb dX4_gainOf_3 rfl (lv_at hl 2 rfl) ?_
  refine kX4_leftBut FX ⟨Nat.le_of_ble_eq_true rfl, Nat.le_of_ble_eq_true rfl⟩ ⟨Nat.zero_le _, Nat.zero_le _⟩ hl.1 (Nat.le_of_ble_eq_true rfl) hW hf dX4_gainOf_4 (fun r1 H locs hW hf => ?_)
  refine lv_aload_n hx hb dX4_gainOf_7 rfl (lv_at hl 0 rfl) ?_
  refine Mg40 FX hW dX4_gainOf_8 ?_
  refine lv_iconst (v := 0) hx hb dX4_gainOf_11 (by decide) ?_
  refine lv_iload_n hx hb dX4_gainOf_12 rfl (lv_at hl 1 rfl) ?_
  refine lv_iadd hx hb dX4_gainOf_13 ?_
  refine g_iald FX hW 24 Mp40 hf dX4_gainOf_14 (fun v2 hf => ?_)
  refine lv_isub hx hb dX4_gainOf_15 ?_
  refine lv_iload_n hx hb dX4_gainOf_16 rfl (lv_at hl 3 rfl) ?_
  refine lv_iload hx hb dX4_gainOf_17 (lv_at hl 4 rfl) ?_
  refine lv_icmp_ne (tgt := 33) hx hb dX4_gainOf_19 (by decide) (fun c19 => ?_) (fun c19 => ?_)
  · have hf := ifn c19 hf
    refine lv_iconst (v := 0) hx hb dX4_gainOf_33 (by decide) ?_
    exact wX4_gainOf_34 FX hr hlk (r1 - v2) (0 : Int32) _ _ _ (lv_sub hl [] rfl) hW hf
  · have hf := ifp c19 hf
    refine lv_aload_n hx hb dX4_gainOf_22 rfl (lv_at hl 0 rfl) ?_
    refine Mg40 FX hW dX4_gainOf_23 ?_
    refine lv_iconst (v := 0) hx hb dX4_gainOf_26 (by decide) ?_
    refine lv_iload_n hx hb dX4_gainOf_27 rfl (lv_at hl 2 rfl) ?_
    refine lv_iadd hx hb dX4_gainOf_28 ?_
    refine g_iald FX hW 24 Mp40 hf dX4_gainOf_29 (fun v3 hf => ?_)
    refine lv_goto (tgt := 34) hx hb dX4_gainOf_30 (by decide) ?_
    exact wX4_gainOf_34 FX hr hlk (r1 - v2) v3 _ _ _ (lv_sub hl [] rfl) hW hf
set_option maxHeartbeats 4000000 in
set_option maxRecDepth 100000 in
theorem kX4_gainOf {α : Type} {q : α} {k : Int32 → Option α} {x1 : Int32} {x2 : Int32} {x3 : Int32} {x4 : Int32} {σ : Mst} (FX : CallFix p m c cc nL s args lw_all RX4) (hR : rX4_gainOf.frames + 1 ≤ R.frames ∧ 8 + (6 + 11) + rX4_gainOf.locals ≤ R.locals) (hcs : cells ≤ R.cells ∧ slots ≤ R.slots) (hl : ls.size = nL) (hrm : (rest.map fun v => v.category).sum ≤ 8) (hW : Wd D dA A s (Mc dA h0 ad σ) H locs) (hf : (fX4_gainOf x1 x2 x3 x4 σ).bind k = some q) (hdg : decode cc pc = .ok (.invokevirtual 455, 3)) (kk : ∀ (r : Int32) (H1 : Heap) (locs1 : List Loc), Wd D dA A s (Mc dA h0 ad σ) H1 locs1 → k r = some q → W p l e R s m args below meth c H1 locs1 cells slots Q (F0 m (pc + 3) ls (.int r :: rest))) : W p l e R s m args below meth c H locs cells slots Q (F0 m pc ls (.int x4 :: .int x3 :: .int x2 :: .int x1 :: .ref h0 :: rest)) := by
  obtain ⟨r1, h1, hf⟩ := bnd hf
  refine w_Vi (C := RX4) (As := [.int x1, .int x2, .int x3, .int x4]) (rest := rest) (n := 4) (wr := []) FX (mX4_gainOf h1) (cwV 4 FX.2.2.2.2 (lw_V q2150 q2152 qs114 q132 q2153) rfl rfl rfl (by decide +kernel) hR) (va_recv hW.2.2.2.1 hW.1 (ci := 4) (q0 := 0) rfl rfl) rfl hl rfl hrm ⟨Nat.le_trans (Nat.le_of_eq (Nat.add_zero cells)) hcs.1, Nat.le_trans (Nat.le_of_eq (Nat.add_zero slots)) hcs.2⟩ hdg hW.nil ?_
  exact fun H1 locs1 hW1 => kk r1 H1 locs1 hW1.nil' hf
/-! TrunkLittersModel.chambers()I: kind R -/
def fX4_chambers (σ : Mst) : Option Int32 := ald 2 (gA σ 11) (gF σ 32) fun v1 => some v1
abbrev rX4_chambers : Room := { frames := 0, cells := 0, slots := 0, locals := 0 }
set_option maxHeartbeats 4000000 in
set_option maxRecDepth 100000 in
theorem mX4_chambers  {σ : Mst} {q : Int32} (hf : fX4_chambers σ = some q) : CtI l yX4_chambers cX4_chambers 1 (some .int) rX4_chambers D dA [.ref h0] (Mc dA h0 ad σ) q (Mc dA h0 ad σ) := by
  refine e_I (by decide) (Nat.le_of_ble_eq_true rfl) ?_
  intro p e s m below meth c ls A FX hr hlk hl hW
  have hx := FX.1; have hb := FX.2.1; have hown := FX.2.2.2.1; have hts := FX.2.2.2.2
  have hl : lv_has ls 1 [(0, .ref h0)] := hl
  rw [fX4_chambers] at hf
  refine lv_aload_n hx hb dX4_chambers_0 rfl (lv_at hl 0 rfl) ?_
  refine Mg11 FX hW dX4_chambers_1 ?_
  refine lv_aload_n hx hb dX4_chambers_4 rfl (lv_at hl 0 rfl) ?_
  refine Mg32 FX hW dX4_chambers_5 ?_
  refine g_iald FX hW 3 Mp11 hf dX4_chambers_8 (fun v1 hf => ?_)
  exact g_iret FX hr hlk hW (Option.some.inj hf) dX4_chambers_9
set_option maxHeartbeats 4000000 in
set_option maxRecDepth 100000 in
theorem kX4_chambers {α : Type} {q : α} {k : Int32 → Option α} {σ : Mst} (FX : CallFix p m c cc nL s args lw_all RX4) (hR : rX4_chambers.frames + 1 ≤ R.frames ∧ 8 + (1 + 11) + rX4_chambers.locals ≤ R.locals) (hcs : cells ≤ R.cells ∧ slots ≤ R.slots) (hl : ls.size = nL) (hrm : (rest.map fun v => v.category).sum ≤ 8) (hW : Wd D dA A s (Mc dA h0 ad σ) H locs) (hf : (fX4_chambers σ).bind k = some q) (hdg : decode cc pc = .ok (.invokevirtual 343, 3)) (kk : ∀ (r : Int32) (H1 : Heap) (locs1 : List Loc), Wd D dA A s (Mc dA h0 ad σ) H1 locs1 → k r = some q → W p l e R s m args below meth c H1 locs1 cells slots Q (F0 m (pc + 3) ls (.int r :: rest))) : W p l e R s m args below meth c H locs cells slots Q (F0 m pc ls (.ref h0 :: rest)) := by
  obtain ⟨r1, h1, hf⟩ := bnd hf
  refine w_Vi (C := RX4) (As := []) (rest := rest) (n := 0) (wr := []) FX (mX4_chambers h1) (cwV 0 FX.2.2.2.2 (lw_V q1900 q1902 qs83 q132 q1903) rfl rfl rfl (by decide +kernel) hR) (va_recv hW.2.2.2.1 hW.1 (ci := 4) (q0 := 0) rfl rfl) rfl hl rfl hrm ⟨Nat.le_trans (Nat.le_of_eq (Nat.add_zero cells)) hcs.1, Nat.le_trans (Nat.le_of_eq (Nat.add_zero slots)) hcs.2⟩ hdg hW.nil ?_
  exact fun H1 locs1 hW1 => kk r1 H1 locs1 hW1.nil' hf
/-! TrunkLittersModel.isIn(III)Z: kind S -/
def fX4_isIn (x0 : Int32) (x1 : Int32) (x2 : Int32) : Option Int32 := (if x0 < x1 then some (0 : Int32) else (if x2 < x0 then some (0 : Int32) else some (1 : Int32)))
abbrev rX4_isIn : Room := { frames := 0, cells := 0, slots := 0, locals := 0 }
set_option maxHeartbeats 4000000 in
set_option maxRecDepth 100000 in
theorem mX4_isIn  {x0 : Int32} {x1 : Int32} {x2 : Int32} {q : Int32} (hf : fX4_isIn x0 x1 x2 = some q) : CtI l yX4_isIn cX4_isIn 3 (some .boolean) rX4_isIn D dA [.int x0, .int x1, .int x2] [] q [] := by
  refine e_I (by decide) (Nat.le_of_ble_eq_true rfl) ?_
  intro p e s m below meth c ls A FX hr hlk hl hW
  have hx := FX.1; have hb := FX.2.1; have hown := FX.2.2.2.1; have hts := FX.2.2.2.2
  have hl : lv_has ls 3 [(0, .int x0), (1, .int x1), (2, .int x2)] := hl
  rw [fX4_isIn] at hf
  refine lv_iload_n hx hb dX4_isIn_0 rfl (lv_at hl 0 rfl) ?_
  refine lv_iload_n hx hb dX4_isIn_1 rfl (lv_at hl 1 rfl) ?_
  refine lv_icmp_lt (tgt := 14) hx hb dX4_isIn_2 (by decide) (fun c2 => ?_) (fun c2 => ?_)
  · have hf := ifp c2 hf
    refine lv_iconst (v := 0) hx hb dX4_isIn_14 (by decide) ?_
    exact g_zret FX hr hlk hW rfl (Option.some.inj hf) dX4_isIn_15
  · have hf := ifn c2 hf
    refine lv_iload_n hx hb dX4_isIn_5 rfl (lv_at hl 0 rfl) ?_
    refine lv_iload_n hx hb dX4_isIn_6 rfl (lv_at hl 2 rfl) ?_
    refine lv_icmp_gt (tgt := 14) hx hb dX4_isIn_7 (by decide) (fun c7 => ?_) (fun c7 => ?_)
    · have hf := ifp c7 hf
      refine lv_iconst (v := 0) hx hb dX4_isIn_14 (by decide) ?_
      exact g_zret FX hr hlk hW rfl (Option.some.inj hf) dX4_isIn_15
    · have hf := ifn c7 hf
      refine lv_iconst (v := 1) hx hb dX4_isIn_10 (by decide) ?_
      refine lv_goto (tgt := 15) hx hb dX4_isIn_11 (by decide) ?_
      exact g_zret FX hr hlk hW rfl (Option.some.inj hf) dX4_isIn_15
set_option maxHeartbeats 4000000 in
set_option maxRecDepth 100000 in
theorem kX4_isIn {α : Type} {q : α} {k : Int32 → Option α} {x0 : Int32} {x1 : Int32} {x2 : Int32} {ws : va_W} (FX : CallFix p m c cc nL s args lw_all RX4) (hR : rX4_isIn.frames + 1 ≤ R.frames ∧ 8 + (3 + 11) + rX4_isIn.locals ≤ R.locals) (hcs : cells ≤ R.cells ∧ slots ≤ R.slots) (hl : ls.size = nL) (hrm : (rest.map fun v => v.category).sum ≤ 8) (hW : Wd D dA A s ws H locs) (hf : (fX4_isIn x0 x1 x2).bind k = some q) (hdg : decode cc pc = .ok (.invokestatic 346, 3)) (kk : ∀ (r : Int32) (H1 : Heap) (locs1 : List Loc), Wd D dA A s ws H1 locs1 → k r = some q → W p l e R s m args below meth c H1 locs1 cells slots Q (F0 m (pc + 3) ls (.int r :: rest))) : W p l e R s m args below meth c H locs cells slots Q (F0 m pc ls (.int x2 :: .int x1 :: .int x0 :: rest)) := by
  obtain ⟨r1, h1, hf⟩ := bnd hf
  refine w_Si (As := [.int x0, .int x1, .int x2]) (rest := rest) (n := 3) (wr := ws) FX (mX4_isIn h1) (va_cwS 3 FX.2.2.2.2 (lw_S q1904 q1905 q132 q1906) rfl rfl rfl (by decide +kernel) hR) rfl hl rfl hrm ⟨Nat.le_trans (Nat.le_of_eq (Nat.add_zero cells)) hcs.1, Nat.le_trans (Nat.le_of_eq (Nat.add_zero slots)) hcs.2⟩ hdg hW ?_
  exact fun H1 locs1 hW1 => kk r1 H1 locs1 hW1 hf
/-! TrunkLittersModel.isRoom(I)Z: kind R -/
def fX4_isRoom (x1 : Int32) (σ : Mst) : Option Int32 := (fX4_chambers σ).bind fun r1 => (fX4_isIn x1 (0 : Int32) (r1 - (1 : Int32))).bind fun r2 => zrt r2 r2
abbrev rX4_isRoom : Room := { frames := 1, cells := 0, slots := 0, locals := 22 }
set_option maxHeartbeats 4000000 in
set_option maxRecDepth 100000 in
theorem mX4_isRoom  {x1 : Int32} {σ : Mst} {q : Int32} (hf : fX4_isRoom x1 σ = some q) : CtI l yX4_isRoom cX4_isRoom 2 (some .boolean) rX4_isRoom D dA [.ref h0, .int x1] (Mc dA h0 ad σ) q (Mc dA h0 ad σ) := by
  refine e_I (by decide) (Nat.le_of_ble_eq_true rfl) ?_
  intro p e s m below meth c ls A FX hr hlk hl hW
  have hx := FX.1; have hb := FX.2.1; have hown := FX.2.2.2.1; have hts := FX.2.2.2.2
  have hl : lv_has ls 2 [(0, .ref h0), (1, .int x1)] := hl
  rw [fX4_isRoom] at hf
  refine lv_iload_n hx hb dX4_isRoom_0 rfl (lv_at hl 1 rfl) ?_
  refine lv_iconst (v := 0) hx hb dX4_isRoom_1 (by decide) ?_
  refine lv_aload_n hx hb dX4_isRoom_2 rfl (lv_at hl 0 rfl) ?_
  refine kX4_chambers FX ⟨Nat.le_of_ble_eq_true rfl, Nat.le_of_ble_eq_true rfl⟩ ⟨Nat.zero_le _, Nat.zero_le _⟩ hl.1 (Nat.le_of_ble_eq_true rfl) hW hf dX4_isRoom_3 (fun r1 H locs hW hf => ?_)
  refine lv_iconst (v := 1) hx hb dX4_isRoom_6 (by decide) ?_
  refine lv_isub hx hb dX4_isRoom_7 ?_
  refine kX4_isIn FX ⟨Nat.le_of_ble_eq_true rfl, Nat.le_of_ble_eq_true rfl⟩ ⟨Nat.zero_le _, Nat.zero_le _⟩ hl.1 (Nat.le_of_ble_eq_true rfl) hW hf dX4_isRoom_8 (fun r2 H locs hW hf => ?_)
  exact g_zret FX hr hlk hW (zrt_some hf).1 (zrt_some hf).2 dX4_isRoom_11
set_option maxHeartbeats 4000000 in
set_option maxRecDepth 100000 in
theorem kX4_isRoom {α : Type} {q : α} {k : Int32 → Option α} {x1 : Int32} {σ : Mst} (FX : CallFix p m c cc nL s args lw_all RX4) (hR : rX4_isRoom.frames + 1 ≤ R.frames ∧ 8 + (2 + 11) + rX4_isRoom.locals ≤ R.locals) (hcs : cells ≤ R.cells ∧ slots ≤ R.slots) (hl : ls.size = nL) (hrm : (rest.map fun v => v.category).sum ≤ 8) (hW : Wd D dA A s (Mc dA h0 ad σ) H locs) (hf : (fX4_isRoom x1 σ).bind k = some q) (hdg : decode cc pc = .ok (.invokevirtual 408, 3)) (kk : ∀ (r : Int32) (H1 : Heap) (locs1 : List Loc), Wd D dA A s (Mc dA h0 ad σ) H1 locs1 → k r = some q → W p l e R s m args below meth c H1 locs1 cells slots Q (F0 m (pc + 3) ls (.int r :: rest))) : W p l e R s m args below meth c H locs cells slots Q (F0 m pc ls (.int x1 :: .ref h0 :: rest)) := by
  obtain ⟨r1, h1, hf⟩ := bnd hf
  refine w_Vi (C := RX4) (As := [.int x1]) (rest := rest) (n := 1) (wr := []) FX (mX4_isRoom h1) (cwV 1 FX.2.2.2.2 (lw_V q1896 q1898 qs82 q132 q1899) rfl rfl rfl (by decide +kernel) hR) (va_recv hW.2.2.2.1 hW.1 (ci := 4) (q0 := 0) rfl rfl) rfl hl rfl hrm ⟨Nat.le_trans (Nat.le_of_eq (Nat.add_zero cells)) hcs.1, Nat.le_trans (Nat.le_of_eq (Nat.add_zero slots)) hcs.2⟩ hdg hW.nil ?_
  exact fun H1 locs1 hW1 => kk r1 H1 locs1 hW1.nil' hf
/-! TrunkLittersModel.canChoose(III)Z: kind R -/
def fX4_canChoose (x1 : Int32) (x2 : Int32) (x3 : Int32) (σ : Mst) : Option Int32 := (fX4_isRoom x3 σ).bind fun r1 => (if r1 = 0 then some (0 : Int32) else (fX4_leftBut x3 x1 x2 σ).bind fun r2 => ald 59 (gA σ 40) ((0 : Int32) + x1) fun v3 => (if r2 < v3 then some (0 : Int32) else some (1 : Int32)))
abbrev rX4_canChoose : Room := { frames := 3, cells := 0, slots := 0, locals := 67 }
set_option maxHeartbeats 4000000 in
set_option maxRecDepth 100000 in
theorem mX4_canChoose  {x1 : Int32} {x2 : Int32} {x3 : Int32} {σ : Mst} {q : Int32} (hf : fX4_canChoose x1 x2 x3 σ = some q) : CtI l yX4_canChoose cX4_canChoose 4 (some .boolean) rX4_canChoose D dA [.ref h0, .int x1, .int x2, .int x3] (Mc dA h0 ad σ) q (Mc dA h0 ad σ) := by
  refine e_I (by decide) (Nat.le_of_ble_eq_true rfl) ?_
  intro p e s m below meth c ls A FX hr hlk hl hW
  have hx := FX.1; have hb := FX.2.1; have hown := FX.2.2.2.1; have hts := FX.2.2.2.2
  have hl : lv_has ls 4 [(0, .ref h0), (1, .int x1), (2, .int x2), (3, .int x3)] := hl
  rw [fX4_canChoose] at hf
  refine lv_aload_n hx hb dX4_canChoose_0 rfl (lv_at hl 0 rfl) ?_
  refine lv_iload_n hx hb dX4_canChoose_1 rfl (lv_at hl 3 rfl) ?_
  refine kX4_isRoom FX ⟨Nat.le_of_ble_eq_true rfl, Nat.le_of_ble_eq_true rfl⟩ ⟨Nat.zero_le _, Nat.zero_le _⟩ hl.1 (Nat.le_of_ble_eq_true rfl) hW hf dX4_canChoose_2 (fun r1 H locs hW hf => ?_)
  refine lv_if_eq (tgt := 30) hx hb dX4_canChoose_5 (by decide) (fun c5 => ?_) (fun c5 => ?_)
  · have hf := ifp c5 hf
    refine lv_iconst (v := 0) hx hb dX4_canChoose_30 (by decide) ?_
    exact g_zret FX hr hlk hW rfl (Option.some.inj hf) dX4_canChoose_31
  · have hf := ifn c5 hf
    refine lv_aload_n hx hb dX4_canChoose_8 rfl (lv_at hl 0 rfl) ?_
    refine lv_iload_n hx hb dX4_canChoose_9 rfl (lv_at hl 3 rfl) ?_
    refine lv_iload_n hx hb dX4_canChoose_10 rfl (lv_at hl 1 rfl) ?_
    refine lv_iload_n hx hb dX4_canChoose_11 rfl (lv_at hl 2 rfl) ?_
    refine kX4_leftBut FX ⟨Nat.le_of_ble_eq_true rfl, Nat.le_of_ble_eq_true rfl⟩ ⟨Nat.zero_le _, Nat.zero_le _⟩ hl.1 (Nat.le_of_ble_eq_true rfl) hW hf dX4_canChoose_12 (fun r2 H locs hW hf => ?_)
    refine lv_aload_n hx hb dX4_canChoose_15 rfl (lv_at hl 0 rfl) ?_
    refine Mg40 FX hW dX4_canChoose_16 ?_
    refine lv_iconst (v := 0) hx hb dX4_canChoose_19 (by decide) ?_
    refine lv_iload_n hx hb dX4_canChoose_20 rfl (lv_at hl 1 rfl) ?_
    refine lv_iadd hx hb dX4_canChoose_21 ?_
    refine g_iald FX hW 24 Mp40 hf dX4_canChoose_22 (fun v3 hf => ?_)
    refine lv_icmp_lt (tgt := 30) hx hb dX4_canChoose_23 (by decide) (fun c23 => ?_) (fun c23 => ?_)
    · have hf := ifp c23 hf
      refine lv_iconst (v := 0) hx hb dX4_canChoose_30 (by decide) ?_
      exact g_zret FX hr hlk hW rfl (Option.some.inj hf) dX4_canChoose_31
    · have hf := ifn c23 hf
      refine lv_iconst (v := 1) hx hb dX4_canChoose_26 (by decide) ?_
      refine lv_goto (tgt := 31) hx hb dX4_canChoose_27 (by decide) ?_
      exact g_zret FX hr hlk hW rfl (Option.some.inj hf) dX4_canChoose_31
set_option maxHeartbeats 4000000 in
set_option maxRecDepth 100000 in
theorem kX4_canChoose {α : Type} {q : α} {k : Int32 → Option α} {x1 : Int32} {x2 : Int32} {x3 : Int32} {σ : Mst} (FX : CallFix p m c cc nL s args lw_all RX4) (hR : rX4_canChoose.frames + 1 ≤ R.frames ∧ 8 + (4 + 11) + rX4_canChoose.locals ≤ R.locals) (hcs : cells ≤ R.cells ∧ slots ≤ R.slots) (hl : ls.size = nL) (hrm : (rest.map fun v => v.category).sum ≤ 8) (hW : Wd D dA A s (Mc dA h0 ad σ) H locs) (hf : (fX4_canChoose x1 x2 x3 σ).bind k = some q) (hdg : decode cc pc = .ok (.invokevirtual 452, 3)) (kk : ∀ (r : Int32) (H1 : Heap) (locs1 : List Loc), Wd D dA A s (Mc dA h0 ad σ) H1 locs1 → k r = some q → W p l e R s m args below meth c H1 locs1 cells slots Q (F0 m (pc + 3) ls (.int r :: rest))) : W p l e R s m args below meth c H locs cells slots Q (F0 m pc ls (.int x3 :: .int x2 :: .int x1 :: .ref h0 :: rest)) := by
  obtain ⟨r1, h1, hf⟩ := bnd hf
  refine w_Vi (C := RX4) (As := [.int x1, .int x2, .int x3]) (rest := rest) (n := 3) (wr := []) FX (mX4_canChoose h1) (cwV 3 FX.2.2.2.2 (lw_V q2138 q2140 qs111 q132 q2141) rfl rfl rfl (by decide +kernel) hR) (va_recv hW.2.2.2.1 hW.1 (ci := 4) (q0 := 0) rfl rfl) rfl hl rfl hrm ⟨Nat.le_trans (Nat.le_of_eq (Nat.add_zero cells)) hcs.1, Nat.le_trans (Nat.le_of_eq (Nat.add_zero slots)) hcs.2⟩ hdg hW.nil ?_
  exact fun H1 locs1 hW1 => kk r1 H1 locs1 hW1.nil' hf
/-! TrunkLittersModel.isRest(IIII)Z: kind R -/
def fX4_isRest_47 (σ : Mst) (k3 : Int32 → Int32 → Int32 → Int32 → Int32 → Option Int32) (x1 : Int32) (x2 : Int32) (x3 : Int32) (x4 : Int32) (x5 : Int32) : Option Int32 := (fX4_canChoose x2 x1 x5 σ).bind fun r1 => (if r1 = 0 then k3 x1 x2 x3 x4 (x5 + (1 : Int32)) else (fX4_gainOf x2 x1 x5 x3 σ).bind fun r2 => (fX4_gainOf x2 x1 x4 x3 σ).bind fun r3 => (if r2 ≤ r3 then k3 x1 x2 x3 x4 (x5 + (1 : Int32)) else some (0 : Int32)))
def fX4_isRest_3 (σ : Mst) : Nat → Int32 → Int32 → Int32 → Int32 → Int32 → Option Int32
  | 0, _, _, _, _, _ => none
  | n + 1, x1, x2, x3, x4, x5 => (fX4_chambers σ).bind fun r1 => (if r1 ≤ x5 then some (1 : Int32) else (fX4_canChoose x1 x2 x5 σ).bind fun r2 => (if r2 = 0 then fX4_isRest_47 σ (fX4_isRest_3 σ n) x1 x2 x3 x4 x5 else (fX4_gainOf x1 x2 x5 x4 σ).bind fun r3 => (fX4_gainOf x1 x2 x3 x4 σ).bind fun r4 => (if r3 ≤ r4 then fX4_isRest_47 σ (fX4_isRest_3 σ n) x1 x2 x3 x4 x5 else some (0 : Int32))))
def fX4_isRest (x1 : Int32) (x2 : Int32) (x3 : Int32) (x4 : Int32) (σ : Mst) : Option Int32 := fX4_isRest_3 σ FU x1 x2 x3 x4 (0 : Int32)
abbrev rX4_isRest : Room := { frames := 4, cells := 0, slots := 0, locals := 92 }
set_option maxHeartbeats 4000000 in
set_option maxRecDepth 100000 in
theorem wX4_isRest_47 {q : Int32} {σ : Mst} (FX : CallFix p m c cX4_isRest 6 s args lw_all RX4) (hr : meth.sig.returnType = (some .boolean)) (hlk : meth.locks = false) {k3 : Int32 → Int32 → Int32 → Int32 → Int32 → Option Int32} (hk3 : ∀ (x1 : Int32) (x2 : Int32) (x3 : Int32) (x4 : Int32) (x5 : Int32) (H : Heap) (locs : List Loc) (ls : Array Slot), lv_has ls 6 [(0, .ref h0), (1, .int x1), (2, .int x2), (3, .int x3), (4, .int x4), (5, .int x5)] → Wd D dA A s (Mc dA h0 ad σ) H locs → k3 x1 x2 x3 x4 x5 = some q → W p l e rX4_isRest s m args below meth c H locs 0 0 (QI D dA A below args s 0 0 q (Mc dA h0 ad σ)) (F0 m 3 ls [])) : ∀ (x1 : Int32) (x2 : Int32) (x3 : Int32) (x4 : Int32) (x5 : Int32) (H : Heap) (locs : List Loc) (ls : Array Slot), lv_has ls 6 [(0, .ref h0), (1, .int x1), (2, .int x2), (3, .int x3), (4, .int x4), (5, .int x5)] → Wd D dA A s (Mc dA h0 ad σ) H locs → fX4_isRest_47 σ k3 x1 x2 x3 x4 x5 = some q → W p l e rX4_isRest s m args below meth c H locs 0 0 (QI D dA A below args s 0 0 q (Mc dA h0 ad σ)) (F0 m 47 ls []) := by
  have hx := FX.1; have hb := FX.2.1; have hown := FX.2.2.2.1; have hts := FX.2.2.2.2
  intro x1 x2 x3 x4 x5 H locs ls hl hW hf
  rw [fX4_isRest_47] at hf
  refine lv_aload_n hx hb dX4_isRest_47 rfl (lv_at hl 0 rfl) ?_
  refine lv_iload_n hx hb dX4_isRest_48 rfl (lv_at hl 2 rfl) ?_
  refine lv_iload_n hx hb dX4_isRest_49 rfl (lv_at hl 1 rfl) ?_
  refine lv_iload hx hb dX4_isRest_50 (lv_at hl 5 rfl) ?_
  refine kX4_canChoose FX ⟨Nat.le_of_ble_eq_true rfl, Nat.le_of_ble_eq_true rfl⟩ ⟨Nat.zero_le _, Nat.zero_le _⟩ hl.1 (Nat.le_of_ble_eq_true rfl) hW hf dX4_isRest_52 (fun r1 H locs hW hf => ?_)
  refine lv_if_eq (tgt := 81) hx hb dX4_isRest_55 (by decide) (fun c55 => ?_) (fun c55 => ?_)
  · have hf := ifp c55 hf
    refine lv_iinc (v := (x5 + (1 : Int32))) (lv' := [(5, .int (x5 + (1 : Int32))), (0, .ref h0), (1, .int x1), (2, .int x2), (3, .int x3), (4, .int x4)]) hx hb dX4_isRest_81 hl (k := 5) rfl rfl (by decide) rfl (fun ls hl => ?_)
    refine lv_goto (tgt := 3) hx hb dX4_isRest_84 (by decide) ?_
    exact hk3 x1 x2 x3 x4 (x5 + (1 : Int32)) _ _ _ (lv_sub hl [1, 2, 3, 4, 5, 0] rfl) hW hf
  · have hf := ifn c55 hf
    refine lv_aload_n hx hb dX4_isRest_58 rfl (lv_at hl 0 rfl) ?_
    refine lv_iload_n hx hb dX4_isRest_59 rfl (lv_at hl 2 rfl) ?_
    refine lv_iload_n hx hb dX4_isRest_60 rfl (lv_at hl 1 rfl) ?_
    refine lv_iload hx hb dX4_isRest_61 (lv_at hl 5 rfl) ?_
    refine lv_iload_n hx hb dX4_isRest_63 rfl (lv_at hl 3 rfl) ?_
    refine kX4_gainOf FX ⟨Nat.le_of_ble_eq_true rfl, Nat.le_of_ble_eq_true rfl⟩ ⟨Nat.zero_le _, Nat.zero_le _⟩ hl.1 (Nat.le_of_ble_eq_true rfl) hW hf dX4_isRest_64 (fun r2 H locs hW hf => ?_)
    refine lv_aload_n hx hb dX4_isRest_67 rfl (lv_at hl 0 rfl) ?_
    refine lv_iload_n hx hb dX4_isRest_68 rfl (lv_at hl 2 rfl) ?_
    refine lv_iload_n hx hb dX4_isRest_69 rfl (lv_at hl 1 rfl) ?_
    refine lv_iload hx hb dX4_isRest_70 (lv_at hl 4 rfl) ?_
    refine lv_iload_n hx hb dX4_isRest_72 rfl (lv_at hl 3 rfl) ?_
    refine kX4_gainOf FX ⟨Nat.le_of_ble_eq_true rfl, Nat.le_of_ble_eq_true rfl⟩ ⟨Nat.zero_le _, Nat.zero_le _⟩ hl.1 (Nat.le_of_ble_eq_true rfl) hW hf dX4_isRest_73 (fun r3 H locs hW hf => ?_)
    refine lv_icmp_le (tgt := 81) hx hb dX4_isRest_76 (by decide) (fun c76 => ?_) (fun c76 => ?_)
    · have hf := ifp c76 hf
      refine lv_iinc (v := (x5 + (1 : Int32))) (lv' := [(5, .int (x5 + (1 : Int32))), (0, .ref h0), (1, .int x1), (2, .int x2), (3, .int x3), (4, .int x4)]) hx hb dX4_isRest_81 hl (k := 5) rfl rfl (by decide) rfl (fun ls hl => ?_)
      refine lv_goto (tgt := 3) hx hb dX4_isRest_84 (by decide) ?_
      exact hk3 x1 x2 x3 x4 (x5 + (1 : Int32)) _ _ _ (lv_sub hl [1, 2, 3, 4, 5, 0] rfl) hW hf
    · have hf := ifn c76 hf
      refine lv_iconst (v := 0) hx hb dX4_isRest_79 (by decide) ?_
      exact g_zret FX hr hlk hW rfl (Option.some.inj hf) dX4_isRest_80
set_option maxHeartbeats 4000000 in
set_option maxRecDepth 100000 in
theorem wX4_isRest_3 {q : Int32} {σ : Mst} (FX : CallFix p m c cX4_isRest 6 s args lw_all RX4) (hr : meth.sig.returnType = (some .boolean)) (hlk : meth.locks = false) : ∀ n : Nat, ∀ (x1 : Int32) (x2 : Int32) (x3 : Int32) (x4 : Int32) (x5 : Int32) (H : Heap) (locs : List Loc) (ls : Array Slot), lv_has ls 6 [(0, .ref h0), (1, .int x1), (2, .int x2), (3, .int x3), (4, .int x4), (5, .int x5)] → Wd D dA A s (Mc dA h0 ad σ) H locs → fX4_isRest_3 σ n x1 x2 x3 x4 x5 = some q → W p l e rX4_isRest s m args below meth c H locs 0 0 (QI D dA A below args s 0 0 q (Mc dA h0 ad σ)) (F0 m 3 ls []) := by
  have hx := FX.1; have hb := FX.2.1; have hown := FX.2.2.2.1; have hts := FX.2.2.2.2
  intro n
  induction n with
  | zero =>
    intro x1 x2 x3 x4 x5 H locs ls hl hW hf
    cases (show (none : Option Int32) = some q from hf)
  | succ n ih =>
    intro x1 x2 x3 x4 x5 H locs ls hl hW hf
    rw [fX4_isRest_3] at hf
    refine lv_iload hx hb dX4_isRest_3 (lv_at hl 5 rfl) ?_
    refine lv_aload_n hx hb dX4_isRest_5 rfl (lv_at hl 0 rfl) ?_
    refine kX4_chambers FX ⟨Nat.le_of_ble_eq_true rfl, Nat.le_of_ble_eq_true rfl⟩ ⟨Nat.zero_le _, Nat.zero_le _⟩ hl.1 (Nat.le_of_ble_eq_true rfl) hW hf dX4_isRest_6 (fun r1 H locs hW hf => ?_)
    refine lv_icmp_ge (tgt := 87) hx hb dX4_isRest_9 (by decide) (fun c9 => ?_) (fun c9 => ?_)
    · have hf := ifp c9 hf
      refine lv_iconst (v := 1) hx hb dX4_isRest_87 (by decide) ?_
      exact g_zret FX hr hlk hW rfl (Option.some.inj hf) dX4_isRest_88
    · have hf := ifn c9 hf
      refine lv_aload_n hx hb dX4_isRest_12 rfl (lv_at hl 0 rfl) ?_
      refine lv_iload_n hx hb dX4_isRest_13 rfl (lv_at hl 1 rfl) ?_
      refine lv_iload_n hx hb dX4_isRest_14 rfl (lv_at hl 2 rfl) ?_
      refine lv_iload hx hb dX4_isRest_15 (lv_at hl 5 rfl) ?_
      refine kX4_canChoose FX ⟨Nat.le_of_ble_eq_true rfl, Nat.le_of_ble_eq_true rfl⟩ ⟨Nat.zero_le _, Nat.zero_le _⟩ hl.1 (Nat.le_of_ble_eq_true rfl) hW hf dX4_isRest_17 (fun r2 H locs hW hf => ?_)
      refine lv_if_eq (tgt := 47) hx hb dX4_isRest_20 (by decide) (fun c20 => ?_) (fun c20 => ?_)
      · have hf := ifp c20 hf
        exact wX4_isRest_47 FX hr hlk (ih) x1 x2 x3 x4 x5 _ _ _ (lv_sub hl [0, 1, 2, 3, 4, 5] rfl) hW hf
      · have hf := ifn c20 hf
        refine lv_aload_n hx hb dX4_isRest_23 rfl (lv_at hl 0 rfl) ?_
        refine lv_iload_n hx hb dX4_isRest_24 rfl (lv_at hl 1 rfl) ?_
        refine lv_iload_n hx hb dX4_isRest_25 rfl (lv_at hl 2 rfl) ?_
        refine lv_iload hx hb dX4_isRest_26 (lv_at hl 5 rfl) ?_
        refine lv_iload hx hb dX4_isRest_28 (lv_at hl 4 rfl) ?_
        refine kX4_gainOf FX ⟨Nat.le_of_ble_eq_true rfl, Nat.le_of_ble_eq_true rfl⟩ ⟨Nat.zero_le _, Nat.zero_le _⟩ hl.1 (Nat.le_of_ble_eq_true rfl) hW hf dX4_isRest_30 (fun r3 H locs hW hf => ?_)
        refine lv_aload_n hx hb dX4_isRest_33 rfl (lv_at hl 0 rfl) ?_
        refine lv_iload_n hx hb dX4_isRest_34 rfl (lv_at hl 1 rfl) ?_
        refine lv_iload_n hx hb dX4_isRest_35 rfl (lv_at hl 2 rfl) ?_
        refine lv_iload_n hx hb dX4_isRest_36 rfl (lv_at hl 3 rfl) ?_
        refine lv_iload hx hb dX4_isRest_37 (lv_at hl 4 rfl) ?_
        refine kX4_gainOf FX ⟨Nat.le_of_ble_eq_true rfl, Nat.le_of_ble_eq_true rfl⟩ ⟨Nat.zero_le _, Nat.zero_le _⟩ hl.1 (Nat.le_of_ble_eq_true rfl) hW hf dX4_isRest_39 (fun r4 H locs hW hf => ?_)
        refine lv_icmp_le (tgt := 47) hx hb dX4_isRest_42 (by decide) (fun c42 => ?_) (fun c42 => ?_)
        · have hf := ifp c42 hf
          exact wX4_isRest_47 FX hr hlk (ih) x1 x2 x3 x4 x5 _ _ _ (lv_sub hl [0, 1, 2, 3, 4, 5] rfl) hW hf
        · have hf := ifn c42 hf
          refine lv_iconst (v := 0) hx hb dX4_isRest_45 (by decide) ?_
          exact g_zret FX hr hlk hW rfl (Option.some.inj hf) dX4_isRest_46
set_option maxHeartbeats 4000000 in
set_option maxRecDepth 100000 in
theorem mX4_isRest  {x1 : Int32} {x2 : Int32} {x3 : Int32} {x4 : Int32} {σ : Mst} {q : Int32} (hf : fX4_isRest x1 x2 x3 x4 σ = some q) : CtI l yX4_isRest cX4_isRest 6 (some .boolean) rX4_isRest D dA [.ref h0, .int x1, .int x2, .int x3, .int x4] (Mc dA h0 ad σ) q (Mc dA h0 ad σ) := by
  refine e_I (by decide) (Nat.le_of_ble_eq_true rfl) ?_
  intro p e s m below meth c ls A FX hr hlk hl hW
  have hx := FX.1; have hb := FX.2.1; have hown := FX.2.2.2.1; have hts := FX.2.2.2.2
  have hl : lv_has ls 6 [(0, .ref h0), (1, .int x1), (2, .int x2), (3, .int x3), (4, .int x4)] := hl
  rw [fX4_isRest] at hf
  refine lv_iconst (v := 0) hx hb dX4_isRest_0 (by decide) ?_
  refine lv_istore (lv' := [(5, .int (0 : Int32)), (0, .ref h0), (1, .int x1), (2, .int x2), (3, .int x3), (4, .int x4)]) hx hb dX4_isRest_1 hl (by decide) rfl (fun ls hl => ?_)
  exact wX4_isRest_3 FX hr hlk _ x1 x2 x3 x4 (0 : Int32) _ _ _ (lv_sub hl [1, 2, 3, 4, 5, 0] rfl) hW hf
set_option maxHeartbeats 4000000 in
set_option maxRecDepth 100000 in
theorem kX4_isRest {α : Type} {q : α} {k : Int32 → Option α} {x1 : Int32} {x2 : Int32} {x3 : Int32} {x4 : Int32} {σ : Mst} (FX : CallFix p m c cc nL s args lw_all RX4) (hR : rX4_isRest.frames + 1 ≤ R.frames ∧ 8 + (6 + 11) + rX4_isRest.locals ≤ R.locals) (hcs : cells ≤ R.cells ∧ slots ≤ R.slots) (hl : ls.size = nL) (hrm : (rest.map fun v => v.category).sum ≤ 8) (hW : Wd D dA A s (Mc dA h0 ad σ) H locs) (hf : (fX4_isRest x1 x2 x3 x4 σ).bind k = some q) (hdg : decode cc pc = .ok (.invokevirtual 459, 3)) (kk : ∀ (r : Int32) (H1 : Heap) (locs1 : List Loc), Wd D dA A s (Mc dA h0 ad σ) H1 locs1 → k r = some q → W p l e R s m args below meth c H1 locs1 cells slots Q (F0 m (pc + 3) ls (.int r :: rest))) : W p l e R s m args below meth c H locs cells slots Q (F0 m pc ls (.int x4 :: .int x3 :: .int x2 :: .int x1 :: .ref h0 :: rest)) := by
  obtain ⟨r1, h1, hf⟩ := bnd hf
  refine w_Vi (C := RX4) (As := [.int x1, .int x2, .int x3, .int x4]) (rest := rest) (n := 4) (wr := []) FX (mX4_isRest h1) (cwV 4 FX.2.2.2.2 (lw_V q2146 q2148 qs113 q132 q2149) rfl rfl rfl (by decide +kernel) hR) (va_recv hW.2.2.2.1 hW.1 (ci := 4) (q0 := 0) rfl rfl) rfl hl rfl hrm ⟨Nat.le_trans (Nat.le_of_eq (Nat.add_zero cells)) hcs.1, Nat.le_trans (Nat.le_of_eq (Nat.add_zero slots)) hcs.2⟩ hdg hW.nil ?_
  exact fun H1 locs1 hW1 => kk r1 H1 locs1 hW1.nil' hf
/-! TrunkLittersModel.isThere(I)Z: kind R -/
def fX4_isThere (x1 : Int32) (σ : Mst) : Option Int32 := (fX4_isIn x1 (0 : Int32) (7 : Int32)).bind fun r1 => (if r1 = 0 then some (0 : Int32) else ald 59 (gA σ 40) ((0 : Int32) + x1) fun v2 => (if v2 ≤ 0 then some (0 : Int32) else some (1 : Int32)))
abbrev rX4_isThere : Room := { frames := 1, cells := 0, slots := 0, locals := 22 }
set_option maxHeartbeats 4000000 in
set_option maxRecDepth 100000 in
theorem mX4_isThere  {x1 : Int32} {σ : Mst} {q : Int32} (hf : fX4_isThere x1 σ = some q) : CtI l yX4_isThere cX4_isThere 2 (some .boolean) rX4_isThere D dA [.ref h0, .int x1] (Mc dA h0 ad σ) q (Mc dA h0 ad σ) := by
  refine e_I (by decide) (Nat.le_of_ble_eq_true rfl) ?_
  intro p e s m below meth c ls A FX hr hlk hl hW
  have hx := FX.1; have hb := FX.2.1; have hown := FX.2.2.2.1; have hts := FX.2.2.2.2
  have hl : lv_has ls 2 [(0, .ref h0), (1, .int x1)] := hl
  rw [fX4_isThere] at hf
  refine lv_iload_n hx hb dX4_isThere_0 rfl (lv_at hl 1 rfl) ?_
  refine lv_iconst (v := 0) hx hb dX4_isThere_1 (by decide) ?_
  refine lv_bipush (v := 7) hx hb dX4_isThere_2 (by decide) ?_
  refine kX4_isIn FX ⟨Nat.le_of_ble_eq_true rfl, Nat.le_of_ble_eq_true rfl⟩ ⟨Nat.zero_le _, Nat.zero_le _⟩ hl.1 (Nat.le_of_ble_eq_true rfl) hW hf dX4_isThere_4 (fun r1 H locs hW hf => ?_)
  refine lv_if_eq (tgt := 25) hx hb dX4_isThere_7 (by decide) (fun c7 => ?_) (fun c7 => ?_)
  · have hf := ifp c7 hf
    refine lv_iconst (v := 0) hx hb dX4_isThere_25 (by decide) ?_
    exact g_zret FX hr hlk hW rfl (Option.some.inj hf) dX4_isThere_26
  · have hf := ifn c7 hf
    refine lv_aload_n hx hb dX4_isThere_10 rfl (lv_at hl 0 rfl) ?_
    refine Mg40 FX hW dX4_isThere_11 ?_
    refine lv_iconst (v := 0) hx hb dX4_isThere_14 (by decide) ?_
    refine lv_iload_n hx hb dX4_isThere_15 rfl (lv_at hl 1 rfl) ?_
    refine lv_iadd hx hb dX4_isThere_16 ?_
    refine g_iald FX hW 24 Mp40 hf dX4_isThere_17 (fun v2 hf => ?_)
    refine lv_if_le (tgt := 25) hx hb dX4_isThere_18 (by decide) (fun c18 => ?_) (fun c18 => ?_)
    · have hf := ifp c18 hf
      refine lv_iconst (v := 0) hx hb dX4_isThere_25 (by decide) ?_
      exact g_zret FX hr hlk hW rfl (Option.some.inj hf) dX4_isThere_26
    · have hf := ifn c18 hf
      refine lv_iconst (v := 1) hx hb dX4_isThere_21 (by decide) ?_
      refine lv_goto (tgt := 26) hx hb dX4_isThere_22 (by decide) ?_
      exact g_zret FX hr hlk hW rfl (Option.some.inj hf) dX4_isThere_26
set_option maxHeartbeats 4000000 in
set_option maxRecDepth 100000 in
theorem kX4_isThere {α : Type} {q : α} {k : Int32 → Option α} {x1 : Int32} {σ : Mst} (FX : CallFix p m c cc nL s args lw_all RX4) (hR : rX4_isThere.frames + 1 ≤ R.frames ∧ 8 + (2 + 11) + rX4_isThere.locals ≤ R.locals) (hcs : cells ≤ R.cells ∧ slots ≤ R.slots) (hl : ls.size = nL) (hrm : (rest.map fun v => v.category).sum ≤ 8) (hW : Wd D dA A s (Mc dA h0 ad σ) H locs) (hf : (fX4_isThere x1 σ).bind k = some q) (hdg : decode cc pc = .ok (.invokevirtual 411, 3)) (kk : ∀ (r : Int32) (H1 : Heap) (locs1 : List Loc), Wd D dA A s (Mc dA h0 ad σ) H1 locs1 → k r = some q → W p l e R s m args below meth c H1 locs1 cells slots Q (F0 m (pc + 3) ls (.int r :: rest))) : W p l e R s m args below meth c H locs cells slots Q (F0 m pc ls (.int x1 :: .ref h0 :: rest)) := by
  obtain ⟨r1, h1, hf⟩ := bnd hf
  refine w_Vi (C := RX4) (As := [.int x1]) (rest := rest) (n := 1) (wr := []) FX (mX4_isThere h1) (cwV 1 FX.2.2.2.2 (lw_V q1927 q1929 qs88 q132 q1930) rfl rfl rfl (by decide +kernel) hR) (va_recv hW.2.2.2.1 hW.1 (ci := 4) (q0 := 0) rfl rfl) rfl hl rfl hrm ⟨Nat.le_trans (Nat.le_of_eq (Nat.add_zero cells)) hcs.1, Nat.le_trans (Nat.le_of_eq (Nat.add_zero slots)) hcs.2⟩ hdg hW.nil ?_
  exact fun H1 locs1 hW1 => kk r1 H1 locs1 hW1.nil' hf
/-! TrunkLittersModel.rivals(II)I: kind W -/
def fX4_rivals_115 (k33 : Int32 → Int32 → Int32 → Int32 → Mst → Option (Int32 × Mst)) (x1 : Int32) (x2 : Int32) (x3 : Int32) (x4 : Int32) (σ : Mst) : Option (Int32 × Mst) := k33 x1 x2 (x3 + (1 : Int32)) (x4 + (1 : Int32)) σ
def fX4_rivals_33 : Nat → Int32 → Int32 → Int32 → Int32 → Mst → Option (Int32 × Mst)
  | 0, _, _, _, _, _ => none
  | n + 1, x1, x2, x3, x4, σ => (if (16 : Int32) ≤ x4 then some (x3, σ) else (fX4_canChoose x1 x2 (x4 / (4 : Int32)) σ).bind fun r1 => (if r1 = 0 then fX4_rivals_33 n x1 x2 x3 (x4 + (1 : Int32)) σ else (fX4_canChoose x2 x1 (x4 - x4 / (4 : Int32) * (4 : Int32)) σ).bind fun r2 => (if r2 = 0 then fX4_rivals_33 n x1 x2 x3 (x4 + (1 : Int32)) σ else (fX4_isRest x1 x2 (x4 / (4 : Int32)) (x4 - x4 / (4 : Int32) * (4 : Int32)) σ).bind fun r3 => (if r3 = 0 then fX4_rivals_33 n x1 x2 x3 (x4 + (1 : Int32)) σ else (if x3 = 0 then ast 8 (0 : Int32) (stp (sA σ 46 (0 : Int32) (x4 / (4 : Int32))) fun s4 => ast 8 (1 : Int32) (stp (sA s4 46 (1 : Int32) (x4 - x4 / (4 : Int32) * (4 : Int32))) fun s5 => stp (sF s5 47 (2 : Int32)) fun s6 => fX4_rivals_115 (fX4_rivals_33 n) x1 x2 x3 x4 s6)) else fX4_rivals_115 (fX4_rivals_33 n) x1 x2 x3 x4 σ)))))
def fX4_rivals (x1 : Int32) (x2 : Int32) (σ : Mst) : Option (Int32 × Mst) := stp (sF σ 47 (0 : Int32)) fun s1 => (fX4_isThere x1 s1).bind fun r2 => (if r2 = 0 then some ((-1 : Int32), s1) else (fX4_isThere x2 s1).bind fun r3 => (if r3 = 0 then some ((-1 : Int32), s1) else (if x1 = x2 then some ((-1 : Int32), s1) else fX4_rivals_33 FU x1 x2 (0 : Int32) (0 : Int32) s1)))
abbrev rX4_rivals : Room := { frames := 5, cells := 0, slots := 0, locals := 117 }
set_option maxHeartbeats 4000000 in
set_option maxRecDepth 100000 in
theorem wX4_rivals_115 {q : (Int32 × Mst)} (FX : CallFix p m c cX4_rivals 7 s args lw_all RX4) (hr : meth.sig.returnType = (some .int)) (hlk : meth.locks = false) {k33 : Int32 → Int32 → Int32 → Int32 → Mst → Option (Int32 × Mst)} (hk33 : ∀ (x1 : Int32) (x2 : Int32) (x3 : Int32) (x4 : Int32) (σ : Mst) (H : Heap) (locs : List Loc) (ls : Array Slot), lv_has ls 7 [(0, .ref h0), (1, .int x1), (2, .int x2), (3, .int x3), (4, .int x4)] → Wd D dA A s (Mc dA h0 ad σ) H locs → k33 x1 x2 x3 x4 σ = some q → W p l e rX4_rivals s m args below meth c H locs 0 0 (QI D dA A below args s 0 0 q.1 (Mc dA h0 ad q.2)) (F0 m 33 ls [])) : ∀ (x1 : Int32) (x2 : Int32) (x3 : Int32) (x4 : Int32) (σ : Mst) (H : Heap) (locs : List Loc) (ls : Array Slot), lv_has ls 7 [(0, .ref h0), (1, .int x1), (2, .int x2), (3, .int x3), (4, .int x4)] → Wd D dA A s (Mc dA h0 ad σ) H locs → fX4_rivals_115 k33 x1 x2 x3 x4 σ = some q → W p l e rX4_rivals s m args below meth c H locs 0 0 (QI D dA A below args s 0 0 q.1 (Mc dA h0 ad q.2)) (F0 m 115 ls []) := by
  have hx := FX.1; have hb := FX.2.1; have hown := FX.2.2.2.1; have hts := FX.2.2.2.2
  intro x1 x2 x3 x4 σ H locs ls hl hW hf
  rw [fX4_rivals_115] at hf
  refine lv_iinc (v := (x3 + (1 : Int32))) (lv' := [(3, .int (x3 + (1 : Int32))), (0, .ref h0), (1, .int x1), (2, .int x2), (4, .int x4)]) hx hb dX4_rivals_115 hl (k := 3) rfl rfl (by decide) rfl (fun ls hl => ?_)
  refine lv_iinc (v := (x4 + (1 : Int32))) (lv' := [(4, .int (x4 + (1 : Int32))), (3, .int (x3 + (1 : Int32))), (0, .ref h0), (1, .int x1), (2, .int x2)]) hx hb dX4_rivals_118 hl (k := 4) rfl rfl (by decide) rfl (fun ls hl => ?_)
  refine lv_goto (tgt := 33) hx hb dX4_rivals_121 (by decide) ?_
  exact hk33 x1 x2 (x3 + (1 : Int32)) (x4 + (1 : Int32)) σ _ _ _ (lv_sub hl [2, 3, 4, 1, 0] rfl) hW hf
set_option maxHeartbeats 4000000 in
set_option maxRecDepth 100000 in
theorem wX4_rivals_33 {q : (Int32 × Mst)} (FX : CallFix p m c cX4_rivals 7 s args lw_all RX4) (hr : meth.sig.returnType = (some .int)) (hlk : meth.locks = false) : ∀ n : Nat, ∀ (x1 : Int32) (x2 : Int32) (x3 : Int32) (x4 : Int32) (σ : Mst) (H : Heap) (locs : List Loc) (ls : Array Slot), lv_has ls 7 [(0, .ref h0), (1, .int x1), (2, .int x2), (3, .int x3), (4, .int x4)] → Wd D dA A s (Mc dA h0 ad σ) H locs → fX4_rivals_33 n x1 x2 x3 x4 σ = some q → W p l e rX4_rivals s m args below meth c H locs 0 0 (QI D dA A below args s 0 0 q.1 (Mc dA h0 ad q.2)) (F0 m 33 ls []) := by
  have hx := FX.1; have hb := FX.2.1; have hown := FX.2.2.2.1; have hts := FX.2.2.2.2
  intro n
  induction n with
  | zero =>
    intro x1 x2 x3 x4 σ H locs ls hl hW hf
    cases (show (none : Option (Int32 × Mst)) = some q from hf)
  | succ n ih =>
    intro x1 x2 x3 x4 σ H locs ls hl hW hf
    rw [fX4_rivals_33] at hf
    refine lv_iload hx hb dX4_rivals_33 (lv_at hl 4 rfl) ?_
    refine lv_bipush (v := 16) hx hb dX4_rivals_35 (by decide) ?_
    refine lv_icmp_ge (tgt := 124) hx hb dX4_rivals_37 (by decide) (fun c37 => ?_) (fun c37 => ?_)
    · have hf := ifp c37 hf
      refine lv_iload_n hx hb dX4_rivals_124 rfl (lv_at hl 3 rfl) ?_
      obtain rfl := Option.some.inj hf
      exact g_iret FX hr hlk hW rfl dX4_rivals_125
    · have hf := ifn c37 hf
      refine lv_iload hx hb dX4_rivals_40 (lv_at hl 4 rfl) ?_
      refine lv_iconst (v := 4) hx hb dX4_rivals_42 (by decide) ?_
      refine lv_idiv hx hb dX4_rivals_43 (by decide) ?_
      refine lv_istore (lv' := [(5, .int (x4 / (4 : Int32))), (0, .ref h0), (1, .int x1), (2, .int x2), (3, .int x3), (4, .int x4)]) hx hb dX4_rivals_44 hl (by decide) rfl (fun ls hl => ?_)
      refine lv_iload hx hb dX4_rivals_46 (lv_at hl 5 rfl) ?_
      refine lv_iconst (v := 4) hx hb dX4_rivals_48 (by decide) ?_
      refine lv_irem hx hb dX4_rivals_49 (by decide) ?_
      refine lv_istore (lv' := [(6, .int (x4 - x4 / (4 : Int32) * (4 : Int32))), (5, .int (x4 / (4 : Int32))), (0, .ref h0), (1, .int x1), (2, .int x2), (3, .int x3), (4, .int x4)]) hx hb dX4_rivals_50 hl (by decide) rfl (fun ls hl => ?_)
      refine lv_aload_n hx hb dX4_rivals_52 rfl (lv_at hl 2 rfl) ?_
      refine lv_iload_n hx hb dX4_rivals_53 rfl (lv_at hl 3 rfl) ?_
      refine lv_iload_n hx hb dX4_rivals_54 rfl (lv_at hl 4 rfl) ?_
      refine lv_iload hx hb dX4_rivals_55 (lv_at hl 1 rfl) ?_
      refine kX4_canChoose FX ⟨Nat.le_of_ble_eq_true rfl, Nat.le_of_ble_eq_true rfl⟩ ⟨Nat.zero_le _, Nat.zero_le _⟩ hl.1 (Nat.le_of_ble_eq_true rfl) hW hf dX4_rivals_57 (fun r1 H locs hW hf => ?_)
      refine lv_if_eq (tgt := 118) hx hb dX4_rivals_60 (by decide) (fun c60 => ?_) (fun c60 => ?_)
      · have hf := ifp c60 hf
        refine lv_iinc (v := (x4 + (1 : Int32))) (lv' := [(4, .int (x4 + (1 : Int32))), (6, .int (x4 - x4 / (4 : Int32) * (4 : Int32))), (5, .int (x4 / (4 : Int32))), (0, .ref h0), (1, .int x1), (2, .int x2), (3, .int x3)]) hx hb dX4_rivals_118 hl (k := 6) rfl rfl (by decide) rfl (fun ls hl => ?_)
        refine lv_goto (tgt := 33) hx hb dX4_rivals_121 (by decide) ?_
        exact ih x1 x2 x3 (x4 + (1 : Int32)) σ _ _ _ (lv_sub hl [3, 4, 5, 6, 0] rfl) hW hf
      · have hf := ifn c60 hf
        refine lv_aload_n hx hb dX4_rivals_63 rfl (lv_at hl 2 rfl) ?_
        refine lv_iload_n hx hb dX4_rivals_64 rfl (lv_at hl 4 rfl) ?_
        refine lv_iload_n hx hb dX4_rivals_65 rfl (lv_at hl 3 rfl) ?_
        refine lv_iload hx hb dX4_rivals_66 (lv_at hl 0 rfl) ?_
        refine kX4_canChoose FX ⟨Nat.le_of_ble_eq_true rfl, Nat.le_of_ble_eq_true rfl⟩ ⟨Nat.zero_le _, Nat.zero_le _⟩ hl.1 (Nat.le_of_ble_eq_true rfl) hW hf dX4_rivals_68 (fun r2 H locs hW hf => ?_)
        refine lv_if_eq (tgt := 118) hx hb dX4_rivals_71 (by decide) (fun c71 => ?_) (fun c71 => ?_)
        · have hf := ifp c71 hf
          refine lv_iinc (v := (x4 + (1 : Int32))) (lv' := [(4, .int (x4 + (1 : Int32))), (6, .int (x4 - x4 / (4 : Int32) * (4 : Int32))), (5, .int (x4 / (4 : Int32))), (0, .ref h0), (1, .int x1), (2, .int x2), (3, .int x3)]) hx hb dX4_rivals_118 hl (k := 6) rfl rfl (by decide) rfl (fun ls hl => ?_)
          refine lv_goto (tgt := 33) hx hb dX4_rivals_121 (by decide) ?_
          exact ih x1 x2 x3 (x4 + (1 : Int32)) σ _ _ _ (lv_sub hl [3, 4, 5, 6, 0] rfl) hW hf
        · have hf := ifn c71 hf
          refine lv_aload_n hx hb dX4_rivals_74 rfl (lv_at hl 2 rfl) ?_
          refine lv_iload_n hx hb dX4_rivals_75 rfl (lv_at hl 3 rfl) ?_
          refine lv_iload_n hx hb dX4_rivals_76 rfl (lv_at hl 4 rfl) ?_
          refine lv_iload hx hb dX4_rivals_77 (lv_at hl 1 rfl) ?_
          refine lv_iload hx hb dX4_rivals_79 (lv_at hl 0 rfl) ?_
          refine kX4_isRest FX ⟨Nat.le_of_ble_eq_true rfl, Nat.le_of_ble_eq_true rfl⟩ ⟨Nat.zero_le _, Nat.zero_le _⟩ hl.1 (Nat.le_of_ble_eq_true rfl) hW hf dX4_rivals_81 (fun r3 H locs hW hf => ?_)
          refine lv_if_ne (tgt := 90) hx hb dX4_rivals_84 (by decide) (fun c84 => ?_) (fun c84 => ?_)
          · have hf := ifn c84 hf
            refine lv_iload_n hx hb dX4_rivals_90 rfl (lv_at hl 5 rfl) ?_
            refine lv_if_ne (tgt := 115) hx hb dX4_rivals_91 (by decide) (fun c91 => ?_) (fun c91 => ?_)
            · have hf := ifn c91 hf
              exact wX4_rivals_115 FX hr hlk (ih) x1 x2 x3 x4 σ _ _ _ (lv_sub hl [2, 3, 4, 5, 6] rfl) hW hf
            · have hf := ifp c91 hf
              refine lv_aload_n hx hb dX4_rivals_94 rfl (lv_at hl 2 rfl) ?_
              refine Mg46 FX hW dX4_rivals_95 ?_
              refine lv_iconst (v := 0) hx hb dX4_rivals_98 (by decide) ?_
              refine lv_iload hx hb dX4_rivals_99 (lv_at hl 1 rfl) ?_
              refine g_iast FX hW 27 Mp46 (L := Mc dA h0 ad) (Mt46) hf dX4_rivals_101 (fun s4 H locs hW hf => ?_)
              refine lv_aload_n hx hb dX4_rivals_102 rfl (lv_at hl 2 rfl) ?_
              refine Mg46 FX hW dX4_rivals_103 ?_
              refine lv_iconst (v := 1) hx hb dX4_rivals_106 (by decide) ?_
              refine lv_iload hx hb dX4_rivals_107 (lv_at hl 0 rfl) ?_
              refine g_iast FX hW 27 Mp46 (L := Mc dA h0 ad) (Mt46) hf dX4_rivals_109 (fun s5 H locs hW hf => ?_)
              refine lv_aload_n hx hb dX4_rivals_110 rfl (lv_at hl 2 rfl) ?_
              refine lv_iconst (v := 2) hx hb dX4_rivals_111 (by decide) ?_
              refine Ms47 FX hW hf dX4_rivals_112 (fun s6 H locs hW hf => ?_)
              exact wX4_rivals_115 FX hr hlk (ih) x1 x2 x3 x4 s6 _ _ _ (lv_sub hl [2, 3, 4, 5, 6] rfl) hW hf
          · have hf := ifp c84 hf
            refine lv_goto (tgt := 118) hx hb dX4_rivals_87 (by decide) ?_
            refine lv_iinc (v := (x4 + (1 : Int32))) (lv' := [(4, .int (x4 + (1 : Int32))), (6, .int (x4 - x4 / (4 : Int32) * (4 : Int32))), (5, .int (x4 / (4 : Int32))), (0, .ref h0), (1, .int x1), (2, .int x2), (3, .int x3)]) hx hb dX4_rivals_118 hl (k := 6) rfl rfl (by decide) rfl (fun ls hl => ?_)
            refine lv_goto (tgt := 33) hx hb dX4_rivals_121 (by decide) ?_
            exact ih x1 x2 x3 (x4 + (1 : Int32)) σ _ _ _ (lv_sub hl [3, 4, 5, 6, 0] rfl) hW hf
set_option maxHeartbeats 4000000 in
set_option maxRecDepth 100000 in
theorem mX4_rivals  {x1 : Int32} {x2 : Int32} {σ : Mst} {q : (Int32 × Mst)} (hf : fX4_rivals x1 x2 σ = some q) : CtI l yX4_rivals cX4_rivals 7 (some .int) rX4_rivals D dA [.ref h0, .int x1, .int x2] (Mc dA h0 ad σ) q.1 (Mc dA h0 ad q.2) := by
  refine e_I (by decide) (Nat.le_of_ble_eq_true rfl) ?_
  intro p e s m below meth c ls A FX hr hlk hl hW
  have hx := FX.1; have hb := FX.2.1; have hown := FX.2.2.2.1; have hts := FX.2.2.2.2
  have hl : lv_has ls 7 [(0, .ref h0), (1, .int x1), (2, .int x2)] := hl
  rw [fX4_rivals] at hf
  refine lv_aload_n hx hb dX4_rivals_0 rfl (lv_at hl 0 rfl) ?_
  refine lv_iconst (v := 0) hx hb dX4_rivals_1 (by decide) ?_
  refine Ms47 FX hW hf dX4_rivals_2 (fun s1 H locs hW hf => ?_)
  refine lv_aload_n hx hb dX4_rivals_5 rfl (lv_at hl 0 rfl) ?_
  refine lv_iload_n hx hb dX4_rivals_6 rfl (lv_at hl 1 rfl) ?_
  refine kX4_isThere FX ⟨Nat.le_of_ble_eq_true rfl, Nat.le_of_ble_eq_true rfl⟩ ⟨Nat.zero_le _, Nat.zero_le _⟩ hl.1 (Nat.le_of_ble_eq_true rfl) hW hf dX4_rivals_7 (fun r2 H locs hW hf => ?_)
  refine lv_if_eq (tgt := 26) hx hb dX4_rivals_10 (by decide) (fun c10 => ?_) (fun c10 => ?_)
  · have hf := ifp c10 hf
    refine lv_iconst (v := -1) hx hb dX4_rivals_26 (by decide) ?_
    obtain rfl := Option.some.inj hf
    exact g_iret FX hr hlk hW rfl dX4_rivals_27
  · have hf := ifn c10 hf
    refine lv_aload_n hx hb dX4_rivals_13 rfl (lv_at hl 0 rfl) ?_
    refine lv_iload_n hx hb dX4_rivals_14 rfl (lv_at hl 2 rfl) ?_
    refine kX4_isThere FX ⟨Nat.le_of_ble_eq_true rfl, Nat.le_of_ble_eq_true rfl⟩ ⟨Nat.zero_le _, Nat.zero_le _⟩ hl.1 (Nat.le_of_ble_eq_true rfl) hW hf dX4_rivals_15 (fun r3 H locs hW hf => ?_)
    refine lv_if_eq (tgt := 26) hx hb dX4_rivals_18 (by decide) (fun c18 => ?_) (fun c18 => ?_)
    · have hf := ifp c18 hf
      refine lv_iconst (v := -1) hx hb dX4_rivals_26 (by decide) ?_
      obtain rfl := Option.some.inj hf
      exact g_iret FX hr hlk hW rfl dX4_rivals_27
    · have hf := ifn c18 hf
      refine lv_iload_n hx hb dX4_rivals_21 rfl (lv_at hl 1 rfl) ?_
      refine lv_iload_n hx hb dX4_rivals_22 rfl (lv_at hl 2 rfl) ?_
      refine lv_icmp_ne (tgt := 28) hx hb dX4_rivals_23 (by decide) (fun c23 => ?_) (fun c23 => ?_)
      · have hf := ifn c23 hf
        refine lv_iconst (v := 0) hx hb dX4_rivals_28 (by decide) ?_
        refine lv_istore_n (lv' := [(3, .int (0 : Int32)), (0, .ref h0), (1, .int x1), (2, .int x2)]) hx hb dX4_rivals_29 rfl hl (by decide) rfl (fun ls hl => ?_)
        refine lv_iconst (v := 0) hx hb dX4_rivals_30 (by decide) ?_
        refine lv_istore (lv' := [(4, .int (0 : Int32)), (3, .int (0 : Int32)), (0, .ref h0), (1, .int x1), (2, .int x2)]) hx hb dX4_rivals_31 hl (by decide) rfl (fun ls hl => ?_)
        exact wX4_rivals_33 FX hr hlk _ x1 x2 (0 : Int32) (0 : Int32) s1 _ _ _ (lv_sub hl [2, 3, 4, 1, 0] rfl) hW hf
      · have hf := ifp c23 hf
        refine lv_iconst (v := -1) hx hb dX4_rivals_26 (by decide) ?_
        obtain rfl := Option.some.inj hf
        exact g_iret FX hr hlk hW rfl dX4_rivals_27

/-! TrunkLittersModel.bitsOf(I)I: kind S -/
def fX4_bitsOf_4 : Nat → Int32 → Int32 → Option Int32
  | 0, _, _ => none
  | n + 1, x1, x2 => (if x2 = 0 then some x1 else fX4_bitsOf_4 n (x1 + (1 : Int32)) (x2 &&& (x2 - (1 : Int32))))
def fX4_bitsOf (x0 : Int32) : Option Int32 := fX4_bitsOf_4 FU (0 : Int32) x0
abbrev rX4_bitsOf : Room := { frames := 0, cells := 0, slots := 0, locals := 0 }
set_option maxHeartbeats 4000000 in
set_option maxRecDepth 100000 in
theorem wX4_bitsOf_4 {q : Int32} (FX : CallFix p m c cX4_bitsOf 3 s args lw_all RX4) (hr : meth.sig.returnType = (some .int)) (hlk : meth.locks = false) : ∀ n : Nat, ∀ (x1 : Int32) (x2 : Int32) (H : Heap) (locs : List Loc) (ls : Array Slot), lv_has ls 3 [(1, .int x1), (2, .int x2)] → Wd D dA A s [] H locs → fX4_bitsOf_4 n x1 x2 = some q → W p l e rX4_bitsOf s m args below meth c H locs 0 0 (QI D dA A below args s 0 0 q []) (F0 m 4 ls []) := by
  have hx := FX.1; have hb := FX.2.1; have hown := FX.2.2.2.1; have hts := FX.2.2.2.2
  intro n
  induction n with
  | zero =>
    intro x1 x2 H locs ls hl hW hf
    cases (show (none : Option Int32) = some q from hf)
  | succ n ih =>
    intro x1 x2 H locs ls hl hW hf
    rw [fX4_bitsOf_4] at hf
    refine lv_iload_n hx hb dX4_bitsOf_4 rfl (lv_at hl 1 rfl) ?_
    refine lv_if_eq (tgt := 20) hx hb dX4_bitsOf_5 (by decide) (fun c5 => ?_) (fun c5 => ?_)
    · have hf := ifp c5 hf
      refine lv_iload_n hx hb dX4_bitsOf_20 rfl (lv_at hl 0 rfl) ?_
      exact g_iret FX hr hlk hW (Option.some.inj hf) dX4_bitsOf_21
    · have hf := ifn c5 hf
      refine lv_iinc (v := (x1 + (1 : Int32))) (lv' := [(1, .int (x1 + (1 : Int32))), (2, .int x2)]) hx hb dX4_bitsOf_8 hl (k := 0) rfl rfl (by decide) rfl (fun ls hl => ?_)
      refine lv_iload_n hx hb dX4_bitsOf_11 rfl (lv_at hl 1 rfl) ?_
      refine lv_iload_n hx hb dX4_bitsOf_12 rfl (lv_at hl 1 rfl) ?_
      refine lv_iconst (v := 1) hx hb dX4_bitsOf_13 (by decide) ?_
      refine lv_isub hx hb dX4_bitsOf_14 ?_
      refine lv_iand hx hb dX4_bitsOf_15 ?_
      refine lv_istore_n (lv' := [(2, .int (x2 &&& (x2 - (1 : Int32)))), (1, .int (x1 + (1 : Int32)))]) hx hb dX4_bitsOf_16 rfl hl (by decide) rfl (fun ls hl => ?_)
      refine lv_goto (tgt := 4) hx hb dX4_bitsOf_17 (by decide) ?_
      exact ih (x1 + (1 : Int32)) (x2 &&& (x2 - (1 : Int32))) _ _ _ (lv_sub hl [1, 0] rfl) hW hf
set_option maxHeartbeats 4000000 in
set_option maxRecDepth 100000 in
theorem mX4_bitsOf  {x0 : Int32} {q : Int32} (hf : fX4_bitsOf x0 = some q) : CtI l yX4_bitsOf cX4_bitsOf 3 (some .int) rX4_bitsOf D dA [.int x0] [] q [] := by
  refine e_I (by decide) (Nat.le_of_ble_eq_true rfl) ?_
  intro p e s m below meth c ls A FX hr hlk hl hW
  have hx := FX.1; have hb := FX.2.1; have hown := FX.2.2.2.1; have hts := FX.2.2.2.2
  have hl : lv_has ls 3 [(0, .int x0)] := hl
  rw [fX4_bitsOf] at hf
  refine lv_iconst (v := 0) hx hb dX4_bitsOf_0 (by decide) ?_
  refine lv_istore_n (lv' := [(1, .int (0 : Int32)), (0, .int x0)]) hx hb dX4_bitsOf_1 rfl hl (by decide) rfl (fun ls hl => ?_)
  refine lv_iload_n hx hb dX4_bitsOf_2 rfl (lv_at hl 1 rfl) ?_
  refine lv_istore_n (lv' := [(2, .int x0), (1, .int (0 : Int32)), (0, .int x0)]) hx hb dX4_bitsOf_3 rfl hl (by decide) rfl (fun ls hl => ?_)
  exact wX4_bitsOf_4 FX hr hlk _ (0 : Int32) x0 _ _ _ (lv_sub hl [1, 0] rfl) hW hf
set_option maxHeartbeats 4000000 in
set_option maxRecDepth 100000 in
theorem kX4_bitsOf {α : Type} {q : α} {k : Int32 → Option α} {x0 : Int32} {ws : va_W} (FX : CallFix p m c cc nL s args lw_all RX4) (hR : rX4_bitsOf.frames + 1 ≤ R.frames ∧ 8 + (3 + 11) + rX4_bitsOf.locals ≤ R.locals) (hcs : cells ≤ R.cells ∧ slots ≤ R.slots) (hl : ls.size = nL) (hrm : (rest.map fun v => v.category).sum ≤ 8) (hW : Wd D dA A s ws H locs) (hf : (fX4_bitsOf x0).bind k = some q) (hdg : decode cc pc = .ok (.invokestatic 334, 3)) (kk : ∀ (r : Int32) (H1 : Heap) (locs1 : List Loc), Wd D dA A s ws H1 locs1 → k r = some q → W p l e R s m args below meth c H1 locs1 cells slots Q (F0 m (pc + 3) ls (.int r :: rest))) : W p l e R s m args below meth c H locs cells slots Q (F0 m pc ls (.int x0 :: rest)) := by
  obtain ⟨r1, h1, hf⟩ := bnd hf
  refine w_Si (As := [.int x0]) (rest := rest) (n := 1) (wr := ws) FX (mX4_bitsOf h1) (va_cwS 1 FX.2.2.2.2 (lw_S q1950 q1951 q132 q1952) rfl rfl rfl (by decide +kernel) hR) rfl hl rfl hrm ⟨Nat.le_trans (Nat.le_of_eq (Nat.add_zero cells)) hcs.1, Nat.le_trans (Nat.le_of_eq (Nat.add_zero slots)) hcs.2⟩ hdg hW ?_
  exact fun H1 locs1 hW1 => kk r1 H1 locs1 hW1 hf
/-! TrunkLittersModel.sires(II)I: kind R -/
def fX4_sires_29 (σ : Mst) : Nat → Int32 → Int32 → Int32 → Int32 → Int32 → Option Int32
  | 0, _, _, _, _, _ => none
  | n + 1, x1, x2, x3, x4, x5 => (if (64 : Int32) ≤ x5 then (if 0 ≤ x3 then (if x2 = 0 then some (x3 / (8 : Int32)) else (if x2 = (1 : Int32) then some (x3 - x3 / (8 : Int32) * (8 : Int32)) else some x4)) else some (-1 : Int32)) else (if (x5 - x5 / (8 : Int32) * (8 : Int32)) ≤ (x5 / (8 : Int32)) then fX4_sires_29 σ n x1 x2 x3 x4 (x5 + (1 : Int32)) else (if (x5 / (8 : Int32)) = x1 then fX4_sires_29 σ n x1 x2 x3 x4 (x5 + (1 : Int32)) else (if (x5 - x5 / (8 : Int32) * (8 : Int32)) = x1 then fX4_sires_29 σ n x1 x2 x3 x4 (x5 + (1 : Int32)) else (fX4_isThere (x5 / (8 : Int32)) σ).bind fun r1 => (if r1 = 0 then fX4_sires_29 σ n x1 x2 x3 x4 (x5 + (1 : Int32)) else (fX4_isThere (x5 - x5 / (8 : Int32) * (8 : Int32)) σ).bind fun r2 => (if r2 = 0 then fX4_sires_29 σ n x1 x2 x3 x4 (x5 + (1 : Int32)) else ald 59 (gA σ 40) ((16 : Int32) + x1) fun v3 => ald 59 (gA σ 40) ((16 : Int32) + (x5 / (8 : Int32))) fun v4 => ald 59 (gA σ 40) ((16 : Int32) + x1) fun v5 => ald 59 (gA σ 40) ((16 : Int32) + (x5 - x5 / (8 : Int32) * (8 : Int32))) fun v6 => (fX4_bitsOf ((v3 ^^^ v4) &&& (v5 ^^^ v6))).bind fun r7 => (if r7 < x4 then fX4_sires_29 σ n x1 x2 x5 r7 (x5 + (1 : Int32)) else fX4_sires_29 σ n x1 x2 x3 x4 (x5 + (1 : Int32)))))))))
def fX4_sires (x1 : Int32) (x2 : Int32) (σ : Mst) : Option Int32 := (fX4_isThere x1 σ).bind fun r1 => (if r1 = 0 then some (-1 : Int32) else (fX4_isIn x2 (0 : Int32) (2 : Int32)).bind fun r2 => (if r2 = 0 then some (-1 : Int32) else fX4_sires_29 σ FU x1 x2 (-1 : Int32) (1000 : Int32) (0 : Int32)))
abbrev rX4_sires : Room := { frames := 2, cells := 0, slots := 0, locals := 43 }
set_option maxHeartbeats 4000000 in
set_option maxRecDepth 100000 in
theorem wX4_sires_29 {q : Int32} {σ : Mst} (FX : CallFix p m c cX4_sires 9 s args lw_all RX4) (hr : meth.sig.returnType = (some .int)) (hlk : meth.locks = false) : ∀ n : Nat, ∀ (x1 : Int32) (x2 : Int32) (x3 : Int32) (x4 : Int32) (x5 : Int32) (H : Heap) (locs : List Loc) (ls : Array Slot), lv_has ls 9 [(0, .ref h0), (1, .int x1), (2, .int x2), (3, .int x3), (4, .int x4), (5, .int x5)] → Wd D dA A s (Mc dA h0 ad σ) H locs → fX4_sires_29 σ n x1 x2 x3 x4 x5 = some q → W p l e rX4_sires s m args below meth c H locs 0 0 (QI D dA A below args s 0 0 q (Mc dA h0 ad σ)) (F0 m 29 ls []) := by
  have hx := FX.1; have hb := FX.2.1; have hown := FX.2.2.2.1; have hts := FX.2.2.2.2
  intro n
  induction n with
  | zero =>
    intro x1 x2 x3 x4 x5 H locs ls hl hW hf
    cases (show (none : Option Int32) = some q from hf)
  | succ n ih =>
    intro x1 x2 x3 x4 x5 H locs ls hl hW hf
    rw [fX4_sires_29] at hf
    refine lv_iload hx hb dX4_sires_29 (lv_at hl 5 rfl) ?_
    refine lv_bipush (v := 64) hx hb dX4_sires_31 (by decide) ?_
    refine lv_icmp_ge (tgt := 159) hx hb dX4_sires_33 (by decide) (fun c33 => ?_) (fun c33 => ?_)
    · have hf := ifp c33 hf
      refine lv_iload_n hx hb dX4_sires_159 rfl (lv_at hl 3 rfl) ?_
      refine lv_if_ge (tgt := 167) hx hb dX4_sires_160 (by decide) (fun c160 => ?_) (fun c160 => ?_)
      · have hf := ifp c160 hf
        refine lv_iload_n hx hb dX4_sires_167 rfl (lv_at hl 2 rfl) ?_
        refine lv_if_ne (tgt := 178) hx hb dX4_sires_168 (by decide) (fun c168 => ?_) (fun c168 => ?_)
        · have hf := ifn c168 hf
          refine lv_iload_n hx hb dX4_sires_178 rfl (lv_at hl 2 rfl) ?_
          refine lv_iconst (v := 1) hx hb dX4_sires_179 (by decide) ?_
          refine lv_icmp_ne (tgt := 190) hx hb dX4_sires_180 (by decide) (fun c180 => ?_) (fun c180 => ?_)
          · have hf := ifn c180 hf
            refine lv_iload hx hb dX4_sires_190 (lv_at hl 4 rfl) ?_
            exact g_iret FX hr hlk hW (Option.some.inj hf) dX4_sires_192
          · have hf := ifp c180 hf
            refine lv_iload_n hx hb dX4_sires_183 rfl (lv_at hl 3 rfl) ?_
            refine lv_bipush (v := 8) hx hb dX4_sires_184 (by decide) ?_
            refine lv_irem hx hb dX4_sires_186 (by decide) ?_
            refine lv_goto (tgt := 192) hx hb dX4_sires_187 (by decide) ?_
            exact g_iret FX hr hlk hW (Option.some.inj hf) dX4_sires_192
        · have hf := ifp c168 hf
          refine lv_iload_n hx hb dX4_sires_171 rfl (lv_at hl 3 rfl) ?_
          refine lv_bipush (v := 8) hx hb dX4_sires_172 (by decide) ?_
          refine lv_idiv hx hb dX4_sires_174 (by decide) ?_
          refine lv_goto (tgt := 192) hx hb dX4_sires_175 (by decide) ?_
          exact g_iret FX hr hlk hW (Option.some.inj hf) dX4_sires_192
      · have hf := ifn c160 hf
        refine lv_iconst (v := -1) hx hb dX4_sires_163 (by decide) ?_
        refine lv_goto (tgt := 192) hx hb dX4_sires_164 (by decide) ?_
        exact g_iret FX hr hlk hW (Option.some.inj hf) dX4_sires_192
    · have hf := ifn c33 hf
      refine lv_iload hx hb dX4_sires_36 (lv_at hl 5 rfl) ?_
      refine lv_bipush (v := 8) hx hb dX4_sires_38 (by decide) ?_
      refine lv_idiv hx hb dX4_sires_40 (by decide) ?_
      refine lv_istore (lv' := [(6, .int (x5 / (8 : Int32))), (0, .ref h0), (1, .int x1), (2, .int x2), (3, .int x3), (4, .int x4), (5, .int x5)]) hx hb dX4_sires_41 hl (by decide) rfl (fun ls hl => ?_)
      refine lv_iload hx hb dX4_sires_43 (lv_at hl 6 rfl) ?_
      refine lv_bipush (v := 8) hx hb dX4_sires_45 (by decide) ?_
      refine lv_irem hx hb dX4_sires_47 (by decide) ?_
      refine lv_istore (lv' := [(7, .int (x5 - x5 / (8 : Int32) * (8 : Int32))), (6, .int (x5 / (8 : Int32))), (0, .ref h0), (1, .int x1), (2, .int x2), (3, .int x3), (4, .int x4), (5, .int x5)]) hx hb dX4_sires_48 hl (by decide) rfl (fun ls hl => ?_)
      refine lv_iload hx hb dX4_sires_50 (lv_at hl 1 rfl) ?_
      refine lv_iload hx hb dX4_sires_52 (lv_at hl 0 rfl) ?_
      refine lv_icmp_ge (tgt := 153) hx hb dX4_sires_54 (by decide) (fun c54 => ?_) (fun c54 => ?_)
      · have hf := ifp c54 hf
        refine lv_iinc (v := (x5 + (1 : Int32))) (lv' := [(5, .int (x5 + (1 : Int32))), (7, .int (x5 - x5 / (8 : Int32) * (8 : Int32))), (6, .int (x5 / (8 : Int32))), (0, .ref h0), (1, .int x1), (2, .int x2), (3, .int x3), (4, .int x4)]) hx hb dX4_sires_153 hl (k := 7) rfl rfl (by decide) rfl (fun ls hl => ?_)
        refine lv_goto (tgt := 29) hx hb dX4_sires_156 (by decide) ?_
        exact ih x1 x2 x3 x4 (x5 + (1 : Int32)) _ _ _ (lv_sub hl [3, 4, 5, 6, 7, 0] rfl) hW hf
      · have hf := ifn c54 hf
        refine lv_iload hx hb dX4_sires_57 (lv_at hl 1 rfl) ?_
        refine lv_iload_n hx hb dX4_sires_59 rfl (lv_at hl 3 rfl) ?_
        refine lv_icmp_eq (tgt := 153) hx hb dX4_sires_60 (by decide) (fun c60 => ?_) (fun c60 => ?_)
        · have hf := ifp c60 hf
          refine lv_iinc (v := (x5 + (1 : Int32))) (lv' := [(5, .int (x5 + (1 : Int32))), (7, .int (x5 - x5 / (8 : Int32) * (8 : Int32))), (6, .int (x5 / (8 : Int32))), (0, .ref h0), (1, .int x1), (2, .int x2), (3, .int x3), (4, .int x4)]) hx hb dX4_sires_153 hl (k := 7) rfl rfl (by decide) rfl (fun ls hl => ?_)
          refine lv_goto (tgt := 29) hx hb dX4_sires_156 (by decide) ?_
          exact ih x1 x2 x3 x4 (x5 + (1 : Int32)) _ _ _ (lv_sub hl [3, 4, 5, 6, 7, 0] rfl) hW hf
        · have hf := ifn c60 hf
          refine lv_iload hx hb dX4_sires_63 (lv_at hl 0 rfl) ?_
          refine lv_iload_n hx hb dX4_sires_65 rfl (lv_at hl 3 rfl) ?_
          refine lv_icmp_eq (tgt := 153) hx hb dX4_sires_66 (by decide) (fun c66 => ?_) (fun c66 => ?_)
          · have hf := ifp c66 hf
            refine lv_iinc (v := (x5 + (1 : Int32))) (lv' := [(5, .int (x5 + (1 : Int32))), (7, .int (x5 - x5 / (8 : Int32) * (8 : Int32))), (6, .int (x5 / (8 : Int32))), (0, .ref h0), (1, .int x1), (2, .int x2), (3, .int x3), (4, .int x4)]) hx hb dX4_sires_153 hl (k := 7) rfl rfl (by decide) rfl (fun ls hl => ?_)
            refine lv_goto (tgt := 29) hx hb dX4_sires_156 (by decide) ?_
            exact ih x1 x2 x3 x4 (x5 + (1 : Int32)) _ _ _ (lv_sub hl [3, 4, 5, 6, 7, 0] rfl) hW hf
          · have hf := ifn c66 hf
            refine lv_aload_n hx hb dX4_sires_69 rfl (lv_at hl 2 rfl) ?_
            refine lv_iload hx hb dX4_sires_70 (lv_at hl 1 rfl) ?_
            refine kX4_isThere FX ⟨Nat.le_of_ble_eq_true rfl, Nat.le_of_ble_eq_true rfl⟩ ⟨Nat.zero_le _, Nat.zero_le _⟩ hl.1 (Nat.le_of_ble_eq_true rfl) hW hf dX4_sires_72 (fun r1 H locs hW hf => ?_)
            refine lv_if_eq (tgt := 153) hx hb dX4_sires_75 (by decide) (fun c75 => ?_) (fun c75 => ?_)
            · have hf := ifp c75 hf
              refine lv_iinc (v := (x5 + (1 : Int32))) (lv' := [(5, .int (x5 + (1 : Int32))), (7, .int (x5 - x5 / (8 : Int32) * (8 : Int32))), (6, .int (x5 / (8 : Int32))), (0, .ref h0), (1, .int x1), (2, .int x2), (3, .int x3), (4, .int x4)]) hx hb dX4_sires_153 hl (k := 7) rfl rfl (by decide) rfl (fun ls hl => ?_)
              refine lv_goto (tgt := 29) hx hb dX4_sires_156 (by decide) ?_
              exact ih x1 x2 x3 x4 (x5 + (1 : Int32)) _ _ _ (lv_sub hl [3, 4, 5, 6, 7, 0] rfl) hW hf
            · have hf := ifn c75 hf
              refine lv_aload_n hx hb dX4_sires_78 rfl (lv_at hl 2 rfl) ?_
              refine lv_iload hx hb dX4_sires_79 (lv_at hl 0 rfl) ?_
              refine kX4_isThere FX ⟨Nat.le_of_ble_eq_true rfl, Nat.le_of_ble_eq_true rfl⟩ ⟨Nat.zero_le _, Nat.zero_le _⟩ hl.1 (Nat.le_of_ble_eq_true rfl) hW hf dX4_sires_81 (fun r2 H locs hW hf => ?_)
              refine lv_if_ne (tgt := 90) hx hb dX4_sires_84 (by decide) (fun c84 => ?_) (fun c84 => ?_)
              · have hf := ifn c84 hf
                refine lv_aload_n hx hb dX4_sires_90 rfl (lv_at hl 2 rfl) ?_
                refine Mg40 FX hW dX4_sires_91 ?_
                refine lv_bipush (v := 16) hx hb dX4_sires_94 (by decide) ?_
                refine lv_iload_n hx hb dX4_sires_96 rfl (lv_at hl 3 rfl) ?_
                refine lv_iadd hx hb dX4_sires_97 ?_
                refine g_iald FX hW 24 Mp40 hf dX4_sires_98 (fun v3 hf => ?_)
                refine lv_aload_n hx hb dX4_sires_99 rfl (lv_at hl 2 rfl) ?_
                refine Mg40 FX hW dX4_sires_100 ?_
                refine lv_bipush (v := 16) hx hb dX4_sires_103 (by decide) ?_
                refine lv_iload hx hb dX4_sires_105 (lv_at hl 1 rfl) ?_
                refine lv_iadd hx hb dX4_sires_107 ?_
                refine g_iald FX hW 24 Mp40 hf dX4_sires_108 (fun v4 hf => ?_)
                refine lv_ixor hx hb dX4_sires_109 ?_
                refine lv_aload_n hx hb dX4_sires_110 rfl (lv_at hl 2 rfl) ?_
                refine Mg40 FX hW dX4_sires_111 ?_
                refine lv_bipush (v := 16) hx hb dX4_sires_114 (by decide) ?_
                refine lv_iload_n hx hb dX4_sires_116 rfl (lv_at hl 3 rfl) ?_
                refine lv_iadd hx hb dX4_sires_117 ?_
                refine g_iald FX hW 24 Mp40 hf dX4_sires_118 (fun v5 hf => ?_)
                refine lv_aload_n hx hb dX4_sires_119 rfl (lv_at hl 2 rfl) ?_
                refine Mg40 FX hW dX4_sires_120 ?_
                refine lv_bipush (v := 16) hx hb dX4_sires_123 (by decide) ?_
                refine lv_iload hx hb dX4_sires_125 (lv_at hl 0 rfl) ?_
                refine lv_iadd hx hb dX4_sires_127 ?_
                refine g_iald FX hW 24 Mp40 hf dX4_sires_128 (fun v6 hf => ?_)
                refine lv_ixor hx hb dX4_sires_129 ?_
                refine lv_iand hx hb dX4_sires_130 ?_
                refine kX4_bitsOf FX ⟨Nat.le_of_ble_eq_true rfl, Nat.le_of_ble_eq_true rfl⟩ ⟨Nat.zero_le _, Nat.zero_le _⟩ hl.1 (Nat.le_of_ble_eq_true rfl) hW hf dX4_sires_131 (fun r7 H locs hW hf => ?_)
                refine lv_istore (lv' := [(8, .int r7), (7, .int (x5 - x5 / (8 : Int32) * (8 : Int32))), (6, .int (x5 / (8 : Int32))), (0, .ref h0), (1, .int x1), (2, .int x2), (3, .int x3), (4, .int x4), (5, .int x5)]) hx hb dX4_sires_134 hl (by decide) rfl (fun ls hl => ?_)
                refine lv_iload hx hb dX4_sires_136 (lv_at hl 0 rfl) ?_
                refine lv_iload hx hb dX4_sires_138 (lv_at hl 7 rfl) ?_
                refine lv_icmp_lt (tgt := 146) hx hb dX4_sires_140 (by decide) (fun c140 => ?_) (fun c140 => ?_)
                · have hf := ifp c140 hf
                  refine lv_iload hx hb dX4_sires_146 (lv_at hl 8 rfl) ?_
                  refine lv_istore_n (lv' := [(3, .int x5), (8, .int r7), (7, .int (x5 - x5 / (8 : Int32) * (8 : Int32))), (6, .int (x5 / (8 : Int32))), (0, .ref h0), (1, .int x1), (2, .int x2), (4, .int x4), (5, .int x5)]) hx hb dX4_sires_148 rfl hl (by decide) rfl (fun ls hl => ?_)
                  refine lv_iload hx hb dX4_sires_149 (lv_at hl 1 rfl) ?_
                  refine lv_istore (lv' := [(4, .int r7), (3, .int x5), (8, .int r7), (7, .int (x5 - x5 / (8 : Int32) * (8 : Int32))), (6, .int (x5 / (8 : Int32))), (0, .ref h0), (1, .int x1), (2, .int x2), (5, .int x5)]) hx hb dX4_sires_151 hl (by decide) rfl (fun ls hl => ?_)
                  refine lv_iinc (v := (x5 + (1 : Int32))) (lv' := [(5, .int (x5 + (1 : Int32))), (4, .int r7), (3, .int x5), (8, .int r7), (7, .int (x5 - x5 / (8 : Int32) * (8 : Int32))), (6, .int (x5 / (8 : Int32))), (0, .ref h0), (1, .int x1), (2, .int x2)]) hx hb dX4_sires_153 hl (k := 8) rfl rfl (by decide) rfl (fun ls hl => ?_)
                  refine lv_goto (tgt := 29) hx hb dX4_sires_156 (by decide) ?_
                  exact ih x1 x2 x5 r7 (x5 + (1 : Int32)) _ _ _ (lv_sub hl [6, 7, 8, 2, 1, 0] rfl) hW hf
                · have hf := ifn c140 hf
                  refine lv_goto (tgt := 153) hx hb dX4_sires_143 (by decide) ?_
                  refine lv_iinc (v := (x5 + (1 : Int32))) (lv' := [(5, .int (x5 + (1 : Int32))), (8, .int r7), (7, .int (x5 - x5 / (8 : Int32) * (8 : Int32))), (6, .int (x5 / (8 : Int32))), (0, .ref h0), (1, .int x1), (2, .int x2), (3, .int x3), (4, .int x4)]) hx hb dX4_sires_153 hl (k := 8) rfl rfl (by decide) rfl (fun ls hl => ?_)
                  refine lv_goto (tgt := 29) hx hb dX4_sires_156 (by decide) ?_
                  exact ih x1 x2 x3 x4 (x5 + (1 : Int32)) _ _ _ (lv_sub hl [4, 5, 6, 7, 8, 0] rfl) hW hf
              · have hf := ifp c84 hf
                refine lv_goto (tgt := 153) hx hb dX4_sires_87 (by decide) ?_
                refine lv_iinc (v := (x5 + (1 : Int32))) (lv' := [(5, .int (x5 + (1 : Int32))), (7, .int (x5 - x5 / (8 : Int32) * (8 : Int32))), (6, .int (x5 / (8 : Int32))), (0, .ref h0), (1, .int x1), (2, .int x2), (3, .int x3), (4, .int x4)]) hx hb dX4_sires_153 hl (k := 7) rfl rfl (by decide) rfl (fun ls hl => ?_)
                refine lv_goto (tgt := 29) hx hb dX4_sires_156 (by decide) ?_
                exact ih x1 x2 x3 x4 (x5 + (1 : Int32)) _ _ _ (lv_sub hl [3, 4, 5, 6, 7, 0] rfl) hW hf
set_option maxHeartbeats 4000000 in
set_option maxRecDepth 100000 in
theorem mX4_sires  {x1 : Int32} {x2 : Int32} {σ : Mst} {q : Int32} (hf : fX4_sires x1 x2 σ = some q) : CtI l yX4_sires cX4_sires 9 (some .int) rX4_sires D dA [.ref h0, .int x1, .int x2] (Mc dA h0 ad σ) q (Mc dA h0 ad σ) := by
  refine e_I (by decide) (Nat.le_of_ble_eq_true rfl) ?_
  intro p e s m below meth c ls A FX hr hlk hl hW
  have hx := FX.1; have hb := FX.2.1; have hown := FX.2.2.2.1; have hts := FX.2.2.2.2
  have hl : lv_has ls 9 [(0, .ref h0), (1, .int x1), (2, .int x2)] := hl
  rw [fX4_sires] at hf
  refine lv_aload_n hx hb dX4_sires_0 rfl (lv_at hl 0 rfl) ?_
  refine lv_iload_n hx hb dX4_sires_1 rfl (lv_at hl 1 rfl) ?_
  refine kX4_isThere FX ⟨Nat.le_of_ble_eq_true rfl, Nat.le_of_ble_eq_true rfl⟩ ⟨Nat.zero_le _, Nat.zero_le _⟩ hl.1 (Nat.le_of_ble_eq_true rfl) hW hf dX4_sires_2 (fun r1 H locs hW hf => ?_)
  refine lv_if_eq (tgt := 17) hx hb dX4_sires_5 (by decide) (fun c5 => ?_) (fun c5 => ?_)
  · have hf := ifp c5 hf
    refine lv_iconst (v := -1) hx hb dX4_sires_17 (by decide) ?_
    exact g_iret FX hr hlk hW (Option.some.inj hf) dX4_sires_18
  · have hf := ifn c5 hf
    refine lv_iload_n hx hb dX4_sires_8 rfl (lv_at hl 2 rfl) ?_
    refine lv_iconst (v := 0) hx hb dX4_sires_9 (by decide) ?_
    refine lv_iconst (v := 2) hx hb dX4_sires_10 (by decide) ?_
    refine kX4_isIn FX ⟨Nat.le_of_ble_eq_true rfl, Nat.le_of_ble_eq_true rfl⟩ ⟨Nat.zero_le _, Nat.zero_le _⟩ hl.1 (Nat.le_of_ble_eq_true rfl) hW hf dX4_sires_11 (fun r2 H locs hW hf => ?_)
    refine lv_if_ne (tgt := 19) hx hb dX4_sires_14 (by decide) (fun c14 => ?_) (fun c14 => ?_)
    · have hf := ifn c14 hf
      refine lv_iconst (v := -1) hx hb dX4_sires_19 (by decide) ?_
      refine lv_istore_n (lv' := [(3, .int (-1 : Int32)), (0, .ref h0), (1, .int x1), (2, .int x2)]) hx hb dX4_sires_20 rfl hl (by decide) rfl (fun ls hl => ?_)
      refine lv_sipush (v := 1000) hx hb dX4_sires_21 (by decide) ?_
      refine lv_istore (lv' := [(4, .int (1000 : Int32)), (3, .int (-1 : Int32)), (0, .ref h0), (1, .int x1), (2, .int x2)]) hx hb dX4_sires_24 hl (by decide) rfl (fun ls hl => ?_)
      refine lv_iconst (v := 0) hx hb dX4_sires_26 (by decide) ?_
      refine lv_istore (lv' := [(5, .int (0 : Int32)), (4, .int (1000 : Int32)), (3, .int (-1 : Int32)), (0, .ref h0), (1, .int x1), (2, .int x2)]) hx hb dX4_sires_27 hl (by decide) rfl (fun ls hl => ?_)
      exact wX4_sires_29 FX hr hlk _ x1 x2 (-1 : Int32) (1000 : Int32) (0 : Int32) _ _ _ (lv_sub hl [3, 4, 5, 2, 1, 0] rfl) hW hf
    · have hf := ifp c14 hf
      refine lv_iconst (v := -1) hx hb dX4_sires_17 (by decide) ?_
      exact g_iret FX hr hlk hW (Option.some.inj hf) dX4_sires_18

/-! TrunkLittersModel.changesOf(IIII)I: kind R -/
def fX4_changesOf_104 (σ : Mst) (k6 : Int32 → Int32 → Int32 → Int32 → Int32 → Int32 → Option Int32) (x1 : Int32) (x2 : Int32) (x3 : Int32) (x4 : Int32) (x6 : Int32) (y0 : Int32) : Option Int32 := k6 x1 x2 x3 x4 (y0 + (0 : Int32)) (x6 + (1 : Int32))
def fX4_changesOf_125 (σ : Mst) (k6 : Int32 → Int32 → Int32 → Int32 → Int32 → Int32 → Option Int32) (x1 : Int32) (x2 : Int32) (x3 : Int32) (x4 : Int32) (x6 : Int32) (y0 : Int32) : Option Int32 := k6 x1 x2 x3 x4 (y0 + (1 : Int32)) (x6 + (1 : Int32))
def fX4_changesOf_6 (σ : Mst) : Nat → Int32 → Int32 → Int32 → Int32 → Int32 → Int32 → Option Int32
  | 0, _, _, _, _, _, _ => none
  | n + 1, x1, x2, x3, x4, x5, x6 => (if (6 : Int32) ≤ x6 then some x5 else ald 59 (gA σ 40) ((16 : Int32) + x1) fun v1 => ald 59 (gA σ 40) ((16 : Int32) + x2) fun v2 => ald 59 (gA σ 40) ((16 : Int32) + x3) fun v3 => ald 59 (gA σ 40) ((16 : Int32) + x4) fun v4 => (if (((((v1 >>> (x6 &&& 31)) &&& (1 : Int32)) + ((v2 >>> (x6 &&& 31)) &&& (1 : Int32))) + ((v3 >>> (x6 &&& 31)) &&& (1 : Int32))) + ((v4 >>> (x6 &&& 31)) &&& (1 : Int32))) = 0 then fX4_changesOf_104 σ (fX4_changesOf_6 σ n) x1 x2 x3 x4 x6 x5 else (if (((((v1 >>> (x6 &&& 31)) &&& (1 : Int32)) + ((v2 >>> (x6 &&& 31)) &&& (1 : Int32))) + ((v3 >>> (x6 &&& 31)) &&& (1 : Int32))) + ((v4 >>> (x6 &&& 31)) &&& (1 : Int32))) = (4 : Int32) then fX4_changesOf_104 σ (fX4_changesOf_6 σ n) x1 x2 x3 x4 x6 x5 else (if (((((v1 >>> (x6 &&& 31)) &&& (1 : Int32)) + ((v2 >>> (x6 &&& 31)) &&& (1 : Int32))) + ((v3 >>> (x6 &&& 31)) &&& (1 : Int32))) + ((v4 >>> (x6 &&& 31)) &&& (1 : Int32))) = (2 : Int32) then (if ((v1 >>> (x6 &&& 31)) &&& (1 : Int32)) = ((v2 >>> (x6 &&& 31)) &&& (1 : Int32)) then fX4_changesOf_125 σ (fX4_changesOf_6 σ n) x1 x2 x3 x4 x6 x5 else fX4_changesOf_6 σ n x1 x2 x3 x4 (x5 + (2 : Int32)) (x6 + (1 : Int32))) else fX4_changesOf_125 σ (fX4_changesOf_6 σ n) x1 x2 x3 x4 x6 x5))))
def fX4_changesOf (x1 : Int32) (x2 : Int32) (x3 : Int32) (x4 : Int32) (σ : Mst) : Option Int32 := fX4_changesOf_6 σ FU x1 x2 x3 x4 (0 : Int32) (0 : Int32)
abbrev rX4_changesOf : Room := { frames := 0, cells := 0, slots := 0, locals := 0 }
set_option maxHeartbeats 4000000 in
set_option maxRecDepth 100000 in
theorem wX4_changesOf_104 {q : Int32} {σ : Mst} (FX : CallFix p m c cX4_changesOf 12 s args lw_all RX4) (hr : meth.sig.returnType = (some .int)) (hlk : meth.locks = false) {k6 : Int32 → Int32 → Int32 → Int32 → Int32 → Int32 → Option Int32} (hk6 : ∀ (x1 : Int32) (x2 : Int32) (x3 : Int32) (x4 : Int32) (x5 : Int32) (x6 : Int32) (H : Heap) (locs : List Loc) (ls : Array Slot), lv_has ls 12 [(0, .ref h0), (1, .int x1), (2, .int x2), (3, .int x3), (4, .int x4), (5, .int x5), (6, .int x6)] → Wd D dA A s (Mc dA h0 ad σ) H locs → k6 x1 x2 x3 x4 x5 x6 = some q → W p l e rX4_changesOf s m args below meth c H locs 0 0 (QI D dA A below args s 0 0 q (Mc dA h0 ad σ)) (F0 m 6 ls [])) : ∀ (x1 : Int32) (x2 : Int32) (x3 : Int32) (x4 : Int32) (x6 : Int32) (y0 : Int32) (H : Heap) (locs : List Loc) (ls : Array Slot), lv_has ls 12 [(0, .ref h0), (1, .int x1), (2, .int x2), (3, .int x3), (4, .int x4), (6, .int x6)] → Wd D dA A s (Mc dA h0 ad σ) H locs → fX4_changesOf_104 σ k6 x1 x2 x3 x4 x6 y0 = some q → W p l e rX4_changesOf s m args below meth c H locs 0 0 (QI D dA A below args s 0 0 q (Mc dA h0 ad σ)) (F0 m 104 ls [.int y0]) := by
  have hx := FX.1; have hb := FX.2.1; have hown := FX.2.2.2.1; have hts := FX.2.2.2.2
  intro x1 x2 x3 x4 x6 y0 H locs ls hl hW hf
  rw [fX4_changesOf_104] at hf
  refine lv_iconst (v := 0) hx hb dX4_changesOf_104 (by decide) ?_
  refine lv_goto (tgt := 126) hx hb dX4_changesOf_105 (by decide) ?_
  refine lv_iadd hx hb dX4_changesOf_126 ?_
  refine lv_istore (lv' := [(5, .int (y0 + (0 : Int32))), (0, .ref h0), (1, .int x1), (2, .int x2), (3, .int x3), (4, .int x4), (6, .int x6)]) hx hb dX4_changesOf_127 hl (by decide) rfl (fun ls hl => ?_)
  refine lv_iinc (v := (x6 + (1 : Int32))) (lv' := [(6, .int (x6 + (1 : Int32))), (5, .int (y0 + (0 : Int32))), (0, .ref h0), (1, .int x1), (2, .int x2), (3, .int x3), (4, .int x4)]) hx hb dX4_changesOf_129 hl (k := 6) rfl rfl (by decide) rfl (fun ls hl => ?_)
  refine lv_goto (tgt := 6) hx hb dX4_changesOf_132 (by decide) ?_
  exact hk6 x1 x2 x3 x4 (y0 + (0 : Int32)) (x6 + (1 : Int32)) _ _ _ (lv_sub hl [2, 3, 4, 5, 6, 1, 0] rfl) hW hf
set_option maxHeartbeats 4000000 in
set_option maxRecDepth 100000 in
theorem wX4_changesOf_125 {q : Int32} {σ : Mst} (FX : CallFix p m c cX4_changesOf 12 s args lw_all RX4) (hr : meth.sig.returnType = (some .int)) (hlk : meth.locks = false) {k6 : Int32 → Int32 → Int32 → Int32 → Int32 → Int32 → Option Int32} (hk6 : ∀ (x1 : Int32) (x2 : Int32) (x3 : Int32) (x4 : Int32) (x5 : Int32) (x6 : Int32) (H : Heap) (locs : List Loc) (ls : Array Slot), lv_has ls 12 [(0, .ref h0), (1, .int x1), (2, .int x2), (3, .int x3), (4, .int x4), (5, .int x5), (6, .int x6)] → Wd D dA A s (Mc dA h0 ad σ) H locs → k6 x1 x2 x3 x4 x5 x6 = some q → W p l e rX4_changesOf s m args below meth c H locs 0 0 (QI D dA A below args s 0 0 q (Mc dA h0 ad σ)) (F0 m 6 ls [])) : ∀ (x1 : Int32) (x2 : Int32) (x3 : Int32) (x4 : Int32) (x6 : Int32) (y0 : Int32) (H : Heap) (locs : List Loc) (ls : Array Slot), lv_has ls 12 [(0, .ref h0), (1, .int x1), (2, .int x2), (3, .int x3), (4, .int x4), (6, .int x6)] → Wd D dA A s (Mc dA h0 ad σ) H locs → fX4_changesOf_125 σ k6 x1 x2 x3 x4 x6 y0 = some q → W p l e rX4_changesOf s m args below meth c H locs 0 0 (QI D dA A below args s 0 0 q (Mc dA h0 ad σ)) (F0 m 125 ls [.int y0]) := by
  have hx := FX.1; have hb := FX.2.1; have hown := FX.2.2.2.1; have hts := FX.2.2.2.2
  intro x1 x2 x3 x4 x6 y0 H locs ls hl hW hf
  rw [fX4_changesOf_125] at hf
  refine lv_iconst (v := 1) hx hb dX4_changesOf_125 (by decide) ?_
  refine lv_iadd hx hb dX4_changesOf_126 ?_
  refine lv_istore (lv' := [(5, .int (y0 + (1 : Int32))), (0, .ref h0), (1, .int x1), (2, .int x2), (3, .int x3), (4, .int x4), (6, .int x6)]) hx hb dX4_changesOf_127 hl (by decide) rfl (fun ls hl => ?_)
  refine lv_iinc (v := (x6 + (1 : Int32))) (lv' := [(6, .int (x6 + (1 : Int32))), (5, .int (y0 + (1 : Int32))), (0, .ref h0), (1, .int x1), (2, .int x2), (3, .int x3), (4, .int x4)]) hx hb dX4_changesOf_129 hl (k := 6) rfl rfl (by decide) rfl (fun ls hl => ?_)
  refine lv_goto (tgt := 6) hx hb dX4_changesOf_132 (by decide) ?_
  exact hk6 x1 x2 x3 x4 (y0 + (1 : Int32)) (x6 + (1 : Int32)) _ _ _ (lv_sub hl [2, 3, 4, 5, 6, 1, 0] rfl) hW hf
set_option maxHeartbeats 4000000 in
set_option maxRecDepth 100000 in
theorem wX4_changesOf_6 {q : Int32} {σ : Mst} (FX : CallFix p m c cX4_changesOf 12 s args lw_all RX4) (hr : meth.sig.returnType = (some .int)) (hlk : meth.locks = false) : ∀ n : Nat, ∀ (x1 : Int32) (x2 : Int32) (x3 : Int32) (x4 : Int32) (x5 : Int32) (x6 : Int32) (H : Heap) (locs : List Loc) (ls : Array Slot), lv_has ls 12 [(0, .ref h0), (1, .int x1), (2, .int x2), (3, .int x3), (4, .int x4), (5, .int x5), (6, .int x6)] → Wd D dA A s (Mc dA h0 ad σ) H locs → fX4_changesOf_6 σ n x1 x2 x3 x4 x5 x6 = some q → W p l e rX4_changesOf s m args below meth c H locs 0 0 (QI D dA A below args s 0 0 q (Mc dA h0 ad σ)) (F0 m 6 ls []) := by
  have hx := FX.1; have hb := FX.2.1; have hown := FX.2.2.2.1; have hts := FX.2.2.2.2
  intro n
  induction n with
  | zero =>
    intro x1 x2 x3 x4 x5 x6 H locs ls hl hW hf
    cases (show (none : Option Int32) = some q from hf)
  | succ n ih =>
    intro x1 x2 x3 x4 x5 x6 H locs ls hl hW hf
    rw [fX4_changesOf_6] at hf
    refine lv_iload hx hb dX4_changesOf_6 (lv_at hl 6 rfl) ?_
    refine lv_bipush (v := 6) hx hb dX4_changesOf_8 (by decide) ?_
    refine lv_icmp_ge (tgt := 135) hx hb dX4_changesOf_10 (by decide) (fun c10 => ?_) (fun c10 => ?_)
    · have hf := ifp c10 hf
      refine lv_iload hx hb dX4_changesOf_135 (lv_at hl 5 rfl) ?_
      exact g_iret FX hr hlk hW (Option.some.inj hf) dX4_changesOf_137
    · have hf := ifn c10 hf
      refine lv_aload_n hx hb dX4_changesOf_13 rfl (lv_at hl 0 rfl) ?_
      refine Mg40 FX hW dX4_changesOf_14 ?_
      refine lv_bipush (v := 16) hx hb dX4_changesOf_17 (by decide) ?_
      refine lv_iload_n hx hb dX4_changesOf_19 rfl (lv_at hl 1 rfl) ?_
      refine lv_iadd hx hb dX4_changesOf_20 ?_
      refine g_iald FX hW 24 Mp40 hf dX4_changesOf_21 (fun v1 hf => ?_)
      refine lv_iload hx hb dX4_changesOf_22 (lv_at hl 6 rfl) ?_
      refine lv_ishr hx hb dX4_changesOf_24 ?_
      refine lv_iconst (v := 1) hx hb dX4_changesOf_25 (by decide) ?_
      refine lv_iand hx hb dX4_changesOf_26 ?_
      refine lv_istore (lv' := [(7, .int ((v1 >>> (x6 &&& 31)) &&& (1 : Int32))), (0, .ref h0), (1, .int x1), (2, .int x2), (3, .int x3), (4, .int x4), (5, .int x5), (6, .int x6)]) hx hb dX4_changesOf_27 hl (by decide) rfl (fun ls hl => ?_)
      refine lv_aload_n hx hb dX4_changesOf_29 rfl (lv_at hl 1 rfl) ?_
      refine Mg40 FX hW dX4_changesOf_30 ?_
      refine lv_bipush (v := 16) hx hb dX4_changesOf_33 (by decide) ?_
      refine lv_iload_n hx hb dX4_changesOf_35 rfl (lv_at hl 3 rfl) ?_
      refine lv_iadd hx hb dX4_changesOf_36 ?_
      refine g_iald FX hW 24 Mp40 hf dX4_changesOf_37 (fun v2 hf => ?_)
      refine lv_iload hx hb dX4_changesOf_38 (lv_at hl 7 rfl) ?_
      refine lv_ishr hx hb dX4_changesOf_40 ?_
      refine lv_iconst (v := 1) hx hb dX4_changesOf_41 (by decide) ?_
      refine lv_iand hx hb dX4_changesOf_42 ?_
      refine lv_istore (lv' := [(8, .int ((v2 >>> (x6 &&& 31)) &&& (1 : Int32))), (7, .int ((v1 >>> (x6 &&& 31)) &&& (1 : Int32))), (0, .ref h0), (1, .int x1), (2, .int x2), (3, .int x3), (4, .int x4), (5, .int x5), (6, .int x6)]) hx hb dX4_changesOf_43 hl (by decide) rfl (fun ls hl => ?_)
      refine lv_aload_n hx hb dX4_changesOf_45 rfl (lv_at hl 2 rfl) ?_
      refine Mg40 FX hW dX4_changesOf_46 ?_
      refine lv_bipush (v := 16) hx hb dX4_changesOf_49 (by decide) ?_
      refine lv_iload_n hx hb dX4_changesOf_51 rfl (lv_at hl 5 rfl) ?_
      refine lv_iadd hx hb dX4_changesOf_52 ?_
      refine g_iald FX hW 24 Mp40 hf dX4_changesOf_53 (fun v3 hf => ?_)
      refine lv_iload hx hb dX4_changesOf_54 (lv_at hl 8 rfl) ?_
      refine lv_ishr hx hb dX4_changesOf_56 ?_
      refine lv_iconst (v := 1) hx hb dX4_changesOf_57 (by decide) ?_
      refine lv_iand hx hb dX4_changesOf_58 ?_
      refine lv_istore (lv' := [(9, .int ((v3 >>> (x6 &&& 31)) &&& (1 : Int32))), (8, .int ((v2 >>> (x6 &&& 31)) &&& (1 : Int32))), (7, .int ((v1 >>> (x6 &&& 31)) &&& (1 : Int32))), (0, .ref h0), (1, .int x1), (2, .int x2), (3, .int x3), (4, .int x4), (5, .int x5), (6, .int x6)]) hx hb dX4_changesOf_59 hl (by decide) rfl (fun ls hl => ?_)
      refine lv_aload_n hx hb dX4_changesOf_61 rfl (lv_at hl 3 rfl) ?_
      refine Mg40 FX hW dX4_changesOf_62 ?_
      refine lv_bipush (v := 16) hx hb dX4_changesOf_65 (by decide) ?_
      refine lv_iload hx hb dX4_changesOf_67 (lv_at hl 7 rfl) ?_
      refine lv_iadd hx hb dX4_changesOf_69 ?_
      refine g_iald FX hW 24 Mp40 hf dX4_changesOf_70 (fun v4 hf => ?_)
      refine lv_iload hx hb dX4_changesOf_71 (lv_at hl 9 rfl) ?_
      refine lv_ishr hx hb dX4_changesOf_73 ?_
      refine lv_iconst (v := 1) hx hb dX4_changesOf_74 (by decide) ?_
      refine lv_iand hx hb dX4_changesOf_75 ?_
      refine lv_istore (lv' := [(10, .int ((v4 >>> (x6 &&& 31)) &&& (1 : Int32))), (9, .int ((v3 >>> (x6 &&& 31)) &&& (1 : Int32))), (8, .int ((v2 >>> (x6 &&& 31)) &&& (1 : Int32))), (7, .int ((v1 >>> (x6 &&& 31)) &&& (1 : Int32))), (0, .ref h0), (1, .int x1), (2, .int x2), (3, .int x3), (4, .int x4), (5, .int x5), (6, .int x6)]) hx hb dX4_changesOf_76 hl (by decide) rfl (fun ls hl => ?_)
      refine lv_iload hx hb dX4_changesOf_78 (lv_at hl 3 rfl) ?_
      refine lv_iload hx hb dX4_changesOf_80 (lv_at hl 2 rfl) ?_
      refine lv_iadd hx hb dX4_changesOf_82 ?_
      refine lv_iload hx hb dX4_changesOf_83 (lv_at hl 1 rfl) ?_
      refine lv_iadd hx hb dX4_changesOf_85 ?_
      refine lv_iload hx hb dX4_changesOf_86 (lv_at hl 0 rfl) ?_
      refine lv_iadd hx hb dX4_changesOf_88 ?_
      refine lv_istore (lv' := [(11, .int (((((v1 >>> (x6 &&& 31)) &&& (1 : Int32)) + ((v2 >>> (x6 &&& 31)) &&& (1 : Int32))) + ((v3 >>> (x6 &&& 31)) &&& (1 : Int32))) + ((v4 >>> (x6 &&& 31)) &&& (1 : Int32)))), (10, .int ((v4 >>> (x6 &&& 31)) &&& (1 : Int32))), (9, .int ((v3 >>> (x6 &&& 31)) &&& (1 : Int32))), (8, .int ((v2 >>> (x6 &&& 31)) &&& (1 : Int32))), (7, .int ((v1 >>> (x6 &&& 31)) &&& (1 : Int32))), (0, .ref h0), (1, .int x1), (2, .int x2), (3, .int x3), (4, .int x4), (5, .int x5), (6, .int x6)]) hx hb dX4_changesOf_89 hl (by decide) rfl (fun ls hl => ?_)
      refine lv_iload hx hb dX4_changesOf_91 (lv_at hl 10 rfl) ?_
      refine lv_iload hx hb dX4_changesOf_93 (lv_at hl 0 rfl) ?_
      refine lv_if_eq (tgt := 104) hx hb dX4_changesOf_95 (by decide) (fun c95 => ?_) (fun c95 => ?_)
      · have hf := ifp c95 hf
        exact wX4_changesOf_104 FX hr hlk (ih) x1 x2 x3 x4 x6 x5 _ _ _ (lv_sub hl [5, 6, 7, 8, 9, 11] rfl) hW hf
      · have hf := ifn c95 hf
        refine lv_iload hx hb dX4_changesOf_98 (lv_at hl 0 rfl) ?_
        refine lv_iconst (v := 4) hx hb dX4_changesOf_100 (by decide) ?_
        refine lv_icmp_ne (tgt := 108) hx hb dX4_changesOf_101 (by decide) (fun c101 => ?_) (fun c101 => ?_)
        · have hf := ifn c101 hf
          refine lv_iload hx hb dX4_changesOf_108 (lv_at hl 0 rfl) ?_
          refine lv_iconst (v := 2) hx hb dX4_changesOf_110 (by decide) ?_
          refine lv_icmp_ne (tgt := 125) hx hb dX4_changesOf_111 (by decide) (fun c111 => ?_) (fun c111 => ?_)
          · have hf := ifn c111 hf
            exact wX4_changesOf_125 FX hr hlk (ih) x1 x2 x3 x4 x6 x5 _ _ _ (lv_sub hl [5, 6, 7, 8, 9, 11] rfl) hW hf
          · have hf := ifp c111 hf
            refine lv_iload hx hb dX4_changesOf_114 (lv_at hl 4 rfl) ?_
            refine lv_iload hx hb dX4_changesOf_116 (lv_at hl 3 rfl) ?_
            refine lv_icmp_eq (tgt := 125) hx hb dX4_changesOf_118 (by decide) (fun c118 => ?_) (fun c118 => ?_)
            · have hf := ifp c118 hf
              exact wX4_changesOf_125 FX hr hlk (ih) x1 x2 x3 x4 x6 x5 _ _ _ (lv_sub hl [5, 6, 7, 8, 9, 11] rfl) hW hf
            · have hf := ifn c118 hf
              refine lv_iconst (v := 2) hx hb dX4_changesOf_121 (by decide) ?_
              refine lv_goto (tgt := 126) hx hb dX4_changesOf_122 (by decide) ?_
              refine lv_iadd hx hb dX4_changesOf_126 ?_
              refine lv_istore (lv' := [(5, .int (x5 + (2 : Int32))), (11, .int (((((v1 >>> (x6 &&& 31)) &&& (1 : Int32)) + ((v2 >>> (x6 &&& 31)) &&& (1 : Int32))) + ((v3 >>> (x6 &&& 31)) &&& (1 : Int32))) + ((v4 >>> (x6 &&& 31)) &&& (1 : Int32)))), (10, .int ((v4 >>> (x6 &&& 31)) &&& (1 : Int32))), (9, .int ((v3 >>> (x6 &&& 31)) &&& (1 : Int32))), (8, .int ((v2 >>> (x6 &&& 31)) &&& (1 : Int32))), (7, .int ((v1 >>> (x6 &&& 31)) &&& (1 : Int32))), (0, .ref h0), (1, .int x1), (2, .int x2), (3, .int x3), (4, .int x4), (6, .int x6)]) hx hb dX4_changesOf_127 hl (by decide) rfl (fun ls hl => ?_)
              refine lv_iinc (v := (x6 + (1 : Int32))) (lv' := [(6, .int (x6 + (1 : Int32))), (5, .int (x5 + (2 : Int32))), (11, .int (((((v1 >>> (x6 &&& 31)) &&& (1 : Int32)) + ((v2 >>> (x6 &&& 31)) &&& (1 : Int32))) + ((v3 >>> (x6 &&& 31)) &&& (1 : Int32))) + ((v4 >>> (x6 &&& 31)) &&& (1 : Int32)))), (10, .int ((v4 >>> (x6 &&& 31)) &&& (1 : Int32))), (9, .int ((v3 >>> (x6 &&& 31)) &&& (1 : Int32))), (8, .int ((v2 >>> (x6 &&& 31)) &&& (1 : Int32))), (7, .int ((v1 >>> (x6 &&& 31)) &&& (1 : Int32))), (0, .ref h0), (1, .int x1), (2, .int x2), (3, .int x3), (4, .int x4)]) hx hb dX4_changesOf_129 hl (k := 11) rfl rfl (by decide) rfl (fun ls hl => ?_)
              refine lv_goto (tgt := 6) hx hb dX4_changesOf_132 (by decide) ?_
              exact ih x1 x2 x3 x4 (x5 + (2 : Int32)) (x6 + (1 : Int32)) _ _ _ (lv_sub hl [7, 8, 9, 10, 11, 1, 0] rfl) hW hf
        · have hf := ifp c101 hf
          exact wX4_changesOf_104 FX hr hlk (ih) x1 x2 x3 x4 x6 x5 _ _ _ (lv_sub hl [5, 6, 7, 8, 9, 11] rfl) hW hf
set_option maxHeartbeats 4000000 in
set_option maxRecDepth 100000 in
theorem mX4_changesOf  {x1 : Int32} {x2 : Int32} {x3 : Int32} {x4 : Int32} {σ : Mst} {q : Int32} (hf : fX4_changesOf x1 x2 x3 x4 σ = some q) : CtI l yX4_changesOf cX4_changesOf 12 (some .int) rX4_changesOf D dA [.ref h0, .int x1, .int x2, .int x3, .int x4] (Mc dA h0 ad σ) q (Mc dA h0 ad σ) := by
  refine e_I (by decide) (Nat.le_of_ble_eq_true rfl) ?_
  intro p e s m below meth c ls A FX hr hlk hl hW
  have hx := FX.1; have hb := FX.2.1; have hown := FX.2.2.2.1; have hts := FX.2.2.2.2
  have hl : lv_has ls 12 [(0, .ref h0), (1, .int x1), (2, .int x2), (3, .int x3), (4, .int x4)] := hl
  rw [fX4_changesOf] at hf
  refine lv_iconst (v := 0) hx hb dX4_changesOf_0 (by decide) ?_
  refine lv_istore (lv' := [(5, .int (0 : Int32)), (0, .ref h0), (1, .int x1), (2, .int x2), (3, .int x3), (4, .int x4)]) hx hb dX4_changesOf_1 hl (by decide) rfl (fun ls hl => ?_)
  refine lv_iconst (v := 0) hx hb dX4_changesOf_3 (by decide) ?_
  refine lv_istore (lv' := [(6, .int (0 : Int32)), (5, .int (0 : Int32)), (0, .ref h0), (1, .int x1), (2, .int x2), (3, .int x3), (4, .int x4)]) hx hb dX4_changesOf_4 hl (by decide) rfl (fun ls hl => ?_)
  exact wX4_changesOf_6 FX hr hlk _ x1 x2 x3 x4 (0 : Int32) (0 : Int32) _ _ _ (lv_sub hl [2, 3, 4, 5, 6, 1, 0] rfl) hW hf
set_option maxHeartbeats 4000000 in
set_option maxRecDepth 100000 in
theorem kX4_changesOf {α : Type} {q : α} {k : Int32 → Option α} {x1 : Int32} {x2 : Int32} {x3 : Int32} {x4 : Int32} {σ : Mst} (FX : CallFix p m c cc nL s args lw_all RX4) (hR : rX4_changesOf.frames + 1 ≤ R.frames ∧ 8 + (12 + 11) + rX4_changesOf.locals ≤ R.locals) (hcs : cells ≤ R.cells ∧ slots ≤ R.slots) (hl : ls.size = nL) (hrm : (rest.map fun v => v.category).sum ≤ 8) (hW : Wd D dA A s (Mc dA h0 ad σ) H locs) (hf : (fX4_changesOf x1 x2 x3 x4 σ).bind k = some q) (hdg : decode cc pc = .ok (.invokevirtual 463, 3)) (kk : ∀ (r : Int32) (H1 : Heap) (locs1 : List Loc), Wd D dA A s (Mc dA h0 ad σ) H1 locs1 → k r = some q → W p l e R s m args below meth c H1 locs1 cells slots Q (F0 m (pc + 3) ls (.int r :: rest))) : W p l e R s m args below meth c H locs cells slots Q (F0 m pc ls (.int x4 :: .int x3 :: .int x2 :: .int x1 :: .ref h0 :: rest)) := by
  obtain ⟨r1, h1, hf⟩ := bnd hf
  refine w_Vi (C := RX4) (As := [.int x1, .int x2, .int x3, .int x4]) (rest := rest) (n := 4) (wr := []) FX (mX4_changesOf h1) (cwV 4 FX.2.2.2.2 (lw_V q2162 q2164 qs115 q132 q2165) rfl rfl rfl (by decide +kernel) hR) (va_recv hW.2.2.2.1 hW.1 (ci := 4) (q0 := 0) rfl rfl) rfl hl rfl hrm ⟨Nat.le_trans (Nat.le_of_eq (Nat.add_zero cells)) hcs.1, Nat.le_trans (Nat.le_of_eq (Nat.add_zero slots)) hcs.2⟩ hdg hW.nil ?_
  exact fun H1 locs1 hW1 => kk r1 H1 locs1 hW1.nil' hf
end M00
