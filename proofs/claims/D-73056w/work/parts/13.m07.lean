section M07
variable {p : Program} {l : Launch} {e : Env} {R : Room} {s : State} {m : MethodId} {args : Array Value} {below : List Frame} {meth : Method} {c : Code} {H : Heap} {locs : List Loc} {cells slots : Nat} {Q : State → Prop}
variable {cc : ByteArray} {pc nL : Nat} {ls : Array Slot} {rest : List Value} {D : va_G} {dA : Nat → ClassId} {A : Nat → Prop} {h0 : Nat} {ad : Nat → Nat}
/-! TrunkLittersModel.youngOf(I)I: kind R -/
def fX4_youngOf (x1 : Int32) (σ : Mst) : Option Int32 := ald 59 (gA σ 40) ((0 : Int32) + (x1 / (8 : Int32))) fun v1 => ald 59 (gA σ 40) ((0 : Int32) + (x1 - x1 / (8 : Int32) * (8 : Int32))) fun v2 => (if (1 : Int32) ≤ ((v1 + v2) / (4 : Int32)) then some ((v1 + v2) / (4 : Int32)) else some (1 : Int32))
abbrev rX4_youngOf : Room := { frames := 0, cells := 0, slots := 0, locals := 0 }
set_option maxHeartbeats 4000000 in
set_option maxRecDepth 100000 in
theorem mX4_youngOf  {x1 : Int32} {σ : Mst} {q : Int32} (hf : fX4_youngOf x1 σ = some q) : CtI l yX4_youngOf cX4_youngOf 3 (some .int) rX4_youngOf D dA [.ref h0, .int x1] (Mc dA h0 ad σ) q (Mc dA h0 ad σ) := by
  refine e_I (by decide) (Nat.le_of_ble_eq_true rfl) ?_
  intro p e s m below meth c ls A FX hr hlk hl hW
  have hx := FX.1; have hb := FX.2.1; have hown := FX.2.2.2.1; have hts := FX.2.2.2.2
  have hl : lv_has ls 3 [(0, .ref h0), (1, .int x1)] := hl
  rw [fX4_youngOf] at hf
  refine lv_aload_n hx hb dX4_youngOf_0 rfl (lv_at hl 0 rfl) ?_
  refine Mg40 FX hW dX4_youngOf_1 ?_
  refine lv_iconst (v := 0) hx hb dX4_youngOf_4 (by decide) ?_
  refine lv_iload_n hx hb dX4_youngOf_5 rfl (lv_at hl 1 rfl) ?_
  refine lv_bipush (v := 8) hx hb dX4_youngOf_6 (by decide) ?_
  refine lv_idiv hx hb dX4_youngOf_8 (by decide) ?_
  refine lv_iadd hx hb dX4_youngOf_9 ?_
  refine g_iald FX hW 24 Mp40 hf dX4_youngOf_10 (fun v1 hf => ?_)
  refine lv_aload_n hx hb dX4_youngOf_11 rfl (lv_at hl 0 rfl) ?_
  refine Mg40 FX hW dX4_youngOf_12 ?_
  refine lv_iconst (v := 0) hx hb dX4_youngOf_15 (by decide) ?_
  refine lv_iload_n hx hb dX4_youngOf_16 rfl (lv_at hl 1 rfl) ?_
  refine lv_bipush (v := 8) hx hb dX4_youngOf_17 (by decide) ?_
  refine lv_irem hx hb dX4_youngOf_19 (by decide) ?_
  refine lv_iadd hx hb dX4_youngOf_20 ?_
  refine g_iald FX hW 24 Mp40 hf dX4_youngOf_21 (fun v2 hf => ?_)
  refine lv_iadd hx hb dX4_youngOf_22 ?_
  refine lv_iconst (v := 4) hx hb dX4_youngOf_23 (by decide) ?_
  refine lv_idiv hx hb dX4_youngOf_24 (by decide) ?_
  refine lv_istore_n (lv' := [(2, .int ((v1 + v2) / (4 : Int32))), (0, .ref h0), (1, .int x1)]) hx hb dX4_youngOf_25 rfl hl (by decide) rfl (fun ls hl => ?_)
  refine lv_iload_n hx hb dX4_youngOf_26 rfl (lv_at hl 0 rfl) ?_
  refine lv_iconst (v := 1) hx hb dX4_youngOf_27 (by decide) ?_
  refine lv_icmp_ge (tgt := 35) hx hb dX4_youngOf_28 (by decide) (fun c28 => ?_) (fun c28 => ?_)
  · have hf := ifp c28 hf
    refine lv_iload_n hx hb dX4_youngOf_35 rfl (lv_at hl 0 rfl) ?_
    exact g_iret FX hr hlk hW (Option.some.inj hf) dX4_youngOf_36
  · have hf := ifn c28 hf
    refine lv_iconst (v := 1) hx hb dX4_youngOf_31 (by decide) ?_
    refine lv_goto (tgt := 36) hx hb dX4_youngOf_32 (by decide) ?_
    exact g_iret FX hr hlk hW (Option.some.inj hf) dX4_youngOf_36
set_option maxHeartbeats 4000000 in
set_option maxRecDepth 100000 in
theorem kX4_youngOf {α : Type} {q : α} {k : Int32 → Option α} {x1 : Int32} {σ : Mst} (FX : CallFix p m c cc nL s args lw_all RX4) (hR : rX4_youngOf.frames + 1 ≤ R.frames ∧ 8 + (3 + 11) + rX4_youngOf.locals ≤ R.locals) (hcs : cells ≤ R.cells ∧ slots ≤ R.slots) (hl : ls.size = nL) (hrm : (rest.map fun v => v.category).sum ≤ 8) (hW : Wd D dA A s (Mc dA h0 ad σ) H locs) (hf : (fX4_youngOf x1 σ).bind k = some q) (hdg : decode cc pc = .ok (.invokevirtual 390, 3)) (kk : ∀ (r : Int32) (H1 : Heap) (locs1 : List Loc), Wd D dA A s (Mc dA h0 ad σ) H1 locs1 → k r = some q → W p l e R s m args below meth c H1 locs1 cells slots Q (F0 m (pc + 3) ls (.int r :: rest))) : W p l e R s m args below meth c H locs cells slots Q (F0 m pc ls (.int x1 :: .ref h0 :: rest)) := by
  obtain ⟨r1, h1, hf⟩ := bnd hf
  refine w_Vi (C := RX4) (As := [.int x1]) (rest := rest) (n := 1) (wr := []) FX (mX4_youngOf h1) (cwV 1 FX.2.2.2.2 (lw_V q1985 q1987 qs97 q132 q1988) rfl rfl rfl (by decide +kernel) hR) (va_recv hW.2.2.2.1 hW.1 (ci := 4) (q0 := 0) rfl rfl) rfl hl rfl hrm ⟨Nat.le_trans (Nat.le_of_eq (Nat.add_zero cells)) hcs.1, Nat.le_trans (Nat.le_of_eq (Nat.add_zero slots)) hcs.2⟩ hdg hW.nil ?_
  exact fun H1 locs1 hW1 => kk r1 H1 locs1 hW1.nil' hf
/-! TrunkLittersModel.freePlace()I: kind R -/
def fX4_freePlace_2 (σ : Mst) : Nat → Int32 → Option Int32
  | 0, _ => none
  | n + 1, x1 => (if (8 : Int32) ≤ x1 then some (-1 : Int32) else ald 59 (gA σ 40) ((0 : Int32) + x1) fun v1 => (if v1 = 0 then some x1 else fX4_freePlace_2 σ n (x1 + (1 : Int32))))
def fX4_freePlace (σ : Mst) : Option Int32 := fX4_freePlace_2 σ FU (0 : Int32)
abbrev rX4_freePlace : Room := { frames := 0, cells := 0, slots := 0, locals := 0 }
set_option maxHeartbeats 4000000 in
set_option maxRecDepth 100000 in
theorem wX4_freePlace_2 {q : Int32} {σ : Mst} (FX : CallFix p m c cX4_freePlace 2 s args lw_all RX4) (hr : meth.sig.returnType = (some .int)) (hlk : meth.locks = false) : ∀ n : Nat, ∀ (x1 : Int32) (H : Heap) (locs : List Loc) (ls : Array Slot), lv_has ls 2 [(0, .ref h0), (1, .int x1)] → Wd D dA A s (Mc dA h0 ad σ) H locs → fX4_freePlace_2 σ n x1 = some q → W p l e rX4_freePlace s m args below meth c H locs 0 0 (QI D dA A below args s 0 0 q (Mc dA h0 ad σ)) (F0 m 2 ls []) := by
  have hx := FX.1; have hb := FX.2.1; have hown := FX.2.2.2.1; have hts := FX.2.2.2.2
  intro n
  induction n with
  | zero =>
    intro x1 H locs ls hl hW hf
    cases (show (none : Option Int32) = some q from hf)
  | succ n ih =>
    intro x1 H locs ls hl hW hf
    rw [fX4_freePlace_2] at hf
    refine lv_iload_n hx hb dX4_freePlace_2 rfl (lv_at hl 1 rfl) ?_
    refine lv_bipush (v := 8) hx hb dX4_freePlace_3 (by decide) ?_
    refine lv_icmp_ge (tgt := 27) hx hb dX4_freePlace_5 (by decide) (fun c5 => ?_) (fun c5 => ?_)
    · have hf := ifp c5 hf
      refine lv_iconst (v := -1) hx hb dX4_freePlace_27 (by decide) ?_
      exact g_iret FX hr hlk hW (Option.some.inj hf) dX4_freePlace_28
    · have hf := ifn c5 hf
      refine lv_aload_n hx hb dX4_freePlace_8 rfl (lv_at hl 0 rfl) ?_
      refine Mg40 FX hW dX4_freePlace_9 ?_
      refine lv_iconst (v := 0) hx hb dX4_freePlace_12 (by decide) ?_
      refine lv_iload_n hx hb dX4_freePlace_13 rfl (lv_at hl 1 rfl) ?_
      refine lv_iadd hx hb dX4_freePlace_14 ?_
      refine g_iald FX hW 24 Mp40 hf dX4_freePlace_15 (fun v1 hf => ?_)
      refine lv_if_ne (tgt := 21) hx hb dX4_freePlace_16 (by decide) (fun c16 => ?_) (fun c16 => ?_)
      · have hf := ifn c16 hf
        refine lv_iinc (v := (x1 + (1 : Int32))) (lv' := [(1, .int (x1 + (1 : Int32))), (0, .ref h0)]) hx hb dX4_freePlace_21 hl (k := 1) rfl rfl (by decide) rfl (fun ls hl => ?_)
        refine lv_goto (tgt := 2) hx hb dX4_freePlace_24 (by decide) ?_
        exact ih (x1 + (1 : Int32)) _ _ _ (lv_sub hl [1, 0] rfl) hW hf
      · have hf := ifp c16 hf
        refine lv_iload_n hx hb dX4_freePlace_19 rfl (lv_at hl 1 rfl) ?_
        exact g_iret FX hr hlk hW (Option.some.inj hf) dX4_freePlace_20
set_option maxHeartbeats 4000000 in
set_option maxRecDepth 100000 in
theorem mX4_freePlace  {σ : Mst} {q : Int32} (hf : fX4_freePlace σ = some q) : CtI l yX4_freePlace cX4_freePlace 2 (some .int) rX4_freePlace D dA [.ref h0] (Mc dA h0 ad σ) q (Mc dA h0 ad σ) := by
  refine e_I (by decide) (Nat.le_of_ble_eq_true rfl) ?_
  intro p e s m below meth c ls A FX hr hlk hl hW
  have hx := FX.1; have hb := FX.2.1; have hown := FX.2.2.2.1; have hts := FX.2.2.2.2
  have hl : lv_has ls 2 [(0, .ref h0)] := hl
  rw [fX4_freePlace] at hf
  refine lv_iconst (v := 0) hx hb dX4_freePlace_0 (by decide) ?_
  refine lv_istore_n (lv' := [(1, .int (0 : Int32)), (0, .ref h0)]) hx hb dX4_freePlace_1 rfl hl (by decide) rfl (fun ls hl => ?_)
  exact wX4_freePlace_2 FX hr hlk _ (0 : Int32) _ _ _ (lv_sub hl [1, 0] rfl) hW hf
set_option maxHeartbeats 4000000 in
set_option maxRecDepth 100000 in
theorem kX4_freePlace {α : Type} {q : α} {k : Int32 → Option α} {σ : Mst} (FX : CallFix p m c cc nL s args lw_all RX4) (hR : rX4_freePlace.frames + 1 ≤ R.frames ∧ 8 + (2 + 11) + rX4_freePlace.locals ≤ R.locals) (hcs : cells ≤ R.cells ∧ slots ≤ R.slots) (hl : ls.size = nL) (hrm : (rest.map fun v => v.category).sum ≤ 8) (hW : Wd D dA A s (Mc dA h0 ad σ) H locs) (hf : (fX4_freePlace σ).bind k = some q) (hdg : decode cc pc = .ok (.invokevirtual 384, 3)) (kk : ∀ (r : Int32) (H1 : Heap) (locs1 : List Loc), Wd D dA A s (Mc dA h0 ad σ) H1 locs1 → k r = some q → W p l e R s m args below meth c H1 locs1 cells slots Q (F0 m (pc + 3) ls (.int r :: rest))) : W p l e R s m args below meth c H locs cells slots Q (F0 m pc ls (.ref h0 :: rest)) := by
  obtain ⟨r1, h1, hf⟩ := bnd hf
  refine w_Vi (C := RX4) (As := []) (rest := rest) (n := 0) (wr := []) FX (mX4_freePlace h1) (cwV 0 FX.2.2.2.2 (lw_V q1981 q1983 qs96 q132 q1984) rfl rfl rfl (by decide +kernel) hR) (va_recv hW.2.2.2.1 hW.1 (ci := 4) (q0 := 0) rfl rfl) rfl hl rfl hrm ⟨Nat.le_trans (Nat.le_of_eq (Nat.add_zero cells)) hcs.1, Nat.le_trans (Nat.le_of_eq (Nat.add_zero slots)) hcs.2⟩ hdg hW.nil ?_
  exact fun H1 locs1 hW1 => kk r1 H1 locs1 hW1.nil' hf
/-! TrunkLittersModel.isRipe(I)Z: kind W -/
def fX4_isRipe (x1 : Int32) (σ : Mst) : Option (Int32 × Mst) := (fX4_coupleOf x1 σ).bind fun r1 => (if r1 < 0 then some ((0 : Int32), σ) else (fX4_freePlace σ).bind fun r2 => (if r2 < 0 then some ((0 : Int32), σ) else bnd2 (fX4_broodOf (r1 / (8 : Int32)) (r1 - r1 / (8 : Int32) * (8 : Int32)) σ) fun r3 s4 => (if r3 ≤ 0 then some ((0 : Int32), s4) else (fX4_youngOf r1 s4).bind fun r5 => (fX4_leftIn x1 s4).bind fun r6 => (if r6 < r5 then some ((0 : Int32), s4) else some ((1 : Int32), s4)))))
abbrev rX4_isRipe : Room := { frames := 6, cells := 0, slots := 0, locals := 132 }
set_option maxHeartbeats 4000000 in
set_option maxRecDepth 100000 in
theorem mX4_isRipe  {x1 : Int32} {σ : Mst} {q : (Int32 × Mst)} (hf : fX4_isRipe x1 σ = some q) : CtI l yX4_isRipe cX4_isRipe 3 (some .boolean) rX4_isRipe D dA [.ref h0, .int x1] (Mc dA h0 ad σ) q.1 (Mc dA h0 ad q.2) := by
  refine e_I (by decide) (Nat.le_of_ble_eq_true rfl) ?_
  intro p e s m below meth c ls A FX hr hlk hl hW
  have hx := FX.1; have hb := FX.2.1; have hown := FX.2.2.2.1; have hts := FX.2.2.2.2
  have hl : lv_has ls 3 [(0, .ref h0), (1, .int x1)] := hl
  rw [fX4_isRipe] at hf
  refine lv_aload_n hx hb dX4_isRipe_0 rfl (lv_at hl 0 rfl) ?_
  refine lv_iload_n hx hb dX4_isRipe_1 rfl (lv_at hl 1 rfl) ?_
  refine kX4_coupleOf FX ⟨Nat.le_of_ble_eq_true rfl, Nat.le_of_ble_eq_true rfl⟩ ⟨Nat.zero_le _, Nat.zero_le _⟩ hl.1 (Nat.le_of_ble_eq_true rfl) hW hf dX4_isRipe_2 (fun r1 H locs hW hf => ?_)
  refine lv_istore_n (lv' := [(2, .int r1), (0, .ref h0), (1, .int x1)]) hx hb dX4_isRipe_5 rfl hl (by decide) rfl (fun ls hl => ?_)
  refine lv_iload_n hx hb dX4_isRipe_6 rfl (lv_at hl 0 rfl) ?_
  refine lv_if_lt (tgt := 49) hx hb dX4_isRipe_7 (by decide) (fun c7 => ?_) (fun c7 => ?_)
  · have hf := ifp c7 hf
    refine lv_iconst (v := 0) hx hb dX4_isRipe_49 (by decide) ?_
    obtain rfl := Option.some.inj hf
    exact g_zret FX hr hlk hW rfl rfl dX4_isRipe_50
  · have hf := ifn c7 hf
    refine lv_aload_n hx hb dX4_isRipe_10 rfl (lv_at hl 1 rfl) ?_
    refine kX4_freePlace FX ⟨Nat.le_of_ble_eq_true rfl, Nat.le_of_ble_eq_true rfl⟩ ⟨Nat.zero_le _, Nat.zero_le _⟩ hl.1 (Nat.le_of_ble_eq_true rfl) hW hf dX4_isRipe_11 (fun r2 H locs hW hf => ?_)
    refine lv_if_lt (tgt := 49) hx hb dX4_isRipe_14 (by decide) (fun c14 => ?_) (fun c14 => ?_)
    · have hf := ifp c14 hf
      refine lv_iconst (v := 0) hx hb dX4_isRipe_49 (by decide) ?_
      obtain rfl := Option.some.inj hf
      exact g_zret FX hr hlk hW rfl rfl dX4_isRipe_50
    · have hf := ifn c14 hf
      refine lv_aload_n hx hb dX4_isRipe_17 rfl (lv_at hl 1 rfl) ?_
      refine lv_iload_n hx hb dX4_isRipe_18 rfl (lv_at hl 0 rfl) ?_
      refine lv_bipush (v := 8) hx hb dX4_isRipe_19 (by decide) ?_
      refine lv_idiv hx hb dX4_isRipe_21 (by decide) ?_
      refine lv_iload_n hx hb dX4_isRipe_22 rfl (lv_at hl 0 rfl) ?_
      refine lv_bipush (v := 8) hx hb dX4_isRipe_23 (by decide) ?_
      refine lv_irem hx hb dX4_isRipe_25 (by decide) ?_
      refine kX4_broodOf FX ⟨Nat.le_of_ble_eq_true rfl, Nat.le_of_ble_eq_true rfl⟩ ⟨Nat.zero_le _, Nat.zero_le _⟩ hl.1 (Nat.le_of_ble_eq_true rfl) hW hf dX4_isRipe_26 (fun r3 s4 H locs hW hf => ?_)
      refine lv_if_le (tgt := 49) hx hb dX4_isRipe_29 (by decide) (fun c29 => ?_) (fun c29 => ?_)
      · have hf := ifp c29 hf
        refine lv_iconst (v := 0) hx hb dX4_isRipe_49 (by decide) ?_
        obtain rfl := Option.some.inj hf
        exact g_zret FX hr hlk hW rfl rfl dX4_isRipe_50
      · have hf := ifn c29 hf
        refine lv_aload_n hx hb dX4_isRipe_32 rfl (lv_at hl 1 rfl) ?_
        refine lv_iload_n hx hb dX4_isRipe_33 rfl (lv_at hl 0 rfl) ?_
        refine kX4_youngOf FX ⟨Nat.le_of_ble_eq_true rfl, Nat.le_of_ble_eq_true rfl⟩ ⟨Nat.zero_le _, Nat.zero_le _⟩ hl.1 (Nat.le_of_ble_eq_true rfl) hW hf dX4_isRipe_34 (fun r5 H locs hW hf => ?_)
        refine lv_aload_n hx hb dX4_isRipe_37 rfl (lv_at hl 1 rfl) ?_
        refine lv_iload_n hx hb dX4_isRipe_38 rfl (lv_at hl 2 rfl) ?_
        refine kX4_leftIn FX ⟨Nat.le_of_ble_eq_true rfl, Nat.le_of_ble_eq_true rfl⟩ ⟨Nat.zero_le _, Nat.zero_le _⟩ hl.1 (Nat.le_of_ble_eq_true rfl) hW hf dX4_isRipe_39 (fun r6 H locs hW hf => ?_)
        refine lv_icmp_gt (tgt := 49) hx hb dX4_isRipe_42 (by decide) (fun c42 => ?_) (fun c42 => ?_)
        · have hf := ifp c42 hf
          refine lv_iconst (v := 0) hx hb dX4_isRipe_49 (by decide) ?_
          obtain rfl := Option.some.inj hf
          exact g_zret FX hr hlk hW rfl rfl dX4_isRipe_50
        · have hf := ifn c42 hf
          refine lv_iconst (v := 1) hx hb dX4_isRipe_45 (by decide) ?_
          refine lv_goto (tgt := 50) hx hb dX4_isRipe_46 (by decide) ?_
          obtain rfl := Option.some.inj hf
          exact g_zret FX hr hlk hW rfl rfl dX4_isRipe_50
set_option maxHeartbeats 4000000 in
set_option maxRecDepth 100000 in
theorem kX4_isRipe {α : Type} {q : α} {k : Int32 → Mst → Option α} {x1 : Int32} {σ : Mst} (FX : CallFix p m c cc nL s args lw_all RX4) (hR : rX4_isRipe.frames + 1 ≤ R.frames ∧ 8 + (3 + 11) + rX4_isRipe.locals ≤ R.locals) (hcs : cells ≤ R.cells ∧ slots ≤ R.slots) (hl : ls.size = nL) (hrm : (rest.map fun v => v.category).sum ≤ 8) (hW : Wd D dA A s (Mc dA h0 ad σ) H locs) (hf : bnd2 (fX4_isRipe x1 σ) k = some q) (hdg : decode cc pc = .ok (.invokevirtual 399, 3)) (kk : ∀ (r : Int32) (σ1 : Mst) (H1 : Heap) (locs1 : List Loc), Wd D dA A s (Mc dA h0 ad σ1) H1 locs1 → k r σ1 = some q → W p l e R s m args below meth c H1 locs1 cells slots Q (F0 m (pc + 3) ls (.int r :: rest))) : W p l e R s m args below meth c H locs cells slots Q (F0 m pc ls (.int x1 :: .ref h0 :: rest)) := by
  obtain ⟨r1, h1, hf⟩ := bnd (bnd2_eq hf)
  refine w_Vi (C := RX4) (As := [.int x1]) (rest := rest) (n := 1) (wr := []) FX (mX4_isRipe h1) (cwV 1 FX.2.2.2.2 (lw_V q1977 q1979 qs95 q132 q1980) rfl rfl rfl (by decide +kernel) hR) (va_recv hW.2.2.2.1 hW.1 (ci := 4) (q0 := 0) rfl rfl) rfl hl rfl hrm ⟨Nat.le_trans (Nat.le_of_eq (Nat.add_zero cells)) hcs.1, Nat.le_trans (Nat.le_of_eq (Nat.add_zero slots)) hcs.2⟩ hdg hW.nil ?_
  exact fun H1 locs1 hW1 => kk r1.1 r1.2 H1 locs1 hW1.nil' hf
/-! TrunkLittersModel.bringForth(I)V: kind W -/
def fX4_bringForth_90 (k54 : Int32 → Int32 → Int32 → Int32 → Int32 → Int32 → Int32 → Mst → Option Mst) (x1 : Int32) (x2 : Int32) (x3 : Int32) (x4 : Int32) (x5 : Int32) (x7 : Int32) (y0 : Int32) (y2 : Int32) (y3 : Int32) (σ : Mst) : Option Mst := ald 59 (gA σ 40) (y2 + y3) fun v1 => k54 x1 x2 x3 x4 x5 (y0 ||| (v1 &&& ((1 : Int32) <<< (x7 &&& 31)))) (x7 + (1 : Int32)) σ
def fX4_bringForth_54 : Nat → Int32 → Int32 → Int32 → Int32 → Int32 → Int32 → Int32 → Mst → Option Mst
  | 0, _, _, _, _, _, _, _, _ => none
  | n + 1, x1, x2, x3, x4, x5, x6, x7, σ => (if (6 : Int32) ≤ x7 then (fX4_youngOf x2 σ).bind fun r1 => ast 59 ((0 : Int32) + x5) (stp (sA σ 40 ((0 : Int32) + x5) r1) fun s2 => ast 59 ((8 : Int32) + x5) (stp (sA s2 40 ((8 : Int32) + x5) x1) fun s3 => ast 59 ((16 : Int32) + x5) (stp (sA s3 40 ((16 : Int32) + x5) x6) fun s4 => ast 59 ((24 : Int32) + x5) (stp (sA s4 40 ((24 : Int32) + x5) (0 : Int32)) fun s5 => ast 59 ((32 : Int32) + x5) (stp (sA s5 40 ((32 : Int32) + x5) (0 : Int32)) fun s6 => ast 59 ((40 : Int32) + x5) (stp (sA s6 40 ((40 : Int32) + x5) x3) fun s7 => ast 59 ((48 : Int32) + x5) (stp (sA s7 40 ((48 : Int32) + x5) x4) fun s8 => some s8))))))) else ald 59 (gA σ 40) (58 : Int32) fun v9 => (fX4_bit v9 x7).bind fun r10 => (if r10 = 0 then fX4_bringForth_90 (fX4_bringForth_54 n) x1 x2 x3 x4 x5 x7 x6 (16 : Int32) x4 σ else fX4_bringForth_90 (fX4_bringForth_54 n) x1 x2 x3 x4 x5 x7 x6 (16 : Int32) x3 σ))
def fX4_bringForth (x1 : Int32) (σ : Mst) : Option Mst := (fX4_coupleOf x1 σ).bind fun r1 => (fX4_freePlace σ).bind fun r2 => ald 59 (gA σ 40) (58 : Int32) fun v3 => ast 59 (58 : Int32) (stp (sA σ 40 (58 : Int32) ((((137 : Int32) * v3) + (71 : Int32)) - (((137 : Int32) * v3) + (71 : Int32)) / (1000 : Int32) * (1000 : Int32))) fun s4 => fX4_bringForth_54 FU x1 r1 (r1 / (8 : Int32)) (r1 - r1 / (8 : Int32) * (8 : Int32)) r2 (0 : Int32) (0 : Int32) s4)
abbrev rX4_bringForth : Room := { frames := 3, cells := 0, slots := 0, locals := 67 }
set_option maxHeartbeats 4000000 in
set_option maxRecDepth 100000 in
theorem wX4_bringForth_90 {q : Mst} (FX : CallFix p m c cX4_bringForth 8 s args lw_all RX4) (hr : meth.sig.returnType = none) (hlk : meth.locks = false) {k54 : Int32 → Int32 → Int32 → Int32 → Int32 → Int32 → Int32 → Mst → Option Mst} (hk54 : ∀ (x1 : Int32) (x2 : Int32) (x3 : Int32) (x4 : Int32) (x5 : Int32) (x6 : Int32) (x7 : Int32) (σ : Mst) (H : Heap) (locs : List Loc) (ls : Array Slot), lv_has ls 8 [(0, .ref h0), (1, .int x1), (2, .int x2), (3, .int x3), (4, .int x4), (5, .int x5), (6, .int x6), (7, .int x7)] → Wd D dA A s (Mc dA h0 ad σ) H locs → k54 x1 x2 x3 x4 x5 x6 x7 σ = some q → W p l e rX4_bringForth s m args below meth c H locs 0 0 (QV D dA A below args s 0 0 (Mc dA h0 ad q)) (F0 m 54 ls [])) : ∀ (x1 : Int32) (x2 : Int32) (x3 : Int32) (x4 : Int32) (x5 : Int32) (x7 : Int32) (y0 : Int32) (y2 : Int32) (y3 : Int32) (σ : Mst) (H : Heap) (locs : List Loc) (ls : Array Slot), lv_has ls 8 [(0, .ref h0), (1, .int x1), (2, .int x2), (3, .int x3), (4, .int x4), (5, .int x5), (7, .int x7)] → Wd D dA A s (Mc dA h0 ad σ) H locs → fX4_bringForth_90 k54 x1 x2 x3 x4 x5 x7 y0 y2 y3 σ = some q → W p l e rX4_bringForth s m args below meth c H locs 0 0 (QV D dA A below args s 0 0 (Mc dA h0 ad q)) (F0 m 90 ls [.int y3, .int y2, .ref (ad 40), .int y0]) := by
  have hx := FX.1; have hb := FX.2.1; have hown := FX.2.2.2.1; have hts := FX.2.2.2.2
  intro x1 x2 x3 x4 x5 x7 y0 y2 y3 σ H locs ls hl hW hf
  rw [fX4_bringForth_90] at hf
  refine lv_iadd hx hb dX4_bringForth_90 ?_
  refine g_iald FX hW 24 Mp40 hf dX4_bringForth_91 (fun v1 hf => ?_)
  refine lv_iconst (v := 1) hx hb dX4_bringForth_92 (by decide) ?_
  refine lv_iload hx hb dX4_bringForth_93 (lv_at hl 6 rfl) ?_
  refine lv_ishl hx hb dX4_bringForth_95 ?_
  refine lv_iand hx hb dX4_bringForth_96 ?_
  refine lv_ior hx hb dX4_bringForth_97 ?_
  refine lv_istore (lv' := [(6, .int (y0 ||| (v1 &&& ((1 : Int32) <<< (x7 &&& 31))))), (0, .ref h0), (1, .int x1), (2, .int x2), (3, .int x3), (4, .int x4), (5, .int x5), (7, .int x7)]) hx hb dX4_bringForth_98 hl (by decide) rfl (fun ls hl => ?_)
  refine lv_iinc (v := (x7 + (1 : Int32))) (lv' := [(7, .int (x7 + (1 : Int32))), (6, .int (y0 ||| (v1 &&& ((1 : Int32) <<< (x7 &&& 31))))), (0, .ref h0), (1, .int x1), (2, .int x2), (3, .int x3), (4, .int x4), (5, .int x5)]) hx hb dX4_bringForth_100 hl (k := 7) rfl rfl (by decide) rfl (fun ls hl => ?_)
  refine lv_goto (tgt := 54) hx hb dX4_bringForth_103 (by decide) ?_
  exact hk54 x1 x2 x3 x4 x5 (y0 ||| (v1 &&& ((1 : Int32) <<< (x7 &&& 31)))) (x7 + (1 : Int32)) σ _ _ _ (lv_sub hl [2, 3, 4, 5, 6, 7, 1, 0] rfl) hW hf
set_option maxHeartbeats 4000000 in
set_option maxRecDepth 100000 in
theorem wX4_bringForth_54 {q : Mst} (FX : CallFix p m c cX4_bringForth 8 s args lw_all RX4) (hr : meth.sig.returnType = none) (hlk : meth.locks = false) : ∀ n : Nat, ∀ (x1 : Int32) (x2 : Int32) (x3 : Int32) (x4 : Int32) (x5 : Int32) (x6 : Int32) (x7 : Int32) (σ : Mst) (H : Heap) (locs : List Loc) (ls : Array Slot), lv_has ls 8 [(0, .ref h0), (1, .int x1), (2, .int x2), (3, .int x3), (4, .int x4), (5, .int x5), (6, .int x6), (7, .int x7)] → Wd D dA A s (Mc dA h0 ad σ) H locs → fX4_bringForth_54 n x1 x2 x3 x4 x5 x6 x7 σ = some q → W p l e rX4_bringForth s m args below meth c H locs 0 0 (QV D dA A below args s 0 0 (Mc dA h0 ad q)) (F0 m 54 ls []) := by
  have hx := FX.1; have hb := FX.2.1; have hown := FX.2.2.2.1; have hts := FX.2.2.2.2
  intro n
  induction n with
  | zero =>
    intro x1 x2 x3 x4 x5 x6 x7 σ H locs ls hl hW hf
    cases (show (none : Option Mst) = some q from hf)
  | succ n ih =>
    intro x1 x2 x3 x4 x5 x6 x7 σ H locs ls hl hW hf
    rw [fX4_bringForth_54] at hf
    refine lv_iload hx hb dX4_bringForth_54 (lv_at hl 7 rfl) ?_
    refine lv_bipush (v := 6) hx hb dX4_bringForth_56 (by decide) ?_
    refine lv_icmp_ge (tgt := 106) hx hb dX4_bringForth_58 (by decide) (fun c58 => ?_) (fun c58 => ?_)
    · have hf := ifp c58 hf
      refine lv_aload_n hx hb dX4_bringForth_106 rfl (lv_at hl 0 rfl) ?_
      refine lv_iload_n hx hb dX4_bringForth_107 rfl (lv_at hl 2 rfl) ?_
      refine kX4_youngOf FX ⟨Nat.le_of_ble_eq_true rfl, Nat.le_of_ble_eq_true rfl⟩ ⟨Nat.zero_le _, Nat.zero_le _⟩ hl.1 (Nat.le_of_ble_eq_true rfl) hW hf dX4_bringForth_108 (fun r1 H locs hW hf => ?_)
      refine lv_istore (lv' := [(7, .int r1), (0, .ref h0), (1, .int x1), (2, .int x2), (3, .int x3), (4, .int x4), (5, .int x5), (6, .int x6)]) hx hb dX4_bringForth_111 hl (by decide) rfl (fun ls hl => ?_)
      refine lv_aload_n hx hb dX4_bringForth_113 rfl (lv_at hl 1 rfl) ?_
      refine Mg40 FX hW dX4_bringForth_114 ?_
      refine lv_iconst (v := 0) hx hb dX4_bringForth_117 (by decide) ?_
      refine lv_iload hx hb dX4_bringForth_118 (lv_at hl 6 rfl) ?_
      refine lv_iadd hx hb dX4_bringForth_120 ?_
      refine lv_iload hx hb dX4_bringForth_121 (lv_at hl 0 rfl) ?_
      refine g_iast FX hW 24 Mp40 (L := Mc dA h0 ad) (Mt40) hf dX4_bringForth_123 (fun s2 H locs hW hf => ?_)
      refine lv_aload_n hx hb dX4_bringForth_124 rfl (lv_at hl 1 rfl) ?_
      refine Mg40 FX hW dX4_bringForth_125 ?_
      refine lv_bipush (v := 8) hx hb dX4_bringForth_128 (by decide) ?_
      refine lv_iload hx hb dX4_bringForth_130 (lv_at hl 6 rfl) ?_
      refine lv_iadd hx hb dX4_bringForth_132 ?_
      refine lv_iload_n hx hb dX4_bringForth_133 rfl (lv_at hl 2 rfl) ?_
      refine g_iast FX hW 24 Mp40 (L := Mc dA h0 ad) (Mt40) hf dX4_bringForth_134 (fun s3 H locs hW hf => ?_)
      refine lv_aload_n hx hb dX4_bringForth_135 rfl (lv_at hl 1 rfl) ?_
      refine Mg40 FX hW dX4_bringForth_136 ?_
      refine lv_bipush (v := 16) hx hb dX4_bringForth_139 (by decide) ?_
      refine lv_iload hx hb dX4_bringForth_141 (lv_at hl 6 rfl) ?_
      refine lv_iadd hx hb dX4_bringForth_143 ?_
      refine lv_iload hx hb dX4_bringForth_144 (lv_at hl 7 rfl) ?_
      refine g_iast FX hW 24 Mp40 (L := Mc dA h0 ad) (Mt40) hf dX4_bringForth_146 (fun s4 H locs hW hf => ?_)
      refine lv_aload_n hx hb dX4_bringForth_147 rfl (lv_at hl 1 rfl) ?_
      refine Mg40 FX hW dX4_bringForth_148 ?_
      refine lv_bipush (v := 24) hx hb dX4_bringForth_151 (by decide) ?_
      refine lv_iload hx hb dX4_bringForth_153 (lv_at hl 6 rfl) ?_
      refine lv_iadd hx hb dX4_bringForth_155 ?_
      refine lv_iconst (v := 0) hx hb dX4_bringForth_156 (by decide) ?_
      refine g_iast FX hW 24 Mp40 (L := Mc dA h0 ad) (Mt40) hf dX4_bringForth_157 (fun s5 H locs hW hf => ?_)
      refine lv_aload_n hx hb dX4_bringForth_158 rfl (lv_at hl 1 rfl) ?_
      refine Mg40 FX hW dX4_bringForth_159 ?_
      refine lv_bipush (v := 32) hx hb dX4_bringForth_162 (by decide) ?_
      refine lv_iload hx hb dX4_bringForth_164 (lv_at hl 6 rfl) ?_
      refine lv_iadd hx hb dX4_bringForth_166 ?_
      refine lv_iconst (v := 0) hx hb dX4_bringForth_167 (by decide) ?_
      refine g_iast FX hW 24 Mp40 (L := Mc dA h0 ad) (Mt40) hf dX4_bringForth_168 (fun s6 H locs hW hf => ?_)
      refine lv_aload_n hx hb dX4_bringForth_169 rfl (lv_at hl 1 rfl) ?_
      refine Mg40 FX hW dX4_bringForth_170 ?_
      refine lv_bipush (v := 40) hx hb dX4_bringForth_173 (by decide) ?_
      refine lv_iload hx hb dX4_bringForth_175 (lv_at hl 6 rfl) ?_
      refine lv_iadd hx hb dX4_bringForth_177 ?_
      refine lv_iload_n hx hb dX4_bringForth_178 rfl (lv_at hl 4 rfl) ?_
      refine g_iast FX hW 24 Mp40 (L := Mc dA h0 ad) (Mt40) hf dX4_bringForth_179 (fun s7 H locs hW hf => ?_)
      refine lv_aload_n hx hb dX4_bringForth_180 rfl (lv_at hl 1 rfl) ?_
      refine Mg40 FX hW dX4_bringForth_181 ?_
      refine lv_bipush (v := 48) hx hb dX4_bringForth_184 (by decide) ?_
      refine lv_iload hx hb dX4_bringForth_186 (lv_at hl 6 rfl) ?_
      refine lv_iadd hx hb dX4_bringForth_188 ?_
      refine lv_iload hx hb dX4_bringForth_189 (lv_at hl 5 rfl) ?_
      refine g_iast FX hW 24 Mp40 (L := Mc dA h0 ad) (Mt40) hf dX4_bringForth_191 (fun s8 H locs hW hf => ?_)
      obtain rfl := Option.some.inj hf
      exact g_vret FX hr hlk hW dX4_bringForth_192
    · have hf := ifn c58 hf
      refine lv_iload hx hb dX4_bringForth_61 (lv_at hl 6 rfl) ?_
      refine lv_aload_n hx hb dX4_bringForth_63 rfl (lv_at hl 0 rfl) ?_
      refine Mg40 FX hW dX4_bringForth_64 ?_
      refine lv_bipush (v := 16) hx hb dX4_bringForth_67 (by decide) ?_
      refine lv_aload_n hx hb dX4_bringForth_69 rfl (lv_at hl 0 rfl) ?_
      refine Mg40 FX hW dX4_bringForth_70 ?_
      refine lv_bipush (v := 58) hx hb dX4_bringForth_73 (by decide) ?_
      refine g_iald FX hW 24 Mp40 hf dX4_bringForth_75 (fun v9 hf => ?_)
      refine lv_iload hx hb dX4_bringForth_76 (lv_at hl 7 rfl) ?_
      refine kX4_bit FX ⟨Nat.le_of_ble_eq_true rfl, Nat.le_of_ble_eq_true rfl⟩ ⟨Nat.zero_le _, Nat.zero_le _⟩ hl.1 (Nat.le_of_ble_eq_true rfl) hW hf dX4_bringForth_78 (fun r10 H locs hW hf => ?_)
      refine lv_if_eq (tgt := 88) hx hb dX4_bringForth_81 (by decide) (fun c81 => ?_) (fun c81 => ?_)
      · have hf := ifp c81 hf
        refine lv_iload hx hb dX4_bringForth_88 (lv_at hl 4 rfl) ?_
        exact wX4_bringForth_90 FX hr hlk (ih) x1 x2 x3 x4 x5 x7 x6 (16 : Int32) x4 σ _ _ _ (lv_sub hl [0, 1, 2, 3, 4, 5, 7] rfl) hW hf
      · have hf := ifn c81 hf
        refine lv_iload_n hx hb dX4_bringForth_84 rfl (lv_at hl 3 rfl) ?_
        refine lv_goto (tgt := 90) hx hb dX4_bringForth_85 (by decide) ?_
        exact wX4_bringForth_90 FX hr hlk (ih) x1 x2 x3 x4 x5 x7 x6 (16 : Int32) x3 σ _ _ _ (lv_sub hl [0, 1, 2, 3, 4, 5, 7] rfl) hW hf
set_option maxHeartbeats 4000000 in
set_option maxRecDepth 100000 in
theorem mX4_bringForth  {x1 : Int32} {σ : Mst} {q : Mst} (hf : fX4_bringForth x1 σ = some q) : CtV l yX4_bringForth cX4_bringForth 8 none rX4_bringForth D dA [.ref h0, .int x1] (Mc dA h0 ad σ) (Mc dA h0 ad q) := by
  refine e_V (by decide) (Nat.le_of_ble_eq_true rfl) ?_
  intro p e s m below meth c ls A FX hr hlk hl hW
  have hx := FX.1; have hb := FX.2.1; have hown := FX.2.2.2.1; have hts := FX.2.2.2.2
  have hl : lv_has ls 8 [(0, .ref h0), (1, .int x1)] := hl
  rw [fX4_bringForth] at hf
  refine lv_aload_n hx hb dX4_bringForth_0 rfl (lv_at hl 0 rfl) ?_
  refine lv_iload_n hx hb dX4_bringForth_1 rfl (lv_at hl 1 rfl) ?_
  refine kX4_coupleOf FX ⟨Nat.le_of_ble_eq_true rfl, Nat.le_of_ble_eq_true rfl⟩ ⟨Nat.zero_le _, Nat.zero_le _⟩ hl.1 (Nat.le_of_ble_eq_true rfl) hW hf dX4_bringForth_2 (fun r1 H locs hW hf => ?_)
  refine lv_istore_n (lv' := [(2, .int r1), (0, .ref h0), (1, .int x1)]) hx hb dX4_bringForth_5 rfl hl (by decide) rfl (fun ls hl => ?_)
  refine lv_iload_n hx hb dX4_bringForth_6 rfl (lv_at hl 0 rfl) ?_
  refine lv_bipush (v := 8) hx hb dX4_bringForth_7 (by decide) ?_
  refine lv_idiv hx hb dX4_bringForth_9 (by decide) ?_
  refine lv_istore_n (lv' := [(3, .int (r1 / (8 : Int32))), (2, .int r1), (0, .ref h0), (1, .int x1)]) hx hb dX4_bringForth_10 rfl hl (by decide) rfl (fun ls hl => ?_)
  refine lv_iload_n hx hb dX4_bringForth_11 rfl (lv_at hl 1 rfl) ?_
  refine lv_bipush (v := 8) hx hb dX4_bringForth_12 (by decide) ?_
  refine lv_irem hx hb dX4_bringForth_14 (by decide) ?_
  refine lv_istore (lv' := [(4, .int (r1 - r1 / (8 : Int32) * (8 : Int32))), (3, .int (r1 / (8 : Int32))), (2, .int r1), (0, .ref h0), (1, .int x1)]) hx hb dX4_bringForth_15 hl (by decide) rfl (fun ls hl => ?_)
  refine lv_aload_n hx hb dX4_bringForth_17 rfl (lv_at hl 3 rfl) ?_
  refine kX4_freePlace FX ⟨Nat.le_of_ble_eq_true rfl, Nat.le_of_ble_eq_true rfl⟩ ⟨Nat.zero_le _, Nat.zero_le _⟩ hl.1 (Nat.le_of_ble_eq_true rfl) hW hf dX4_bringForth_18 (fun r2 H locs hW hf => ?_)
  refine lv_istore (lv' := [(5, .int r2), (4, .int (r1 - r1 / (8 : Int32) * (8 : Int32))), (3, .int (r1 / (8 : Int32))), (2, .int r1), (0, .ref h0), (1, .int x1)]) hx hb dX4_bringForth_21 hl (by decide) rfl (fun ls hl => ?_)
  refine lv_aload_n hx hb dX4_bringForth_23 rfl (lv_at hl 4 rfl) ?_
  refine Mg40 FX hW dX4_bringForth_24 ?_
  refine lv_bipush (v := 58) hx hb dX4_bringForth_27 (by decide) ?_
  refine lv_sipush (v := 137) hx hb dX4_bringForth_29 (by decide) ?_
  refine lv_aload_n hx hb dX4_bringForth_32 rfl (lv_at hl 4 rfl) ?_
  refine Mg40 FX hW dX4_bringForth_33 ?_
  refine lv_bipush (v := 58) hx hb dX4_bringForth_36 (by decide) ?_
  refine g_iald FX hW 24 Mp40 hf dX4_bringForth_38 (fun v3 hf => ?_)
  refine lv_imul hx hb dX4_bringForth_39 ?_
  refine lv_bipush (v := 71) hx hb dX4_bringForth_40 (by decide) ?_
  refine lv_iadd hx hb dX4_bringForth_42 ?_
  refine lv_sipush (v := 1000) hx hb dX4_bringForth_43 (by decide) ?_
  refine lv_irem hx hb dX4_bringForth_46 (by decide) ?_
  refine g_iast FX hW 24 Mp40 (L := Mc dA h0 ad) (Mt40) hf dX4_bringForth_47 (fun s4 H locs hW hf => ?_)
  refine lv_iconst (v := 0) hx hb dX4_bringForth_48 (by decide) ?_
  refine lv_istore (lv' := [(6, .int (0 : Int32)), (5, .int r2), (4, .int (r1 - r1 / (8 : Int32) * (8 : Int32))), (3, .int (r1 / (8 : Int32))), (2, .int r1), (0, .ref h0), (1, .int x1)]) hx hb dX4_bringForth_49 hl (by decide) rfl (fun ls hl => ?_)
  refine lv_iconst (v := 0) hx hb dX4_bringForth_51 (by decide) ?_
  refine lv_istore (lv' := [(7, .int (0 : Int32)), (6, .int (0 : Int32)), (5, .int r2), (4, .int (r1 - r1 / (8 : Int32) * (8 : Int32))), (3, .int (r1 / (8 : Int32))), (2, .int r1), (0, .ref h0), (1, .int x1)]) hx hb dX4_bringForth_52 hl (by decide) rfl (fun ls hl => ?_)
  exact wX4_bringForth_54 FX hr hlk _ x1 r1 (r1 / (8 : Int32)) (r1 - r1 / (8 : Int32) * (8 : Int32)) r2 (0 : Int32) (0 : Int32) s4 _ _ _ (lv_sub hl [6, 7, 5, 4, 3, 2, 1, 0] rfl) hW hf
set_option maxHeartbeats 4000000 in
set_option maxRecDepth 100000 in
theorem kX4_bringForth {α : Type} {q : α} {k : Mst → Option α} {x1 : Int32} {σ : Mst} (FX : CallFix p m c cc nL s args lw_all RX4) (hR : rX4_bringForth.frames + 1 ≤ R.frames ∧ 8 + (8 + 11) + rX4_bringForth.locals ≤ R.locals) (hcs : cells ≤ R.cells ∧ slots ≤ R.slots) (hl : ls.size = nL) (hrm : (rest.map fun v => v.category).sum ≤ 8) (hW : Wd D dA A s (Mc dA h0 ad σ) H locs) (hf : (fX4_bringForth x1 σ).bind k = some q) (hdg : decode cc pc = .ok (.invokevirtual 402, 3)) (kk : ∀ (σ1 : Mst) (H1 : Heap) (locs1 : List Loc), Wd D dA A s (Mc dA h0 ad σ1) H1 locs1 → k σ1 = some q → W p l e R s m args below meth c H1 locs1 cells slots Q (F0 m (pc + 3) ls (rest))) : W p l e R s m args below meth c H locs cells slots Q (F0 m pc ls (.int x1 :: .ref h0 :: rest)) := by
  obtain ⟨r1, h1, hf⟩ := bnd hf
  refine w_Vv (C := RX4) (As := [.int x1]) (rest := rest) (n := 1) (wr := []) FX (mX4_bringForth h1) (cwV 1 FX.2.2.2.2 (lw_V q2038 q2040 qs103 q132 q2041) rfl rfl rfl (by decide +kernel) hR) (va_recv hW.2.2.2.1 hW.1 (ci := 4) (q0 := 0) rfl rfl) rfl hl rfl hrm ⟨Nat.le_trans (Nat.le_of_eq (Nat.add_zero cells)) hcs.1, Nat.le_trans (Nat.le_of_eq (Nat.add_zero slots)) hcs.2⟩ hdg hW.nil ?_
  exact fun H1 locs1 hW1 => kk r1 H1 locs1 hW1.nil' hf
/-! TrunkLittersModel.listen(I)V: kind W -/
def fX4_listen_81 (x1 : Int32) (y0 : Int32) (y1 : Int32) (σ : Mst) : Option Mst := (if y0 < y1 then some σ else (fX4_loseOne x1 σ).bind fun s1 => some s1)
def fX4_listen (x1 : Int32) (σ : Mst) : Option Mst := ald 59 (gA σ 40) ((24 : Int32) + x1) fun v1 => (if v1 ≤ 0 then ald 59 (gA σ 40) ((32 : Int32) + x1) fun v2 => ast 59 ((32 : Int32) + x1) (stp (sA σ 40 ((32 : Int32) + x1) (v2 + (1 : Int32))) fun s3 => ald 59 (gA s3 40) ((32 : Int32) + x1) fun v4 => (if (gF s3 42) < 0 then ald 2 (gA s3 14) (gF s3 32) fun v5 => fX4_listen_81 x1 v4 v5 s3 else fX4_listen_81 x1 v4 (gF s3 42) s3)) else ald 59 (gA σ 40) ((24 : Int32) + x1) fun v6 => ast 59 ((24 : Int32) + x1) (stp (sA σ 40 ((24 : Int32) + x1) (v6 - (1 : Int32))) fun s7 => ast 59 ((32 : Int32) + x1) (stp (sA s7 40 ((32 : Int32) + x1) (0 : Int32)) fun s8 => some s8)))
abbrev rX4_listen : Room := { frames := 2, cells := 0, slots := 0, locals := 43 }
set_option maxHeartbeats 4000000 in
set_option maxRecDepth 100000 in
theorem wX4_listen_81 {q : Mst} (FX : CallFix p m c cX4_listen 2 s args lw_all RX4) (hr : meth.sig.returnType = none) (hlk : meth.locks = false) : ∀ (x1 : Int32) (y0 : Int32) (y1 : Int32) (σ : Mst) (H : Heap) (locs : List Loc) (ls : Array Slot), lv_has ls 2 [(0, .ref h0), (1, .int x1)] → Wd D dA A s (Mc dA h0 ad σ) H locs → fX4_listen_81 x1 y0 y1 σ = some q → W p l e rX4_listen s m args below meth c H locs 0 0 (QV D dA A below args s 0 0 (Mc dA h0 ad q)) (F0 m 81 ls [.int y1, .int y0]) := by
  have hx := FX.1; have hb := FX.2.1; have hown := FX.2.2.2.1; have hts := FX.2.2.2.2
  intro x1 y0 y1 σ H locs ls hl hW hf
  rw [fX4_listen_81] at hf
  refine lv_icmp_lt (tgt := 89) hx hb dX4_listen_81 (by decide) (fun c81 => ?_) (fun c81 => ?_)
  · have hf := ifp c81 hf
    obtain rfl := Option.some.inj hf
    exact g_vret FX hr hlk hW dX4_listen_89
  · have hf := ifn c81 hf
    refine lv_aload_n hx hb dX4_listen_84 rfl (lv_at hl 0 rfl) ?_
    refine lv_iload_n hx hb dX4_listen_85 rfl (lv_at hl 1 rfl) ?_
    refine kX4_loseOne FX ⟨Nat.le_of_ble_eq_true rfl, Nat.le_of_ble_eq_true rfl⟩ ⟨Nat.zero_le _, Nat.zero_le _⟩ hl.1 (Nat.le_of_ble_eq_true rfl) hW hf dX4_listen_86 (fun s1 H locs hW hf => ?_)
    obtain rfl := Option.some.inj hf
    exact g_vret FX hr hlk hW dX4_listen_89
set_option maxHeartbeats 4000000 in
set_option maxRecDepth 100000 in
theorem mX4_listen  {x1 : Int32} {σ : Mst} {q : Mst} (hf : fX4_listen x1 σ = some q) : CtV l yX4_listen cX4_listen 2 none rX4_listen D dA [.ref h0, .int x1] (Mc dA h0 ad σ) (Mc dA h0 ad q) := by
  refine e_V (by decide) (Nat.le_of_ble_eq_true rfl) ?_
  intro p e s m below meth c ls A FX hr hlk hl hW
  have hx := FX.1; have hb := FX.2.1; have hown := FX.2.2.2.1; have hts := FX.2.2.2.2
  have hl : lv_has ls 2 [(0, .ref h0), (1, .int x1)] := hl
  rw [fX4_listen] at hf
  refine lv_aload_n hx hb dX4_listen_0 rfl (lv_at hl 0 rfl) ?_
  refine Mg40 FX hW dX4_listen_1 ?_
  refine lv_bipush (v := 24) hx hb dX4_listen_4 (by decide) ?_
  refine lv_iload_n hx hb dX4_listen_6 rfl (lv_at hl 1 rfl) ?_
  refine lv_iadd hx hb dX4_listen_7 ?_
  refine g_iald FX hW 24 Mp40 hf dX4_listen_8 (fun v1 hf => ?_)
  refine lv_if_le (tgt := 36) hx hb dX4_listen_9 (by decide) (fun c9 => ?_) (fun c9 => ?_)
  · have hf := ifp c9 hf
    refine lv_aload_n hx hb dX4_listen_36 rfl (lv_at hl 0 rfl) ?_
    refine Mg40 FX hW dX4_listen_37 ?_
    refine lv_bipush (v := 32) hx hb dX4_listen_40 (by decide) ?_
    refine lv_iload_n hx hb dX4_listen_42 rfl (lv_at hl 1 rfl) ?_
    refine lv_iadd hx hb dX4_listen_43 ?_
    refine lv_dup2_11 hx hb dX4_listen_44 rfl rfl ?_
    refine g_iald FX hW 24 Mp40 hf dX4_listen_45 (fun v2 hf => ?_)
    refine lv_iconst (v := 1) hx hb dX4_listen_46 (by decide) ?_
    refine lv_iadd hx hb dX4_listen_47 ?_
    refine g_iast FX hW 24 Mp40 (L := Mc dA h0 ad) (Mt40) hf dX4_listen_48 (fun s3 H locs hW hf => ?_)
    refine lv_aload_n hx hb dX4_listen_49 rfl (lv_at hl 0 rfl) ?_
    refine Mg40 FX hW dX4_listen_50 ?_
    refine lv_bipush (v := 32) hx hb dX4_listen_53 (by decide) ?_
    refine lv_iload_n hx hb dX4_listen_55 rfl (lv_at hl 1 rfl) ?_
    refine lv_iadd hx hb dX4_listen_56 ?_
    refine g_iald FX hW 24 Mp40 hf dX4_listen_57 (fun v4 hf => ?_)
    refine lv_aload_n hx hb dX4_listen_58 rfl (lv_at hl 0 rfl) ?_
    refine Mg42 FX hW dX4_listen_59 ?_
    refine lv_if_lt (tgt := 72) hx hb dX4_listen_62 (by decide) (fun c62 => ?_) (fun c62 => ?_)
    · have hf := ifp c62 hf
      refine lv_aload_n hx hb dX4_listen_72 rfl (lv_at hl 0 rfl) ?_
      refine Mg14 FX hW dX4_listen_73 ?_
      refine lv_aload_n hx hb dX4_listen_76 rfl (lv_at hl 0 rfl) ?_
      refine Mg32 FX hW dX4_listen_77 ?_
      refine g_iald FX hW 6 Mp14 hf dX4_listen_80 (fun v5 hf => ?_)
      exact wX4_listen_81 FX hr hlk x1 v4 v5 s3 _ _ _ (lv_sub hl [0, 1] rfl) hW hf
    · have hf := ifn c62 hf
      refine lv_aload_n hx hb dX4_listen_65 rfl (lv_at hl 0 rfl) ?_
      refine Mg42 FX hW dX4_listen_66 ?_
      refine lv_goto (tgt := 81) hx hb dX4_listen_69 (by decide) ?_
      exact wX4_listen_81 FX hr hlk x1 v4 (gF s3 42) s3 _ _ _ (lv_sub hl [0, 1] rfl) hW hf
  · have hf := ifn c9 hf
    refine lv_aload_n hx hb dX4_listen_12 rfl (lv_at hl 0 rfl) ?_
    refine Mg40 FX hW dX4_listen_13 ?_
    refine lv_bipush (v := 24) hx hb dX4_listen_16 (by decide) ?_
    refine lv_iload_n hx hb dX4_listen_18 rfl (lv_at hl 1 rfl) ?_
    refine lv_iadd hx hb dX4_listen_19 ?_
    refine lv_dup2_11 hx hb dX4_listen_20 rfl rfl ?_
    refine g_iald FX hW 24 Mp40 hf dX4_listen_21 (fun v6 hf => ?_)
    refine lv_iconst (v := 1) hx hb dX4_listen_22 (by decide) ?_
    refine lv_isub hx hb dX4_listen_23 ?_
    refine g_iast FX hW 24 Mp40 (L := Mc dA h0 ad) (Mt40) hf dX4_listen_24 (fun s7 H locs hW hf => ?_)
    refine lv_aload_n hx hb dX4_listen_25 rfl (lv_at hl 0 rfl) ?_
    refine Mg40 FX hW dX4_listen_26 ?_
    refine lv_bipush (v := 32) hx hb dX4_listen_29 (by decide) ?_
    refine lv_iload_n hx hb dX4_listen_31 rfl (lv_at hl 1 rfl) ?_
    refine lv_iadd hx hb dX4_listen_32 ?_
    refine lv_iconst (v := 0) hx hb dX4_listen_33 (by decide) ?_
    refine g_iast FX hW 24 Mp40 (L := Mc dA h0 ad) (Mt40) hf dX4_listen_34 (fun s8 H locs hW hf => ?_)
    obtain rfl := Option.some.inj hf
    exact g_vret FX hr hlk hW dX4_listen_35
set_option maxHeartbeats 4000000 in
set_option maxRecDepth 100000 in
theorem kX4_listen {α : Type} {q : α} {k : Mst → Option α} {x1 : Int32} {σ : Mst} (FX : CallFix p m c cc nL s args lw_all RX4) (hR : rX4_listen.frames + 1 ≤ R.frames ∧ 8 + (2 + 11) + rX4_listen.locals ≤ R.locals) (hcs : cells ≤ R.cells ∧ slots ≤ R.slots) (hl : ls.size = nL) (hrm : (rest.map fun v => v.category).sum ≤ 8) (hW : Wd D dA A s (Mc dA h0 ad σ) H locs) (hf : (fX4_listen x1 σ).bind k = some q) (hdg : decode cc pc = .ok (.invokevirtual 396, 3)) (kk : ∀ (σ1 : Mst) (H1 : Heap) (locs1 : List Loc), Wd D dA A s (Mc dA h0 ad σ1) H1 locs1 → k σ1 = some q → W p l e R s m args below meth c H1 locs1 cells slots Q (F0 m (pc + 3) ls (rest))) : W p l e R s m args below meth c H locs cells slots Q (F0 m pc ls (.int x1 :: .ref h0 :: rest)) := by
  obtain ⟨r1, h1, hf⟩ := bnd hf
  refine w_Vv (C := RX4) (As := [.int x1]) (rest := rest) (n := 1) (wr := []) FX (mX4_listen h1) (cwV 1 FX.2.2.2.2 (lw_V q2030 q2032 qs101 q132 q2033) rfl rfl rfl (by decide +kernel) hR) (va_recv hW.2.2.2.1 hW.1 (ci := 4) (q0 := 0) rfl rfl) rfl hl rfl hrm ⟨Nat.le_trans (Nat.le_of_eq (Nat.add_zero cells)) hcs.1, Nat.le_trans (Nat.le_of_eq (Nat.add_zero slots)) hcs.2⟩ hdg hW.nil ?_
  exact fun H1 locs1 hW1 => kk r1 H1 locs1 hW1.nil' hf
/-! TrunkLittersModel.goYear()I: kind W -/
def fX4_goYear_115 : Nat → Int32 → Int32 → Mst → Option (Int32 × Mst)
  | 0, _, _, _ => none
  | n + 1, x1, x2, σ => (fX4_chambers σ).bind fun r1 => (if r1 ≤ x2 then ald 59 (gA σ 40) (57 : Int32) fun v2 => ast 59 (57 : Int32) (stp (sA σ 40 (57 : Int32) (v2 + (1 : Int32))) fun s3 => some (x1, s3)) else bnd2 (fX4_isRipe x2 σ) fun r4 s5 => (if r4 = 0 then fX4_goYear_115 n x1 (x2 + (1 : Int32)) s5 else (fX4_freePlace s5).bind fun r6 => (fX4_bringForth x2 s5).bind fun s7 => fX4_goYear_115 n (x1 ||| ((1 : Int32) <<< (r6 &&& 31))) (x2 + (1 : Int32)) s7))
def fX4_goYear_72 (k32 : Int32 → Mst → Option (Int32 × Mst)) (x1 : Int32) (y0 : Int32) (σ : Mst) : Option (Int32 × Mst) := (if y0 = 0 then k32 (x1 + (1 : Int32)) σ else ald 59 (gA σ 40) ((8 : Int32) + x1) fun v1 => (fX4_leftIn v1 σ).bind fun r2 => (if r2 ≤ 0 then k32 (x1 + (1 : Int32)) σ else ald 59 (gA σ 40) ((0 : Int32) + x1) fun v3 => ast 59 ((0 : Int32) + x1) (stp (sA σ 40 ((0 : Int32) + x1) (v3 + (1 : Int32))) fun s4 => k32 (x1 + (1 : Int32)) s4)))
def fX4_goYear_71 (k32 : Int32 → Mst → Option (Int32 × Mst)) (x1 : Int32) (σ : Mst) : Option (Int32 × Mst) := fX4_goYear_72 k32 x1 (0 : Int32) σ
def fX4_goYear_32 : Nat → Int32 → Mst → Option (Int32 × Mst)
  | 0, _, _ => none
  | n + 1, x1, σ => (if (8 : Int32) ≤ x1 then fX4_goYear_115 FU (0 : Int32) (0 : Int32) σ else ald 59 (gA σ 40) ((0 : Int32) + x1) fun v1 => (fX4_isIn v1 (1 : Int32) (19 : Int32)).bind fun r2 => (if r2 = 0 then fX4_goYear_71 (fX4_goYear_32 n) x1 σ else ald 59 (gA σ 40) ((32 : Int32) + x1) fun v3 => (if v3 = 0 then fX4_goYear_72 (fX4_goYear_32 n) x1 (1 : Int32) σ else fX4_goYear_71 (fX4_goYear_32 n) x1 σ)))
def fX4_goYear_2 : Nat → Int32 → Mst → Option (Int32 × Mst)
  | 0, _, _ => none
  | n + 1, x1, σ => (if (8 : Int32) ≤ x1 then fX4_goYear_32 FU (0 : Int32) σ else ald 59 (gA σ 40) ((0 : Int32) + x1) fun v1 => (if v1 ≤ 0 then fX4_goYear_2 n (x1 + (1 : Int32)) σ else (fX4_listen x1 σ).bind fun s2 => fX4_goYear_2 n (x1 + (1 : Int32)) s2))
def fX4_goYear (σ : Mst) : Option (Int32 × Mst) := fX4_goYear_2 FU (0 : Int32) σ
abbrev rX4_goYear : Room := { frames := 7, cells := 0, slots := 0, locals := 154 }
set_option maxHeartbeats 4000000 in
set_option maxRecDepth 100000 in
theorem wX4_goYear_115 {q : (Int32 × Mst)} (FX : CallFix p m c cX4_goYear 3 s args lw_all RX4) (hr : meth.sig.returnType = (some .int)) (hlk : meth.locks = false) : ∀ n : Nat, ∀ (x1 : Int32) (x2 : Int32) (σ : Mst) (H : Heap) (locs : List Loc) (ls : Array Slot), lv_has ls 3 [(0, .ref h0), (1, .int x1), (2, .int x2)] → Wd D dA A s (Mc dA h0 ad σ) H locs → fX4_goYear_115 n x1 x2 σ = some q → W p l e rX4_goYear s m args below meth c H locs 0 0 (QI D dA A below args s 0 0 q.1 (Mc dA h0 ad q.2)) (F0 m 115 ls []) := by
  have hx := FX.1; have hb := FX.2.1; have hown := FX.2.2.2.1; have hts := FX.2.2.2.2
  intro n
  induction n with
  | zero =>
    intro x1 x2 σ H locs ls hl hW hf
    cases (show (none : Option (Int32 × Mst)) = some q from hf)
  | succ n ih =>
    intro x1 x2 σ H locs ls hl hW hf
    rw [fX4_goYear_115] at hf
    refine lv_iload_n hx hb dX4_goYear_115 rfl (lv_at hl 2 rfl) ?_
    refine lv_aload_n hx hb dX4_goYear_116 rfl (lv_at hl 0 rfl) ?_
    refine kX4_chambers FX ⟨Nat.le_of_ble_eq_true rfl, Nat.le_of_ble_eq_true rfl⟩ ⟨Nat.zero_le _, Nat.zero_le _⟩ hl.1 (Nat.le_of_ble_eq_true rfl) hW hf dX4_goYear_117 (fun r1 H locs hW hf => ?_)
    refine lv_icmp_ge (tgt := 154) hx hb dX4_goYear_120 (by decide) (fun c120 => ?_) (fun c120 => ?_)
    · have hf := ifp c120 hf
      refine lv_aload_n hx hb dX4_goYear_154 rfl (lv_at hl 0 rfl) ?_
      refine Mg40 FX hW dX4_goYear_155 ?_
      refine lv_bipush (v := 57) hx hb dX4_goYear_158 (by decide) ?_
      refine lv_dup2_11 hx hb dX4_goYear_160 rfl rfl ?_
      refine g_iald FX hW 24 Mp40 hf dX4_goYear_161 (fun v2 hf => ?_)
      refine lv_iconst (v := 1) hx hb dX4_goYear_162 (by decide) ?_
      refine lv_iadd hx hb dX4_goYear_163 ?_
      refine g_iast FX hW 24 Mp40 (L := Mc dA h0 ad) (Mt40) hf dX4_goYear_164 (fun s3 H locs hW hf => ?_)
      refine lv_iload_n hx hb dX4_goYear_165 rfl (lv_at hl 1 rfl) ?_
      obtain rfl := Option.some.inj hf
      exact g_iret FX hr hlk hW rfl dX4_goYear_166
    · have hf := ifn c120 hf
      refine lv_aload_n hx hb dX4_goYear_123 rfl (lv_at hl 0 rfl) ?_
      refine lv_iload_n hx hb dX4_goYear_124 rfl (lv_at hl 2 rfl) ?_
      refine kX4_isRipe FX ⟨Nat.le_of_ble_eq_true rfl, Nat.le_of_ble_eq_true rfl⟩ ⟨Nat.zero_le _, Nat.zero_le _⟩ hl.1 (Nat.le_of_ble_eq_true rfl) hW hf dX4_goYear_125 (fun r4 s5 H locs hW hf => ?_)
      refine lv_if_ne (tgt := 134) hx hb dX4_goYear_128 (by decide) (fun c128 => ?_) (fun c128 => ?_)
      · have hf := ifn c128 hf
        refine lv_iload_n hx hb dX4_goYear_134 rfl (lv_at hl 1 rfl) ?_
        refine lv_iconst (v := 1) hx hb dX4_goYear_135 (by decide) ?_
        refine lv_aload_n hx hb dX4_goYear_136 rfl (lv_at hl 0 rfl) ?_
        refine kX4_freePlace FX ⟨Nat.le_of_ble_eq_true rfl, Nat.le_of_ble_eq_true rfl⟩ ⟨Nat.zero_le _, Nat.zero_le _⟩ hl.1 (Nat.le_of_ble_eq_true rfl) hW hf dX4_goYear_137 (fun r6 H locs hW hf => ?_)
        refine lv_ishl hx hb dX4_goYear_140 ?_
        refine lv_ior hx hb dX4_goYear_141 ?_
        refine lv_istore_n (lv' := [(1, .int (x1 ||| ((1 : Int32) <<< (r6 &&& 31)))), (0, .ref h0), (2, .int x2)]) hx hb dX4_goYear_142 rfl hl (by decide) rfl (fun ls hl => ?_)
        refine lv_aload_n hx hb dX4_goYear_143 rfl (lv_at hl 1 rfl) ?_
        refine lv_iload_n hx hb dX4_goYear_144 rfl (lv_at hl 2 rfl) ?_
        refine kX4_bringForth FX ⟨Nat.le_of_ble_eq_true rfl, Nat.le_of_ble_eq_true rfl⟩ ⟨Nat.zero_le _, Nat.zero_le _⟩ hl.1 (Nat.le_of_ble_eq_true rfl) hW hf dX4_goYear_145 (fun s7 H locs hW hf => ?_)
        refine lv_iinc (v := (x2 + (1 : Int32))) (lv' := [(2, .int (x2 + (1 : Int32))), (1, .int (x1 ||| ((1 : Int32) <<< (r6 &&& 31)))), (0, .ref h0)]) hx hb dX4_goYear_148 hl (k := 2) rfl rfl (by decide) rfl (fun ls hl => ?_)
        refine lv_goto (tgt := 115) hx hb dX4_goYear_151 (by decide) ?_
        exact ih (x1 ||| ((1 : Int32) <<< (r6 &&& 31))) (x2 + (1 : Int32)) s7 _ _ _ (lv_sub hl [2, 1, 0] rfl) hW hf
      · have hf := ifp c128 hf
        refine lv_goto (tgt := 148) hx hb dX4_goYear_131 (by decide) ?_
        refine lv_iinc (v := (x2 + (1 : Int32))) (lv' := [(2, .int (x2 + (1 : Int32))), (0, .ref h0), (1, .int x1)]) hx hb dX4_goYear_148 hl (k := 2) rfl rfl (by decide) rfl (fun ls hl => ?_)
        refine lv_goto (tgt := 115) hx hb dX4_goYear_151 (by decide) ?_
        exact ih x1 (x2 + (1 : Int32)) s5 _ _ _ (lv_sub hl [1, 2, 0] rfl) hW hf
set_option maxHeartbeats 4000000 in
set_option maxRecDepth 100000 in
theorem wX4_goYear_72 {q : (Int32 × Mst)} (FX : CallFix p m c cX4_goYear 3 s args lw_all RX4) (hr : meth.sig.returnType = (some .int)) (hlk : meth.locks = false) {k32 : Int32 → Mst → Option (Int32 × Mst)} (hk32 : ∀ (x1 : Int32) (σ : Mst) (H : Heap) (locs : List Loc) (ls : Array Slot), lv_has ls 3 [(0, .ref h0), (1, .int x1)] → Wd D dA A s (Mc dA h0 ad σ) H locs → k32 x1 σ = some q → W p l e rX4_goYear s m args below meth c H locs 0 0 (QI D dA A below args s 0 0 q.1 (Mc dA h0 ad q.2)) (F0 m 32 ls [])) : ∀ (x1 : Int32) (y0 : Int32) (σ : Mst) (H : Heap) (locs : List Loc) (ls : Array Slot), lv_has ls 3 [(0, .ref h0), (1, .int x1)] → Wd D dA A s (Mc dA h0 ad σ) H locs → fX4_goYear_72 k32 x1 y0 σ = some q → W p l e rX4_goYear s m args below meth c H locs 0 0 (QI D dA A below args s 0 0 q.1 (Mc dA h0 ad q.2)) (F0 m 72 ls [.int y0]) := by
  have hx := FX.1; have hb := FX.2.1; have hown := FX.2.2.2.1; have hts := FX.2.2.2.2
  intro x1 y0 σ H locs ls hl hW hf
  rw [fX4_goYear_72] at hf
  refine lv_istore_n (lv' := [(2, .int y0), (0, .ref h0), (1, .int x1)]) hx hb dX4_goYear_72 rfl hl (by decide) rfl (fun ls hl => ?_)
  refine lv_iload_n hx hb dX4_goYear_73 rfl (lv_at hl 0 rfl) ?_
  refine lv_if_eq (tgt := 105) hx hb dX4_goYear_74 (by decide) (fun c74 => ?_) (fun c74 => ?_)
  · have hf := ifp c74 hf
    refine lv_iinc (v := (x1 + (1 : Int32))) (lv' := [(1, .int (x1 + (1 : Int32))), (2, .int y0), (0, .ref h0)]) hx hb dX4_goYear_105 hl (k := 2) rfl rfl (by decide) rfl (fun ls hl => ?_)
    refine lv_goto (tgt := 32) hx hb dX4_goYear_108 (by decide) ?_
    exact hk32 (x1 + (1 : Int32)) σ _ _ _ (lv_sub hl [2, 0] rfl) hW hf
  · have hf := ifn c74 hf
    refine lv_aload_n hx hb dX4_goYear_77 rfl (lv_at hl 1 rfl) ?_
    refine lv_aload_n hx hb dX4_goYear_78 rfl (lv_at hl 1 rfl) ?_
    refine Mg40 FX hW dX4_goYear_79 ?_
    refine lv_bipush (v := 8) hx hb dX4_goYear_82 (by decide) ?_
    refine lv_iload_n hx hb dX4_goYear_84 rfl (lv_at hl 2 rfl) ?_
    refine lv_iadd hx hb dX4_goYear_85 ?_
    refine g_iald FX hW 24 Mp40 hf dX4_goYear_86 (fun v1 hf => ?_)
    refine kX4_leftIn FX ⟨Nat.le_of_ble_eq_true rfl, Nat.le_of_ble_eq_true rfl⟩ ⟨Nat.zero_le _, Nat.zero_le _⟩ hl.1 (Nat.le_of_ble_eq_true rfl) hW hf dX4_goYear_87 (fun r2 H locs hW hf => ?_)
    refine lv_if_le (tgt := 105) hx hb dX4_goYear_90 (by decide) (fun c90 => ?_) (fun c90 => ?_)
    · have hf := ifp c90 hf
      refine lv_iinc (v := (x1 + (1 : Int32))) (lv' := [(1, .int (x1 + (1 : Int32))), (2, .int y0), (0, .ref h0)]) hx hb dX4_goYear_105 hl (k := 2) rfl rfl (by decide) rfl (fun ls hl => ?_)
      refine lv_goto (tgt := 32) hx hb dX4_goYear_108 (by decide) ?_
      exact hk32 (x1 + (1 : Int32)) σ _ _ _ (lv_sub hl [2, 0] rfl) hW hf
    · have hf := ifn c90 hf
      refine lv_aload_n hx hb dX4_goYear_93 rfl (lv_at hl 1 rfl) ?_
      refine Mg40 FX hW dX4_goYear_94 ?_
      refine lv_iconst (v := 0) hx hb dX4_goYear_97 (by decide) ?_
      refine lv_iload_n hx hb dX4_goYear_98 rfl (lv_at hl 2 rfl) ?_
      refine lv_iadd hx hb dX4_goYear_99 ?_
      refine lv_dup2_11 hx hb dX4_goYear_100 rfl rfl ?_
      refine g_iald FX hW 24 Mp40 hf dX4_goYear_101 (fun v3 hf => ?_)
      refine lv_iconst (v := 1) hx hb dX4_goYear_102 (by decide) ?_
      refine lv_iadd hx hb dX4_goYear_103 ?_
      refine g_iast FX hW 24 Mp40 (L := Mc dA h0 ad) (Mt40) hf dX4_goYear_104 (fun s4 H locs hW hf => ?_)
      refine lv_iinc (v := (x1 + (1 : Int32))) (lv' := [(1, .int (x1 + (1 : Int32))), (2, .int y0), (0, .ref h0)]) hx hb dX4_goYear_105 hl (k := 2) rfl rfl (by decide) rfl (fun ls hl => ?_)
      refine lv_goto (tgt := 32) hx hb dX4_goYear_108 (by decide) ?_
      exact hk32 (x1 + (1 : Int32)) s4 _ _ _ (lv_sub hl [2, 0] rfl) hW hf
set_option maxHeartbeats 4000000 in
set_option maxRecDepth 100000 in
theorem wX4_goYear_71 {q : (Int32 × Mst)} (FX : CallFix p m c cX4_goYear 3 s args lw_all RX4) (hr : meth.sig.returnType = (some .int)) (hlk : meth.locks = false) {k32 : Int32 → Mst → Option (Int32 × Mst)} (hk32 : ∀ (x1 : Int32) (σ : Mst) (H : Heap) (locs : List Loc) (ls : Array Slot), lv_has ls 3 [(0, .ref h0), (1, .int x1)] → Wd D dA A s (Mc dA h0 ad σ) H locs → k32 x1 σ = some q → W p l e rX4_goYear s m args below meth c H locs 0 0 (QI D dA A below args s 0 0 q.1 (Mc dA h0 ad q.2)) (F0 m 32 ls [])) : ∀ (x1 : Int32) (σ : Mst) (H : Heap) (locs : List Loc) (ls : Array Slot), lv_has ls 3 [(0, .ref h0), (1, .int x1)] → Wd D dA A s (Mc dA h0 ad σ) H locs → fX4_goYear_71 k32 x1 σ = some q → W p l e rX4_goYear s m args below meth c H locs 0 0 (QI D dA A below args s 0 0 q.1 (Mc dA h0 ad q.2)) (F0 m 71 ls []) := by
  have hx := FX.1; have hb := FX.2.1; have hown := FX.2.2.2.1; have hts := FX.2.2.2.2
  intro x1 σ H locs ls hl hW hf
  rw [fX4_goYear_71] at hf
  refine lv_iconst (v := 0) hx hb dX4_goYear_71 (by decide) ?_
  exact wX4_goYear_72 FX hr hlk hk32 x1 (0 : Int32) σ _ _ _ (lv_sub hl [0, 1] rfl) hW hf
set_option maxHeartbeats 4000000 in
set_option maxRecDepth 100000 in
theorem wX4_goYear_32 {q : (Int32 × Mst)} (FX : CallFix p m c cX4_goYear 3 s args lw_all RX4) (hr : meth.sig.returnType = (some .int)) (hlk : meth.locks = false) : ∀ n : Nat, ∀ (x1 : Int32) (σ : Mst) (H : Heap) (locs : List Loc) (ls : Array Slot), lv_has ls 3 [(0, .ref h0), (1, .int x1)] → Wd D dA A s (Mc dA h0 ad σ) H locs → fX4_goYear_32 n x1 σ = some q → W p l e rX4_goYear s m args below meth c H locs 0 0 (QI D dA A below args s 0 0 q.1 (Mc dA h0 ad q.2)) (F0 m 32 ls []) := by
  have hx := FX.1; have hb := FX.2.1; have hown := FX.2.2.2.1; have hts := FX.2.2.2.2
  intro n
  induction n with
  | zero =>
    intro x1 σ H locs ls hl hW hf
    cases (show (none : Option (Int32 × Mst)) = some q from hf)
  | succ n ih =>
    intro x1 σ H locs ls hl hW hf
    rw [fX4_goYear_32] at hf
    refine lv_iload_n hx hb dX4_goYear_32 rfl (lv_at hl 1 rfl) ?_
    refine lv_bipush (v := 8) hx hb dX4_goYear_33 (by decide) ?_
    refine lv_icmp_ge (tgt := 111) hx hb dX4_goYear_35 (by decide) (fun c35 => ?_) (fun c35 => ?_)
    · have hf := ifp c35 hf
      refine lv_iconst (v := 0) hx hb dX4_goYear_111 (by decide) ?_
      refine lv_istore_n (lv' := [(1, .int (0 : Int32)), (0, .ref h0)]) hx hb dX4_goYear_112 rfl hl (by decide) rfl (fun ls hl => ?_)
      refine lv_iconst (v := 0) hx hb dX4_goYear_113 (by decide) ?_
      refine lv_istore_n (lv' := [(2, .int (0 : Int32)), (1, .int (0 : Int32)), (0, .ref h0)]) hx hb dX4_goYear_114 rfl hl (by decide) rfl (fun ls hl => ?_)
      exact wX4_goYear_115 FX hr hlk _ (0 : Int32) (0 : Int32) σ _ _ _ (lv_sub hl [2, 1, 0] rfl) hW hf
    · have hf := ifn c35 hf
      refine lv_aload_n hx hb dX4_goYear_38 rfl (lv_at hl 0 rfl) ?_
      refine Mg40 FX hW dX4_goYear_39 ?_
      refine lv_iconst (v := 0) hx hb dX4_goYear_42 (by decide) ?_
      refine lv_iload_n hx hb dX4_goYear_43 rfl (lv_at hl 1 rfl) ?_
      refine lv_iadd hx hb dX4_goYear_44 ?_
      refine g_iald FX hW 24 Mp40 hf dX4_goYear_45 (fun v1 hf => ?_)
      refine lv_iconst (v := 1) hx hb dX4_goYear_46 (by decide) ?_
      refine lv_bipush (v := 19) hx hb dX4_goYear_47 (by decide) ?_
      refine kX4_isIn FX ⟨Nat.le_of_ble_eq_true rfl, Nat.le_of_ble_eq_true rfl⟩ ⟨Nat.zero_le _, Nat.zero_le _⟩ hl.1 (Nat.le_of_ble_eq_true rfl) hW hf dX4_goYear_49 (fun r2 H locs hW hf => ?_)
      refine lv_if_eq (tgt := 71) hx hb dX4_goYear_52 (by decide) (fun c52 => ?_) (fun c52 => ?_)
      · have hf := ifp c52 hf
        exact wX4_goYear_71 FX hr hlk (ih) x1 σ _ _ _ (lv_sub hl [0, 1] rfl) hW hf
      · have hf := ifn c52 hf
        refine lv_aload_n hx hb dX4_goYear_55 rfl (lv_at hl 0 rfl) ?_
        refine Mg40 FX hW dX4_goYear_56 ?_
        refine lv_bipush (v := 32) hx hb dX4_goYear_59 (by decide) ?_
        refine lv_iload_n hx hb dX4_goYear_61 rfl (lv_at hl 1 rfl) ?_
        refine lv_iadd hx hb dX4_goYear_62 ?_
        refine g_iald FX hW 24 Mp40 hf dX4_goYear_63 (fun v3 hf => ?_)
        refine lv_if_ne (tgt := 71) hx hb dX4_goYear_64 (by decide) (fun c64 => ?_) (fun c64 => ?_)
        · have hf := ifn c64 hf
          exact wX4_goYear_71 FX hr hlk (ih) x1 σ _ _ _ (lv_sub hl [0, 1] rfl) hW hf
        · have hf := ifp c64 hf
          refine lv_iconst (v := 1) hx hb dX4_goYear_67 (by decide) ?_
          refine lv_goto (tgt := 72) hx hb dX4_goYear_68 (by decide) ?_
          exact wX4_goYear_72 FX hr hlk (ih) x1 (1 : Int32) σ _ _ _ (lv_sub hl [0, 1] rfl) hW hf
set_option maxHeartbeats 4000000 in
set_option maxRecDepth 100000 in
theorem wX4_goYear_2 {q : (Int32 × Mst)} (FX : CallFix p m c cX4_goYear 3 s args lw_all RX4) (hr : meth.sig.returnType = (some .int)) (hlk : meth.locks = false) : ∀ n : Nat, ∀ (x1 : Int32) (σ : Mst) (H : Heap) (locs : List Loc) (ls : Array Slot), lv_has ls 3 [(0, .ref h0), (1, .int x1)] → Wd D dA A s (Mc dA h0 ad σ) H locs → fX4_goYear_2 n x1 σ = some q → W p l e rX4_goYear s m args below meth c H locs 0 0 (QI D dA A below args s 0 0 q.1 (Mc dA h0 ad q.2)) (F0 m 2 ls []) := by
  have hx := FX.1; have hb := FX.2.1; have hown := FX.2.2.2.1; have hts := FX.2.2.2.2
  intro n
  induction n with
  | zero =>
    intro x1 σ H locs ls hl hW hf
    cases (show (none : Option (Int32 × Mst)) = some q from hf)
  | succ n ih =>
    intro x1 σ H locs ls hl hW hf
    rw [fX4_goYear_2] at hf
    refine lv_iload_n hx hb dX4_goYear_2 rfl (lv_at hl 1 rfl) ?_
    refine lv_bipush (v := 8) hx hb dX4_goYear_3 (by decide) ?_
    refine lv_icmp_ge (tgt := 30) hx hb dX4_goYear_5 (by decide) (fun c5 => ?_) (fun c5 => ?_)
    · have hf := ifp c5 hf
      refine lv_iconst (v := 0) hx hb dX4_goYear_30 (by decide) ?_
      refine lv_istore_n (lv' := [(1, .int (0 : Int32)), (0, .ref h0)]) hx hb dX4_goYear_31 rfl hl (by decide) rfl (fun ls hl => ?_)
      exact wX4_goYear_32 FX hr hlk _ (0 : Int32) σ _ _ _ (lv_sub hl [1, 0] rfl) hW hf
    · have hf := ifn c5 hf
      refine lv_aload_n hx hb dX4_goYear_8 rfl (lv_at hl 0 rfl) ?_
      refine Mg40 FX hW dX4_goYear_9 ?_
      refine lv_iconst (v := 0) hx hb dX4_goYear_12 (by decide) ?_
      refine lv_iload_n hx hb dX4_goYear_13 rfl (lv_at hl 1 rfl) ?_
      refine lv_iadd hx hb dX4_goYear_14 ?_
      refine g_iald FX hW 24 Mp40 hf dX4_goYear_15 (fun v1 hf => ?_)
      refine lv_if_le (tgt := 24) hx hb dX4_goYear_16 (by decide) (fun c16 => ?_) (fun c16 => ?_)
      · have hf := ifp c16 hf
        refine lv_iinc (v := (x1 + (1 : Int32))) (lv' := [(1, .int (x1 + (1 : Int32))), (0, .ref h0)]) hx hb dX4_goYear_24 hl (k := 1) rfl rfl (by decide) rfl (fun ls hl => ?_)
        refine lv_goto (tgt := 2) hx hb dX4_goYear_27 (by decide) ?_
        exact ih (x1 + (1 : Int32)) σ _ _ _ (lv_sub hl [1, 0] rfl) hW hf
      · have hf := ifn c16 hf
        refine lv_aload_n hx hb dX4_goYear_19 rfl (lv_at hl 0 rfl) ?_
        refine lv_iload_n hx hb dX4_goYear_20 rfl (lv_at hl 1 rfl) ?_
        refine kX4_listen FX ⟨Nat.le_of_ble_eq_true rfl, Nat.le_of_ble_eq_true rfl⟩ ⟨Nat.zero_le _, Nat.zero_le _⟩ hl.1 (Nat.le_of_ble_eq_true rfl) hW hf dX4_goYear_21 (fun s2 H locs hW hf => ?_)
        refine lv_iinc (v := (x1 + (1 : Int32))) (lv' := [(1, .int (x1 + (1 : Int32))), (0, .ref h0)]) hx hb dX4_goYear_24 hl (k := 1) rfl rfl (by decide) rfl (fun ls hl => ?_)
        refine lv_goto (tgt := 2) hx hb dX4_goYear_27 (by decide) ?_
        exact ih (x1 + (1 : Int32)) s2 _ _ _ (lv_sub hl [1, 0] rfl) hW hf
set_option maxHeartbeats 4000000 in
set_option maxRecDepth 100000 in
theorem mX4_goYear  {σ : Mst} {q : (Int32 × Mst)} (hf : fX4_goYear σ = some q) : CtI l yX4_goYear cX4_goYear 3 (some .int) rX4_goYear D dA [.ref h0] (Mc dA h0 ad σ) q.1 (Mc dA h0 ad q.2) := by
  refine e_I (by decide) (Nat.le_of_ble_eq_true rfl) ?_
  intro p e s m below meth c ls A FX hr hlk hl hW
  have hx := FX.1; have hb := FX.2.1; have hown := FX.2.2.2.1; have hts := FX.2.2.2.2
  have hl : lv_has ls 3 [(0, .ref h0)] := hl
  rw [fX4_goYear] at hf
  refine lv_iconst (v := 0) hx hb dX4_goYear_0 (by decide) ?_
  refine lv_istore_n (lv' := [(1, .int (0 : Int32)), (0, .ref h0)]) hx hb dX4_goYear_1 rfl hl (by decide) rfl (fun ls hl => ?_)
  exact wX4_goYear_2 FX hr hlk _ (0 : Int32) σ _ _ _ (lv_sub hl [1, 0] rfl) hW hf
set_option maxHeartbeats 4000000 in
set_option maxRecDepth 100000 in
theorem kX4_goYear {α : Type} {q : α} {k : Int32 → Mst → Option α} {σ : Mst} (FX : CallFix p m c cc nL s args lw_all RX4) (hR : rX4_goYear.frames + 1 ≤ R.frames ∧ 8 + (3 + 11) + rX4_goYear.locals ≤ R.locals) (hcs : cells ≤ R.cells ∧ slots ≤ R.slots) (hl : ls.size = nL) (hrm : (rest.map fun v => v.category).sum ≤ 8) (hW : Wd D dA A s (Mc dA h0 ad σ) H locs) (hf : bnd2 (fX4_goYear σ) k = some q) (hdg : decode cc pc = .ok (.invokevirtual 405, 3)) (kk : ∀ (r : Int32) (σ1 : Mst) (H1 : Heap) (locs1 : List Loc), Wd D dA A s (Mc dA h0 ad σ1) H1 locs1 → k r σ1 = some q → W p l e R s m args below meth c H1 locs1 cells slots Q (F0 m (pc + 3) ls (.int r :: rest))) : W p l e R s m args below meth c H locs cells slots Q (F0 m pc ls (.ref h0 :: rest)) := by
  obtain ⟨r1, h1, hf⟩ := bnd (bnd2_eq hf)
  refine w_Vi (C := RX4) (As := []) (rest := rest) (n := 0) (wr := []) FX (mX4_goYear h1) (cwV 0 FX.2.2.2.2 (lw_V q2026 q2028 qs100 q132 q2029) rfl rfl rfl (by decide +kernel) hR) (va_recv hW.2.2.2.1 hW.1 (ci := 4) (q0 := 0) rfl rfl) rfl hl rfl hrm ⟨Nat.le_trans (Nat.le_of_eq (Nat.add_zero cells)) hcs.1, Nat.le_trans (Nat.le_of_eq (Nat.add_zero slots)) hcs.2⟩ hdg hW.nil ?_
  exact fun H1 locs1 hW1 => kk r1.1 r1.2 H1 locs1 hW1.nil' hf
/-! TrunkLittersModel.goYears(I)I: kind W -/
def fX4_goYears_4 : Nat → Int32 → Int32 → Int32 → Mst → Option (Int32 × Mst)
  | 0, _, _, _, _ => none
  | n + 1, x1, x2, x3, σ => (if x1 ≤ x3 then some (x2, σ) else bnd2 (fX4_goYear σ) fun r1 s2 => fX4_goYears_4 n x1 (x2 ||| r1) (x3 + (1 : Int32)) s2)
def fX4_goYears (x1 : Int32) (σ : Mst) : Option (Int32 × Mst) := fX4_goYears_4 FU x1 (0 : Int32) (0 : Int32) σ
abbrev rX4_goYears : Room := { frames := 8, cells := 0, slots := 0, locals := 176 }
set_option maxHeartbeats 4000000 in
set_option maxRecDepth 100000 in
theorem wX4_goYears_4 {q : (Int32 × Mst)} (FX : CallFix p m c cX4_goYears 4 s args lw_all RX4) (hr : meth.sig.returnType = (some .int)) (hlk : meth.locks = false) : ∀ n : Nat, ∀ (x1 : Int32) (x2 : Int32) (x3 : Int32) (σ : Mst) (H : Heap) (locs : List Loc) (ls : Array Slot), lv_has ls 4 [(0, .ref h0), (1, .int x1), (2, .int x2), (3, .int x3)] → Wd D dA A s (Mc dA h0 ad σ) H locs → fX4_goYears_4 n x1 x2 x3 σ = some q → W p l e rX4_goYears s m args below meth c H locs 0 0 (QI D dA A below args s 0 0 q.1 (Mc dA h0 ad q.2)) (F0 m 4 ls []) := by
  have hx := FX.1; have hb := FX.2.1; have hown := FX.2.2.2.1; have hts := FX.2.2.2.2
  intro n
  induction n with
  | zero =>
    intro x1 x2 x3 σ H locs ls hl hW hf
    cases (show (none : Option (Int32 × Mst)) = some q from hf)
  | succ n ih =>
    intro x1 x2 x3 σ H locs ls hl hW hf
    rw [fX4_goYears_4] at hf
    refine lv_iload_n hx hb dX4_goYears_4 rfl (lv_at hl 3 rfl) ?_
    refine lv_iload_n hx hb dX4_goYears_5 rfl (lv_at hl 1 rfl) ?_
    refine lv_icmp_ge (tgt := 22) hx hb dX4_goYears_6 (by decide) (fun c6 => ?_) (fun c6 => ?_)
    · have hf := ifp c6 hf
      refine lv_iload_n hx hb dX4_goYears_22 rfl (lv_at hl 2 rfl) ?_
      obtain rfl := Option.some.inj hf
      exact g_iret FX hr hlk hW rfl dX4_goYears_23
    · have hf := ifn c6 hf
      refine lv_iload_n hx hb dX4_goYears_9 rfl (lv_at hl 2 rfl) ?_
      refine lv_aload_n hx hb dX4_goYears_10 rfl (lv_at hl 0 rfl) ?_
      refine kX4_goYear FX ⟨Nat.le_of_ble_eq_true rfl, Nat.le_of_ble_eq_true rfl⟩ ⟨Nat.zero_le _, Nat.zero_le _⟩ hl.1 (Nat.le_of_ble_eq_true rfl) hW hf dX4_goYears_11 (fun r1 s2 H locs hW hf => ?_)
      refine lv_ior hx hb dX4_goYears_14 ?_
      refine lv_istore_n (lv' := [(2, .int (x2 ||| r1)), (0, .ref h0), (1, .int x1), (3, .int x3)]) hx hb dX4_goYears_15 rfl hl (by decide) rfl (fun ls hl => ?_)
      refine lv_iinc (v := (x3 + (1 : Int32))) (lv' := [(3, .int (x3 + (1 : Int32))), (2, .int (x2 ||| r1)), (0, .ref h0), (1, .int x1)]) hx hb dX4_goYears_16 hl (k := 3) rfl rfl (by decide) rfl (fun ls hl => ?_)
      refine lv_goto (tgt := 4) hx hb dX4_goYears_19 (by decide) ?_
      exact ih x1 (x2 ||| r1) (x3 + (1 : Int32)) s2 _ _ _ (lv_sub hl [2, 3, 1, 0] rfl) hW hf
set_option maxHeartbeats 4000000 in
set_option maxRecDepth 100000 in
theorem mX4_goYears  {x1 : Int32} {σ : Mst} {q : (Int32 × Mst)} (hf : fX4_goYears x1 σ = some q) : CtI l yX4_goYears cX4_goYears 4 (some .int) rX4_goYears D dA [.ref h0, .int x1] (Mc dA h0 ad σ) q.1 (Mc dA h0 ad q.2) := by
  refine e_I (by decide) (Nat.le_of_ble_eq_true rfl) ?_
  intro p e s m below meth c ls A FX hr hlk hl hW
  have hx := FX.1; have hb := FX.2.1; have hown := FX.2.2.2.1; have hts := FX.2.2.2.2
  have hl : lv_has ls 4 [(0, .ref h0), (1, .int x1)] := hl
  rw [fX4_goYears] at hf
  refine lv_iconst (v := 0) hx hb dX4_goYears_0 (by decide) ?_
  refine lv_istore_n (lv' := [(2, .int (0 : Int32)), (0, .ref h0), (1, .int x1)]) hx hb dX4_goYears_1 rfl hl (by decide) rfl (fun ls hl => ?_)
  refine lv_iconst (v := 0) hx hb dX4_goYears_2 (by decide) ?_
  refine lv_istore_n (lv' := [(3, .int (0 : Int32)), (2, .int (0 : Int32)), (0, .ref h0), (1, .int x1)]) hx hb dX4_goYears_3 rfl hl (by decide) rfl (fun ls hl => ?_)
  exact wX4_goYears_4 FX hr hlk _ x1 (0 : Int32) (0 : Int32) σ _ _ _ (lv_sub hl [2, 3, 1, 0] rfl) hW hf
set_option maxHeartbeats 4000000 in
set_option maxRecDepth 100000 in
theorem kX4_goYears {α : Type} {q : α} {k : Int32 → Mst → Option α} {x1 : Int32} {σ : Mst} (FX : CallFix p m c cc nL s args lw_all RX4) (hR : rX4_goYears.frames + 1 ≤ R.frames ∧ 8 + (4 + 11) + rX4_goYears.locals ≤ R.locals) (hcs : cells ≤ R.cells ∧ slots ≤ R.slots) (hl : ls.size = nL) (hrm : (rest.map fun v => v.category).sum ≤ 8) (hW : Wd D dA A s (Mc dA h0 ad σ) H locs) (hf : bnd2 (fX4_goYears x1 σ) k = some q) (hdg : decode cc pc = .ok (.invokevirtual 433, 3)) (kk : ∀ (r : Int32) (σ1 : Mst) (H1 : Heap) (locs1 : List Loc), Wd D dA A s (Mc dA h0 ad σ1) H1 locs1 → k r σ1 = some q → W p l e R s m args below meth c H1 locs1 cells slots Q (F0 m (pc + 3) ls (.int r :: rest))) : W p l e R s m args below meth c H locs cells slots Q (F0 m pc ls (.int x1 :: .ref h0 :: rest)) := by
  obtain ⟨r1, h1, hf⟩ := bnd (bnd2_eq hf)
  refine w_Vi (C := RX4) (As := [.int x1]) (rest := rest) (n := 1) (wr := []) FX (mX4_goYears h1) (cwV 1 FX.2.2.2.2 (lw_V q2078 q2080 qs107 q132 q2081) rfl rfl rfl (by decide +kernel) hR) (va_recv hW.2.2.2.1 hW.1 (ci := 4) (q0 := 0) rfl rfl) rfl hl rfl hrm ⟨Nat.le_trans (Nat.le_of_eq (Nat.add_zero cells)) hcs.1, Nat.le_trans (Nat.le_of_eq (Nat.add_zero slots)) hcs.2⟩ hdg hW.nil ?_
  exact fun H1 locs1 hW1 => kk r1.1 r1.2 H1 locs1 hW1.nil' hf
/-! TrunkLittersModel.room(II)I: kind R -/
def fX4_room (x1 : Int32) (x2 : Int32) (σ : Mst) : Option Int32 := (fX4_isRoom x1 σ).bind fun r1 => (if r1 = 0 then some (-1 : Int32) else (if x2 = (0 : Int32) then (fX4_holdsOf x1 σ).bind fun r2 => some r2 else (if x2 = (1 : Int32) then (fX4_leftIn x1 σ).bind fun r3 => some r3 else (if x2 = (2 : Int32) then (fX4_thoseIn x1 σ).bind fun r4 => some r4 else some (-1 : Int32)))))
abbrev rX4_room : Room := { frames := 3, cells := 0, slots := 0, locals := 65 }
set_option maxHeartbeats 4000000 in
set_option maxRecDepth 100000 in
theorem mX4_room  {x1 : Int32} {x2 : Int32} {σ : Mst} {q : Int32} (hf : fX4_room x1 x2 σ = some q) : CtI l yX4_room cX4_room 3 (some .int) rX4_room D dA [.ref h0, .int x1, .int x2] (Mc dA h0 ad σ) q (Mc dA h0 ad σ) := by
  refine e_I (by decide) (Nat.le_of_ble_eq_true rfl) ?_
  intro p e s m below meth c ls A FX hr hlk hl hW
  have hx := FX.1; have hb := FX.2.1; have hown := FX.2.2.2.1; have hts := FX.2.2.2.2
  have hl : lv_has ls 3 [(0, .ref h0), (1, .int x1), (2, .int x2)] := hl
  rw [fX4_room] at hf
  refine lv_aload_n hx hb dX4_room_0 rfl (lv_at hl 0 rfl) ?_
  refine lv_iload_n hx hb dX4_room_1 rfl (lv_at hl 1 rfl) ?_
  refine kX4_isRoom FX ⟨Nat.le_of_ble_eq_true rfl, Nat.le_of_ble_eq_true rfl⟩ ⟨Nat.zero_le _, Nat.zero_le _⟩ hl.1 (Nat.le_of_ble_eq_true rfl) hW hf dX4_room_2 (fun r1 H locs hW hf => ?_)
  refine lv_if_ne (tgt := 10) hx hb dX4_room_5 (by decide) (fun c5 => ?_) (fun c5 => ?_)
  · have hf := ifn c5 hf
    refine lv_iload_n hx hb dX4_room_10 rfl (lv_at hl 2 rfl) ?_
    by_cases c11_0 : x2 = (0 : Int32)
    · have hf := ifp c11_0 hf
      refine g_tabC (tgt := 36) FX (0 : Int32) c11_0 (by decide) (by decide) rfl (by decide) dX4_room_11 ?_
      refine lv_aload_n hx hb dX4_room_36 rfl (lv_at hl 0 rfl) ?_
      refine lv_iload_n hx hb dX4_room_37 rfl (lv_at hl 1 rfl) ?_
      refine kX4_holdsOf FX ⟨Nat.le_of_ble_eq_true rfl, Nat.le_of_ble_eq_true rfl⟩ ⟨Nat.zero_le _, Nat.zero_le _⟩ hl.1 (Nat.le_of_ble_eq_true rfl) hW hf dX4_room_38 (fun r2 H locs hW hf => ?_)
      exact g_iret FX hr hlk hW (Option.some.inj hf) dX4_room_41
    have hf := ifn c11_0 hf
    by_cases c11_1 : x2 = (1 : Int32)
    · have hf := ifp c11_1 hf
      refine g_tabC (tgt := 42) FX (1 : Int32) c11_1 (by decide) (by decide) rfl (by decide) dX4_room_11 ?_
      refine lv_aload_n hx hb dX4_room_42 rfl (lv_at hl 0 rfl) ?_
      refine lv_iload_n hx hb dX4_room_43 rfl (lv_at hl 1 rfl) ?_
      refine kX4_leftIn FX ⟨Nat.le_of_ble_eq_true rfl, Nat.le_of_ble_eq_true rfl⟩ ⟨Nat.zero_le _, Nat.zero_le _⟩ hl.1 (Nat.le_of_ble_eq_true rfl) hW hf dX4_room_44 (fun r3 H locs hW hf => ?_)
      exact g_iret FX hr hlk hW (Option.some.inj hf) dX4_room_47
    have hf := ifn c11_1 hf
    by_cases c11_2 : x2 = (2 : Int32)
    · have hf := ifp c11_2 hf
      refine g_tabC (tgt := 48) FX (2 : Int32) c11_2 (by decide) (by decide) rfl (by decide) dX4_room_11 ?_
      refine lv_aload_n hx hb dX4_room_48 rfl (lv_at hl 0 rfl) ?_
      refine lv_iload_n hx hb dX4_room_49 rfl (lv_at hl 1 rfl) ?_
      refine kX4_thoseIn FX ⟨Nat.le_of_ble_eq_true rfl, Nat.le_of_ble_eq_true rfl⟩ ⟨Nat.zero_le _, Nat.zero_le _⟩ hl.1 (Nat.le_of_ble_eq_true rfl) hW hf dX4_room_50 (fun r4 H locs hW hf => ?_)
      exact g_iret FX hr hlk hW (Option.some.inj hf) dX4_room_53
    have hf := ifn c11_2 hf
    have n11_0 := lv_neT (a := 0) c11_0 (by decide)
    have n11_1 := lv_neT (a := 1) c11_1 (by decide)
    have n11_2 := lv_neT (a := 2) c11_2 (by decide)
    refine lv_tableOut (tgt := 54) hx hb dX4_room_11 (by omega) (by decide) ?_
    refine lv_iconst (v := -1) hx hb dX4_room_54 (by decide) ?_
    exact g_iret FX hr hlk hW (Option.some.inj hf) dX4_room_55
  · have hf := ifp c5 hf
    refine lv_iconst (v := -1) hx hb dX4_room_8 (by decide) ?_
    exact g_iret FX hr hlk hW (Option.some.inj hf) dX4_room_9

/-! TrunkLittersModel.trunk(II)I: kind R -/
def fX4_trunk (x1 : Int32) (x2 : Int32) (σ : Mst) : Option Int32 := (fX4_isThere x1 σ).bind fun r1 => (if r1 = 0 then some (-2 : Int32) else (if x2 = (0 : Int32) then ald 59 (gA σ 40) ((0 : Int32) + x1) fun v2 => some v2 else (if x2 = (1 : Int32) then ald 59 (gA σ 40) ((8 : Int32) + x1) fun v3 => some v3 else (if x2 = (2 : Int32) then ald 59 (gA σ 40) ((16 : Int32) + x1) fun v4 => some v4 else (if x2 = (3 : Int32) then ald 59 (gA σ 40) ((24 : Int32) + x1) fun v5 => some v5 else (if x2 = (4 : Int32) then ald 59 (gA σ 40) ((32 : Int32) + x1) fun v6 => some v6 else (if x2 = (5 : Int32) then ald 59 (gA σ 40) ((40 : Int32) + x1) fun v7 => some v7 else (if x2 = (6 : Int32) then ald 59 (gA σ 40) ((48 : Int32) + x1) fun v8 => some v8 else some (-2 : Int32)))))))))
abbrev rX4_trunk : Room := { frames := 2, cells := 0, slots := 0, locals := 43 }
set_option maxHeartbeats 4000000 in
set_option maxRecDepth 100000 in
theorem mX4_trunk  {x1 : Int32} {x2 : Int32} {σ : Mst} {q : Int32} (hf : fX4_trunk x1 x2 σ = some q) : CtI l yX4_trunk cX4_trunk 3 (some .int) rX4_trunk D dA [.ref h0, .int x1, .int x2] (Mc dA h0 ad σ) q (Mc dA h0 ad σ) := by
  refine e_I (by decide) (Nat.le_of_ble_eq_true rfl) ?_
  intro p e s m below meth c ls A FX hr hlk hl hW
  have hx := FX.1; have hb := FX.2.1; have hown := FX.2.2.2.1; have hts := FX.2.2.2.2
  have hl : lv_has ls 3 [(0, .ref h0), (1, .int x1), (2, .int x2)] := hl
  rw [fX4_trunk] at hf
  refine lv_aload_n hx hb dX4_trunk_0 rfl (lv_at hl 0 rfl) ?_
  refine lv_iload_n hx hb dX4_trunk_1 rfl (lv_at hl 1 rfl) ?_
  refine kX4_isThere FX ⟨Nat.le_of_ble_eq_true rfl, Nat.le_of_ble_eq_true rfl⟩ ⟨Nat.zero_le _, Nat.zero_le _⟩ hl.1 (Nat.le_of_ble_eq_true rfl) hW hf dX4_trunk_2 (fun r1 H locs hW hf => ?_)
  refine lv_if_ne (tgt := 11) hx hb dX4_trunk_5 (by decide) (fun c5 => ?_) (fun c5 => ?_)
  · have hf := ifn c5 hf
    refine lv_iload_n hx hb dX4_trunk_11 rfl (lv_at hl 2 rfl) ?_
    by_cases c12_0 : x2 = (0 : Int32)
    · have hf := ifp c12_0 hf
      refine g_tabC (tgt := 56) FX (0 : Int32) c12_0 (by decide) (by decide) rfl (by decide) dX4_trunk_12 ?_
      refine lv_aload_n hx hb dX4_trunk_56 rfl (lv_at hl 0 rfl) ?_
      refine Mg40 FX hW dX4_trunk_57 ?_
      refine lv_iconst (v := 0) hx hb dX4_trunk_60 (by decide) ?_
      refine lv_iload_n hx hb dX4_trunk_61 rfl (lv_at hl 1 rfl) ?_
      refine lv_iadd hx hb dX4_trunk_62 ?_
      refine g_iald FX hW 24 Mp40 hf dX4_trunk_63 (fun v2 hf => ?_)
      exact g_iret FX hr hlk hW (Option.some.inj hf) dX4_trunk_64
    have hf := ifn c12_0 hf
    by_cases c12_1 : x2 = (1 : Int32)
    · have hf := ifp c12_1 hf
      refine g_tabC (tgt := 65) FX (1 : Int32) c12_1 (by decide) (by decide) rfl (by decide) dX4_trunk_12 ?_
      refine lv_aload_n hx hb dX4_trunk_65 rfl (lv_at hl 0 rfl) ?_
      refine Mg40 FX hW dX4_trunk_66 ?_
      refine lv_bipush (v := 8) hx hb dX4_trunk_69 (by decide) ?_
      refine lv_iload_n hx hb dX4_trunk_71 rfl (lv_at hl 1 rfl) ?_
      refine lv_iadd hx hb dX4_trunk_72 ?_
      refine g_iald FX hW 24 Mp40 hf dX4_trunk_73 (fun v3 hf => ?_)
      exact g_iret FX hr hlk hW (Option.some.inj hf) dX4_trunk_74
    have hf := ifn c12_1 hf
    by_cases c12_2 : x2 = (2 : Int32)
    · have hf := ifp c12_2 hf
      refine g_tabC (tgt := 75) FX (2 : Int32) c12_2 (by decide) (by decide) rfl (by decide) dX4_trunk_12 ?_
      refine lv_aload_n hx hb dX4_trunk_75 rfl (lv_at hl 0 rfl) ?_
      refine Mg40 FX hW dX4_trunk_76 ?_
      refine lv_bipush (v := 16) hx hb dX4_trunk_79 (by decide) ?_
      refine lv_iload_n hx hb dX4_trunk_81 rfl (lv_at hl 1 rfl) ?_
      refine lv_iadd hx hb dX4_trunk_82 ?_
      refine g_iald FX hW 24 Mp40 hf dX4_trunk_83 (fun v4 hf => ?_)
      exact g_iret FX hr hlk hW (Option.some.inj hf) dX4_trunk_84
    have hf := ifn c12_2 hf
    by_cases c12_3 : x2 = (3 : Int32)
    · have hf := ifp c12_3 hf
      refine g_tabC (tgt := 85) FX (3 : Int32) c12_3 (by decide) (by decide) rfl (by decide) dX4_trunk_12 ?_
      refine lv_aload_n hx hb dX4_trunk_85 rfl (lv_at hl 0 rfl) ?_
      refine Mg40 FX hW dX4_trunk_86 ?_
      refine lv_bipush (v := 24) hx hb dX4_trunk_89 (by decide) ?_
      refine lv_iload_n hx hb dX4_trunk_91 rfl (lv_at hl 1 rfl) ?_
      refine lv_iadd hx hb dX4_trunk_92 ?_
      refine g_iald FX hW 24 Mp40 hf dX4_trunk_93 (fun v5 hf => ?_)
      exact g_iret FX hr hlk hW (Option.some.inj hf) dX4_trunk_94
    have hf := ifn c12_3 hf
    by_cases c12_4 : x2 = (4 : Int32)
    · have hf := ifp c12_4 hf
      refine g_tabC (tgt := 95) FX (4 : Int32) c12_4 (by decide) (by decide) rfl (by decide) dX4_trunk_12 ?_
      refine lv_aload_n hx hb dX4_trunk_95 rfl (lv_at hl 0 rfl) ?_
      refine Mg40 FX hW dX4_trunk_96 ?_
      refine lv_bipush (v := 32) hx hb dX4_trunk_99 (by decide) ?_
      refine lv_iload_n hx hb dX4_trunk_101 rfl (lv_at hl 1 rfl) ?_
      refine lv_iadd hx hb dX4_trunk_102 ?_
      refine g_iald FX hW 24 Mp40 hf dX4_trunk_103 (fun v6 hf => ?_)
      exact g_iret FX hr hlk hW (Option.some.inj hf) dX4_trunk_104
    have hf := ifn c12_4 hf
    by_cases c12_5 : x2 = (5 : Int32)
    · have hf := ifp c12_5 hf
      refine g_tabC (tgt := 105) FX (5 : Int32) c12_5 (by decide) (by decide) rfl (by decide) dX4_trunk_12 ?_
      refine lv_aload_n hx hb dX4_trunk_105 rfl (lv_at hl 0 rfl) ?_
      refine Mg40 FX hW dX4_trunk_106 ?_
      refine lv_bipush (v := 40) hx hb dX4_trunk_109 (by decide) ?_
      refine lv_iload_n hx hb dX4_trunk_111 rfl (lv_at hl 1 rfl) ?_
      refine lv_iadd hx hb dX4_trunk_112 ?_
      refine g_iald FX hW 24 Mp40 hf dX4_trunk_113 (fun v7 hf => ?_)
      exact g_iret FX hr hlk hW (Option.some.inj hf) dX4_trunk_114
    have hf := ifn c12_5 hf
    by_cases c12_6 : x2 = (6 : Int32)
    · have hf := ifp c12_6 hf
      refine g_tabC (tgt := 115) FX (6 : Int32) c12_6 (by decide) (by decide) rfl (by decide) dX4_trunk_12 ?_
      refine lv_aload_n hx hb dX4_trunk_115 rfl (lv_at hl 0 rfl) ?_
      refine Mg40 FX hW dX4_trunk_116 ?_
      refine lv_bipush (v := 48) hx hb dX4_trunk_119 (by decide) ?_
      refine lv_iload_n hx hb dX4_trunk_121 rfl (lv_at hl 1 rfl) ?_
      refine lv_iadd hx hb dX4_trunk_122 ?_
      refine g_iald FX hW 24 Mp40 hf dX4_trunk_123 (fun v8 hf => ?_)
      exact g_iret FX hr hlk hW (Option.some.inj hf) dX4_trunk_124
    have hf := ifn c12_6 hf
    have n12_0 := lv_neT (a := 0) c12_0 (by decide)
    have n12_1 := lv_neT (a := 1) c12_1 (by decide)
    have n12_2 := lv_neT (a := 2) c12_2 (by decide)
    have n12_3 := lv_neT (a := 3) c12_3 (by decide)
    have n12_4 := lv_neT (a := 4) c12_4 (by decide)
    have n12_5 := lv_neT (a := 5) c12_5 (by decide)
    have n12_6 := lv_neT (a := 6) c12_6 (by decide)
    refine lv_tableOut (tgt := 125) hx hb dX4_trunk_12 (by omega) (by decide) ?_
    refine lv_bipush (v := -2) hx hb dX4_trunk_125 (by decide) ?_
    exact g_iret FX hr hlk hW (Option.some.inj hf) dX4_trunk_127
  · have hf := ifp c5 hf
    refine lv_bipush (v := -2) hx hb dX4_trunk_8 (by decide) ?_
    exact g_iret FX hr hlk hW (Option.some.inj hf) dX4_trunk_10

/-! TrunkLittersModel.brood(II)I: kind W -/
def fX4_brood (x1 : Int32) (x2 : Int32) (σ : Mst) : Option (Int32 × Mst) := (fX4_isThere x1 σ).bind fun r1 => (if r1 = 0 then some ((-1000000000 : Int32), σ) else (fX4_isThere x2 σ).bind fun r2 => (if r2 = 0 then some ((-1000000000 : Int32), σ) else (if x1 = x2 then some ((-1000000000 : Int32), σ) else ald 59 (gA σ 40) ((8 : Int32) + x1) fun v3 => ald 59 (gA σ 40) ((8 : Int32) + x2) fun v4 => (if v3 = v4 then bnd2 (fX4_broodOf x1 x2 σ) fun r5 s6 => some (r5, s6) else some ((-1000000000 : Int32), σ)))))
abbrev rX4_brood : Room := { frames := 6, cells := 0, slots := 0, locals := 132 }
set_option maxHeartbeats 4000000 in
set_option maxRecDepth 100000 in
theorem mX4_brood  {x1 : Int32} {x2 : Int32} {σ : Mst} {q : (Int32 × Mst)} (hf : fX4_brood x1 x2 σ = some q) : CtI l yX4_brood cX4_brood 3 (some .int) rX4_brood D dA [.ref h0, .int x1, .int x2] (Mc dA h0 ad σ) q.1 (Mc dA h0 ad q.2) := by
  refine e_I (by decide) (Nat.le_of_ble_eq_true rfl) ?_
  intro p e s m below meth c ls A FX hr hlk hl hW
  have hx := FX.1; have hb := FX.2.1; have hown := FX.2.2.2.1; have hts := FX.2.2.2.2
  have hl : lv_has ls 3 [(0, .ref h0), (1, .int x1), (2, .int x2)] := hl
  rw [fX4_brood] at hf
  refine lv_aload_n hx hb dX4_brood_0 rfl (lv_at hl 0 rfl) ?_
  refine lv_iload_n hx hb dX4_brood_1 rfl (lv_at hl 1 rfl) ?_
  refine kX4_isThere FX ⟨Nat.le_of_ble_eq_true rfl, Nat.le_of_ble_eq_true rfl⟩ ⟨Nat.zero_le _, Nat.zero_le _⟩ hl.1 (Nat.le_of_ble_eq_true rfl) hW hf dX4_brood_2 (fun r1 H locs hW hf => ?_)
  refine lv_if_eq (tgt := 51) hx hb dX4_brood_5 (by decide) (fun c5 => ?_) (fun c5 => ?_)
  · have hf := ifp c5 hf
    refine lv_ldcw (v := -1000000000) hx hb hown (hts _ q1960) dX4_brood_51 ?_
    obtain rfl := Option.some.inj hf
    exact g_iret FX hr hlk hW rfl dX4_brood_54
  · have hf := ifn c5 hf
    refine lv_aload_n hx hb dX4_brood_8 rfl (lv_at hl 0 rfl) ?_
    refine lv_iload_n hx hb dX4_brood_9 rfl (lv_at hl 2 rfl) ?_
    refine kX4_isThere FX ⟨Nat.le_of_ble_eq_true rfl, Nat.le_of_ble_eq_true rfl⟩ ⟨Nat.zero_le _, Nat.zero_le _⟩ hl.1 (Nat.le_of_ble_eq_true rfl) hW hf dX4_brood_10 (fun r2 H locs hW hf => ?_)
    refine lv_if_eq (tgt := 51) hx hb dX4_brood_13 (by decide) (fun c13 => ?_) (fun c13 => ?_)
    · have hf := ifp c13 hf
      refine lv_ldcw (v := -1000000000) hx hb hown (hts _ q1960) dX4_brood_51 ?_
      obtain rfl := Option.some.inj hf
      exact g_iret FX hr hlk hW rfl dX4_brood_54
    · have hf := ifn c13 hf
      refine lv_iload_n hx hb dX4_brood_16 rfl (lv_at hl 1 rfl) ?_
      refine lv_iload_n hx hb dX4_brood_17 rfl (lv_at hl 2 rfl) ?_
      refine lv_icmp_eq (tgt := 51) hx hb dX4_brood_18 (by decide) (fun c18 => ?_) (fun c18 => ?_)
      · have hf := ifp c18 hf
        refine lv_ldcw (v := -1000000000) hx hb hown (hts _ q1960) dX4_brood_51 ?_
        obtain rfl := Option.some.inj hf
        exact g_iret FX hr hlk hW rfl dX4_brood_54
      · have hf := ifn c18 hf
        refine lv_aload_n hx hb dX4_brood_21 rfl (lv_at hl 0 rfl) ?_
        refine Mg40 FX hW dX4_brood_22 ?_
        refine lv_bipush (v := 8) hx hb dX4_brood_25 (by decide) ?_
        refine lv_iload_n hx hb dX4_brood_27 rfl (lv_at hl 1 rfl) ?_
        refine lv_iadd hx hb dX4_brood_28 ?_
        refine g_iald FX hW 24 Mp40 hf dX4_brood_29 (fun v3 hf => ?_)
        refine lv_aload_n hx hb dX4_brood_30 rfl (lv_at hl 0 rfl) ?_
        refine Mg40 FX hW dX4_brood_31 ?_
        refine lv_bipush (v := 8) hx hb dX4_brood_34 (by decide) ?_
        refine lv_iload_n hx hb dX4_brood_36 rfl (lv_at hl 2 rfl) ?_
        refine lv_iadd hx hb dX4_brood_37 ?_
        refine g_iald FX hW 24 Mp40 hf dX4_brood_38 (fun v4 hf => ?_)
        refine lv_icmp_ne (tgt := 51) hx hb dX4_brood_39 (by decide) (fun c39 => ?_) (fun c39 => ?_)
        · have hf := ifn c39 hf
          refine lv_ldcw (v := -1000000000) hx hb hown (hts _ q1960) dX4_brood_51 ?_
          obtain rfl := Option.some.inj hf
          exact g_iret FX hr hlk hW rfl dX4_brood_54
        · have hf := ifp c39 hf
          refine lv_aload_n hx hb dX4_brood_42 rfl (lv_at hl 0 rfl) ?_
          refine lv_iload_n hx hb dX4_brood_43 rfl (lv_at hl 1 rfl) ?_
          refine lv_iload_n hx hb dX4_brood_44 rfl (lv_at hl 2 rfl) ?_
          refine kX4_broodOf FX ⟨Nat.le_of_ble_eq_true rfl, Nat.le_of_ble_eq_true rfl⟩ ⟨Nat.zero_le _, Nat.zero_le _⟩ hl.1 (Nat.le_of_ble_eq_true rfl) hW hf dX4_brood_45 (fun r5 s6 H locs hW hf => ?_)
          refine lv_goto (tgt := 54) hx hb dX4_brood_48 (by decide) ?_
          obtain rfl := Option.some.inj hf
          exact g_iret FX hr hlk hW rfl dX4_brood_54

/-! TrunkLittersModel.couple(I)I: kind R -/
def fX4_couple (x1 : Int32) (σ : Mst) : Option Int32 := (fX4_isRoom x1 σ).bind fun r1 => (if r1 = 0 then some (-1 : Int32) else (fX4_coupleOf x1 σ).bind fun r2 => some r2)
abbrev rX4_couple : Room := { frames := 3, cells := 0, slots := 0, locals := 67 }
set_option maxHeartbeats 4000000 in
set_option maxRecDepth 100000 in
theorem mX4_couple  {x1 : Int32} {σ : Mst} {q : Int32} (hf : fX4_couple x1 σ = some q) : CtI l yX4_couple cX4_couple 2 (some .int) rX4_couple D dA [.ref h0, .int x1] (Mc dA h0 ad σ) q (Mc dA h0 ad σ) := by
  refine e_I (by decide) (Nat.le_of_ble_eq_true rfl) ?_
  intro p e s m below meth c ls A FX hr hlk hl hW
  have hx := FX.1; have hb := FX.2.1; have hown := FX.2.2.2.1; have hts := FX.2.2.2.2
  have hl : lv_has ls 2 [(0, .ref h0), (1, .int x1)] := hl
  rw [fX4_couple] at hf
  refine lv_aload_n hx hb dX4_couple_0 rfl (lv_at hl 0 rfl) ?_
  refine lv_iload_n hx hb dX4_couple_1 rfl (lv_at hl 1 rfl) ?_
  refine kX4_isRoom FX ⟨Nat.le_of_ble_eq_true rfl, Nat.le_of_ble_eq_true rfl⟩ ⟨Nat.zero_le _, Nat.zero_le _⟩ hl.1 (Nat.le_of_ble_eq_true rfl) hW hf dX4_couple_2 (fun r1 H locs hW hf => ?_)
  refine lv_if_eq (tgt := 16) hx hb dX4_couple_5 (by decide) (fun c5 => ?_) (fun c5 => ?_)
  · have hf := ifp c5 hf
    refine lv_iconst (v := -1) hx hb dX4_couple_16 (by decide) ?_
    exact g_iret FX hr hlk hW (Option.some.inj hf) dX4_couple_17
  · have hf := ifn c5 hf
    refine lv_aload_n hx hb dX4_couple_8 rfl (lv_at hl 0 rfl) ?_
    refine lv_iload_n hx hb dX4_couple_9 rfl (lv_at hl 1 rfl) ?_
    refine kX4_coupleOf FX ⟨Nat.le_of_ble_eq_true rfl, Nat.le_of_ble_eq_true rfl⟩ ⟨Nat.zero_le _, Nat.zero_le _⟩ hl.1 (Nat.le_of_ble_eq_true rfl) hW hf dX4_couple_10 (fun r2 H locs hW hf => ?_)
    refine lv_goto (tgt := 17) hx hb dX4_couple_13 (by decide) ?_
    exact g_iret FX hr hlk hW (Option.some.inj hf) dX4_couple_17

/-! TrunkLittersModel.ripe()I: kind W -/
def fX4_ripe_4 : Nat → Int32 → Int32 → Mst → Option (Int32 × Mst)
  | 0, _, _, _ => none
  | n + 1, x1, x2, σ => (fX4_chambers σ).bind fun r1 => (if r1 ≤ x2 then some (x1, σ) else bnd2 (fX4_isRipe x2 σ) fun r2 s3 => (if r2 = 0 then fX4_ripe_4 n x1 (x2 + (1 : Int32)) s3 else fX4_ripe_4 n (x1 ||| ((1 : Int32) <<< (x2 &&& 31))) (x2 + (1 : Int32)) s3))
def fX4_ripe (σ : Mst) : Option (Int32 × Mst) := fX4_ripe_4 FU (0 : Int32) (0 : Int32) σ
abbrev rX4_ripe : Room := { frames := 7, cells := 0, slots := 0, locals := 154 }
set_option maxHeartbeats 4000000 in
set_option maxRecDepth 100000 in
theorem wX4_ripe_4 {q : (Int32 × Mst)} (FX : CallFix p m c cX4_ripe 3 s args lw_all RX4) (hr : meth.sig.returnType = (some .int)) (hlk : meth.locks = false) : ∀ n : Nat, ∀ (x1 : Int32) (x2 : Int32) (σ : Mst) (H : Heap) (locs : List Loc) (ls : Array Slot), lv_has ls 3 [(0, .ref h0), (1, .int x1), (2, .int x2)] → Wd D dA A s (Mc dA h0 ad σ) H locs → fX4_ripe_4 n x1 x2 σ = some q → W p l e rX4_ripe s m args below meth c H locs 0 0 (QI D dA A below args s 0 0 q.1 (Mc dA h0 ad q.2)) (F0 m 4 ls []) := by
  have hx := FX.1; have hb := FX.2.1; have hown := FX.2.2.2.1; have hts := FX.2.2.2.2
  intro n
  induction n with
  | zero =>
    intro x1 x2 σ H locs ls hl hW hf
    cases (show (none : Option (Int32 × Mst)) = some q from hf)
  | succ n ih =>
    intro x1 x2 σ H locs ls hl hW hf
    rw [fX4_ripe_4] at hf
    refine lv_iload_n hx hb dX4_ripe_4 rfl (lv_at hl 2 rfl) ?_
    refine lv_aload_n hx hb dX4_ripe_5 rfl (lv_at hl 0 rfl) ?_
    refine kX4_chambers FX ⟨Nat.le_of_ble_eq_true rfl, Nat.le_of_ble_eq_true rfl⟩ ⟨Nat.zero_le _, Nat.zero_le _⟩ hl.1 (Nat.le_of_ble_eq_true rfl) hW hf dX4_ripe_6 (fun r1 H locs hW hf => ?_)
    refine lv_icmp_ge (tgt := 32) hx hb dX4_ripe_9 (by decide) (fun c9 => ?_) (fun c9 => ?_)
    · have hf := ifp c9 hf
      refine lv_iload_n hx hb dX4_ripe_32 rfl (lv_at hl 1 rfl) ?_
      obtain rfl := Option.some.inj hf
      exact g_iret FX hr hlk hW rfl dX4_ripe_33
    · have hf := ifn c9 hf
      refine lv_aload_n hx hb dX4_ripe_12 rfl (lv_at hl 0 rfl) ?_
      refine lv_iload_n hx hb dX4_ripe_13 rfl (lv_at hl 2 rfl) ?_
      refine kX4_isRipe FX ⟨Nat.le_of_ble_eq_true rfl, Nat.le_of_ble_eq_true rfl⟩ ⟨Nat.zero_le _, Nat.zero_le _⟩ hl.1 (Nat.le_of_ble_eq_true rfl) hW hf dX4_ripe_14 (fun r2 s3 H locs hW hf => ?_)
      refine lv_if_eq (tgt := 26) hx hb dX4_ripe_17 (by decide) (fun c17 => ?_) (fun c17 => ?_)
      · have hf := ifp c17 hf
        refine lv_iinc (v := (x2 + (1 : Int32))) (lv' := [(2, .int (x2 + (1 : Int32))), (0, .ref h0), (1, .int x1)]) hx hb dX4_ripe_26 hl (k := 2) rfl rfl (by decide) rfl (fun ls hl => ?_)
        refine lv_goto (tgt := 4) hx hb dX4_ripe_29 (by decide) ?_
        exact ih x1 (x2 + (1 : Int32)) s3 _ _ _ (lv_sub hl [1, 2, 0] rfl) hW hf
      · have hf := ifn c17 hf
        refine lv_iload_n hx hb dX4_ripe_20 rfl (lv_at hl 1 rfl) ?_
        refine lv_iconst (v := 1) hx hb dX4_ripe_21 (by decide) ?_
        refine lv_iload_n hx hb dX4_ripe_22 rfl (lv_at hl 2 rfl) ?_
        refine lv_ishl hx hb dX4_ripe_23 ?_
        refine lv_ior hx hb dX4_ripe_24 ?_
        refine lv_istore_n (lv' := [(1, .int (x1 ||| ((1 : Int32) <<< (x2 &&& 31)))), (0, .ref h0), (2, .int x2)]) hx hb dX4_ripe_25 rfl hl (by decide) rfl (fun ls hl => ?_)
        refine lv_iinc (v := (x2 + (1 : Int32))) (lv' := [(2, .int (x2 + (1 : Int32))), (1, .int (x1 ||| ((1 : Int32) <<< (x2 &&& 31)))), (0, .ref h0)]) hx hb dX4_ripe_26 hl (k := 2) rfl rfl (by decide) rfl (fun ls hl => ?_)
        refine lv_goto (tgt := 4) hx hb dX4_ripe_29 (by decide) ?_
        exact ih (x1 ||| ((1 : Int32) <<< (x2 &&& 31))) (x2 + (1 : Int32)) s3 _ _ _ (lv_sub hl [2, 1, 0] rfl) hW hf
set_option maxHeartbeats 4000000 in
set_option maxRecDepth 100000 in
theorem mX4_ripe  {σ : Mst} {q : (Int32 × Mst)} (hf : fX4_ripe σ = some q) : CtI l yX4_ripe cX4_ripe 3 (some .int) rX4_ripe D dA [.ref h0] (Mc dA h0 ad σ) q.1 (Mc dA h0 ad q.2) := by
  refine e_I (by decide) (Nat.le_of_ble_eq_true rfl) ?_
  intro p e s m below meth c ls A FX hr hlk hl hW
  have hx := FX.1; have hb := FX.2.1; have hown := FX.2.2.2.1; have hts := FX.2.2.2.2
  have hl : lv_has ls 3 [(0, .ref h0)] := hl
  rw [fX4_ripe] at hf
  refine lv_iconst (v := 0) hx hb dX4_ripe_0 (by decide) ?_
  refine lv_istore_n (lv' := [(1, .int (0 : Int32)), (0, .ref h0)]) hx hb dX4_ripe_1 rfl hl (by decide) rfl (fun ls hl => ?_)
  refine lv_iconst (v := 0) hx hb dX4_ripe_2 (by decide) ?_
  refine lv_istore_n (lv' := [(2, .int (0 : Int32)), (1, .int (0 : Int32)), (0, .ref h0)]) hx hb dX4_ripe_3 rfl hl (by decide) rfl (fun ls hl => ?_)
  exact wX4_ripe_4 FX hr hlk _ (0 : Int32) (0 : Int32) σ _ _ _ (lv_sub hl [2, 1, 0] rfl) hW hf

end M07
