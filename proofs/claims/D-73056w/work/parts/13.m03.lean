section M03
variable {p : Program} {l : Launch} {e : Env} {R : Room} {s : State} {m : MethodId} {args : Array Value} {below : List Frame} {meth : Method} {c : Code} {H : Heap} {locs : List Loc} {cells slots : Nat} {Q : State → Prop}
variable {cc : ByteArray} {pc nL : Nat} {ls : Array Slot} {rest : List Value} {D : va_G} {dA : Nat → ClassId} {A : Nat → Prop} {h0 : Nat} {ad : Nat → Nat}
/-! TrunkLittersModel.end(I)I: kind W -/
def fX4_end (x1 : Int32) (σ : Mst) : Option (Int32 × Mst) := (if x1 < 0 then some ((-1 : Int32), σ) else (if x1 ≤ (gF σ 2) then stp (sF σ 2 x1) fun s1 => some (x1, s1) else some ((-1 : Int32), σ)))
abbrev rX4_end : Room := { frames := 0, cells := 0, slots := 0, locals := 0 }
set_option maxHeartbeats 4000000 in
set_option maxRecDepth 100000 in
theorem mX4_end  {x1 : Int32} {σ : Mst} {q : (Int32 × Mst)} (hf : fX4_end x1 σ = some q) : CtI l yX4_end cX4_end 2 (some .int) rX4_end D dA [.ref h0, .int x1] (Mc dA h0 ad σ) q.1 (Mc dA h0 ad q.2) := by
  refine e_I (by decide) (Nat.le_of_ble_eq_true rfl) ?_
  intro p e s m below meth c ls A FX hr hlk hl hW
  have hx := FX.1; have hb := FX.2.1; have hown := FX.2.2.2.1; have hts := FX.2.2.2.2
  have hl : lv_has ls 2 [(0, .ref h0), (1, .int x1)] := hl
  rw [fX4_end] at hf
  refine lv_iload_n hx hb dX4_end_0 rfl (lv_at hl 1 rfl) ?_
  refine lv_if_lt (tgt := 12) hx hb dX4_end_1 (by decide) (fun c1 => ?_) (fun c1 => ?_)
  · have hf := ifp c1 hf
    refine lv_iconst (v := -1) hx hb dX4_end_12 (by decide) ?_
    obtain rfl := Option.some.inj hf
    exact g_iret FX hr hlk hW rfl dX4_end_13
  · have hf := ifn c1 hf
    refine lv_iload_n hx hb dX4_end_4 rfl (lv_at hl 1 rfl) ?_
    refine lv_aload_n hx hb dX4_end_5 rfl (lv_at hl 0 rfl) ?_
    refine Mg2 FX hW dX4_end_6 ?_
    refine lv_icmp_le (tgt := 14) hx hb dX4_end_9 (by decide) (fun c9 => ?_) (fun c9 => ?_)
    · have hf := ifp c9 hf
      refine lv_aload_n hx hb dX4_end_14 rfl (lv_at hl 0 rfl) ?_
      refine lv_iload_n hx hb dX4_end_15 rfl (lv_at hl 1 rfl) ?_
      refine Ms2 FX hW hf dX4_end_16 (fun s1 H locs hW hf => ?_)
      refine lv_iload_n hx hb dX4_end_19 rfl (lv_at hl 1 rfl) ?_
      obtain rfl := Option.some.inj hf
      exact g_iret FX hr hlk hW rfl dX4_end_20
    · have hf := ifn c9 hf
      refine lv_iconst (v := -1) hx hb dX4_end_12 (by decide) ?_
      obtain rfl := Option.some.inj hf
      exact g_iret FX hr hlk hW rfl dX4_end_13

/-! TrunkLittersModel.fails(II)V: kind W -/
def fX4_fails (x1 : Int32) (x2 : Int32) (σ : Mst) : Option Mst := (if (gF σ 4) ≤ 0 then stp (sF σ 4 x1) fun s1 => stp (sF s1 5 x2) fun s2 => some s2 else some σ)
abbrev rX4_fails : Room := { frames := 0, cells := 0, slots := 0, locals := 0 }
set_option maxHeartbeats 4000000 in
set_option maxRecDepth 100000 in
theorem mX4_fails  {x1 : Int32} {x2 : Int32} {σ : Mst} {q : Mst} (hf : fX4_fails x1 x2 σ = some q) : CtV l yX4_fails cX4_fails 3 none rX4_fails D dA [.ref h0, .int x1, .int x2] (Mc dA h0 ad σ) (Mc dA h0 ad q) := by
  refine e_V (by decide) (Nat.le_of_ble_eq_true rfl) ?_
  intro p e s m below meth c ls A FX hr hlk hl hW
  have hx := FX.1; have hb := FX.2.1; have hown := FX.2.2.2.1; have hts := FX.2.2.2.2
  have hl : lv_has ls 3 [(0, .ref h0), (1, .int x1), (2, .int x2)] := hl
  rw [fX4_fails] at hf
  refine lv_aload_n hx hb dX4_fails_0 rfl (lv_at hl 0 rfl) ?_
  refine Mg4 FX hW dX4_fails_1 ?_
  refine lv_if_le (tgt := 8) hx hb dX4_fails_4 (by decide) (fun c4 => ?_) (fun c4 => ?_)
  · have hf := ifp c4 hf
    refine lv_aload_n hx hb dX4_fails_8 rfl (lv_at hl 0 rfl) ?_
    refine lv_iload_n hx hb dX4_fails_9 rfl (lv_at hl 1 rfl) ?_
    refine Ms4 FX hW hf dX4_fails_10 (fun s1 H locs hW hf => ?_)
    refine lv_aload_n hx hb dX4_fails_13 rfl (lv_at hl 0 rfl) ?_
    refine lv_iload_n hx hb dX4_fails_14 rfl (lv_at hl 2 rfl) ?_
    refine Ms5 FX hW hf dX4_fails_15 (fun s2 H locs hW hf => ?_)
    obtain rfl := Option.some.inj hf
    exact g_vret FX hr hlk hW dX4_fails_18
  · have hf := ifn c4 hf
    obtain rfl := Option.some.inj hf
    exact g_vret FX hr hlk hW dX4_fails_7
set_option maxHeartbeats 4000000 in
set_option maxRecDepth 100000 in
theorem kX4_fails {α : Type} {q : α} {k : Mst → Option α} {x1 : Int32} {x2 : Int32} {σ : Mst} (FX : CallFix p m c cc nL s args lw_all RX4) (hR : rX4_fails.frames + 1 ≤ R.frames ∧ 8 + (3 + 11) + rX4_fails.locals ≤ R.locals) (hcs : cells ≤ R.cells ∧ slots ≤ R.slots) (hl : ls.size = nL) (hrm : (rest.map fun v => v.category).sum ≤ 8) (hW : Wd D dA A s (Mc dA h0 ad σ) H locs) (hf : (fX4_fails x1 x2 σ).bind k = some q) (hdg : decode cc pc = .ok (.invokevirtual 210, 3)) (kk : ∀ (σ1 : Mst) (H1 : Heap) (locs1 : List Loc), Wd D dA A s (Mc dA h0 ad σ1) H1 locs1 → k σ1 = some q → W p l e R s m args below meth c H1 locs1 cells slots Q (F0 m (pc + 3) ls (rest))) : W p l e R s m args below meth c H locs cells slots Q (F0 m pc ls (.int x2 :: .int x1 :: .ref h0 :: rest)) := by
  obtain ⟨r1, h1, hf⟩ := bnd hf
  refine w_Vv (C := RX4) (As := [.int x1, .int x2]) (rest := rest) (n := 2) (wr := []) FX (mX4_fails h1) (cwV 2 FX.2.2.2.2 (lw_V q1812 q1814 qs63 q132 q1815) rfl rfl rfl (by decide +kernel) hR) (va_recv hW.2.2.2.1 hW.1 (ci := 4) (q0 := 0) rfl rfl) rfl hl rfl hrm ⟨Nat.le_trans (Nat.le_of_eq (Nat.add_zero cells)) hcs.1, Nat.le_trans (Nat.le_of_eq (Nat.add_zero slots)) hcs.2⟩ hdg hW.nil ?_
  exact fun H1 locs1 hW1 => kk r1 H1 locs1 hW1.nil' hf
/-! TrunkLittersModel.misplaced()V: kind W -/
def fX4_misplaced_14 (y1 : Int32) (σ : Mst) : Option Mst := (fX4_fails y1 (gF σ 6) σ).bind fun s1 => some s1
def fX4_misplaced (σ : Mst) : Option Mst := (if (gF σ 8) = (1 : Int32) then fX4_misplaced_14 (1 : Int32) σ else fX4_misplaced_14 (2 : Int32) σ)
abbrev rX4_misplaced : Room := { frames := 1, cells := 0, slots := 0, locals := 22 }
set_option maxHeartbeats 4000000 in
set_option maxRecDepth 100000 in
theorem wX4_misplaced_14 {q : Mst} (FX : CallFix p m c cX4_misplaced 1 s args lw_all RX4) (hr : meth.sig.returnType = none) (hlk : meth.locks = false) : ∀ (y1 : Int32) (σ : Mst) (H : Heap) (locs : List Loc) (ls : Array Slot), lv_has ls 1 [(0, .ref h0)] → Wd D dA A s (Mc dA h0 ad σ) H locs → fX4_misplaced_14 y1 σ = some q → W p l e rX4_misplaced s m args below meth c H locs 0 0 (QV D dA A below args s 0 0 (Mc dA h0 ad q)) (F0 m 14 ls [.int y1, .ref h0]) := by
  have hx := FX.1; have hb := FX.2.1; have hown := FX.2.2.2.1; have hts := FX.2.2.2.2
  intro y1 σ H locs ls hl hW hf
  rw [fX4_misplaced_14] at hf
  refine lv_aload_n hx hb dX4_misplaced_14 rfl (lv_at hl 0 rfl) ?_
  refine Mg6 FX hW dX4_misplaced_15 ?_
  refine kX4_fails FX ⟨Nat.le_of_ble_eq_true rfl, Nat.le_of_ble_eq_true rfl⟩ ⟨Nat.zero_le _, Nat.zero_le _⟩ hl.1 (Nat.le_of_ble_eq_true rfl) hW hf dX4_misplaced_18 (fun s1 H locs hW hf => ?_)
  obtain rfl := Option.some.inj hf
  exact g_vret FX hr hlk hW dX4_misplaced_21
set_option maxHeartbeats 4000000 in
set_option maxRecDepth 100000 in
theorem mX4_misplaced  {σ : Mst} {q : Mst} (hf : fX4_misplaced σ = some q) : CtV l yX4_misplaced cX4_misplaced 1 none rX4_misplaced D dA [.ref h0] (Mc dA h0 ad σ) (Mc dA h0 ad q) := by
  refine e_V (by decide) (Nat.le_of_ble_eq_true rfl) ?_
  intro p e s m below meth c ls A FX hr hlk hl hW
  have hx := FX.1; have hb := FX.2.1; have hown := FX.2.2.2.1; have hts := FX.2.2.2.2
  have hl : lv_has ls 1 [(0, .ref h0)] := hl
  rw [fX4_misplaced] at hf
  refine lv_aload_n hx hb dX4_misplaced_0 rfl (lv_at hl 0 rfl) ?_
  refine lv_aload_n hx hb dX4_misplaced_1 rfl (lv_at hl 0 rfl) ?_
  refine Mg8 FX hW dX4_misplaced_2 ?_
  refine lv_iconst (v := 1) hx hb dX4_misplaced_5 (by decide) ?_
  refine lv_icmp_ne (tgt := 13) hx hb dX4_misplaced_6 (by decide) (fun c6 => ?_) (fun c6 => ?_)
  · have hf := ifn c6 hf
    refine lv_iconst (v := 2) hx hb dX4_misplaced_13 (by decide) ?_
    exact wX4_misplaced_14 FX hr hlk (2 : Int32) σ _ _ _ (lv_sub hl [0] rfl) hW hf
  · have hf := ifp c6 hf
    refine lv_iconst (v := 1) hx hb dX4_misplaced_9 (by decide) ?_
    refine lv_goto (tgt := 14) hx hb dX4_misplaced_10 (by decide) ?_
    exact wX4_misplaced_14 FX hr hlk (1 : Int32) σ _ _ _ (lv_sub hl [0] rfl) hW hf
set_option maxHeartbeats 4000000 in
set_option maxRecDepth 100000 in
theorem kX4_misplaced {α : Type} {q : α} {k : Mst → Option α} {σ : Mst} (FX : CallFix p m c cc nL s args lw_all RX4) (hR : rX4_misplaced.frames + 1 ≤ R.frames ∧ 8 + (1 + 11) + rX4_misplaced.locals ≤ R.locals) (hcs : cells ≤ R.cells ∧ slots ≤ R.slots) (hl : ls.size = nL) (hrm : (rest.map fun v => v.category).sum ≤ 8) (hW : Wd D dA A s (Mc dA h0 ad σ) H locs) (hf : (fX4_misplaced σ).bind k = some q) (hdg : decode cc pc = .ok (.invokevirtual 221, 3)) (kk : ∀ (σ1 : Mst) (H1 : Heap) (locs1 : List Loc), Wd D dA A s (Mc dA h0 ad σ1) H1 locs1 → k σ1 = some q → W p l e R s m args below meth c H1 locs1 cells slots Q (F0 m (pc + 3) ls (rest))) : W p l e R s m args below meth c H locs cells slots Q (F0 m pc ls (.ref h0 :: rest)) := by
  obtain ⟨r1, h1, hf⟩ := bnd hf
  refine w_Vv (C := RX4) (As := []) (rest := rest) (n := 0) (wr := []) FX (mX4_misplaced h1) (cwV 0 FX.2.2.2.2 (lw_V q1808 q1810 qs62 q132 q1811) rfl rfl rfl (by decide +kernel) hR) (va_recv hW.2.2.2.1 hW.1 (ci := 4) (q0 := 0) rfl rfl) rfl hl rfl hrm ⟨Nat.le_trans (Nat.le_of_eq (Nat.add_zero cells)) hcs.1, Nat.le_trans (Nat.le_of_eq (Nat.add_zero slots)) hcs.2⟩ hdg hW.nil ?_
  exact fun H1 locs1 hW1 => kk r1 H1 locs1 hW1.nil' hf
/-! TrunkLittersModel.isGood()Z: kind R -/
def fX4_isGood (σ : Mst) : Option Int32 := (if (gF σ 4) = 0 then some (1 : Int32) else some (0 : Int32))
abbrev rX4_isGood : Room := { frames := 0, cells := 0, slots := 0, locals := 0 }
set_option maxHeartbeats 4000000 in
set_option maxRecDepth 100000 in
theorem mX4_isGood  {σ : Mst} {q : Int32} (hf : fX4_isGood σ = some q) : CtI l yX4_isGood cX4_isGood 1 (some .boolean) rX4_isGood D dA [.ref h0] (Mc dA h0 ad σ) q (Mc dA h0 ad σ) := by
  refine e_I (by decide) (Nat.le_of_ble_eq_true rfl) ?_
  intro p e s m below meth c ls A FX hr hlk hl hW
  have hx := FX.1; have hb := FX.2.1; have hown := FX.2.2.2.1; have hts := FX.2.2.2.2
  have hl : lv_has ls 1 [(0, .ref h0)] := hl
  rw [fX4_isGood] at hf
  refine lv_aload_n hx hb dX4_isGood_0 rfl (lv_at hl 0 rfl) ?_
  refine Mg4 FX hW dX4_isGood_1 ?_
  refine lv_if_ne (tgt := 11) hx hb dX4_isGood_4 (by decide) (fun c4 => ?_) (fun c4 => ?_)
  · have hf := ifn c4 hf
    refine lv_iconst (v := 0) hx hb dX4_isGood_11 (by decide) ?_
    exact g_zret FX hr hlk hW rfl (Option.some.inj hf) dX4_isGood_12
  · have hf := ifp c4 hf
    refine lv_iconst (v := 1) hx hb dX4_isGood_7 (by decide) ?_
    refine lv_goto (tgt := 12) hx hb dX4_isGood_8 (by decide) ?_
    exact g_zret FX hr hlk hW rfl (Option.some.inj hf) dX4_isGood_12
set_option maxHeartbeats 4000000 in
set_option maxRecDepth 100000 in
theorem kX4_isGood {α : Type} {q : α} {k : Int32 → Option α} {σ : Mst} (FX : CallFix p m c cc nL s args lw_all RX4) (hR : rX4_isGood.frames + 1 ≤ R.frames ∧ 8 + (1 + 11) + rX4_isGood.locals ≤ R.locals) (hcs : cells ≤ R.cells ∧ slots ≤ R.slots) (hl : ls.size = nL) (hrm : (rest.map fun v => v.category).sum ≤ 8) (hW : Wd D dA A s (Mc dA h0 ad σ) H locs) (hf : (fX4_isGood σ).bind k = some q) (hdg : decode cc pc = .ok (.invokevirtual 214, 3)) (kk : ∀ (r : Int32) (H1 : Heap) (locs1 : List Loc), Wd D dA A s (Mc dA h0 ad σ) H1 locs1 → k r = some q → W p l e R s m args below meth c H1 locs1 cells slots Q (F0 m (pc + 3) ls (.int r :: rest))) : W p l e R s m args below meth c H locs cells slots Q (F0 m pc ls (.ref h0 :: rest)) := by
  obtain ⟨r1, h1, hf⟩ := bnd hf
  refine w_Vi (C := RX4) (As := []) (rest := rest) (n := 0) (wr := []) FX (mX4_isGood h1) (cwV 0 FX.2.2.2.2 (lw_V q1789 q1791 qs58 q132 q1792) rfl rfl rfl (by decide +kernel) hR) (va_recv hW.2.2.2.1 hW.1 (ci := 4) (q0 := 0) rfl rfl) rfl hl rfl hrm ⟨Nat.le_trans (Nat.le_of_eq (Nat.add_zero cells)) hcs.1, Nat.le_trans (Nat.le_of_eq (Nat.add_zero slots)) hcs.2⟩ hdg hW.nil ?_
  exact fun H1 locs1 hW1 => kk r1 H1 locs1 hW1.nil' hf
/-! TrunkLittersModel.isLetter(I)Z: kind S -/
def fX4_isLetter (x0 : Int32) : Option Int32 := (if x0 < (97 : Int32) then some (0 : Int32) else (if (122 : Int32) < x0 then some (0 : Int32) else some (1 : Int32)))
abbrev rX4_isLetter : Room := { frames := 0, cells := 0, slots := 0, locals := 0 }
set_option maxHeartbeats 4000000 in
set_option maxRecDepth 100000 in
theorem mX4_isLetter  {x0 : Int32} {q : Int32} (hf : fX4_isLetter x0 = some q) : CtI l yX4_isLetter cX4_isLetter 1 (some .boolean) rX4_isLetter D dA [.int x0] [] q [] := by
  refine e_I (by decide) (Nat.le_of_ble_eq_true rfl) ?_
  intro p e s m below meth c ls A FX hr hlk hl hW
  have hx := FX.1; have hb := FX.2.1; have hown := FX.2.2.2.1; have hts := FX.2.2.2.2
  have hl : lv_has ls 1 [(0, .int x0)] := hl
  rw [fX4_isLetter] at hf
  refine lv_iload_n hx hb dX4_isLetter_0 rfl (lv_at hl 0 rfl) ?_
  refine lv_bipush (v := 97) hx hb dX4_isLetter_1 (by decide) ?_
  refine lv_icmp_lt (tgt := 16) hx hb dX4_isLetter_3 (by decide) (fun c3 => ?_) (fun c3 => ?_)
  · have hf := ifp c3 hf
    refine lv_iconst (v := 0) hx hb dX4_isLetter_16 (by decide) ?_
    exact g_zret FX hr hlk hW rfl (Option.some.inj hf) dX4_isLetter_17
  · have hf := ifn c3 hf
    refine lv_iload_n hx hb dX4_isLetter_6 rfl (lv_at hl 0 rfl) ?_
    refine lv_bipush (v := 122) hx hb dX4_isLetter_7 (by decide) ?_
    refine lv_icmp_gt (tgt := 16) hx hb dX4_isLetter_9 (by decide) (fun c9 => ?_) (fun c9 => ?_)
    · have hf := ifp c9 hf
      refine lv_iconst (v := 0) hx hb dX4_isLetter_16 (by decide) ?_
      exact g_zret FX hr hlk hW rfl (Option.some.inj hf) dX4_isLetter_17
    · have hf := ifn c9 hf
      refine lv_iconst (v := 1) hx hb dX4_isLetter_12 (by decide) ?_
      refine lv_goto (tgt := 17) hx hb dX4_isLetter_13 (by decide) ?_
      exact g_zret FX hr hlk hW rfl (Option.some.inj hf) dX4_isLetter_17
set_option maxHeartbeats 4000000 in
set_option maxRecDepth 100000 in
theorem kX4_isLetter {α : Type} {q : α} {k : Int32 → Option α} {x0 : Int32} {ws : va_W} (FX : CallFix p m c cc nL s args lw_all RX4) (hR : rX4_isLetter.frames + 1 ≤ R.frames ∧ 8 + (1 + 11) + rX4_isLetter.locals ≤ R.locals) (hcs : cells ≤ R.cells ∧ slots ≤ R.slots) (hl : ls.size = nL) (hrm : (rest.map fun v => v.category).sum ≤ 8) (hW : Wd D dA A s ws H locs) (hf : (fX4_isLetter x0).bind k = some q) (hdg : decode cc pc = .ok (.invokestatic 189, 3)) (kk : ∀ (r : Int32) (H1 : Heap) (locs1 : List Loc), Wd D dA A s ws H1 locs1 → k r = some q → W p l e R s m args below meth c H1 locs1 cells slots Q (F0 m (pc + 3) ls (.int r :: rest))) : W p l e R s m args below meth c H locs cells slots Q (F0 m pc ls (.int x0 :: rest)) := by
  obtain ⟨r1, h1, hf⟩ := bnd hf
  refine w_Si (As := [.int x0]) (rest := rest) (n := 1) (wr := ws) FX (mX4_isLetter h1) (va_cwS 1 FX.2.2.2.2 (lw_S q1759 q1760 q132 q1761) rfl rfl rfl (by decide +kernel) hR) rfl hl rfl hrm ⟨Nat.le_trans (Nat.le_of_eq (Nat.add_zero cells)) hcs.1, Nat.le_trans (Nat.le_of_eq (Nat.add_zero slots)) hcs.2⟩ hdg hW ?_
  exact fun H1 locs1 hW1 => kk r1 H1 locs1 hW1 hf
/-! TrunkLittersModel.isKept(J)Z: kind S -/
def fX4_isKept_154 : Option Int32 := some (1 : Int32)
def fX4_isKept_77 (x0 : Int64) (y0 : Int32) : Option Int32 := (if y0 = 0 then (if (lg_cmp x0 (499850700147 : Int64)) = 0 then fX4_isKept_154 else (if (lg_cmp x0 (1685217655 : Int64)) = 0 then fX4_isKept_154 else (if (lg_cmp x0 (418430675813 : Int64)) = 0 then fX4_isKept_154 else (if (lg_cmp x0 (1818584692 : Int64)) = 0 then fX4_isKept_154 else (if (lg_cmp x0 (1835101817 : Int64)) = 0 then fX4_isKept_154 else (if (lg_cmp x0 (2036687218 : Int64)) = 0 then fX4_isKept_154 else (if (lg_cmp x0 (28530 : Int64)) = 0 then fX4_isKept_154 else (if (lg_cmp x0 (6385252 : Int64)) = 0 then fX4_isKept_154 else (if (lg_cmp x0 (7237492 : Int64)) = 0 then fX4_isKept_154 else some (0 : Int32)))))))))) else fX4_isKept_154)
def fX4_isKept_72 (x0 : Int64) : Option Int32 := fX4_isKept_77 x0 (1 : Int32)
def fX4_isKept (x0 : Int64) : Option Int32 := (if (lg_cmp x0 (1919905645 : Int64)) = 0 then fX4_isKept_72 x0 else (if (lg_cmp x0 (448545973363 : Int64)) = 0 then fX4_isKept_72 x0 else (if (lg_cmp x0 (500136504939 : Int64)) = 0 then fX4_isKept_72 x0 else (if (lg_cmp x0 (1651862635 : Int64)) = 0 then fX4_isKept_72 x0 else (if (lg_cmp x0 (24948 : Int64)) = 0 then fX4_isKept_72 x0 else (if (lg_cmp x0 (469786323827 : Int64)) = 0 then fX4_isKept_72 x0 else (if (lg_cmp x0 (1953459300 : Int64)) = 0 then fX4_isKept_72 x0 else (if (lg_cmp x0 (422826700644 : Int64)) = 0 then fX4_isKept_72 x0 else (if (lg_cmp x0 (482805179763 : Int64)) = 0 then fX4_isKept_72 x0 else fX4_isKept_77 x0 (0 : Int32))))))))))
abbrev rX4_isKept : Room := { frames := 0, cells := 0, slots := 0, locals := 0 }
set_option maxHeartbeats 4000000 in
set_option maxRecDepth 100000 in
theorem wX4_isKept_154 {q : Int32} (FX : CallFix p m c cX4_isKept 3 s args lw_all RX4) (hr : meth.sig.returnType = (some .boolean)) (hlk : meth.locks = false) : ∀ (H : Heap) (locs : List Loc) (ls : Array Slot), lv_has ls 3 [] → Wd D dA A s [] H locs → fX4_isKept_154 = some q → W p l e rX4_isKept s m args below meth c H locs 0 0 (QI D dA A below args s 0 0 q []) (F0 m 154 ls []) := by
  have hx := FX.1; have hb := FX.2.1; have hown := FX.2.2.2.1; have hts := FX.2.2.2.2
  intro  H locs ls hl hW hf
  rw [fX4_isKept_154] at hf
  refine lv_iconst (v := 1) hx hb dX4_isKept_154 (by decide) ?_
  refine lv_goto (tgt := 159) hx hb dX4_isKept_155 (by decide) ?_
  exact g_zret FX hr hlk hW rfl (Option.some.inj hf) dX4_isKept_159
set_option maxHeartbeats 4000000 in
set_option maxRecDepth 100000 in
theorem wX4_isKept_77 {q : Int32} (FX : CallFix p m c cX4_isKept 3 s args lw_all RX4) (hr : meth.sig.returnType = (some .boolean)) (hlk : meth.locks = false) : ∀ (x0 : Int64) (y0 : Int32) (H : Heap) (locs : List Loc) (ls : Array Slot), lv_has ls 3 [(0, .long x0)] → Wd D dA A s [] H locs → fX4_isKept_77 x0 y0 = some q → W p l e rX4_isKept s m args below meth c H locs 0 0 (QI D dA A below args s 0 0 q []) (F0 m 77 ls [.int y0]) := by
  have hx := FX.1; have hb := FX.2.1; have hown := FX.2.2.2.1; have hts := FX.2.2.2.2
  intro x0 y0 H locs ls hl hW hf
  rw [fX4_isKept_77] at hf
  refine lv_istore_n (lv' := [(2, .int y0), (0, .long x0)]) hx hb dX4_isKept_77 rfl hl (by decide) rfl (fun ls hl => ?_)
  refine lv_iload_n hx hb dX4_isKept_78 rfl (lv_at hl 0 rfl) ?_
  refine lv_if_ne (tgt := 154) hx hb dX4_isKept_79 (by decide) (fun c79 => ?_) (fun c79 => ?_)
  · have hf := ifn c79 hf
    exact wX4_isKept_154 FX hr hlk _ _ _ (lv_sub hl [] rfl) hW hf
  · have hf := ifp c79 hf
    refine lv_lload_n hx hb dX4_isKept_82 rfl (lv_at hl 1 rfl) ?_
    refine lv_ldc2 (v := 499850700147) hx hb hown (hts _ q1774) dX4_isKept_83 ?_
    refine W.lcmp hx hb dX4_isKept_86 ?_
    refine lv_if_eq (tgt := 154) hx hb dX4_isKept_87 (by decide) (fun c87 => ?_) (fun c87 => ?_)
    · have hf := ifp c87 hf
      exact wX4_isKept_154 FX hr hlk _ _ _ (lv_sub hl [] rfl) hW hf
    · have hf := ifn c87 hf
      refine lv_lload_n hx hb dX4_isKept_90 rfl (lv_at hl 1 rfl) ?_
      refine lv_ldc2 (v := 1685217655) hx hb hown (hts _ q1775) dX4_isKept_91 ?_
      refine W.lcmp hx hb dX4_isKept_94 ?_
      refine lv_if_eq (tgt := 154) hx hb dX4_isKept_95 (by decide) (fun c95 => ?_) (fun c95 => ?_)
      · have hf := ifp c95 hf
        exact wX4_isKept_154 FX hr hlk _ _ _ (lv_sub hl [] rfl) hW hf
      · have hf := ifn c95 hf
        refine lv_lload_n hx hb dX4_isKept_98 rfl (lv_at hl 1 rfl) ?_
        refine lv_ldc2 (v := 418430675813) hx hb hown (hts _ q1776) dX4_isKept_99 ?_
        refine W.lcmp hx hb dX4_isKept_102 ?_
        refine lv_if_eq (tgt := 154) hx hb dX4_isKept_103 (by decide) (fun c103 => ?_) (fun c103 => ?_)
        · have hf := ifp c103 hf
          exact wX4_isKept_154 FX hr hlk _ _ _ (lv_sub hl [] rfl) hW hf
        · have hf := ifn c103 hf
          refine lv_lload_n hx hb dX4_isKept_106 rfl (lv_at hl 1 rfl) ?_
          refine lv_ldc2 (v := 1818584692) hx hb hown (hts _ q1777) dX4_isKept_107 ?_
          refine W.lcmp hx hb dX4_isKept_110 ?_
          refine lv_if_eq (tgt := 154) hx hb dX4_isKept_111 (by decide) (fun c111 => ?_) (fun c111 => ?_)
          · have hf := ifp c111 hf
            exact wX4_isKept_154 FX hr hlk _ _ _ (lv_sub hl [] rfl) hW hf
          · have hf := ifn c111 hf
            refine lv_lload_n hx hb dX4_isKept_114 rfl (lv_at hl 1 rfl) ?_
            refine lv_ldc2 (v := 1835101817) hx hb hown (hts _ q1778) dX4_isKept_115 ?_
            refine W.lcmp hx hb dX4_isKept_118 ?_
            refine lv_if_eq (tgt := 154) hx hb dX4_isKept_119 (by decide) (fun c119 => ?_) (fun c119 => ?_)
            · have hf := ifp c119 hf
              exact wX4_isKept_154 FX hr hlk _ _ _ (lv_sub hl [] rfl) hW hf
            · have hf := ifn c119 hf
              refine lv_lload_n hx hb dX4_isKept_122 rfl (lv_at hl 1 rfl) ?_
              refine lv_ldc2 (v := 2036687218) hx hb hown (hts _ q1779) dX4_isKept_123 ?_
              refine W.lcmp hx hb dX4_isKept_126 ?_
              refine lv_if_eq (tgt := 154) hx hb dX4_isKept_127 (by decide) (fun c127 => ?_) (fun c127 => ?_)
              · have hf := ifp c127 hf
                exact wX4_isKept_154 FX hr hlk _ _ _ (lv_sub hl [] rfl) hW hf
              · have hf := ifn c127 hf
                refine lv_lload_n hx hb dX4_isKept_130 rfl (lv_at hl 1 rfl) ?_
                refine lv_ldc2 (v := 28530) hx hb hown (hts _ q1780) dX4_isKept_131 ?_
                refine W.lcmp hx hb dX4_isKept_134 ?_
                refine lv_if_eq (tgt := 154) hx hb dX4_isKept_135 (by decide) (fun c135 => ?_) (fun c135 => ?_)
                · have hf := ifp c135 hf
                  exact wX4_isKept_154 FX hr hlk _ _ _ (lv_sub hl [] rfl) hW hf
                · have hf := ifn c135 hf
                  refine lv_lload_n hx hb dX4_isKept_138 rfl (lv_at hl 1 rfl) ?_
                  refine lv_ldc2 (v := 6385252) hx hb hown (hts _ q1781) dX4_isKept_139 ?_
                  refine W.lcmp hx hb dX4_isKept_142 ?_
                  refine lv_if_eq (tgt := 154) hx hb dX4_isKept_143 (by decide) (fun c143 => ?_) (fun c143 => ?_)
                  · have hf := ifp c143 hf
                    exact wX4_isKept_154 FX hr hlk _ _ _ (lv_sub hl [] rfl) hW hf
                  · have hf := ifn c143 hf
                    refine lv_lload_n hx hb dX4_isKept_146 rfl (lv_at hl 1 rfl) ?_
                    refine lv_ldc2 (v := 7237492) hx hb hown (hts _ q1782) dX4_isKept_147 ?_
                    refine W.lcmp hx hb dX4_isKept_150 ?_
                    refine lv_if_ne (tgt := 158) hx hb dX4_isKept_151 (by decide) (fun c151 => ?_) (fun c151 => ?_)
                    · have hf := ifn c151 hf
                      refine lv_iconst (v := 0) hx hb dX4_isKept_158 (by decide) ?_
                      exact g_zret FX hr hlk hW rfl (Option.some.inj hf) dX4_isKept_159
                    · have hf := ifp c151 hf
                      exact wX4_isKept_154 FX hr hlk _ _ _ (lv_sub hl [] rfl) hW hf
set_option maxHeartbeats 4000000 in
set_option maxRecDepth 100000 in
theorem wX4_isKept_72 {q : Int32} (FX : CallFix p m c cX4_isKept 3 s args lw_all RX4) (hr : meth.sig.returnType = (some .boolean)) (hlk : meth.locks = false) : ∀ (x0 : Int64) (H : Heap) (locs : List Loc) (ls : Array Slot), lv_has ls 3 [(0, .long x0)] → Wd D dA A s [] H locs → fX4_isKept_72 x0 = some q → W p l e rX4_isKept s m args below meth c H locs 0 0 (QI D dA A below args s 0 0 q []) (F0 m 72 ls []) := by
  have hx := FX.1; have hb := FX.2.1; have hown := FX.2.2.2.1; have hts := FX.2.2.2.2
  intro x0 H locs ls hl hW hf
  rw [fX4_isKept_72] at hf
  refine lv_iconst (v := 1) hx hb dX4_isKept_72 (by decide) ?_
  refine lv_goto (tgt := 77) hx hb dX4_isKept_73 (by decide) ?_
  exact wX4_isKept_77 FX hr hlk x0 (1 : Int32) _ _ _ (lv_sub hl [0] rfl) hW hf
set_option maxHeartbeats 4000000 in
set_option maxRecDepth 100000 in
theorem mX4_isKept  {x0 : Int64} {q : Int32} (hf : fX4_isKept x0 = some q) : CtI l yX4_isKept cX4_isKept 3 (some .boolean) rX4_isKept D dA [.long x0] [] q [] := by
  refine e_I (by decide) (Nat.le_of_ble_eq_true rfl) ?_
  intro p e s m below meth c ls A FX hr hlk hl hW
  have hx := FX.1; have hb := FX.2.1; have hown := FX.2.2.2.1; have hts := FX.2.2.2.2
  have hl : lv_has ls 3 [(0, .long x0)] := hl
  rw [fX4_isKept] at hf
  refine lv_lload_n hx hb dX4_isKept_0 rfl (lv_at hl 0 rfl) ?_
  refine lv_ldc2 (v := 1919905645) hx hb hown (hts _ q1765) dX4_isKept_1 ?_
  refine W.lcmp hx hb dX4_isKept_4 ?_
  refine lv_if_eq (tgt := 72) hx hb dX4_isKept_5 (by decide) (fun c5 => ?_) (fun c5 => ?_)
  · have hf := ifp c5 hf
    exact wX4_isKept_72 FX hr hlk x0 _ _ _ (lv_sub hl [0] rfl) hW hf
  · have hf := ifn c5 hf
    refine lv_lload_n hx hb dX4_isKept_8 rfl (lv_at hl 0 rfl) ?_
    refine lv_ldc2 (v := 448545973363) hx hb hown (hts _ q1766) dX4_isKept_9 ?_
    refine W.lcmp hx hb dX4_isKept_12 ?_
    refine lv_if_eq (tgt := 72) hx hb dX4_isKept_13 (by decide) (fun c13 => ?_) (fun c13 => ?_)
    · have hf := ifp c13 hf
      exact wX4_isKept_72 FX hr hlk x0 _ _ _ (lv_sub hl [0] rfl) hW hf
    · have hf := ifn c13 hf
      refine lv_lload_n hx hb dX4_isKept_16 rfl (lv_at hl 0 rfl) ?_
      refine lv_ldc2 (v := 500136504939) hx hb hown (hts _ q1767) dX4_isKept_17 ?_
      refine W.lcmp hx hb dX4_isKept_20 ?_
      refine lv_if_eq (tgt := 72) hx hb dX4_isKept_21 (by decide) (fun c21 => ?_) (fun c21 => ?_)
      · have hf := ifp c21 hf
        exact wX4_isKept_72 FX hr hlk x0 _ _ _ (lv_sub hl [0] rfl) hW hf
      · have hf := ifn c21 hf
        refine lv_lload_n hx hb dX4_isKept_24 rfl (lv_at hl 0 rfl) ?_
        refine lv_ldc2 (v := 1651862635) hx hb hown (hts _ q1768) dX4_isKept_25 ?_
        refine W.lcmp hx hb dX4_isKept_28 ?_
        refine lv_if_eq (tgt := 72) hx hb dX4_isKept_29 (by decide) (fun c29 => ?_) (fun c29 => ?_)
        · have hf := ifp c29 hf
          exact wX4_isKept_72 FX hr hlk x0 _ _ _ (lv_sub hl [0] rfl) hW hf
        · have hf := ifn c29 hf
          refine lv_lload_n hx hb dX4_isKept_32 rfl (lv_at hl 0 rfl) ?_
          refine lv_ldc2 (v := 24948) hx hb hown (hts _ q1769) dX4_isKept_33 ?_
          refine W.lcmp hx hb dX4_isKept_36 ?_
          refine lv_if_eq (tgt := 72) hx hb dX4_isKept_37 (by decide) (fun c37 => ?_) (fun c37 => ?_)
          · have hf := ifp c37 hf
            exact wX4_isKept_72 FX hr hlk x0 _ _ _ (lv_sub hl [0] rfl) hW hf
          · have hf := ifn c37 hf
            refine lv_lload_n hx hb dX4_isKept_40 rfl (lv_at hl 0 rfl) ?_
            refine lv_ldc2 (v := 469786323827) hx hb hown (hts _ q1770) dX4_isKept_41 ?_
            refine W.lcmp hx hb dX4_isKept_44 ?_
            refine lv_if_eq (tgt := 72) hx hb dX4_isKept_45 (by decide) (fun c45 => ?_) (fun c45 => ?_)
            · have hf := ifp c45 hf
              exact wX4_isKept_72 FX hr hlk x0 _ _ _ (lv_sub hl [0] rfl) hW hf
            · have hf := ifn c45 hf
              refine lv_lload_n hx hb dX4_isKept_48 rfl (lv_at hl 0 rfl) ?_
              refine lv_ldc2 (v := 1953459300) hx hb hown (hts _ q1771) dX4_isKept_49 ?_
              refine W.lcmp hx hb dX4_isKept_52 ?_
              refine lv_if_eq (tgt := 72) hx hb dX4_isKept_53 (by decide) (fun c53 => ?_) (fun c53 => ?_)
              · have hf := ifp c53 hf
                exact wX4_isKept_72 FX hr hlk x0 _ _ _ (lv_sub hl [0] rfl) hW hf
              · have hf := ifn c53 hf
                refine lv_lload_n hx hb dX4_isKept_56 rfl (lv_at hl 0 rfl) ?_
                refine lv_ldc2 (v := 422826700644) hx hb hown (hts _ q1772) dX4_isKept_57 ?_
                refine W.lcmp hx hb dX4_isKept_60 ?_
                refine lv_if_eq (tgt := 72) hx hb dX4_isKept_61 (by decide) (fun c61 => ?_) (fun c61 => ?_)
                · have hf := ifp c61 hf
                  exact wX4_isKept_72 FX hr hlk x0 _ _ _ (lv_sub hl [0] rfl) hW hf
                · have hf := ifn c61 hf
                  refine lv_lload_n hx hb dX4_isKept_64 rfl (lv_at hl 0 rfl) ?_
                  refine lv_ldc2 (v := 482805179763) hx hb hown (hts _ q1773) dX4_isKept_65 ?_
                  refine W.lcmp hx hb dX4_isKept_68 ?_
                  refine lv_if_ne (tgt := 76) hx hb dX4_isKept_69 (by decide) (fun c69 => ?_) (fun c69 => ?_)
                  · have hf := ifn c69 hf
                    refine lv_iconst (v := 0) hx hb dX4_isKept_76 (by decide) ?_
                    exact wX4_isKept_77 FX hr hlk x0 (0 : Int32) _ _ _ (lv_sub hl [0] rfl) hW hf
                  · have hf := ifp c69 hf
                    exact wX4_isKept_72 FX hr hlk x0 _ _ _ (lv_sub hl [0] rfl) hW hf
set_option maxHeartbeats 4000000 in
set_option maxRecDepth 100000 in
theorem kX4_isKept {α : Type} {q : α} {k : Int32 → Option α} {x0 : Int64} {ws : va_W} (FX : CallFix p m c cc nL s args lw_all RX4) (hR : rX4_isKept.frames + 1 ≤ R.frames ∧ 8 + (3 + 11) + rX4_isKept.locals ≤ R.locals) (hcs : cells ≤ R.cells ∧ slots ≤ R.slots) (hl : ls.size = nL) (hrm : (rest.map fun v => v.category).sum ≤ 8) (hW : Wd D dA A s ws H locs) (hf : (fX4_isKept x0).bind k = some q) (hdg : decode cc pc = .ok (.invokestatic 197, 3)) (kk : ∀ (r : Int32) (H1 : Heap) (locs1 : List Loc), Wd D dA A s ws H1 locs1 → k r = some q → W p l e R s m args below meth c H1 locs1 cells slots Q (F0 m (pc + 3) ls (.int r :: rest))) : W p l e R s m args below meth c H locs cells slots Q (F0 m pc ls (.long x0 :: rest)) := by
  obtain ⟨r1, h1, hf⟩ := bnd hf
  refine w_Si (As := [.long x0]) (rest := rest) (n := 1) (wr := ws) FX (mX4_isKept h1) (va_cwS 1 FX.2.2.2.2 (lw_S q1762 q1763 q132 q1764) rfl rfl rfl (by decide +kernel) hR) rfl hl rfl hrm ⟨Nat.le_trans (Nat.le_of_eq (Nat.add_zero cells)) hcs.1, Nat.le_trans (Nat.le_of_eq (Nat.add_zero slots)) hcs.2⟩ hdg hW ?_
  exact fun H1 locs1 hW1 => kk r1 H1 locs1 hW1 hf
/-! TrunkLittersModel.isDigit(I)Z: kind S -/
def fX4_isDigit (x0 : Int32) : Option Int32 := (if x0 < (48 : Int32) then some (0 : Int32) else (if (57 : Int32) < x0 then some (0 : Int32) else some (1 : Int32)))
abbrev rX4_isDigit : Room := { frames := 0, cells := 0, slots := 0, locals := 0 }
set_option maxHeartbeats 4000000 in
set_option maxRecDepth 100000 in
theorem mX4_isDigit  {x0 : Int32} {q : Int32} (hf : fX4_isDigit x0 = some q) : CtI l yX4_isDigit cX4_isDigit 1 (some .boolean) rX4_isDigit D dA [.int x0] [] q [] := by
  refine e_I (by decide) (Nat.le_of_ble_eq_true rfl) ?_
  intro p e s m below meth c ls A FX hr hlk hl hW
  have hx := FX.1; have hb := FX.2.1; have hown := FX.2.2.2.1; have hts := FX.2.2.2.2
  have hl : lv_has ls 1 [(0, .int x0)] := hl
  rw [fX4_isDigit] at hf
  refine lv_iload_n hx hb dX4_isDigit_0 rfl (lv_at hl 0 rfl) ?_
  refine lv_bipush (v := 48) hx hb dX4_isDigit_1 (by decide) ?_
  refine lv_icmp_lt (tgt := 16) hx hb dX4_isDigit_3 (by decide) (fun c3 => ?_) (fun c3 => ?_)
  · have hf := ifp c3 hf
    refine lv_iconst (v := 0) hx hb dX4_isDigit_16 (by decide) ?_
    exact g_zret FX hr hlk hW rfl (Option.some.inj hf) dX4_isDigit_17
  · have hf := ifn c3 hf
    refine lv_iload_n hx hb dX4_isDigit_6 rfl (lv_at hl 0 rfl) ?_
    refine lv_bipush (v := 57) hx hb dX4_isDigit_7 (by decide) ?_
    refine lv_icmp_gt (tgt := 16) hx hb dX4_isDigit_9 (by decide) (fun c9 => ?_) (fun c9 => ?_)
    · have hf := ifp c9 hf
      refine lv_iconst (v := 0) hx hb dX4_isDigit_16 (by decide) ?_
      exact g_zret FX hr hlk hW rfl (Option.some.inj hf) dX4_isDigit_17
    · have hf := ifn c9 hf
      refine lv_iconst (v := 1) hx hb dX4_isDigit_12 (by decide) ?_
      refine lv_goto (tgt := 17) hx hb dX4_isDigit_13 (by decide) ?_
      exact g_zret FX hr hlk hW rfl (Option.some.inj hf) dX4_isDigit_17
set_option maxHeartbeats 4000000 in
set_option maxRecDepth 100000 in
theorem kX4_isDigit {α : Type} {q : α} {k : Int32 → Option α} {x0 : Int32} {ws : va_W} (FX : CallFix p m c cc nL s args lw_all RX4) (hR : rX4_isDigit.frames + 1 ≤ R.frames ∧ 8 + (1 + 11) + rX4_isDigit.locals ≤ R.locals) (hcs : cells ≤ R.cells ∧ slots ≤ R.slots) (hl : ls.size = nL) (hrm : (rest.map fun v => v.category).sum ≤ 8) (hW : Wd D dA A s ws H locs) (hf : (fX4_isDigit x0).bind k = some q) (hdg : decode cc pc = .ok (.invokestatic 201, 3)) (kk : ∀ (r : Int32) (H1 : Heap) (locs1 : List Loc), Wd D dA A s ws H1 locs1 → k r = some q → W p l e R s m args below meth c H1 locs1 cells slots Q (F0 m (pc + 3) ls (.int r :: rest))) : W p l e R s m args below meth c H locs cells slots Q (F0 m pc ls (.int x0 :: rest)) := by
  obtain ⟨r1, h1, hf⟩ := bnd hf
  refine w_Si (As := [.int x0]) (rest := rest) (n := 1) (wr := ws) FX (mX4_isDigit h1) (va_cwS 1 FX.2.2.2.2 (lw_S q1783 q1784 q132 q1785) rfl rfl rfl (by decide +kernel) hR) rfl hl rfl hrm ⟨Nat.le_trans (Nat.le_of_eq (Nat.add_zero cells)) hcs.1, Nat.le_trans (Nat.le_of_eq (Nat.add_zero slots)) hcs.2⟩ hdg hW ?_
  exact fun H1 locs1 hW1 => kk r1 H1 locs1 hW1 hf
/-! TrunkLittersModel.isSign(I)Z: kind S -/
def fX4_isSign_66 : Option Int32 := some (1 : Int32)
def fX4_isSign (x0 : Int32) : Option Int32 := (if x0 = (59 : Int32) then fX4_isSign_66 else (if x0 = (40 : Int32) then fX4_isSign_66 else (if x0 = (41 : Int32) then fX4_isSign_66 else (if x0 = (60 : Int32) then fX4_isSign_66 else (if x0 = (62 : Int32) then fX4_isSign_66 else (if x0 = (61 : Int32) then fX4_isSign_66 else (if x0 = (43 : Int32) then fX4_isSign_66 else (if x0 = (45 : Int32) then fX4_isSign_66 else (if x0 = (42 : Int32) then fX4_isSign_66 else (if x0 = (47 : Int32) then fX4_isSign_66 else (if x0 = (37 : Int32) then fX4_isSign_66 else some (0 : Int32))))))))))))
abbrev rX4_isSign : Room := { frames := 0, cells := 0, slots := 0, locals := 0 }
set_option maxHeartbeats 4000000 in
set_option maxRecDepth 100000 in
theorem wX4_isSign_66 {q : Int32} (FX : CallFix p m c cX4_isSign 1 s args lw_all RX4) (hr : meth.sig.returnType = (some .boolean)) (hlk : meth.locks = false) : ∀ (H : Heap) (locs : List Loc) (ls : Array Slot), lv_has ls 1 [] → Wd D dA A s [] H locs → fX4_isSign_66 = some q → W p l e rX4_isSign s m args below meth c H locs 0 0 (QI D dA A below args s 0 0 q []) (F0 m 66 ls []) := by
  have hx := FX.1; have hb := FX.2.1; have hown := FX.2.2.2.1; have hts := FX.2.2.2.2
  intro  H locs ls hl hW hf
  rw [fX4_isSign_66] at hf
  refine lv_iconst (v := 1) hx hb dX4_isSign_66 (by decide) ?_
  refine lv_goto (tgt := 71) hx hb dX4_isSign_67 (by decide) ?_
  exact g_zret FX hr hlk hW rfl (Option.some.inj hf) dX4_isSign_71
set_option maxHeartbeats 4000000 in
set_option maxRecDepth 100000 in
theorem mX4_isSign  {x0 : Int32} {q : Int32} (hf : fX4_isSign x0 = some q) : CtI l yX4_isSign cX4_isSign 1 (some .boolean) rX4_isSign D dA [.int x0] [] q [] := by
  refine e_I (by decide) (Nat.le_of_ble_eq_true rfl) ?_
  intro p e s m below meth c ls A FX hr hlk hl hW
  have hx := FX.1; have hb := FX.2.1; have hown := FX.2.2.2.1; have hts := FX.2.2.2.2
  have hl : lv_has ls 1 [(0, .int x0)] := hl
  rw [fX4_isSign] at hf
  refine lv_iload_n hx hb dX4_isSign_0 rfl (lv_at hl 0 rfl) ?_
  refine lv_bipush (v := 59) hx hb dX4_isSign_1 (by decide) ?_
  refine lv_icmp_eq (tgt := 66) hx hb dX4_isSign_3 (by decide) (fun c3 => ?_) (fun c3 => ?_)
  · have hf := ifp c3 hf
    exact wX4_isSign_66 FX hr hlk _ _ _ (lv_sub hl [] rfl) hW hf
  · have hf := ifn c3 hf
    refine lv_iload_n hx hb dX4_isSign_6 rfl (lv_at hl 0 rfl) ?_
    refine lv_bipush (v := 40) hx hb dX4_isSign_7 (by decide) ?_
    refine lv_icmp_eq (tgt := 66) hx hb dX4_isSign_9 (by decide) (fun c9 => ?_) (fun c9 => ?_)
    · have hf := ifp c9 hf
      exact wX4_isSign_66 FX hr hlk _ _ _ (lv_sub hl [] rfl) hW hf
    · have hf := ifn c9 hf
      refine lv_iload_n hx hb dX4_isSign_12 rfl (lv_at hl 0 rfl) ?_
      refine lv_bipush (v := 41) hx hb dX4_isSign_13 (by decide) ?_
      refine lv_icmp_eq (tgt := 66) hx hb dX4_isSign_15 (by decide) (fun c15 => ?_) (fun c15 => ?_)
      · have hf := ifp c15 hf
        exact wX4_isSign_66 FX hr hlk _ _ _ (lv_sub hl [] rfl) hW hf
      · have hf := ifn c15 hf
        refine lv_iload_n hx hb dX4_isSign_18 rfl (lv_at hl 0 rfl) ?_
        refine lv_bipush (v := 60) hx hb dX4_isSign_19 (by decide) ?_
        refine lv_icmp_eq (tgt := 66) hx hb dX4_isSign_21 (by decide) (fun c21 => ?_) (fun c21 => ?_)
        · have hf := ifp c21 hf
          exact wX4_isSign_66 FX hr hlk _ _ _ (lv_sub hl [] rfl) hW hf
        · have hf := ifn c21 hf
          refine lv_iload_n hx hb dX4_isSign_24 rfl (lv_at hl 0 rfl) ?_
          refine lv_bipush (v := 62) hx hb dX4_isSign_25 (by decide) ?_
          refine lv_icmp_eq (tgt := 66) hx hb dX4_isSign_27 (by decide) (fun c27 => ?_) (fun c27 => ?_)
          · have hf := ifp c27 hf
            exact wX4_isSign_66 FX hr hlk _ _ _ (lv_sub hl [] rfl) hW hf
          · have hf := ifn c27 hf
            refine lv_iload_n hx hb dX4_isSign_30 rfl (lv_at hl 0 rfl) ?_
            refine lv_bipush (v := 61) hx hb dX4_isSign_31 (by decide) ?_
            refine lv_icmp_eq (tgt := 66) hx hb dX4_isSign_33 (by decide) (fun c33 => ?_) (fun c33 => ?_)
            · have hf := ifp c33 hf
              exact wX4_isSign_66 FX hr hlk _ _ _ (lv_sub hl [] rfl) hW hf
            · have hf := ifn c33 hf
              refine lv_iload_n hx hb dX4_isSign_36 rfl (lv_at hl 0 rfl) ?_
              refine lv_bipush (v := 43) hx hb dX4_isSign_37 (by decide) ?_
              refine lv_icmp_eq (tgt := 66) hx hb dX4_isSign_39 (by decide) (fun c39 => ?_) (fun c39 => ?_)
              · have hf := ifp c39 hf
                exact wX4_isSign_66 FX hr hlk _ _ _ (lv_sub hl [] rfl) hW hf
              · have hf := ifn c39 hf
                refine lv_iload_n hx hb dX4_isSign_42 rfl (lv_at hl 0 rfl) ?_
                refine lv_bipush (v := 45) hx hb dX4_isSign_43 (by decide) ?_
                refine lv_icmp_eq (tgt := 66) hx hb dX4_isSign_45 (by decide) (fun c45 => ?_) (fun c45 => ?_)
                · have hf := ifp c45 hf
                  exact wX4_isSign_66 FX hr hlk _ _ _ (lv_sub hl [] rfl) hW hf
                · have hf := ifn c45 hf
                  refine lv_iload_n hx hb dX4_isSign_48 rfl (lv_at hl 0 rfl) ?_
                  refine lv_bipush (v := 42) hx hb dX4_isSign_49 (by decide) ?_
                  refine lv_icmp_eq (tgt := 66) hx hb dX4_isSign_51 (by decide) (fun c51 => ?_) (fun c51 => ?_)
                  · have hf := ifp c51 hf
                    exact wX4_isSign_66 FX hr hlk _ _ _ (lv_sub hl [] rfl) hW hf
                  · have hf := ifn c51 hf
                    refine lv_iload_n hx hb dX4_isSign_54 rfl (lv_at hl 0 rfl) ?_
                    refine lv_bipush (v := 47) hx hb dX4_isSign_55 (by decide) ?_
                    refine lv_icmp_eq (tgt := 66) hx hb dX4_isSign_57 (by decide) (fun c57 => ?_) (fun c57 => ?_)
                    · have hf := ifp c57 hf
                      exact wX4_isSign_66 FX hr hlk _ _ _ (lv_sub hl [] rfl) hW hf
                    · have hf := ifn c57 hf
                      refine lv_iload_n hx hb dX4_isSign_60 rfl (lv_at hl 0 rfl) ?_
                      refine lv_bipush (v := 37) hx hb dX4_isSign_61 (by decide) ?_
                      refine lv_icmp_ne (tgt := 70) hx hb dX4_isSign_63 (by decide) (fun c63 => ?_) (fun c63 => ?_)
                      · have hf := ifn c63 hf
                        refine lv_iconst (v := 0) hx hb dX4_isSign_70 (by decide) ?_
                        exact g_zret FX hr hlk hW rfl (Option.some.inj hf) dX4_isSign_71
                      · have hf := ifp c63 hf
                        exact wX4_isSign_66 FX hr hlk _ _ _ (lv_sub hl [] rfl) hW hf
set_option maxHeartbeats 4000000 in
set_option maxRecDepth 100000 in
theorem kX4_isSign {α : Type} {q : α} {k : Int32 → Option α} {x0 : Int32} {ws : va_W} (FX : CallFix p m c cc nL s args lw_all RX4) (hR : rX4_isSign.frames + 1 ≤ R.frames ∧ 8 + (1 + 11) + rX4_isSign.locals ≤ R.locals) (hcs : cells ≤ R.cells ∧ slots ≤ R.slots) (hl : ls.size = nL) (hrm : (rest.map fun v => v.category).sum ≤ 8) (hW : Wd D dA A s ws H locs) (hf : (fX4_isSign x0).bind k = some q) (hdg : decode cc pc = .ok (.invokestatic 207, 3)) (kk : ∀ (r : Int32) (H1 : Heap) (locs1 : List Loc), Wd D dA A s ws H1 locs1 → k r = some q → W p l e R s m args below meth c H1 locs1 cells slots Q (F0 m (pc + 3) ls (.int r :: rest))) : W p l e R s m args below meth c H locs cells slots Q (F0 m pc ls (.int x0 :: rest)) := by
  obtain ⟨r1, h1, hf⟩ := bnd hf
  refine w_Si (As := [.int x0]) (rest := rest) (n := 1) (wr := ws) FX (mX4_isSign h1) (va_cwS 1 FX.2.2.2.2 (lw_S q1786 q1787 q132 q1788) rfl rfl rfl (by decide +kernel) hR) rfl hl rfl hrm ⟨Nat.le_trans (Nat.le_of_eq (Nat.add_zero cells)) hcs.1, Nat.le_trans (Nat.le_of_eq (Nat.add_zero slots)) hcs.2⟩ hdg hW ?_
  exact fun H1 locs1 hW1 => kk r1 H1 locs1 hW1 hf
/-! TrunkLittersModel.goOn()V: kind W -/
def fX4_goOn_374 (y1 : Int32) (σ : Mst) : Option Mst := stp (sF σ 8 y1) fun s1 => some s1
def fX4_goOn_355 (y1 : Int32) (σ : Mst) : Option Mst := stp (sF σ 8 y1) fun s1 => some s1
def fX4_goOn_350 (σ : Mst) : Option Mst := fX4_goOn_355 (1 : Int32) σ
def fX4_goOn_309 (k259 : Mst → Option Mst) (σ : Mst) : Option Mst := stp (sF σ 7 ((gF σ 7) + (1 : Int32))) fun s1 => k259 s1
def fX4_goOn_259 : Nat → Mst → Option Mst
  | 0, _ => none
  | n + 1, σ => (fX4_sign (gF σ 7) σ).bind fun r1 => (fX4_isDigit r1).bind fun r2 => (if r2 = 0 then (if (4 : Int32) < ((gF σ 7) - (gF σ 6)) then fX4_goOn_350 σ else (fX4_sign (gF σ 7) σ).bind fun r3 => (fX4_isLetter r3).bind fun r4 => (if r4 = 0 then fX4_goOn_355 (4 : Int32) σ else fX4_goOn_350 σ)) else (if (4 : Int32) ≤ ((gF σ 7) - (gF σ 6)) then fX4_goOn_309 (fX4_goOn_259 n) σ else (fX4_sign (gF σ 7) σ).bind fun r5 => stp (sF σ 9 ((((10 : Int32) * (gF σ 9)) + r5) - (48 : Int32))) fun s6 => fX4_goOn_309 (fX4_goOn_259 n) s6))
def fX4_goOn_233 (y1 : Int32) (σ : Mst) : Option Mst := stp (sF σ 8 y1) fun s1 => some s1
def fX4_goOn_199 (σ : Mst) : Option Mst := (if ((gF σ 7) - (gF σ 6)) ≤ (8 : Int32) then (fX4_isKept (gN σ)).bind fun r1 => (if r1 = 0 then fX4_goOn_233 (2 : Int32) σ else fX4_goOn_233 (3 : Int32) σ) else fX4_goOn_233 (1 : Int32) σ)
def fX4_goOn_156 : Nat → Int32 → Mst → Option Mst
  | 0, _, _ => none
  | n + 1, x2, σ => (if (gF σ 7) ≤ x2 then fX4_goOn_199 σ else (if ((gF σ 6) + (8 : Int32)) ≤ x2 then fX4_goOn_199 σ else (fX4_sign x2 σ).bind fun r1 => stp (sN σ (((gN σ) <<< ((8 : Int32).toInt64 &&& 63)) ||| (r1.toInt64))) fun s2 => fX4_goOn_156 n (x2 + (1 : Int32)) s2))
def fX4_goOn_119 : Nat → Mst → Option Mst
  | 0, _ => none
  | n + 1, σ => (fX4_sign (gF σ 7) σ).bind fun r1 => (fX4_isLetter r1).bind fun r2 => (if r2 = 0 then stp (sN σ (0 : Int64)) fun s3 => fX4_goOn_156 FU (gF s3 6) s3 else stp (sF σ 7 ((gF σ 7) + (1 : Int32))) fun s4 => fX4_goOn_119 n s4)
def fX4_goOn_58 (σ : Mst) : Option Mst := (fX4_sign (gF σ 6) σ).bind fun r1 => stp (sF σ 7 ((gF σ 6) + (1 : Int32))) fun s2 => (if (gF s2 6) < (gF s2 3) then (fX4_isLetter r1).bind fun r3 => (if r3 = 0 then (fX4_isDigit r1).bind fun r4 => (if r4 = 0 then (fX4_isSign r1).bind fun r5 => (if r5 = 0 then fX4_goOn_374 (1 : Int32) s2 else fX4_goOn_374 (5 : Int32) s2) else stp (sF s2 9 (0 : Int32)) fun s6 => stp (sF s6 7 (gF s6 6)) fun s7 => fX4_goOn_259 FU s7) else fX4_goOn_119 FU s2) else stp (sF s2 8 (0 : Int32)) fun s8 => stp (sF s8 6 (gF s8 3)) fun s9 => stp (sF s9 7 (gF s9 3)) fun s10 => some s10)
def fX4_goOn_45 (k8 : Mst → Option Mst) (σ : Mst) : Option Mst := stp (sF σ 6 ((gF σ 6) + (1 : Int32))) fun s1 => k8 s1
def fX4_goOn_8 : Nat → Mst → Option Mst
  | 0, _ => none
  | n + 1, σ => (if (gF σ 3) ≤ (gF σ 6) then fX4_goOn_58 σ else (fX4_sign (gF σ 6) σ).bind fun r1 => (if r1 = (32 : Int32) then fX4_goOn_45 (fX4_goOn_8 n) σ else (fX4_sign (gF σ 6) σ).bind fun r2 => (if r2 = (10 : Int32) then fX4_goOn_45 (fX4_goOn_8 n) σ else fX4_goOn_58 σ)))
def fX4_goOn (σ : Mst) : Option Mst := stp (sF σ 6 (gF σ 7)) fun s1 => fX4_goOn_8 FU s1
abbrev rX4_goOn : Room := { frames := 1, cells := 0, slots := 0, locals := 22 }
set_option maxHeartbeats 4000000 in
set_option maxRecDepth 100000 in
theorem wX4_goOn_374 {q : Mst} (FX : CallFix p m c cX4_goOn 3 s args lw_all RX4) (hr : meth.sig.returnType = none) (hlk : meth.locks = false) : ∀ (y1 : Int32) (σ : Mst) (H : Heap) (locs : List Loc) (ls : Array Slot), lv_has ls 3 [] → Wd D dA A s (Mc dA h0 ad σ) H locs → fX4_goOn_374 y1 σ = some q → W p l e rX4_goOn s m args below meth c H locs 0 0 (QV D dA A below args s 0 0 (Mc dA h0 ad q)) (F0 m 374 ls [.int y1, .ref h0]) := by
  have hx := FX.1; have hb := FX.2.1; have hown := FX.2.2.2.1; have hts := FX.2.2.2.2
  intro y1 σ H locs ls hl hW hf
  rw [fX4_goOn_374] at hf
  refine Ms8 FX hW hf dX4_goOn_374 (fun s1 H locs hW hf => ?_)
  obtain rfl := Option.some.inj hf
  exact g_vret FX hr hlk hW dX4_goOn_377
set_option maxHeartbeats 4000000 in
set_option maxRecDepth 100000 in
theorem wX4_goOn_355 {q : Mst} (FX : CallFix p m c cX4_goOn 3 s args lw_all RX4) (hr : meth.sig.returnType = none) (hlk : meth.locks = false) : ∀ (y1 : Int32) (σ : Mst) (H : Heap) (locs : List Loc) (ls : Array Slot), lv_has ls 3 [] → Wd D dA A s (Mc dA h0 ad σ) H locs → fX4_goOn_355 y1 σ = some q → W p l e rX4_goOn s m args below meth c H locs 0 0 (QV D dA A below args s 0 0 (Mc dA h0 ad q)) (F0 m 355 ls [.int y1, .ref h0]) := by
  have hx := FX.1; have hb := FX.2.1; have hown := FX.2.2.2.1; have hts := FX.2.2.2.2
  intro y1 σ H locs ls hl hW hf
  rw [fX4_goOn_355] at hf
  refine Ms8 FX hW hf dX4_goOn_355 (fun s1 H locs hW hf => ?_)
  refine lv_goto (tgt := 377) hx hb dX4_goOn_358 (by decide) ?_
  obtain rfl := Option.some.inj hf
  exact g_vret FX hr hlk hW dX4_goOn_377
set_option maxHeartbeats 4000000 in
set_option maxRecDepth 100000 in
theorem wX4_goOn_350 {q : Mst} (FX : CallFix p m c cX4_goOn 3 s args lw_all RX4) (hr : meth.sig.returnType = none) (hlk : meth.locks = false) : ∀ (σ : Mst) (H : Heap) (locs : List Loc) (ls : Array Slot), lv_has ls 3 [] → Wd D dA A s (Mc dA h0 ad σ) H locs → fX4_goOn_350 σ = some q → W p l e rX4_goOn s m args below meth c H locs 0 0 (QV D dA A below args s 0 0 (Mc dA h0 ad q)) (F0 m 350 ls [.ref h0]) := by
  have hx := FX.1; have hb := FX.2.1; have hown := FX.2.2.2.1; have hts := FX.2.2.2.2
  intro σ H locs ls hl hW hf
  rw [fX4_goOn_350] at hf
  refine lv_iconst (v := 1) hx hb dX4_goOn_350 (by decide) ?_
  refine lv_goto (tgt := 355) hx hb dX4_goOn_351 (by decide) ?_
  exact wX4_goOn_355 FX hr hlk (1 : Int32) σ _ _ _ (lv_sub hl [] rfl) hW hf
set_option maxHeartbeats 4000000 in
set_option maxRecDepth 100000 in
theorem wX4_goOn_309 {q : Mst} (FX : CallFix p m c cX4_goOn 3 s args lw_all RX4) (hr : meth.sig.returnType = none) (hlk : meth.locks = false) {k259 : Mst → Option Mst} (hk259 : ∀ (σ : Mst) (H : Heap) (locs : List Loc) (ls : Array Slot), lv_has ls 3 [(0, .ref h0)] → Wd D dA A s (Mc dA h0 ad σ) H locs → k259 σ = some q → W p l e rX4_goOn s m args below meth c H locs 0 0 (QV D dA A below args s 0 0 (Mc dA h0 ad q)) (F0 m 259 ls [])) : ∀ (σ : Mst) (H : Heap) (locs : List Loc) (ls : Array Slot), lv_has ls 3 [(0, .ref h0)] → Wd D dA A s (Mc dA h0 ad σ) H locs → fX4_goOn_309 k259 σ = some q → W p l e rX4_goOn s m args below meth c H locs 0 0 (QV D dA A below args s 0 0 (Mc dA h0 ad q)) (F0 m 309 ls []) := by
  have hx := FX.1; have hb := FX.2.1; have hown := FX.2.2.2.1; have hts := FX.2.2.2.2
  intro σ H locs ls hl hW hf
  rw [fX4_goOn_309] at hf
  refine lv_aload_n hx hb dX4_goOn_309 rfl (lv_at hl 0 rfl) ?_
  refine lv_dup hx hb dX4_goOn_310 rfl ?_
  refine Mg7 FX hW dX4_goOn_311 ?_
  refine lv_iconst (v := 1) hx hb dX4_goOn_314 (by decide) ?_
  refine lv_iadd hx hb dX4_goOn_315 ?_
  refine Ms7 FX hW hf dX4_goOn_316 (fun s1 H locs hW hf => ?_)
  refine lv_goto (tgt := 259) hx hb dX4_goOn_319 (by decide) ?_
  exact hk259 s1 _ _ _ (lv_sub hl [0] rfl) hW hf
set_option maxHeartbeats 4000000 in
set_option maxRecDepth 100000 in
theorem wX4_goOn_259 {q : Mst} (FX : CallFix p m c cX4_goOn 3 s args lw_all RX4) (hr : meth.sig.returnType = none) (hlk : meth.locks = false) : ∀ n : Nat, ∀ (σ : Mst) (H : Heap) (locs : List Loc) (ls : Array Slot), lv_has ls 3 [(0, .ref h0)] → Wd D dA A s (Mc dA h0 ad σ) H locs → fX4_goOn_259 n σ = some q → W p l e rX4_goOn s m args below meth c H locs 0 0 (QV D dA A below args s 0 0 (Mc dA h0 ad q)) (F0 m 259 ls []) := by
  have hx := FX.1; have hb := FX.2.1; have hown := FX.2.2.2.1; have hts := FX.2.2.2.2
  intro n
  induction n with
  | zero =>
    intro σ H locs ls hl hW hf
    cases (show (none : Option Mst) = some q from hf)
  | succ n ih =>
    intro σ H locs ls hl hW hf
    rw [fX4_goOn_259] at hf
    refine lv_aload_n hx hb dX4_goOn_259 rfl (lv_at hl 0 rfl) ?_
    refine lv_aload_n hx hb dX4_goOn_260 rfl (lv_at hl 0 rfl) ?_
    refine Mg7 FX hW dX4_goOn_261 ?_
    refine kX4_sign FX ⟨Nat.le_of_ble_eq_true rfl, Nat.le_of_ble_eq_true rfl⟩ ⟨Nat.zero_le _, Nat.zero_le _⟩ hl.1 (Nat.le_of_ble_eq_true rfl) hW hf dX4_goOn_264 (fun r1 H locs hW hf => ?_)
    refine kX4_isDigit FX ⟨Nat.le_of_ble_eq_true rfl, Nat.le_of_ble_eq_true rfl⟩ ⟨Nat.zero_le _, Nat.zero_le _⟩ hl.1 (Nat.le_of_ble_eq_true rfl) hW hf dX4_goOn_267 (fun r2 H locs hW hf => ?_)
    refine lv_if_eq (tgt := 322) hx hb dX4_goOn_270 (by decide) (fun c270 => ?_) (fun c270 => ?_)
    · have hf := ifp c270 hf
      refine lv_aload_n hx hb dX4_goOn_322 rfl (lv_at hl 0 rfl) ?_
      refine lv_aload_n hx hb dX4_goOn_323 rfl (lv_at hl 0 rfl) ?_
      refine Mg7 FX hW dX4_goOn_324 ?_
      refine lv_aload_n hx hb dX4_goOn_327 rfl (lv_at hl 0 rfl) ?_
      refine Mg6 FX hW dX4_goOn_328 ?_
      refine lv_isub hx hb dX4_goOn_331 ?_
      refine lv_iconst (v := 4) hx hb dX4_goOn_332 (by decide) ?_
      refine lv_icmp_gt (tgt := 350) hx hb dX4_goOn_333 (by decide) (fun c333 => ?_) (fun c333 => ?_)
      · have hf := ifp c333 hf
        exact wX4_goOn_350 FX hr hlk σ _ _ _ (lv_sub hl [] rfl) hW hf
      · have hf := ifn c333 hf
        refine lv_aload_n hx hb dX4_goOn_336 rfl (lv_at hl 0 rfl) ?_
        refine lv_aload_n hx hb dX4_goOn_337 rfl (lv_at hl 0 rfl) ?_
        refine Mg7 FX hW dX4_goOn_338 ?_
        refine kX4_sign FX ⟨Nat.le_of_ble_eq_true rfl, Nat.le_of_ble_eq_true rfl⟩ ⟨Nat.zero_le _, Nat.zero_le _⟩ hl.1 (Nat.le_of_ble_eq_true rfl) hW hf dX4_goOn_341 (fun r3 H locs hW hf => ?_)
        refine kX4_isLetter FX ⟨Nat.le_of_ble_eq_true rfl, Nat.le_of_ble_eq_true rfl⟩ ⟨Nat.zero_le _, Nat.zero_le _⟩ hl.1 (Nat.le_of_ble_eq_true rfl) hW hf dX4_goOn_344 (fun r4 H locs hW hf => ?_)
        refine lv_if_eq (tgt := 354) hx hb dX4_goOn_347 (by decide) (fun c347 => ?_) (fun c347 => ?_)
        · have hf := ifp c347 hf
          refine lv_iconst (v := 4) hx hb dX4_goOn_354 (by decide) ?_
          exact wX4_goOn_355 FX hr hlk (4 : Int32) σ _ _ _ (lv_sub hl [] rfl) hW hf
        · have hf := ifn c347 hf
          exact wX4_goOn_350 FX hr hlk σ _ _ _ (lv_sub hl [] rfl) hW hf
    · have hf := ifn c270 hf
      refine lv_aload_n hx hb dX4_goOn_273 rfl (lv_at hl 0 rfl) ?_
      refine Mg7 FX hW dX4_goOn_274 ?_
      refine lv_aload_n hx hb dX4_goOn_277 rfl (lv_at hl 0 rfl) ?_
      refine Mg6 FX hW dX4_goOn_278 ?_
      refine lv_isub hx hb dX4_goOn_281 ?_
      refine lv_iconst (v := 4) hx hb dX4_goOn_282 (by decide) ?_
      refine lv_icmp_ge (tgt := 309) hx hb dX4_goOn_283 (by decide) (fun c283 => ?_) (fun c283 => ?_)
      · have hf := ifp c283 hf
        exact wX4_goOn_309 FX hr hlk (ih) σ _ _ _ (lv_sub hl [0] rfl) hW hf
      · have hf := ifn c283 hf
        refine lv_aload_n hx hb dX4_goOn_286 rfl (lv_at hl 0 rfl) ?_
        refine lv_bipush (v := 10) hx hb dX4_goOn_287 (by decide) ?_
        refine lv_aload_n hx hb dX4_goOn_289 rfl (lv_at hl 0 rfl) ?_
        refine Mg9 FX hW dX4_goOn_290 ?_
        refine lv_imul hx hb dX4_goOn_293 ?_
        refine lv_aload_n hx hb dX4_goOn_294 rfl (lv_at hl 0 rfl) ?_
        refine lv_aload_n hx hb dX4_goOn_295 rfl (lv_at hl 0 rfl) ?_
        refine Mg7 FX hW dX4_goOn_296 ?_
        refine kX4_sign FX ⟨Nat.le_of_ble_eq_true rfl, Nat.le_of_ble_eq_true rfl⟩ ⟨Nat.zero_le _, Nat.zero_le _⟩ hl.1 (Nat.le_of_ble_eq_true rfl) hW hf dX4_goOn_299 (fun r5 H locs hW hf => ?_)
        refine lv_iadd hx hb dX4_goOn_302 ?_
        refine lv_bipush (v := 48) hx hb dX4_goOn_303 (by decide) ?_
        refine lv_isub hx hb dX4_goOn_305 ?_
        refine Ms9 FX hW hf dX4_goOn_306 (fun s6 H locs hW hf => ?_)
        exact wX4_goOn_309 FX hr hlk (ih) s6 _ _ _ (lv_sub hl [0] rfl) hW hf
set_option maxHeartbeats 4000000 in
set_option maxRecDepth 100000 in
theorem wX4_goOn_233 {q : Mst} (FX : CallFix p m c cX4_goOn 3 s args lw_all RX4) (hr : meth.sig.returnType = none) (hlk : meth.locks = false) : ∀ (y1 : Int32) (σ : Mst) (H : Heap) (locs : List Loc) (ls : Array Slot), lv_has ls 3 [] → Wd D dA A s (Mc dA h0 ad σ) H locs → fX4_goOn_233 y1 σ = some q → W p l e rX4_goOn s m args below meth c H locs 0 0 (QV D dA A below args s 0 0 (Mc dA h0 ad q)) (F0 m 233 ls [.int y1, .ref h0]) := by
  have hx := FX.1; have hb := FX.2.1; have hown := FX.2.2.2.1; have hts := FX.2.2.2.2
  intro y1 σ H locs ls hl hW hf
  rw [fX4_goOn_233] at hf
  refine Ms8 FX hW hf dX4_goOn_233 (fun s1 H locs hW hf => ?_)
  refine lv_goto (tgt := 377) hx hb dX4_goOn_236 (by decide) ?_
  obtain rfl := Option.some.inj hf
  exact g_vret FX hr hlk hW dX4_goOn_377
set_option maxHeartbeats 4000000 in
set_option maxRecDepth 100000 in
theorem wX4_goOn_199 {q : Mst} (FX : CallFix p m c cX4_goOn 3 s args lw_all RX4) (hr : meth.sig.returnType = none) (hlk : meth.locks = false) : ∀ (σ : Mst) (H : Heap) (locs : List Loc) (ls : Array Slot), lv_has ls 3 [(0, .ref h0)] → Wd D dA A s (Mc dA h0 ad σ) H locs → fX4_goOn_199 σ = some q → W p l e rX4_goOn s m args below meth c H locs 0 0 (QV D dA A below args s 0 0 (Mc dA h0 ad q)) (F0 m 199 ls []) := by
  have hx := FX.1; have hb := FX.2.1; have hown := FX.2.2.2.1; have hts := FX.2.2.2.2
  intro σ H locs ls hl hW hf
  rw [fX4_goOn_199] at hf
  refine lv_aload_n hx hb dX4_goOn_199 rfl (lv_at hl 0 rfl) ?_
  refine lv_aload_n hx hb dX4_goOn_200 rfl (lv_at hl 0 rfl) ?_
  refine Mg7 FX hW dX4_goOn_201 ?_
  refine lv_aload_n hx hb dX4_goOn_204 rfl (lv_at hl 0 rfl) ?_
  refine Mg6 FX hW dX4_goOn_205 ?_
  refine lv_isub hx hb dX4_goOn_208 ?_
  refine lv_bipush (v := 8) hx hb dX4_goOn_209 (by decide) ?_
  refine lv_icmp_le (tgt := 218) hx hb dX4_goOn_211 (by decide) (fun c211 => ?_) (fun c211 => ?_)
  · have hf := ifp c211 hf
    refine lv_aload_n hx hb dX4_goOn_218 rfl (lv_at hl 0 rfl) ?_
    refine Mg10 FX hW dX4_goOn_219 ?_
    refine kX4_isKept FX ⟨Nat.le_of_ble_eq_true rfl, Nat.le_of_ble_eq_true rfl⟩ ⟨Nat.zero_le _, Nat.zero_le _⟩ hl.1 (Nat.le_of_ble_eq_true rfl) hW hf dX4_goOn_222 (fun r1 H locs hW hf => ?_)
    refine lv_if_eq (tgt := 232) hx hb dX4_goOn_225 (by decide) (fun c225 => ?_) (fun c225 => ?_)
    · have hf := ifp c225 hf
      refine lv_iconst (v := 2) hx hb dX4_goOn_232 (by decide) ?_
      exact wX4_goOn_233 FX hr hlk (2 : Int32) σ _ _ _ (lv_sub hl [] rfl) hW hf
    · have hf := ifn c225 hf
      refine lv_iconst (v := 3) hx hb dX4_goOn_228 (by decide) ?_
      refine lv_goto (tgt := 233) hx hb dX4_goOn_229 (by decide) ?_
      exact wX4_goOn_233 FX hr hlk (3 : Int32) σ _ _ _ (lv_sub hl [] rfl) hW hf
  · have hf := ifn c211 hf
    refine lv_iconst (v := 1) hx hb dX4_goOn_214 (by decide) ?_
    refine lv_goto (tgt := 233) hx hb dX4_goOn_215 (by decide) ?_
    exact wX4_goOn_233 FX hr hlk (1 : Int32) σ _ _ _ (lv_sub hl [] rfl) hW hf
set_option maxHeartbeats 4000000 in
set_option maxRecDepth 100000 in
theorem wX4_goOn_156 {q : Mst} (FX : CallFix p m c cX4_goOn 3 s args lw_all RX4) (hr : meth.sig.returnType = none) (hlk : meth.locks = false) : ∀ n : Nat, ∀ (x2 : Int32) (σ : Mst) (H : Heap) (locs : List Loc) (ls : Array Slot), lv_has ls 3 [(0, .ref h0), (2, .int x2)] → Wd D dA A s (Mc dA h0 ad σ) H locs → fX4_goOn_156 n x2 σ = some q → W p l e rX4_goOn s m args below meth c H locs 0 0 (QV D dA A below args s 0 0 (Mc dA h0 ad q)) (F0 m 156 ls []) := by
  have hx := FX.1; have hb := FX.2.1; have hown := FX.2.2.2.1; have hts := FX.2.2.2.2
  intro n
  induction n with
  | zero =>
    intro x2 σ H locs ls hl hW hf
    cases (show (none : Option Mst) = some q from hf)
  | succ n ih =>
    intro x2 σ H locs ls hl hW hf
    rw [fX4_goOn_156] at hf
    refine lv_iload_n hx hb dX4_goOn_156 rfl (lv_at hl 1 rfl) ?_
    refine lv_aload_n hx hb dX4_goOn_157 rfl (lv_at hl 0 rfl) ?_
    refine Mg7 FX hW dX4_goOn_158 ?_
    refine lv_icmp_ge (tgt := 199) hx hb dX4_goOn_161 (by decide) (fun c161 => ?_) (fun c161 => ?_)
    · have hf := ifp c161 hf
      exact wX4_goOn_199 FX hr hlk σ _ _ _ (lv_sub hl [0] rfl) hW hf
    · have hf := ifn c161 hf
      refine lv_iload_n hx hb dX4_goOn_164 rfl (lv_at hl 1 rfl) ?_
      refine lv_aload_n hx hb dX4_goOn_165 rfl (lv_at hl 0 rfl) ?_
      refine Mg6 FX hW dX4_goOn_166 ?_
      refine lv_bipush (v := 8) hx hb dX4_goOn_169 (by decide) ?_
      refine lv_iadd hx hb dX4_goOn_171 ?_
      refine lv_icmp_ge (tgt := 199) hx hb dX4_goOn_172 (by decide) (fun c172 => ?_) (fun c172 => ?_)
      · have hf := ifp c172 hf
        exact wX4_goOn_199 FX hr hlk σ _ _ _ (lv_sub hl [0] rfl) hW hf
      · have hf := ifn c172 hf
        refine lv_aload_n hx hb dX4_goOn_175 rfl (lv_at hl 0 rfl) ?_
        refine lv_aload_n hx hb dX4_goOn_176 rfl (lv_at hl 0 rfl) ?_
        refine Mg10 FX hW dX4_goOn_177 ?_
        refine lv_bipush (v := 8) hx hb dX4_goOn_180 (by decide) ?_
        refine lv_lshl (v := ((gN σ) <<< ((8 : Int32).toInt64 &&& 63))) hx hb dX4_goOn_182 rfl ?_
        refine lv_aload_n hx hb dX4_goOn_183 rfl (lv_at hl 0 rfl) ?_
        refine lv_iload_n hx hb dX4_goOn_184 rfl (lv_at hl 1 rfl) ?_
        refine kX4_sign FX ⟨Nat.le_of_ble_eq_true rfl, Nat.le_of_ble_eq_true rfl⟩ ⟨Nat.zero_le _, Nat.zero_le _⟩ hl.1 (Nat.le_of_ble_eq_true rfl) hW hf dX4_goOn_185 (fun r1 H locs hW hf => ?_)
        refine lv_i2l (v := (r1.toInt64)) hx hb dX4_goOn_188 rfl ?_
        refine lv_lor hx hb dX4_goOn_189 ?_
        refine Ms10 FX hW hf dX4_goOn_190 (fun s2 H locs hW hf => ?_)
        refine lv_iinc (v := (x2 + (1 : Int32))) (lv' := [(2, .int (x2 + (1 : Int32))), (0, .ref h0)]) hx hb dX4_goOn_193 hl (k := 1) rfl rfl (by decide) rfl (fun ls hl => ?_)
        refine lv_goto (tgt := 156) hx hb dX4_goOn_196 (by decide) ?_
        exact ih (x2 + (1 : Int32)) s2 _ _ _ (lv_sub hl [1, 0] rfl) hW hf
set_option maxHeartbeats 4000000 in
set_option maxRecDepth 100000 in
theorem wX4_goOn_119 {q : Mst} (FX : CallFix p m c cX4_goOn 3 s args lw_all RX4) (hr : meth.sig.returnType = none) (hlk : meth.locks = false) : ∀ n : Nat, ∀ (σ : Mst) (H : Heap) (locs : List Loc) (ls : Array Slot), lv_has ls 3 [(0, .ref h0)] → Wd D dA A s (Mc dA h0 ad σ) H locs → fX4_goOn_119 n σ = some q → W p l e rX4_goOn s m args below meth c H locs 0 0 (QV D dA A below args s 0 0 (Mc dA h0 ad q)) (F0 m 119 ls []) := by
  have hx := FX.1; have hb := FX.2.1; have hown := FX.2.2.2.1; have hts := FX.2.2.2.2
  intro n
  induction n with
  | zero =>
    intro σ H locs ls hl hW hf
    cases (show (none : Option Mst) = some q from hf)
  | succ n ih =>
    intro σ H locs ls hl hW hf
    rw [fX4_goOn_119] at hf
    refine lv_aload_n hx hb dX4_goOn_119 rfl (lv_at hl 0 rfl) ?_
    refine lv_aload_n hx hb dX4_goOn_120 rfl (lv_at hl 0 rfl) ?_
    refine Mg7 FX hW dX4_goOn_121 ?_
    refine kX4_sign FX ⟨Nat.le_of_ble_eq_true rfl, Nat.le_of_ble_eq_true rfl⟩ ⟨Nat.zero_le _, Nat.zero_le _⟩ hl.1 (Nat.le_of_ble_eq_true rfl) hW hf dX4_goOn_124 (fun r1 H locs hW hf => ?_)
    refine kX4_isLetter FX ⟨Nat.le_of_ble_eq_true rfl, Nat.le_of_ble_eq_true rfl⟩ ⟨Nat.zero_le _, Nat.zero_le _⟩ hl.1 (Nat.le_of_ble_eq_true rfl) hW hf dX4_goOn_127 (fun r2 H locs hW hf => ?_)
    refine lv_if_eq (tgt := 146) hx hb dX4_goOn_130 (by decide) (fun c130 => ?_) (fun c130 => ?_)
    · have hf := ifp c130 hf
      refine lv_aload_n hx hb dX4_goOn_146 rfl (lv_at hl 0 rfl) ?_
      refine lv_lconst (v := 0) hx hb dX4_goOn_147 (by decide) ?_
      refine Ms10 FX hW hf dX4_goOn_148 (fun s3 H locs hW hf => ?_)
      refine lv_aload_n hx hb dX4_goOn_151 rfl (lv_at hl 0 rfl) ?_
      refine Mg6 FX hW dX4_goOn_152 ?_
      refine lv_istore_n (lv' := [(2, .int (gF s3 6)), (0, .ref h0)]) hx hb dX4_goOn_155 rfl hl (by decide) rfl (fun ls hl => ?_)
      exact wX4_goOn_156 FX hr hlk _ (gF s3 6) s3 _ _ _ (lv_sub hl [1, 0] rfl) hW hf
    · have hf := ifn c130 hf
      refine lv_aload_n hx hb dX4_goOn_133 rfl (lv_at hl 0 rfl) ?_
      refine lv_dup hx hb dX4_goOn_134 rfl ?_
      refine Mg7 FX hW dX4_goOn_135 ?_
      refine lv_iconst (v := 1) hx hb dX4_goOn_138 (by decide) ?_
      refine lv_iadd hx hb dX4_goOn_139 ?_
      refine Ms7 FX hW hf dX4_goOn_140 (fun s4 H locs hW hf => ?_)
      refine lv_goto (tgt := 119) hx hb dX4_goOn_143 (by decide) ?_
      exact ih s4 _ _ _ (lv_sub hl [0] rfl) hW hf
set_option maxHeartbeats 4000000 in
set_option maxRecDepth 100000 in
theorem wX4_goOn_58 {q : Mst} (FX : CallFix p m c cX4_goOn 3 s args lw_all RX4) (hr : meth.sig.returnType = none) (hlk : meth.locks = false) : ∀ (σ : Mst) (H : Heap) (locs : List Loc) (ls : Array Slot), lv_has ls 3 [(0, .ref h0)] → Wd D dA A s (Mc dA h0 ad σ) H locs → fX4_goOn_58 σ = some q → W p l e rX4_goOn s m args below meth c H locs 0 0 (QV D dA A below args s 0 0 (Mc dA h0 ad q)) (F0 m 58 ls []) := by
  have hx := FX.1; have hb := FX.2.1; have hown := FX.2.2.2.1; have hts := FX.2.2.2.2
  intro σ H locs ls hl hW hf
  rw [fX4_goOn_58] at hf
  refine lv_aload_n hx hb dX4_goOn_58 rfl (lv_at hl 0 rfl) ?_
  refine lv_aload_n hx hb dX4_goOn_59 rfl (lv_at hl 0 rfl) ?_
  refine Mg6 FX hW dX4_goOn_60 ?_
  refine kX4_sign FX ⟨Nat.le_of_ble_eq_true rfl, Nat.le_of_ble_eq_true rfl⟩ ⟨Nat.zero_le _, Nat.zero_le _⟩ hl.1 (Nat.le_of_ble_eq_true rfl) hW hf dX4_goOn_63 (fun r1 H locs hW hf => ?_)
  refine lv_istore_n (lv' := [(1, .int r1), (0, .ref h0)]) hx hb dX4_goOn_66 rfl hl (by decide) rfl (fun ls hl => ?_)
  refine lv_aload_n hx hb dX4_goOn_67 rfl (lv_at hl 1 rfl) ?_
  refine lv_aload_n hx hb dX4_goOn_68 rfl (lv_at hl 1 rfl) ?_
  refine Mg6 FX hW dX4_goOn_69 ?_
  refine lv_iconst (v := 1) hx hb dX4_goOn_72 (by decide) ?_
  refine lv_iadd hx hb dX4_goOn_73 ?_
  refine Ms7 FX hW hf dX4_goOn_74 (fun s2 H locs hW hf => ?_)
  refine lv_aload_n hx hb dX4_goOn_77 rfl (lv_at hl 1 rfl) ?_
  refine Mg6 FX hW dX4_goOn_78 ?_
  refine lv_aload_n hx hb dX4_goOn_81 rfl (lv_at hl 1 rfl) ?_
  refine Mg3 FX hW dX4_goOn_82 ?_
  refine lv_icmp_lt (tgt := 112) hx hb dX4_goOn_85 (by decide) (fun c85 => ?_) (fun c85 => ?_)
  · have hf := ifp c85 hf
    refine lv_iload_n hx hb dX4_goOn_112 rfl (lv_at hl 0 rfl) ?_
    refine kX4_isLetter FX ⟨Nat.le_of_ble_eq_true rfl, Nat.le_of_ble_eq_true rfl⟩ ⟨Nat.zero_le _, Nat.zero_le _⟩ hl.1 (Nat.le_of_ble_eq_true rfl) hW hf dX4_goOn_113 (fun r3 H locs hW hf => ?_)
    refine lv_if_eq (tgt := 239) hx hb dX4_goOn_116 (by decide) (fun c116 => ?_) (fun c116 => ?_)
    · have hf := ifp c116 hf
      refine lv_iload_n hx hb dX4_goOn_239 rfl (lv_at hl 0 rfl) ?_
      refine kX4_isDigit FX ⟨Nat.le_of_ble_eq_true rfl, Nat.le_of_ble_eq_true rfl⟩ ⟨Nat.zero_le _, Nat.zero_le _⟩ hl.1 (Nat.le_of_ble_eq_true rfl) hW hf dX4_goOn_240 (fun r4 H locs hW hf => ?_)
      refine lv_if_eq (tgt := 361) hx hb dX4_goOn_243 (by decide) (fun c243 => ?_) (fun c243 => ?_)
      · have hf := ifp c243 hf
        refine lv_aload_n hx hb dX4_goOn_361 rfl (lv_at hl 1 rfl) ?_
        refine lv_iload_n hx hb dX4_goOn_362 rfl (lv_at hl 0 rfl) ?_
        refine kX4_isSign FX ⟨Nat.le_of_ble_eq_true rfl, Nat.le_of_ble_eq_true rfl⟩ ⟨Nat.zero_le _, Nat.zero_le _⟩ hl.1 (Nat.le_of_ble_eq_true rfl) hW hf dX4_goOn_363 (fun r5 H locs hW hf => ?_)
        refine lv_if_eq (tgt := 373) hx hb dX4_goOn_366 (by decide) (fun c366 => ?_) (fun c366 => ?_)
        · have hf := ifp c366 hf
          refine lv_iconst (v := 1) hx hb dX4_goOn_373 (by decide) ?_
          exact wX4_goOn_374 FX hr hlk (1 : Int32) s2 _ _ _ (lv_sub hl [] rfl) hW hf
        · have hf := ifn c366 hf
          refine lv_iconst (v := 5) hx hb dX4_goOn_369 (by decide) ?_
          refine lv_goto (tgt := 374) hx hb dX4_goOn_370 (by decide) ?_
          exact wX4_goOn_374 FX hr hlk (5 : Int32) s2 _ _ _ (lv_sub hl [] rfl) hW hf
      · have hf := ifn c243 hf
        refine lv_aload_n hx hb dX4_goOn_246 rfl (lv_at hl 1 rfl) ?_
        refine lv_iconst (v := 0) hx hb dX4_goOn_247 (by decide) ?_
        refine Ms9 FX hW hf dX4_goOn_248 (fun s6 H locs hW hf => ?_)
        refine lv_aload_n hx hb dX4_goOn_251 rfl (lv_at hl 1 rfl) ?_
        refine lv_aload_n hx hb dX4_goOn_252 rfl (lv_at hl 1 rfl) ?_
        refine Mg6 FX hW dX4_goOn_253 ?_
        refine Ms7 FX hW hf dX4_goOn_256 (fun s7 H locs hW hf => ?_)
        exact wX4_goOn_259 FX hr hlk _ s7 _ _ _ (lv_sub hl [1] rfl) hW hf
    · have hf := ifn c116 hf
      exact wX4_goOn_119 FX hr hlk _ s2 _ _ _ (lv_sub hl [1] rfl) hW hf
  · have hf := ifn c85 hf
    refine lv_aload_n hx hb dX4_goOn_88 rfl (lv_at hl 1 rfl) ?_
    refine lv_iconst (v := 0) hx hb dX4_goOn_89 (by decide) ?_
    refine Ms8 FX hW hf dX4_goOn_90 (fun s8 H locs hW hf => ?_)
    refine lv_aload_n hx hb dX4_goOn_93 rfl (lv_at hl 1 rfl) ?_
    refine lv_aload_n hx hb dX4_goOn_94 rfl (lv_at hl 1 rfl) ?_
    refine Mg3 FX hW dX4_goOn_95 ?_
    refine Ms6 FX hW hf dX4_goOn_98 (fun s9 H locs hW hf => ?_)
    refine lv_aload_n hx hb dX4_goOn_101 rfl (lv_at hl 1 rfl) ?_
    refine lv_aload_n hx hb dX4_goOn_102 rfl (lv_at hl 1 rfl) ?_
    refine Mg3 FX hW dX4_goOn_103 ?_
    refine Ms7 FX hW hf dX4_goOn_106 (fun s10 H locs hW hf => ?_)
    refine lv_goto (tgt := 377) hx hb dX4_goOn_109 (by decide) ?_
    obtain rfl := Option.some.inj hf
    exact g_vret FX hr hlk hW dX4_goOn_377
set_option maxHeartbeats 4000000 in
set_option maxRecDepth 100000 in
theorem wX4_goOn_45 {q : Mst} (FX : CallFix p m c cX4_goOn 3 s args lw_all RX4) (hr : meth.sig.returnType = none) (hlk : meth.locks = false) {k8 : Mst → Option Mst} (hk8 : ∀ (σ : Mst) (H : Heap) (locs : List Loc) (ls : Array Slot), lv_has ls 3 [(0, .ref h0)] → Wd D dA A s (Mc dA h0 ad σ) H locs → k8 σ = some q → W p l e rX4_goOn s m args below meth c H locs 0 0 (QV D dA A below args s 0 0 (Mc dA h0 ad q)) (F0 m 8 ls [])) : ∀ (σ : Mst) (H : Heap) (locs : List Loc) (ls : Array Slot), lv_has ls 3 [(0, .ref h0)] → Wd D dA A s (Mc dA h0 ad σ) H locs → fX4_goOn_45 k8 σ = some q → W p l e rX4_goOn s m args below meth c H locs 0 0 (QV D dA A below args s 0 0 (Mc dA h0 ad q)) (F0 m 45 ls []) := by
  have hx := FX.1; have hb := FX.2.1; have hown := FX.2.2.2.1; have hts := FX.2.2.2.2
  intro σ H locs ls hl hW hf
  rw [fX4_goOn_45] at hf
  refine lv_aload_n hx hb dX4_goOn_45 rfl (lv_at hl 0 rfl) ?_
  refine lv_dup hx hb dX4_goOn_46 rfl ?_
  refine Mg6 FX hW dX4_goOn_47 ?_
  refine lv_iconst (v := 1) hx hb dX4_goOn_50 (by decide) ?_
  refine lv_iadd hx hb dX4_goOn_51 ?_
  refine Ms6 FX hW hf dX4_goOn_52 (fun s1 H locs hW hf => ?_)
  refine lv_goto (tgt := 8) hx hb dX4_goOn_55 (by decide) ?_
  exact hk8 s1 _ _ _ (lv_sub hl [0] rfl) hW hf
set_option maxHeartbeats 4000000 in
set_option maxRecDepth 100000 in
theorem wX4_goOn_8 {q : Mst} (FX : CallFix p m c cX4_goOn 3 s args lw_all RX4) (hr : meth.sig.returnType = none) (hlk : meth.locks = false) : ∀ n : Nat, ∀ (σ : Mst) (H : Heap) (locs : List Loc) (ls : Array Slot), lv_has ls 3 [(0, .ref h0)] → Wd D dA A s (Mc dA h0 ad σ) H locs → fX4_goOn_8 n σ = some q → W p l e rX4_goOn s m args below meth c H locs 0 0 (QV D dA A below args s 0 0 (Mc dA h0 ad q)) (F0 m 8 ls []) := by
  have hx := FX.1; have hb := FX.2.1; have hown := FX.2.2.2.1; have hts := FX.2.2.2.2
  intro n
  induction n with
  | zero =>
    intro σ H locs ls hl hW hf
    cases (show (none : Option Mst) = some q from hf)
  | succ n ih =>
    intro σ H locs ls hl hW hf
    rw [fX4_goOn_8] at hf
    refine lv_aload_n hx hb dX4_goOn_8 rfl (lv_at hl 0 rfl) ?_
    refine Mg6 FX hW dX4_goOn_9 ?_
    refine lv_aload_n hx hb dX4_goOn_12 rfl (lv_at hl 0 rfl) ?_
    refine Mg3 FX hW dX4_goOn_13 ?_
    refine lv_icmp_ge (tgt := 58) hx hb dX4_goOn_16 (by decide) (fun c16 => ?_) (fun c16 => ?_)
    · have hf := ifp c16 hf
      exact wX4_goOn_58 FX hr hlk σ _ _ _ (lv_sub hl [0] rfl) hW hf
    · have hf := ifn c16 hf
      refine lv_aload_n hx hb dX4_goOn_19 rfl (lv_at hl 0 rfl) ?_
      refine lv_aload_n hx hb dX4_goOn_20 rfl (lv_at hl 0 rfl) ?_
      refine Mg6 FX hW dX4_goOn_21 ?_
      refine kX4_sign FX ⟨Nat.le_of_ble_eq_true rfl, Nat.le_of_ble_eq_true rfl⟩ ⟨Nat.zero_le _, Nat.zero_le _⟩ hl.1 (Nat.le_of_ble_eq_true rfl) hW hf dX4_goOn_24 (fun r1 H locs hW hf => ?_)
      refine lv_bipush (v := 32) hx hb dX4_goOn_27 (by decide) ?_
      refine lv_icmp_eq (tgt := 45) hx hb dX4_goOn_29 (by decide) (fun c29 => ?_) (fun c29 => ?_)
      · have hf := ifp c29 hf
        exact wX4_goOn_45 FX hr hlk (ih) σ _ _ _ (lv_sub hl [0] rfl) hW hf
      · have hf := ifn c29 hf
        refine lv_aload_n hx hb dX4_goOn_32 rfl (lv_at hl 0 rfl) ?_
        refine lv_aload_n hx hb dX4_goOn_33 rfl (lv_at hl 0 rfl) ?_
        refine Mg6 FX hW dX4_goOn_34 ?_
        refine kX4_sign FX ⟨Nat.le_of_ble_eq_true rfl, Nat.le_of_ble_eq_true rfl⟩ ⟨Nat.zero_le _, Nat.zero_le _⟩ hl.1 (Nat.le_of_ble_eq_true rfl) hW hf dX4_goOn_37 (fun r2 H locs hW hf => ?_)
        refine lv_bipush (v := 10) hx hb dX4_goOn_40 (by decide) ?_
        refine lv_icmp_ne (tgt := 58) hx hb dX4_goOn_42 (by decide) (fun c42 => ?_) (fun c42 => ?_)
        · have hf := ifn c42 hf
          exact wX4_goOn_58 FX hr hlk σ _ _ _ (lv_sub hl [0] rfl) hW hf
        · have hf := ifp c42 hf
          exact wX4_goOn_45 FX hr hlk (ih) σ _ _ _ (lv_sub hl [0] rfl) hW hf
set_option maxHeartbeats 4000000 in
set_option maxRecDepth 100000 in
theorem mX4_goOn  {σ : Mst} {q : Mst} (hf : fX4_goOn σ = some q) : CtV l yX4_goOn cX4_goOn 3 none rX4_goOn D dA [.ref h0] (Mc dA h0 ad σ) (Mc dA h0 ad q) := by
  refine e_V (by decide) (Nat.le_of_ble_eq_true rfl) ?_
  intro p e s m below meth c ls A FX hr hlk hl hW
  have hx := FX.1; have hb := FX.2.1; have hown := FX.2.2.2.1; have hts := FX.2.2.2.2
  have hl : lv_has ls 3 [(0, .ref h0)] := hl
  rw [fX4_goOn] at hf
  refine lv_aload_n hx hb dX4_goOn_0 rfl (lv_at hl 0 rfl) ?_
  refine lv_aload_n hx hb dX4_goOn_1 rfl (lv_at hl 0 rfl) ?_
  refine Mg7 FX hW dX4_goOn_2 ?_
  refine Ms6 FX hW hf dX4_goOn_5 (fun s1 H locs hW hf => ?_)
  exact wX4_goOn_8 FX hr hlk _ s1 _ _ _ (lv_sub hl [0] rfl) hW hf
set_option maxHeartbeats 4000000 in
set_option maxRecDepth 100000 in
theorem kX4_goOn {α : Type} {q : α} {k : Mst → Option α} {σ : Mst} (FX : CallFix p m c cc nL s args lw_all RX4) (hR : rX4_goOn.frames + 1 ≤ R.frames ∧ 8 + (3 + 11) + rX4_goOn.locals ≤ R.locals) (hcs : cells ≤ R.cells ∧ slots ≤ R.slots) (hl : ls.size = nL) (hrm : (rest.map fun v => v.category).sum ≤ 8) (hW : Wd D dA A s (Mc dA h0 ad σ) H locs) (hf : (fX4_goOn σ).bind k = some q) (hdg : decode cc pc = .ok (.invokevirtual 218, 3)) (kk : ∀ (σ1 : Mst) (H1 : Heap) (locs1 : List Loc), Wd D dA A s (Mc dA h0 ad σ1) H1 locs1 → k σ1 = some q → W p l e R s m args below meth c H1 locs1 cells slots Q (F0 m (pc + 3) ls (rest))) : W p l e R s m args below meth c H locs cells slots Q (F0 m pc ls (.ref h0 :: rest)) := by
  obtain ⟨r1, h1, hf⟩ := bnd hf
  refine w_Vv (C := RX4) (As := []) (rest := rest) (n := 0) (wr := []) FX (mX4_goOn h1) (cwV 0 FX.2.2.2.2 (lw_V q1751 q1753 qs56 q132 q1754) rfl rfl rfl (by decide +kernel) hR) (va_recv hW.2.2.2.1 hW.1 (ci := 4) (q0 := 0) rfl rfl) rfl hl rfl hrm ⟨Nat.le_trans (Nat.le_of_eq (Nat.add_zero cells)) hcs.1, Nat.le_trans (Nat.le_of_eq (Nat.add_zero slots)) hcs.2⟩ hdg hW.nil ?_
  exact fun H1 locs1 hW1 => kk r1 H1 locs1 hW1.nil' hf
/-! TrunkLittersModel.must(Z)V: kind W -/
def fX4_must (x1 : Int32) (σ : Mst) : Option Mst := (fX4_isGood σ).bind fun r1 => (if r1 = 0 then some σ else (if x1 = 0 then (fX4_misplaced σ).bind fun s2 => some s2 else (fX4_goOn σ).bind fun s3 => some s3))
abbrev rX4_must : Room := { frames := 2, cells := 0, slots := 0, locals := 44 }
set_option maxHeartbeats 4000000 in
set_option maxRecDepth 100000 in
theorem mX4_must  {x1 : Int32} {σ : Mst} {q : Mst} (hf : fX4_must x1 σ = some q) : CtV l yX4_must cX4_must 2 none rX4_must D dA [.ref h0, .int x1] (Mc dA h0 ad σ) (Mc dA h0 ad q) := by
  refine e_V (by decide) (Nat.le_of_ble_eq_true rfl) ?_
  intro p e s m below meth c ls A FX hr hlk hl hW
  have hx := FX.1; have hb := FX.2.1; have hown := FX.2.2.2.1; have hts := FX.2.2.2.2
  have hl : lv_has ls 2 [(0, .ref h0), (1, .int x1)] := hl
  rw [fX4_must] at hf
  refine lv_aload_n hx hb dX4_must_0 rfl (lv_at hl 0 rfl) ?_
  refine kX4_isGood FX ⟨Nat.le_of_ble_eq_true rfl, Nat.le_of_ble_eq_true rfl⟩ ⟨Nat.zero_le _, Nat.zero_le _⟩ hl.1 (Nat.le_of_ble_eq_true rfl) hW hf dX4_must_1 (fun r1 H locs hW hf => ?_)
  refine lv_if_ne (tgt := 8) hx hb dX4_must_4 (by decide) (fun c4 => ?_) (fun c4 => ?_)
  · have hf := ifn c4 hf
    refine lv_iload_n hx hb dX4_must_8 rfl (lv_at hl 1 rfl) ?_
    refine lv_if_eq (tgt := 19) hx hb dX4_must_9 (by decide) (fun c9 => ?_) (fun c9 => ?_)
    · have hf := ifp c9 hf
      refine lv_aload_n hx hb dX4_must_19 rfl (lv_at hl 0 rfl) ?_
      refine kX4_misplaced FX ⟨Nat.le_of_ble_eq_true rfl, Nat.le_of_ble_eq_true rfl⟩ ⟨Nat.zero_le _, Nat.zero_le _⟩ hl.1 (Nat.le_of_ble_eq_true rfl) hW hf dX4_must_20 (fun s2 H locs hW hf => ?_)
      obtain rfl := Option.some.inj hf
      exact g_vret FX hr hlk hW dX4_must_23
    · have hf := ifn c9 hf
      refine lv_aload_n hx hb dX4_must_12 rfl (lv_at hl 0 rfl) ?_
      refine kX4_goOn FX ⟨Nat.le_of_ble_eq_true rfl, Nat.le_of_ble_eq_true rfl⟩ ⟨Nat.zero_le _, Nat.zero_le _⟩ hl.1 (Nat.le_of_ble_eq_true rfl) hW hf dX4_must_13 (fun s3 H locs hW hf => ?_)
      refine lv_goto (tgt := 23) hx hb dX4_must_16 (by decide) ?_
      obtain rfl := Option.some.inj hf
      exact g_vret FX hr hlk hW dX4_must_23
  · have hf := ifp c4 hf
    obtain rfl := Option.some.inj hf
    exact g_vret FX hr hlk hW dX4_must_7
set_option maxHeartbeats 4000000 in
set_option maxRecDepth 100000 in
theorem kX4_must {α : Type} {q : α} {k : Mst → Option α} {x1 : Int32} {σ : Mst} (FX : CallFix p m c cc nL s args lw_all RX4) (hR : rX4_must.frames + 1 ≤ R.frames ∧ 8 + (2 + 11) + rX4_must.locals ≤ R.locals) (hcs : cells ≤ R.cells ∧ slots ≤ R.slots) (hl : ls.size = nL) (hrm : (rest.map fun v => v.category).sum ≤ 8) (hW : Wd D dA A s (Mc dA h0 ad σ) H locs) (hf : (fX4_must x1 σ).bind k = some q) (hdg : decode cc pc = .ok (.invokevirtual 227, 3)) (kk : ∀ (σ1 : Mst) (H1 : Heap) (locs1 : List Loc), Wd D dA A s (Mc dA h0 ad σ1) H1 locs1 → k σ1 = some q → W p l e R s m args below meth c H1 locs1 cells slots Q (F0 m (pc + 3) ls (rest))) : W p l e R s m args below meth c H locs cells slots Q (F0 m pc ls (.int x1 :: .ref h0 :: rest)) := by
  obtain ⟨r1, h1, hf⟩ := bnd hf
  refine w_Vv (C := RX4) (As := [.int x1]) (rest := rest) (n := 1) (wr := []) FX (mX4_must h1) (cwV 1 FX.2.2.2.2 (lw_V q1832 q1834 qs68 q132 q1835) rfl rfl rfl (by decide +kernel) hR) (va_recv hW.2.2.2.1 hW.1 (ci := 4) (q0 := 0) rfl rfl) rfl hl rfl hrm ⟨Nat.le_trans (Nat.le_of_eq (Nat.add_zero cells)) hcs.1, Nat.le_trans (Nat.le_of_eq (Nat.add_zero slots)) hcs.2⟩ hdg hW.nil ?_
  exact fun H1 locs1 hW1 => kk r1 H1 locs1 hW1.nil' hf
/-! TrunkLittersModel.numeral(II)I: kind W -/
def fX4_numeral_69 (x1 : Int32) (x3 : Int32) (σ : Mst) : Option (Int32 × Mst) := (fX4_isGood σ).bind fun r1 => (if r1 = 0 then some (x1, σ) else some (x3, σ))
def fX4_numeral_53 (x1 : Int32) (σ : Mst) : Option (Int32 × Mst) := (fX4_isGood σ).bind fun r1 => (if r1 = 0 then fX4_numeral_69 x1 (gF σ 9) σ else (fX4_goOn σ).bind fun s2 => fX4_numeral_69 x1 (gF σ 9) s2)
def fX4_numeral_44 (x1 : Int32) (σ : Mst) : Option (Int32 × Mst) := (fX4_fails (4 : Int32) (gF σ 6) σ).bind fun s1 => fX4_numeral_53 x1 s1
def fX4_numeral_21 (x1 : Int32) (x2 : Int32) (σ : Mst) : Option (Int32 × Mst) := (fX4_isGood σ).bind fun r1 => (if r1 = 0 then fX4_numeral_53 x1 σ else (if (gF σ 9) < x1 then fX4_numeral_44 x1 σ else (if (gF σ 9) ≤ x2 then fX4_numeral_53 x1 σ else fX4_numeral_44 x1 σ)))
def fX4_numeral (x1 : Int32) (x2 : Int32) (σ : Mst) : Option (Int32 × Mst) := (fX4_isGood σ).bind fun r1 => (if r1 = 0 then some (x1, σ) else (if (gF σ 8) = (4 : Int32) then fX4_numeral_21 x1 x2 σ else (fX4_misplaced σ).bind fun s2 => fX4_numeral_21 x1 x2 s2))
abbrev rX4_numeral : Room := { frames := 2, cells := 0, slots := 0, locals := 44 }
set_option maxHeartbeats 4000000 in
set_option maxRecDepth 100000 in
theorem wX4_numeral_69 {q : (Int32 × Mst)} (FX : CallFix p m c cX4_numeral 4 s args lw_all RX4) (hr : meth.sig.returnType = (some .int)) (hlk : meth.locks = false) : ∀ (x1 : Int32) (x3 : Int32) (σ : Mst) (H : Heap) (locs : List Loc) (ls : Array Slot), lv_has ls 4 [(0, .ref h0), (1, .int x1), (3, .int x3)] → Wd D dA A s (Mc dA h0 ad σ) H locs → fX4_numeral_69 x1 x3 σ = some q → W p l e rX4_numeral s m args below meth c H locs 0 0 (QI D dA A below args s 0 0 q.1 (Mc dA h0 ad q.2)) (F0 m 69 ls []) := by
  have hx := FX.1; have hb := FX.2.1; have hown := FX.2.2.2.1; have hts := FX.2.2.2.2
  intro x1 x3 σ H locs ls hl hW hf
  rw [fX4_numeral_69] at hf
  refine lv_aload_n hx hb dX4_numeral_69 rfl (lv_at hl 0 rfl) ?_
  refine kX4_isGood FX ⟨Nat.le_of_ble_eq_true rfl, Nat.le_of_ble_eq_true rfl⟩ ⟨Nat.zero_le _, Nat.zero_le _⟩ hl.1 (Nat.le_of_ble_eq_true rfl) hW hf dX4_numeral_70 (fun r1 H locs hW hf => ?_)
  refine lv_if_eq (tgt := 80) hx hb dX4_numeral_73 (by decide) (fun c73 => ?_) (fun c73 => ?_)
  · have hf := ifp c73 hf
    refine lv_iload_n hx hb dX4_numeral_80 rfl (lv_at hl 1 rfl) ?_
    obtain rfl := Option.some.inj hf
    exact g_iret FX hr hlk hW rfl dX4_numeral_81
  · have hf := ifn c73 hf
    refine lv_iload_n hx hb dX4_numeral_76 rfl (lv_at hl 2 rfl) ?_
    refine lv_goto (tgt := 81) hx hb dX4_numeral_77 (by decide) ?_
    obtain rfl := Option.some.inj hf
    exact g_iret FX hr hlk hW rfl dX4_numeral_81
set_option maxHeartbeats 4000000 in
set_option maxRecDepth 100000 in
theorem wX4_numeral_53 {q : (Int32 × Mst)} (FX : CallFix p m c cX4_numeral 4 s args lw_all RX4) (hr : meth.sig.returnType = (some .int)) (hlk : meth.locks = false) : ∀ (x1 : Int32) (σ : Mst) (H : Heap) (locs : List Loc) (ls : Array Slot), lv_has ls 4 [(0, .ref h0), (1, .int x1)] → Wd D dA A s (Mc dA h0 ad σ) H locs → fX4_numeral_53 x1 σ = some q → W p l e rX4_numeral s m args below meth c H locs 0 0 (QI D dA A below args s 0 0 q.1 (Mc dA h0 ad q.2)) (F0 m 53 ls []) := by
  have hx := FX.1; have hb := FX.2.1; have hown := FX.2.2.2.1; have hts := FX.2.2.2.2
  intro x1 σ H locs ls hl hW hf
  rw [fX4_numeral_53] at hf
  refine lv_aload_n hx hb dX4_numeral_53 rfl (lv_at hl 0 rfl) ?_
  refine Mg9 FX hW dX4_numeral_54 ?_
  refine lv_istore_n (lv' := [(3, .int (gF σ 9)), (0, .ref h0), (1, .int x1)]) hx hb dX4_numeral_57 rfl hl (by decide) rfl (fun ls hl => ?_)
  refine lv_aload_n hx hb dX4_numeral_58 rfl (lv_at hl 1 rfl) ?_
  refine kX4_isGood FX ⟨Nat.le_of_ble_eq_true rfl, Nat.le_of_ble_eq_true rfl⟩ ⟨Nat.zero_le _, Nat.zero_le _⟩ hl.1 (Nat.le_of_ble_eq_true rfl) hW hf dX4_numeral_59 (fun r1 H locs hW hf => ?_)
  refine lv_if_eq (tgt := 69) hx hb dX4_numeral_62 (by decide) (fun c62 => ?_) (fun c62 => ?_)
  · have hf := ifp c62 hf
    exact wX4_numeral_69 FX hr hlk x1 (gF σ 9) σ _ _ _ (lv_sub hl [1, 2, 0] rfl) hW hf
  · have hf := ifn c62 hf
    refine lv_aload_n hx hb dX4_numeral_65 rfl (lv_at hl 1 rfl) ?_
    refine kX4_goOn FX ⟨Nat.le_of_ble_eq_true rfl, Nat.le_of_ble_eq_true rfl⟩ ⟨Nat.zero_le _, Nat.zero_le _⟩ hl.1 (Nat.le_of_ble_eq_true rfl) hW hf dX4_numeral_66 (fun s2 H locs hW hf => ?_)
    exact wX4_numeral_69 FX hr hlk x1 (gF σ 9) s2 _ _ _ (lv_sub hl [1, 2, 0] rfl) hW hf
set_option maxHeartbeats 4000000 in
set_option maxRecDepth 100000 in
theorem wX4_numeral_44 {q : (Int32 × Mst)} (FX : CallFix p m c cX4_numeral 4 s args lw_all RX4) (hr : meth.sig.returnType = (some .int)) (hlk : meth.locks = false) : ∀ (x1 : Int32) (σ : Mst) (H : Heap) (locs : List Loc) (ls : Array Slot), lv_has ls 4 [(0, .ref h0), (1, .int x1)] → Wd D dA A s (Mc dA h0 ad σ) H locs → fX4_numeral_44 x1 σ = some q → W p l e rX4_numeral s m args below meth c H locs 0 0 (QI D dA A below args s 0 0 q.1 (Mc dA h0 ad q.2)) (F0 m 44 ls []) := by
  have hx := FX.1; have hb := FX.2.1; have hown := FX.2.2.2.1; have hts := FX.2.2.2.2
  intro x1 σ H locs ls hl hW hf
  rw [fX4_numeral_44] at hf
  refine lv_aload_n hx hb dX4_numeral_44 rfl (lv_at hl 0 rfl) ?_
  refine lv_iconst (v := 4) hx hb dX4_numeral_45 (by decide) ?_
  refine lv_aload_n hx hb dX4_numeral_46 rfl (lv_at hl 0 rfl) ?_
  refine Mg6 FX hW dX4_numeral_47 ?_
  refine kX4_fails FX ⟨Nat.le_of_ble_eq_true rfl, Nat.le_of_ble_eq_true rfl⟩ ⟨Nat.zero_le _, Nat.zero_le _⟩ hl.1 (Nat.le_of_ble_eq_true rfl) hW hf dX4_numeral_50 (fun s1 H locs hW hf => ?_)
  exact wX4_numeral_53 FX hr hlk x1 s1 _ _ _ (lv_sub hl [0, 1] rfl) hW hf
set_option maxHeartbeats 4000000 in
set_option maxRecDepth 100000 in
theorem wX4_numeral_21 {q : (Int32 × Mst)} (FX : CallFix p m c cX4_numeral 4 s args lw_all RX4) (hr : meth.sig.returnType = (some .int)) (hlk : meth.locks = false) : ∀ (x1 : Int32) (x2 : Int32) (σ : Mst) (H : Heap) (locs : List Loc) (ls : Array Slot), lv_has ls 4 [(0, .ref h0), (1, .int x1), (2, .int x2)] → Wd D dA A s (Mc dA h0 ad σ) H locs → fX4_numeral_21 x1 x2 σ = some q → W p l e rX4_numeral s m args below meth c H locs 0 0 (QI D dA A below args s 0 0 q.1 (Mc dA h0 ad q.2)) (F0 m 21 ls []) := by
  have hx := FX.1; have hb := FX.2.1; have hown := FX.2.2.2.1; have hts := FX.2.2.2.2
  intro x1 x2 σ H locs ls hl hW hf
  rw [fX4_numeral_21] at hf
  refine lv_aload_n hx hb dX4_numeral_21 rfl (lv_at hl 0 rfl) ?_
  refine kX4_isGood FX ⟨Nat.le_of_ble_eq_true rfl, Nat.le_of_ble_eq_true rfl⟩ ⟨Nat.zero_le _, Nat.zero_le _⟩ hl.1 (Nat.le_of_ble_eq_true rfl) hW hf dX4_numeral_22 (fun r1 H locs hW hf => ?_)
  refine lv_if_eq (tgt := 53) hx hb dX4_numeral_25 (by decide) (fun c25 => ?_) (fun c25 => ?_)
  · have hf := ifp c25 hf
    exact wX4_numeral_53 FX hr hlk x1 σ _ _ _ (lv_sub hl [0, 1] rfl) hW hf
  · have hf := ifn c25 hf
    refine lv_aload_n hx hb dX4_numeral_28 rfl (lv_at hl 0 rfl) ?_
    refine Mg9 FX hW dX4_numeral_29 ?_
    refine lv_iload_n hx hb dX4_numeral_32 rfl (lv_at hl 1 rfl) ?_
    refine lv_icmp_lt (tgt := 44) hx hb dX4_numeral_33 (by decide) (fun c33 => ?_) (fun c33 => ?_)
    · have hf := ifp c33 hf
      exact wX4_numeral_44 FX hr hlk x1 σ _ _ _ (lv_sub hl [0, 1] rfl) hW hf
    · have hf := ifn c33 hf
      refine lv_aload_n hx hb dX4_numeral_36 rfl (lv_at hl 0 rfl) ?_
      refine Mg9 FX hW dX4_numeral_37 ?_
      refine lv_iload_n hx hb dX4_numeral_40 rfl (lv_at hl 2 rfl) ?_
      refine lv_icmp_le (tgt := 53) hx hb dX4_numeral_41 (by decide) (fun c41 => ?_) (fun c41 => ?_)
      · have hf := ifp c41 hf
        exact wX4_numeral_53 FX hr hlk x1 σ _ _ _ (lv_sub hl [0, 1] rfl) hW hf
      · have hf := ifn c41 hf
        exact wX4_numeral_44 FX hr hlk x1 σ _ _ _ (lv_sub hl [0, 1] rfl) hW hf
set_option maxHeartbeats 4000000 in
set_option maxRecDepth 100000 in
theorem mX4_numeral  {x1 : Int32} {x2 : Int32} {σ : Mst} {q : (Int32 × Mst)} (hf : fX4_numeral x1 x2 σ = some q) : CtI l yX4_numeral cX4_numeral 4 (some .int) rX4_numeral D dA [.ref h0, .int x1, .int x2] (Mc dA h0 ad σ) q.1 (Mc dA h0 ad q.2) := by
  refine e_I (by decide) (Nat.le_of_ble_eq_true rfl) ?_
  intro p e s m below meth c ls A FX hr hlk hl hW
  have hx := FX.1; have hb := FX.2.1; have hown := FX.2.2.2.1; have hts := FX.2.2.2.2
  have hl : lv_has ls 4 [(0, .ref h0), (1, .int x1), (2, .int x2)] := hl
  rw [fX4_numeral] at hf
  refine lv_aload_n hx hb dX4_numeral_0 rfl (lv_at hl 0 rfl) ?_
  refine kX4_isGood FX ⟨Nat.le_of_ble_eq_true rfl, Nat.le_of_ble_eq_true rfl⟩ ⟨Nat.zero_le _, Nat.zero_le _⟩ hl.1 (Nat.le_of_ble_eq_true rfl) hW hf dX4_numeral_1 (fun r1 H locs hW hf => ?_)
  refine lv_if_ne (tgt := 9) hx hb dX4_numeral_4 (by decide) (fun c4 => ?_) (fun c4 => ?_)
  · have hf := ifn c4 hf
    refine lv_aload_n hx hb dX4_numeral_9 rfl (lv_at hl 0 rfl) ?_
    refine Mg8 FX hW dX4_numeral_10 ?_
    refine lv_iconst (v := 4) hx hb dX4_numeral_13 (by decide) ?_
    refine lv_icmp_eq (tgt := 21) hx hb dX4_numeral_14 (by decide) (fun c14 => ?_) (fun c14 => ?_)
    · have hf := ifp c14 hf
      exact wX4_numeral_21 FX hr hlk x1 x2 σ _ _ _ (lv_sub hl [0, 1, 2] rfl) hW hf
    · have hf := ifn c14 hf
      refine lv_aload_n hx hb dX4_numeral_17 rfl (lv_at hl 0 rfl) ?_
      refine kX4_misplaced FX ⟨Nat.le_of_ble_eq_true rfl, Nat.le_of_ble_eq_true rfl⟩ ⟨Nat.zero_le _, Nat.zero_le _⟩ hl.1 (Nat.le_of_ble_eq_true rfl) hW hf dX4_numeral_18 (fun s2 H locs hW hf => ?_)
      exact wX4_numeral_21 FX hr hlk x1 x2 s2 _ _ _ (lv_sub hl [0, 1, 2] rfl) hW hf
  · have hf := ifp c4 hf
    refine lv_iload_n hx hb dX4_numeral_7 rfl (lv_at hl 1 rfl) ?_
    obtain rfl := Option.some.inj hf
    exact g_iret FX hr hlk hW rfl dX4_numeral_8
set_option maxHeartbeats 4000000 in
set_option maxRecDepth 100000 in
theorem kX4_numeral {α : Type} {q : α} {k : Int32 → Mst → Option α} {x1 : Int32} {x2 : Int32} {σ : Mst} (FX : CallFix p m c cc nL s args lw_all RX4) (hR : rX4_numeral.frames + 1 ≤ R.frames ∧ 8 + (4 + 11) + rX4_numeral.locals ≤ R.locals) (hcs : cells ≤ R.cells ∧ slots ≤ R.slots) (hl : ls.size = nL) (hrm : (rest.map fun v => v.category).sum ≤ 8) (hW : Wd D dA A s (Mc dA h0 ad σ) H locs) (hf : bnd2 (fX4_numeral x1 x2 σ) k = some q) (hdg : decode cc pc = .ok (.invokevirtual 231, 3)) (kk : ∀ (r : Int32) (σ1 : Mst) (H1 : Heap) (locs1 : List Loc), Wd D dA A s (Mc dA h0 ad σ1) H1 locs1 → k r σ1 = some q → W p l e R s m args below meth c H1 locs1 cells slots Q (F0 m (pc + 3) ls (.int r :: rest))) : W p l e R s m args below meth c H locs cells slots Q (F0 m pc ls (.int x2 :: .int x1 :: .ref h0 :: rest)) := by
  obtain ⟨r1, h1, hf⟩ := bnd (bnd2_eq hf)
  refine w_Vi (C := RX4) (As := [.int x1, .int x2]) (rest := rest) (n := 2) (wr := []) FX (mX4_numeral h1) (cwV 2 FX.2.2.2.2 (lw_V q1836 q1838 qs69 q132 q1839) rfl rfl rfl (by decide +kernel) hR) (va_recv hW.2.2.2.1 hW.1 (ci := 4) (q0 := 0) rfl rfl) rfl hl rfl hrm ⟨Nat.le_trans (Nat.le_of_eq (Nat.add_zero cells)) hcs.1, Nat.le_trans (Nat.le_of_eq (Nat.add_zero slots)) hcs.2⟩ hdg hW.nil ?_
  exact fun H1 locs1 hW1 => kk r1.1 r1.2 H1 locs1 hW1.nil' hf
/-! TrunkLittersModel.after(JII)I: kind W -/
def fX4_after (x1 : Int64) (x3 : Int32) (x4 : Int32) (σ : Mst) : Option (Int32 × Mst) := (fX4_isWord x1 σ).bind fun r1 => (fX4_must r1 σ).bind fun s2 => bnd2 (fX4_numeral x3 x4 s2) fun r3 s4 => some (r3, s4)
abbrev rX4_after : Room := { frames := 3, cells := 0, slots := 0, locals := 67 }
set_option maxHeartbeats 4000000 in
set_option maxRecDepth 100000 in
theorem mX4_after  {x1 : Int64} {x3 : Int32} {x4 : Int32} {σ : Mst} {q : (Int32 × Mst)} (hf : fX4_after x1 x3 x4 σ = some q) : CtI l yX4_after cX4_after 5 (some .int) rX4_after D dA [.ref h0, .long x1, .int x3, .int x4] (Mc dA h0 ad σ) q.1 (Mc dA h0 ad q.2) := by
  refine e_I (by decide) (Nat.le_of_ble_eq_true rfl) ?_
  intro p e s m below meth c ls A FX hr hlk hl hW
  have hx := FX.1; have hb := FX.2.1; have hown := FX.2.2.2.1; have hts := FX.2.2.2.2
  have hl : lv_has ls 5 [(0, .ref h0), (1, .long x1), (3, .int x3), (4, .int x4)] := hl
  rw [fX4_after] at hf
  refine lv_aload_n hx hb dX4_after_0 rfl (lv_at hl 0 rfl) ?_
  refine lv_aload_n hx hb dX4_after_1 rfl (lv_at hl 0 rfl) ?_
  refine lv_lload_n hx hb dX4_after_2 rfl (lv_at hl 1 rfl) ?_
  refine kX4_isWord FX ⟨Nat.le_of_ble_eq_true rfl, Nat.le_of_ble_eq_true rfl⟩ ⟨Nat.zero_le _, Nat.zero_le _⟩ hl.1 (Nat.le_of_ble_eq_true rfl) hW hf dX4_after_3 (fun r1 H locs hW hf => ?_)
  refine kX4_must FX ⟨Nat.le_of_ble_eq_true rfl, Nat.le_of_ble_eq_true rfl⟩ ⟨Nat.zero_le _, Nat.zero_le _⟩ hl.1 (Nat.le_of_ble_eq_true rfl) hW hf dX4_after_6 (fun s2 H locs hW hf => ?_)
  refine lv_aload_n hx hb dX4_after_9 rfl (lv_at hl 0 rfl) ?_
  refine lv_iload_n hx hb dX4_after_10 rfl (lv_at hl 2 rfl) ?_
  refine lv_iload hx hb dX4_after_11 (lv_at hl 3 rfl) ?_
  refine kX4_numeral FX ⟨Nat.le_of_ble_eq_true rfl, Nat.le_of_ble_eq_true rfl⟩ ⟨Nat.zero_le _, Nat.zero_le _⟩ hl.1 (Nat.le_of_ble_eq_true rfl) hW hf dX4_after_13 (fun r3 s4 H locs hW hf => ?_)
  obtain rfl := Option.some.inj hf
  exact g_iret FX hr hlk hW rfl dX4_after_16
set_option maxHeartbeats 4000000 in
set_option maxRecDepth 100000 in
theorem kX4_after {α : Type} {q : α} {k : Int32 → Mst → Option α} {x1 : Int64} {x3 : Int32} {x4 : Int32} {σ : Mst} (FX : CallFix p m c cc nL s args lw_all RX4) (hR : rX4_after.frames + 1 ≤ R.frames ∧ 8 + (5 + 11) + rX4_after.locals ≤ R.locals) (hcs : cells ≤ R.cells ∧ slots ≤ R.slots) (hl : ls.size = nL) (hrm : (rest.map fun v => v.category).sum ≤ 8) (hW : Wd D dA A s (Mc dA h0 ad σ) H locs) (hf : bnd2 (fX4_after x1 x3 x4 σ) k = some q) (hdg : decode cc pc = .ok (.invokevirtual 265, 3)) (kk : ∀ (r : Int32) (σ1 : Mst) (H1 : Heap) (locs1 : List Loc), Wd D dA A s (Mc dA h0 ad σ1) H1 locs1 → k r σ1 = some q → W p l e R s m args below meth c H1 locs1 cells slots Q (F0 m (pc + 3) ls (.int r :: rest))) : W p l e R s m args below meth c H locs cells slots Q (F0 m pc ls (.int x4 :: .int x3 :: .long x1 :: .ref h0 :: rest)) := by
  obtain ⟨r1, h1, hf⟩ := bnd (bnd2_eq hf)
  refine w_Vi (C := RX4) (As := [.long x1, .int x3, .int x4]) (rest := rest) (n := 3) (wr := []) FX (mX4_after h1) (cwV 3 FX.2.2.2.2 (lw_V q1828 q1830 qs67 q132 q1831) rfl rfl rfl (by decide +kernel) hR) (va_recv hW.2.2.2.1 hW.1 (ci := 4) (q0 := 0) rfl rfl) rfl hl rfl hrm ⟨Nat.le_trans (Nat.le_of_eq (Nat.add_zero cells)) hcs.1, Nat.le_trans (Nat.le_of_eq (Nat.add_zero slots)) hcs.2⟩ hdg hW.nil ?_
  exact fun H1 locs1 hW1 => kk r1.1 r1.2 H1 locs1 hW1.nil' hf
/-! TrunkLittersModel.clearBank()V: kind W -/
def fX4_clearBank (σ : Mst) : Option Mst := ast 2 (gF σ 33) (stp (sA σ 11 (gF σ 33) (0 : Int32)) fun s1 => ast 2 (gF s1 33) (stp (sA s1 12 (gF s1 33) (0 : Int32)) fun s2 => ast 2 (gF s2 33) (stp (sA s2 13 (gF s2 33) (0 : Int32)) fun s3 => ast 2 (gF s3 33) (stp (sA s3 14 (gF s3 33) (3 : Int32)) fun s4 => ast 2 (gF s4 33) (stp (sA s4 15 (gF s4 33) (0 : Int32)) fun s5 => ast 2 (gF s5 33) (stp (sA s5 16 (gF s5 33) (0 : Int32)) fun s6 => ast 2 (gF s6 33) (stp (sA s6 17 (gF s6 33) (0 : Int32)) fun s7 => stp (sF s7 34 ((560 : Int32) * (gF s7 33))) fun s8 => some s8)))))))
abbrev rX4_clearBank : Room := { frames := 0, cells := 0, slots := 0, locals := 0 }
set_option maxHeartbeats 4000000 in
set_option maxRecDepth 100000 in
theorem mX4_clearBank  {σ : Mst} {q : Mst} (hf : fX4_clearBank σ = some q) : CtV l yX4_clearBank cX4_clearBank 1 none rX4_clearBank D dA [.ref h0] (Mc dA h0 ad σ) (Mc dA h0 ad q) := by
  refine e_V (by decide) (Nat.le_of_ble_eq_true rfl) ?_
  intro p e s m below meth c ls A FX hr hlk hl hW
  have hx := FX.1; have hb := FX.2.1; have hown := FX.2.2.2.1; have hts := FX.2.2.2.2
  have hl : lv_has ls 1 [(0, .ref h0)] := hl
  rw [fX4_clearBank] at hf
  refine lv_aload_n hx hb dX4_clearBank_0 rfl (lv_at hl 0 rfl) ?_
  refine Mg11 FX hW dX4_clearBank_1 ?_
  refine lv_aload_n hx hb dX4_clearBank_4 rfl (lv_at hl 0 rfl) ?_
  refine Mg33 FX hW dX4_clearBank_5 ?_
  refine lv_iconst (v := 0) hx hb dX4_clearBank_8 (by decide) ?_
  refine g_iast FX hW 3 Mp11 (L := Mc dA h0 ad) (Mt11) hf dX4_clearBank_9 (fun s1 H locs hW hf => ?_)
  refine lv_aload_n hx hb dX4_clearBank_10 rfl (lv_at hl 0 rfl) ?_
  refine Mg12 FX hW dX4_clearBank_11 ?_
  refine lv_aload_n hx hb dX4_clearBank_14 rfl (lv_at hl 0 rfl) ?_
  refine Mg33 FX hW dX4_clearBank_15 ?_
  refine lv_iconst (v := 0) hx hb dX4_clearBank_18 (by decide) ?_
  refine g_iast FX hW 4 Mp12 (L := Mc dA h0 ad) (Mt12) hf dX4_clearBank_19 (fun s2 H locs hW hf => ?_)
  refine lv_aload_n hx hb dX4_clearBank_20 rfl (lv_at hl 0 rfl) ?_
  refine Mg13 FX hW dX4_clearBank_21 ?_
  refine lv_aload_n hx hb dX4_clearBank_24 rfl (lv_at hl 0 rfl) ?_
  refine Mg33 FX hW dX4_clearBank_25 ?_
  refine lv_iconst (v := 0) hx hb dX4_clearBank_28 (by decide) ?_
  refine g_iast FX hW 5 Mp13 (L := Mc dA h0 ad) (Mt13) hf dX4_clearBank_29 (fun s3 H locs hW hf => ?_)
  refine lv_aload_n hx hb dX4_clearBank_30 rfl (lv_at hl 0 rfl) ?_
  refine Mg14 FX hW dX4_clearBank_31 ?_
  refine lv_aload_n hx hb dX4_clearBank_34 rfl (lv_at hl 0 rfl) ?_
  refine Mg33 FX hW dX4_clearBank_35 ?_
  refine lv_iconst (v := 3) hx hb dX4_clearBank_38 (by decide) ?_
  refine g_iast FX hW 6 Mp14 (L := Mc dA h0 ad) (Mt14) hf dX4_clearBank_39 (fun s4 H locs hW hf => ?_)
  refine lv_aload_n hx hb dX4_clearBank_40 rfl (lv_at hl 0 rfl) ?_
  refine Mg15 FX hW dX4_clearBank_41 ?_
  refine lv_aload_n hx hb dX4_clearBank_44 rfl (lv_at hl 0 rfl) ?_
  refine Mg33 FX hW dX4_clearBank_45 ?_
  refine lv_iconst (v := 0) hx hb dX4_clearBank_48 (by decide) ?_
  refine g_iast FX hW 7 Mp15 (L := Mc dA h0 ad) (Mt15) hf dX4_clearBank_49 (fun s5 H locs hW hf => ?_)
  refine lv_aload_n hx hb dX4_clearBank_50 rfl (lv_at hl 0 rfl) ?_
  refine Mg16 FX hW dX4_clearBank_51 ?_
  refine lv_aload_n hx hb dX4_clearBank_54 rfl (lv_at hl 0 rfl) ?_
  refine Mg33 FX hW dX4_clearBank_55 ?_
  refine lv_iconst (v := 0) hx hb dX4_clearBank_58 (by decide) ?_
  refine g_iast FX hW 8 Mp16 (L := Mc dA h0 ad) (Mt16) hf dX4_clearBank_59 (fun s6 H locs hW hf => ?_)
  refine lv_aload_n hx hb dX4_clearBank_60 rfl (lv_at hl 0 rfl) ?_
  refine Mg17 FX hW dX4_clearBank_61 ?_
  refine lv_aload_n hx hb dX4_clearBank_64 rfl (lv_at hl 0 rfl) ?_
  refine Mg33 FX hW dX4_clearBank_65 ?_
  refine lv_iconst (v := 0) hx hb dX4_clearBank_68 (by decide) ?_
  refine g_iast FX hW 9 Mp17 (L := Mc dA h0 ad) (Mt17) hf dX4_clearBank_69 (fun s7 H locs hW hf => ?_)
  refine lv_aload_n hx hb dX4_clearBank_70 rfl (lv_at hl 0 rfl) ?_
  refine lv_sipush (v := 560) hx hb dX4_clearBank_71 (by decide) ?_
  refine lv_aload_n hx hb dX4_clearBank_74 rfl (lv_at hl 0 rfl) ?_
  refine Mg33 FX hW dX4_clearBank_75 ?_
  refine lv_imul hx hb dX4_clearBank_78 ?_
  refine Ms34 FX hW hf dX4_clearBank_79 (fun s8 H locs hW hf => ?_)
  obtain rfl := Option.some.inj hf
  exact g_vret FX hr hlk hW dX4_clearBank_82
set_option maxHeartbeats 4000000 in
set_option maxRecDepth 100000 in
theorem kX4_clearBank {α : Type} {q : α} {k : Mst → Option α} {σ : Mst} (FX : CallFix p m c cc nL s args lw_all RX4) (hR : rX4_clearBank.frames + 1 ≤ R.frames ∧ 8 + (1 + 11) + rX4_clearBank.locals ≤ R.locals) (hcs : cells ≤ R.cells ∧ slots ≤ R.slots) (hl : ls.size = nL) (hrm : (rest.map fun v => v.category).sum ≤ 8) (hW : Wd D dA A s (Mc dA h0 ad σ) H locs) (hf : (fX4_clearBank σ).bind k = some q) (hdg : decode cc pc = .ok (.invokevirtual 128, 3)) (kk : ∀ (σ1 : Mst) (H1 : Heap) (locs1 : List Loc), Wd D dA A s (Mc dA h0 ad σ1) H1 locs1 → k σ1 = some q → W p l e R s m args below meth c H1 locs1 cells slots Q (F0 m (pc + 3) ls (rest))) : W p l e R s m args below meth c H locs cells slots Q (F0 m pc ls (.ref h0 :: rest)) := by
  obtain ⟨r1, h1, hf⟩ := bnd hf
  refine w_Vv (C := RX4) (As := []) (rest := rest) (n := 0) (wr := []) FX (mX4_clearBank h1) (cwV 0 FX.2.2.2.2 (lw_V q1553 q1555 qs53 q132 q1556) rfl rfl rfl (by decide +kernel) hR) (va_recv hW.2.2.2.1 hW.1 (ci := 4) (q0 := 0) rfl rfl) rfl hl rfl hrm ⟨Nat.le_trans (Nat.le_of_eq (Nat.add_zero cells)) hcs.1, Nat.le_trans (Nat.le_of_eq (Nat.add_zero slots)) hcs.2⟩ hdg hW.nil ?_
  exact fun H1 locs1 hW1 => kk r1 H1 locs1 hW1.nil' hf
/-! TrunkLittersModel.isFull()Z: kind R -/
def fX4_isFull_157 (σ : Mst) : Option Int32 := some (1 : Int32)
def fX4_isFull (σ : Mst) : Option Int32 := (fX4_isWord (1919905645 : Int64) σ).bind fun r1 => (if r1 = 0 then (fX4_isWord (500136504939 : Int64) σ).bind fun r2 => (if r2 = 0 then (fX4_isWord (422826700644 : Int64) σ).bind fun r3 => (if r3 = 0 then (fX4_isWord (482805179763 : Int64) σ).bind fun r4 => (if r4 = 0 then (fX4_isWord (499850700147 : Int64) σ).bind fun r5 => (if r5 = 0 then (fX4_isWord (1685217655 : Int64) σ).bind fun r6 => (if r6 = 0 then fX4_isFull_157 σ else ald 2 (gA σ 17) (gF σ 33) fun v7 => (fX4_bit v7 (3 : Int32)).bind fun r8 => (if r8 = 0 then some (0 : Int32) else fX4_isFull_157 σ)) else ald 2 (gA σ 17) (gF σ 33) fun v9 => (fX4_bit v9 (2 : Int32)).bind fun r10 => zrt r10 r10) else ald 2 (gA σ 17) (gF σ 33) fun v11 => (fX4_bit v11 (1 : Int32)).bind fun r12 => zrt r12 r12) else ald 2 (gA σ 17) (gF σ 33) fun v13 => (fX4_bit v13 (0 : Int32)).bind fun r14 => zrt r14 r14) else ald 2 (gA σ 12) (gF σ 33) fun v15 => (if v15 = (6 : Int32) then some (1 : Int32) else some (0 : Int32))) else ald 2 (gA σ 11) (gF σ 33) fun v16 => (if v16 = (4 : Int32) then some (1 : Int32) else some (0 : Int32)))
abbrev rX4_isFull : Room := { frames := 1, cells := 0, slots := 0, locals := 22 }
set_option maxHeartbeats 4000000 in
set_option maxRecDepth 100000 in
theorem wX4_isFull_157 {q : Int32} {σ : Mst} (FX : CallFix p m c cX4_isFull 1 s args lw_all RX4) (hr : meth.sig.returnType = (some .boolean)) (hlk : meth.locks = false) : ∀ (H : Heap) (locs : List Loc) (ls : Array Slot), lv_has ls 1 [] → Wd D dA A s (Mc dA h0 ad σ) H locs → fX4_isFull_157 σ = some q → W p l e rX4_isFull s m args below meth c H locs 0 0 (QI D dA A below args s 0 0 q (Mc dA h0 ad σ)) (F0 m 157 ls []) := by
  have hx := FX.1; have hb := FX.2.1; have hown := FX.2.2.2.1; have hts := FX.2.2.2.2
  intro  H locs ls hl hW hf
  rw [fX4_isFull_157] at hf
  refine lv_iconst (v := 1) hx hb dX4_isFull_157 (by decide) ?_
  refine lv_goto (tgt := 162) hx hb dX4_isFull_158 (by decide) ?_
  exact g_zret FX hr hlk hW rfl (Option.some.inj hf) dX4_isFull_162
set_option maxHeartbeats 4000000 in
set_option maxRecDepth 100000 in
theorem mX4_isFull  {σ : Mst} {q : Int32} (hf : fX4_isFull σ = some q) : CtI l yX4_isFull cX4_isFull 1 (some .boolean) rX4_isFull D dA [.ref h0] (Mc dA h0 ad σ) q (Mc dA h0 ad σ) := by
  refine e_I (by decide) (Nat.le_of_ble_eq_true rfl) ?_
  intro p e s m below meth c ls A FX hr hlk hl hW
  have hx := FX.1; have hb := FX.2.1; have hown := FX.2.2.2.1; have hts := FX.2.2.2.2
  have hl : lv_has ls 1 [(0, .ref h0)] := hl
  rw [fX4_isFull] at hf
  refine lv_aload_n hx hb dX4_isFull_0 rfl (lv_at hl 0 rfl) ?_
  refine lv_ldc2 (v := 1919905645) hx hb hown (hts _ q1765) dX4_isFull_1 ?_
  refine kX4_isWord FX ⟨Nat.le_of_ble_eq_true rfl, Nat.le_of_ble_eq_true rfl⟩ ⟨Nat.zero_le _, Nat.zero_le _⟩ hl.1 (Nat.le_of_ble_eq_true rfl) hW hf dX4_isFull_4 (fun r1 H locs hW hf => ?_)
  refine lv_if_eq (tgt := 29) hx hb dX4_isFull_7 (by decide) (fun c7 => ?_) (fun c7 => ?_)
  · have hf := ifp c7 hf
    refine lv_aload_n hx hb dX4_isFull_29 rfl (lv_at hl 0 rfl) ?_
    refine lv_ldc2 (v := 500136504939) hx hb hown (hts _ q1767) dX4_isFull_30 ?_
    refine kX4_isWord FX ⟨Nat.le_of_ble_eq_true rfl, Nat.le_of_ble_eq_true rfl⟩ ⟨Nat.zero_le _, Nat.zero_le _⟩ hl.1 (Nat.le_of_ble_eq_true rfl) hW hf dX4_isFull_33 (fun r2 H locs hW hf => ?_)
    refine lv_if_eq (tgt := 59) hx hb dX4_isFull_36 (by decide) (fun c36 => ?_) (fun c36 => ?_)
    · have hf := ifp c36 hf
      refine lv_aload_n hx hb dX4_isFull_59 rfl (lv_at hl 0 rfl) ?_
      refine lv_ldc2 (v := 422826700644) hx hb hown (hts _ q1772) dX4_isFull_60 ?_
      refine kX4_isWord FX ⟨Nat.le_of_ble_eq_true rfl, Nat.le_of_ble_eq_true rfl⟩ ⟨Nat.zero_le _, Nat.zero_le _⟩ hl.1 (Nat.le_of_ble_eq_true rfl) hW hf dX4_isFull_63 (fun r3 H locs hW hf => ?_)
      refine lv_if_eq (tgt := 83) hx hb dX4_isFull_66 (by decide) (fun c66 => ?_) (fun c66 => ?_)
      · have hf := ifp c66 hf
        refine lv_aload_n hx hb dX4_isFull_83 rfl (lv_at hl 0 rfl) ?_
        refine lv_ldc2 (v := 482805179763) hx hb hown (hts _ q1773) dX4_isFull_84 ?_
        refine kX4_isWord FX ⟨Nat.le_of_ble_eq_true rfl, Nat.le_of_ble_eq_true rfl⟩ ⟨Nat.zero_le _, Nat.zero_le _⟩ hl.1 (Nat.le_of_ble_eq_true rfl) hW hf dX4_isFull_87 (fun r4 H locs hW hf => ?_)
        refine lv_if_eq (tgt := 107) hx hb dX4_isFull_90 (by decide) (fun c90 => ?_) (fun c90 => ?_)
        · have hf := ifp c90 hf
          refine lv_aload_n hx hb dX4_isFull_107 rfl (lv_at hl 0 rfl) ?_
          refine lv_ldc2 (v := 499850700147) hx hb hown (hts _ q1774) dX4_isFull_108 ?_
          refine kX4_isWord FX ⟨Nat.le_of_ble_eq_true rfl, Nat.le_of_ble_eq_true rfl⟩ ⟨Nat.zero_le _, Nat.zero_le _⟩ hl.1 (Nat.le_of_ble_eq_true rfl) hW hf dX4_isFull_111 (fun r5 H locs hW hf => ?_)
          refine lv_if_eq (tgt := 131) hx hb dX4_isFull_114 (by decide) (fun c114 => ?_) (fun c114 => ?_)
          · have hf := ifp c114 hf
            refine lv_aload_n hx hb dX4_isFull_131 rfl (lv_at hl 0 rfl) ?_
            refine lv_ldc2 (v := 1685217655) hx hb hown (hts _ q1775) dX4_isFull_132 ?_
            refine kX4_isWord FX ⟨Nat.le_of_ble_eq_true rfl, Nat.le_of_ble_eq_true rfl⟩ ⟨Nat.zero_le _, Nat.zero_le _⟩ hl.1 (Nat.le_of_ble_eq_true rfl) hW hf dX4_isFull_135 (fun r6 H locs hW hf => ?_)
            refine lv_if_eq (tgt := 157) hx hb dX4_isFull_138 (by decide) (fun c138 => ?_) (fun c138 => ?_)
            · have hf := ifp c138 hf
              exact wX4_isFull_157 FX hr hlk _ _ _ (lv_sub hl [] rfl) hW hf
            · have hf := ifn c138 hf
              refine lv_aload_n hx hb dX4_isFull_141 rfl (lv_at hl 0 rfl) ?_
              refine Mg17 FX hW dX4_isFull_142 ?_
              refine lv_aload_n hx hb dX4_isFull_145 rfl (lv_at hl 0 rfl) ?_
              refine Mg33 FX hW dX4_isFull_146 ?_
              refine g_iald FX hW 9 Mp17 hf dX4_isFull_149 (fun v7 hf => ?_)
              refine lv_iconst (v := 3) hx hb dX4_isFull_150 (by decide) ?_
              refine kX4_bit FX ⟨Nat.le_of_ble_eq_true rfl, Nat.le_of_ble_eq_true rfl⟩ ⟨Nat.zero_le _, Nat.zero_le _⟩ hl.1 (Nat.le_of_ble_eq_true rfl) hW hf dX4_isFull_151 (fun r8 H locs hW hf => ?_)
              refine lv_if_eq (tgt := 161) hx hb dX4_isFull_154 (by decide) (fun c154 => ?_) (fun c154 => ?_)
              · have hf := ifp c154 hf
                refine lv_iconst (v := 0) hx hb dX4_isFull_161 (by decide) ?_
                exact g_zret FX hr hlk hW rfl (Option.some.inj hf) dX4_isFull_162
              · have hf := ifn c154 hf
                exact wX4_isFull_157 FX hr hlk _ _ _ (lv_sub hl [] rfl) hW hf
          · have hf := ifn c114 hf
            refine lv_aload_n hx hb dX4_isFull_117 rfl (lv_at hl 0 rfl) ?_
            refine Mg17 FX hW dX4_isFull_118 ?_
            refine lv_aload_n hx hb dX4_isFull_121 rfl (lv_at hl 0 rfl) ?_
            refine Mg33 FX hW dX4_isFull_122 ?_
            refine g_iald FX hW 9 Mp17 hf dX4_isFull_125 (fun v9 hf => ?_)
            refine lv_iconst (v := 2) hx hb dX4_isFull_126 (by decide) ?_
            refine kX4_bit FX ⟨Nat.le_of_ble_eq_true rfl, Nat.le_of_ble_eq_true rfl⟩ ⟨Nat.zero_le _, Nat.zero_le _⟩ hl.1 (Nat.le_of_ble_eq_true rfl) hW hf dX4_isFull_127 (fun r10 H locs hW hf => ?_)
            exact g_zret FX hr hlk hW (zrt_some hf).1 (zrt_some hf).2 dX4_isFull_130
        · have hf := ifn c90 hf
          refine lv_aload_n hx hb dX4_isFull_93 rfl (lv_at hl 0 rfl) ?_
          refine Mg17 FX hW dX4_isFull_94 ?_
          refine lv_aload_n hx hb dX4_isFull_97 rfl (lv_at hl 0 rfl) ?_
          refine Mg33 FX hW dX4_isFull_98 ?_
          refine g_iald FX hW 9 Mp17 hf dX4_isFull_101 (fun v11 hf => ?_)
          refine lv_iconst (v := 1) hx hb dX4_isFull_102 (by decide) ?_
          refine kX4_bit FX ⟨Nat.le_of_ble_eq_true rfl, Nat.le_of_ble_eq_true rfl⟩ ⟨Nat.zero_le _, Nat.zero_le _⟩ hl.1 (Nat.le_of_ble_eq_true rfl) hW hf dX4_isFull_103 (fun r12 H locs hW hf => ?_)
          exact g_zret FX hr hlk hW (zrt_some hf).1 (zrt_some hf).2 dX4_isFull_106
      · have hf := ifn c66 hf
        refine lv_aload_n hx hb dX4_isFull_69 rfl (lv_at hl 0 rfl) ?_
        refine Mg17 FX hW dX4_isFull_70 ?_
        refine lv_aload_n hx hb dX4_isFull_73 rfl (lv_at hl 0 rfl) ?_
        refine Mg33 FX hW dX4_isFull_74 ?_
        refine g_iald FX hW 9 Mp17 hf dX4_isFull_77 (fun v13 hf => ?_)
        refine lv_iconst (v := 0) hx hb dX4_isFull_78 (by decide) ?_
        refine kX4_bit FX ⟨Nat.le_of_ble_eq_true rfl, Nat.le_of_ble_eq_true rfl⟩ ⟨Nat.zero_le _, Nat.zero_le _⟩ hl.1 (Nat.le_of_ble_eq_true rfl) hW hf dX4_isFull_79 (fun r14 H locs hW hf => ?_)
        exact g_zret FX hr hlk hW (zrt_some hf).1 (zrt_some hf).2 dX4_isFull_82
    · have hf := ifn c36 hf
      refine lv_aload_n hx hb dX4_isFull_39 rfl (lv_at hl 0 rfl) ?_
      refine Mg12 FX hW dX4_isFull_40 ?_
      refine lv_aload_n hx hb dX4_isFull_43 rfl (lv_at hl 0 rfl) ?_
      refine Mg33 FX hW dX4_isFull_44 ?_
      refine g_iald FX hW 4 Mp12 hf dX4_isFull_47 (fun v15 hf => ?_)
      refine lv_bipush (v := 6) hx hb dX4_isFull_48 (by decide) ?_
      refine lv_icmp_ne (tgt := 57) hx hb dX4_isFull_50 (by decide) (fun c50 => ?_) (fun c50 => ?_)
      · have hf := ifn c50 hf
        refine lv_iconst (v := 0) hx hb dX4_isFull_57 (by decide) ?_
        exact g_zret FX hr hlk hW rfl (Option.some.inj hf) dX4_isFull_58
      · have hf := ifp c50 hf
        refine lv_iconst (v := 1) hx hb dX4_isFull_53 (by decide) ?_
        refine lv_goto (tgt := 58) hx hb dX4_isFull_54 (by decide) ?_
        exact g_zret FX hr hlk hW rfl (Option.some.inj hf) dX4_isFull_58
  · have hf := ifn c7 hf
    refine lv_aload_n hx hb dX4_isFull_10 rfl (lv_at hl 0 rfl) ?_
    refine Mg11 FX hW dX4_isFull_11 ?_
    refine lv_aload_n hx hb dX4_isFull_14 rfl (lv_at hl 0 rfl) ?_
    refine Mg33 FX hW dX4_isFull_15 ?_
    refine g_iald FX hW 3 Mp11 hf dX4_isFull_18 (fun v16 hf => ?_)
    refine lv_iconst (v := 4) hx hb dX4_isFull_19 (by decide) ?_
    refine lv_icmp_ne (tgt := 27) hx hb dX4_isFull_20 (by decide) (fun c20 => ?_) (fun c20 => ?_)
    · have hf := ifn c20 hf
      refine lv_iconst (v := 0) hx hb dX4_isFull_27 (by decide) ?_
      exact g_zret FX hr hlk hW rfl (Option.some.inj hf) dX4_isFull_28
    · have hf := ifp c20 hf
      refine lv_iconst (v := 1) hx hb dX4_isFull_23 (by decide) ?_
      refine lv_goto (tgt := 28) hx hb dX4_isFull_24 (by decide) ?_
      exact g_zret FX hr hlk hW rfl (Option.some.inj hf) dX4_isFull_28
set_option maxHeartbeats 4000000 in
set_option maxRecDepth 100000 in
theorem kX4_isFull {α : Type} {q : α} {k : Int32 → Option α} {σ : Mst} (FX : CallFix p m c cc nL s args lw_all RX4) (hR : rX4_isFull.frames + 1 ≤ R.frames ∧ 8 + (1 + 11) + rX4_isFull.locals ≤ R.locals) (hcs : cells ≤ R.cells ∧ slots ≤ R.slots) (hl : ls.size = nL) (hrm : (rest.map fun v => v.category).sum ≤ 8) (hW : Wd D dA A s (Mc dA h0 ad σ) H locs) (hf : (fX4_isFull σ).bind k = some q) (hdg : decode cc pc = .ok (.invokevirtual 254, 3)) (kk : ∀ (r : Int32) (H1 : Heap) (locs1 : List Loc), Wd D dA A s (Mc dA h0 ad σ) H1 locs1 → k r = some q → W p l e R s m args below meth c H1 locs1 cells slots Q (F0 m (pc + 3) ls (.int r :: rest))) : W p l e R s m args below meth c H locs cells slots Q (F0 m pc ls (.ref h0 :: rest)) := by
  obtain ⟨r1, h1, hf⟩ := bnd hf
  refine w_Vi (C := RX4) (As := []) (rest := rest) (n := 0) (wr := []) FX (mX4_isFull h1) (cwV 0 FX.2.2.2.2 (lw_V q1797 q1799 qs60 q132 q1800) rfl rfl rfl (by decide +kernel) hR) (va_recv hW.2.2.2.1 hW.1 (ci := 4) (q0 := 0) rfl rfl) rfl hl rfl hrm ⟨Nat.le_trans (Nat.le_of_eq (Nat.add_zero cells)) hcs.1, Nat.le_trans (Nat.le_of_eq (Nat.add_zero slots)) hcs.2⟩ hdg hW.nil ?_
  exact fun H1 locs1 hW1 => kk r1 H1 locs1 hW1.nil' hf
end M03
