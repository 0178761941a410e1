/-! TrunkLitters$Ask.<init>()V: kind O -/
abbrev rX2_init : Room := { frames := 1, cells := 0, slots := 0, locals := 30 }
def fX2_init (dA : Nat → Nat) (z : Nat) (t7 : Nat) (w : va_W) : Option ((Unit) × va_W × Nat × Nat) := gck 0 0 rX2_init.cells rX2_init.slots (some ((), w, 0, 0))
set_option maxHeartbeats 4000000 in
set_option maxRecDepth 100000 in
theorem mX2_init {l : Launch} {D : va_G} {dA : Nat → ClassId} {z : Nat}  {t7 : Nat} {w : va_W} {q : ((Unit) × va_W × Nat × Nat)} (hf : fX2_init dA z t7 w = some q) : CtO l yX2_init cX2_init 1 none rX2_init D dA [.ref t7] w z (.inl none) q.2.1 q.2.2.1 q.2.2.2 := by
  refine e_O (by decide) (Nat.le_of_ble_eq_true rfl) ?_
  intro p e s m below meth c9 ls A FX hr hlk hnm hout hl hW
  have hx := FX.1; have hb := FX.2.1; have hown := FX.2.2.2.1; have hts := FX.2.2.2.2
  have hl : lv_has ls 1 [(0, .ref t7)] := hl
  rw [fX2_init] at hf
  refine lv_aload_n hx hb dX2_init_0 rfl (lv_at hl 0 rfl) ?_
  refine o_obj FX q204 hl.1 dX2_init_1 (Nat.le_of_ble_eq_true rfl) (Nat.le_of_ble_eq_true rfl) ?_
  obtain ⟨hg, hf⟩ := gck_some hf
  obtain rfl := Option.some.inj hf
  exact ro_v FX hr hlk hW hg dX2_init_4
/-! TrunkLitters$Value.<init>(I)V: kind O -/
abbrev rX11_init : Room := { frames := 1, cells := 0, slots := 0, locals := 30 }
def fX11_init (dA : Nat → Nat) (z : Nat) (t7 : Nat) (v7 : Int32) (w : va_W) : Option ((Unit) × va_W × Nat × Nat) := ppt w t7 10 0 (.int v7) fun w1 => gck 0 0 rX11_init.cells rX11_init.slots (some ((), w1, 0, 0))
set_option maxHeartbeats 4000000 in
set_option maxRecDepth 100000 in
theorem mX11_init {l : Launch} {D : va_G} {dA : Nat → ClassId} {z : Nat}  {t7 : Nat} {v7 : Int32} {w : va_W} {q : ((Unit) × va_W × Nat × Nat)} (hf : fX11_init dA z t7 v7 w = some q) : CtO l yX11_init cX11_init 2 none rX11_init D dA [.ref t7, .int v7] w z (.inl none) q.2.1 q.2.2.1 q.2.2.2 := by
  refine e_O (by decide) (Nat.le_of_ble_eq_true rfl) ?_
  intro p e s m below meth c9 ls A FX hr hlk hnm hout hl hW
  have hx := FX.1; have hb := FX.2.1; have hown := FX.2.2.2.1; have hts := FX.2.2.2.2
  have hl : lv_has ls 2 [(0, .ref t7), (1, .int v7)] := hl
  rw [fX11_init] at hf
  refine lv_aload_n hx hb dX11_init_0 rfl (lv_at hl 0 rfl) ?_
  refine o_obj FX q1077 hl.1 dX11_init_1 (Nat.le_of_ble_eq_true rfl) (Nat.le_of_ble_eq_true rfl) ?_
  refine lv_aload_n hx hb dX11_init_4 rfl (lv_at hl 0 rfl) ?_
  refine lv_iload_n hx hb dX11_init_5 rfl (lv_at hl 1 rfl) ?_
  refine op_putF (C := RX11) (T := TX11) (N := 1) (ci := 10) (ty := .int) FX hW in_X11 tyX11 tyX11_ok nmX11 rfl 0 (by decide) q1078 (fun _ h => h) rfl hnm rfl (by decide +kernel) rfl rfl hf dX11_init_6 (fun w1 H locs hW hf => ?_)
  obtain ⟨hg, hf⟩ := gck_some hf
  obtain rfl := Option.some.inj hf
  exact ro_v FX hr hlk hW hg dX11_init_9
/-! TrunkLitters$Not.<init>(LTrunkLitters$Node;)V: kind O -/
abbrev rX10_init : Room := { frames := 1, cells := 0, slots := 0, locals := 30 }
def fX10_init (dA : Nat → Nat) (z : Nat) (t7 : Nat) (n7 : Nat) (w : va_W) : Option ((Unit) × va_W × Nat × Nat) := ppt w t7 9 0 (.ref n7) fun w1 => gck 0 0 rX10_init.cells rX10_init.slots (some ((), w1, 0, 0))
set_option maxHeartbeats 4000000 in
set_option maxRecDepth 100000 in
theorem mX10_init {l : Launch} {D : va_G} {dA : Nat → ClassId} {z : Nat}  {t7 : Nat} {n7 : Nat} {w : va_W} {q : ((Unit) × va_W × Nat × Nat)} (hf : fX10_init dA z t7 n7 w = some q) : CtO l yX10_init cX10_init 2 none rX10_init D dA [.ref t7, .ref n7] w z (.inl none) q.2.1 q.2.2.1 q.2.2.2 := by
  refine e_O (by decide) (Nat.le_of_ble_eq_true rfl) ?_
  intro p e s m below meth c9 ls A FX hr hlk hnm hout hl hW
  have hx := FX.1; have hb := FX.2.1; have hown := FX.2.2.2.1; have hts := FX.2.2.2.2
  have hl : lv_has ls 2 [(0, .ref t7), (1, .ref n7)] := hl
  rw [fX10_init] at hf
  refine lv_aload_n hx hb dX10_init_0 rfl (lv_at hl 0 rfl) ?_
  refine o_obj FX q1041 hl.1 dX10_init_1 (Nat.le_of_ble_eq_true rfl) (Nat.le_of_ble_eq_true rfl) ?_
  refine lv_aload_n hx hb dX10_init_4 rfl (lv_at hl 0 rfl) ?_
  refine lv_aload_n hx hb dX10_init_5 rfl (lv_at hl 1 rfl) ?_
  refine op_putF (C := RX10) (T := TX10) (N := 1) (ci := 9) (ty := (.object "TrunkLitters$Node")) FX hW in_X10 tyX10 tyX10_ok nmX10 rfl 0 (by decide) q1042 (fun _ h => h) rfl hnm rfl (by decide +kernel) rfl rfl hf dX10_init_6 (fun w1 H locs hW hf => ?_)
  obtain ⟨hg, hf⟩ := gck_some hf
  obtain rfl := Option.some.inj hf
  exact ro_v FX hr hlk hW hg dX10_init_9
/-! TrunkLitters$Pair.<init>(LTrunkLitters$Node;LTrunkLitters$Node;C)V: kind O -/
abbrev rX12_init : Room := { frames := 1, cells := 0, slots := 0, locals := 30 }
def fX12_init (dA : Nat → Nat) (z : Nat) (t7 : Nat) (l97 : Nat) (r97 : Nat) (v7 : Int32) (w : va_W) : Option ((Unit) × va_W × Nat × Nat) := ppt w t7 11 0 (.ref l97) fun w1 => ppt w1 t7 11 1 (.ref r97) fun w2 => nrw .char v7 (ppt w2 t7 11 2 (.int v7) fun w3 => gck 0 0 rX12_init.cells rX12_init.slots (some ((), w3, 0, 0)))
set_option maxHeartbeats 4000000 in
set_option maxRecDepth 100000 in
theorem mX12_init {l : Launch} {D : va_G} {dA : Nat → ClassId} {z : Nat}  {t7 : Nat} {l97 : Nat} {r97 : Nat} {v7 : Int32} {w : va_W} {q : ((Unit) × va_W × Nat × Nat)} (hf : fX12_init dA z t7 l97 r97 v7 w = some q) : CtO l yX12_init cX12_init 4 none rX12_init D dA [.ref t7, .ref l97, .ref r97, .int v7] w z (.inl none) q.2.1 q.2.2.1 q.2.2.2 := by
  refine e_O (by decide) (Nat.le_of_ble_eq_true rfl) ?_
  intro p e s m below meth c9 ls A FX hr hlk hnm hout hl hW
  have hx := FX.1; have hb := FX.2.1; have hown := FX.2.2.2.1; have hts := FX.2.2.2.2
  have hl : lv_has ls 4 [(0, .ref t7), (1, .ref l97), (2, .ref r97), (3, .int v7)] := hl
  rw [fX12_init] at hf
  refine lv_aload_n hx hb dX12_init_0 rfl (lv_at hl 0 rfl) ?_
  refine o_obj FX q1087 hl.1 dX12_init_1 (Nat.le_of_ble_eq_true rfl) (Nat.le_of_ble_eq_true rfl) ?_
  refine lv_aload_n hx hb dX12_init_4 rfl (lv_at hl 0 rfl) ?_
  refine lv_aload_n hx hb dX12_init_5 rfl (lv_at hl 1 rfl) ?_
  refine op_putF (C := RX12) (T := TX12) (N := 3) (ci := 11) (ty := (.object "TrunkLitters$Node")) FX hW in_X12 tyX12 tyX12_ok nmX12 rfl 0 (by decide) q1088 (fun _ h => h) rfl hnm rfl (by decide +kernel) rfl rfl hf dX12_init_6 (fun w1 H locs hW hf => ?_)
  refine lv_aload_n hx hb dX12_init_9 rfl (lv_at hl 0 rfl) ?_
  refine lv_aload_n hx hb dX12_init_10 rfl (lv_at hl 2 rfl) ?_
  refine op_putF (C := RX12) (T := TX12) (N := 3) (ci := 11) (ty := (.object "TrunkLitters$Node")) FX hW in_X12 tyX12 tyX12_ok nmX12 rfl 1 (by decide) q1089 (fun _ h => h) rfl hnm rfl (by decide +kernel) rfl rfl hf dX12_init_11 (fun w2 H locs hW hf => ?_)
  refine lv_aload_n hx hb dX12_init_14 rfl (lv_at hl 0 rfl) ?_
  refine lv_iload_n hx hb dX12_init_15 rfl (lv_at hl 3 rfl) ?_
  obtain ⟨hnr, hft, hf⟩ := nrw_some hf
  refine op_putF (C := RX12) (T := TX12) (N := 3) (ci := 11) (ty := .char) FX hW in_X12 tyX12 tyX12_ok nmX12 rfl 2 (by decide) q1090 (fun _ h => h) rfl hnm rfl (by decide +kernel) hnr hft hf dX12_init_16 (fun w3 H locs hW hf => ?_)
  obtain ⟨hg, hf⟩ := gck_some hf
  obtain rfl := Option.some.inj hf
  exact ro_v FX hr hlk hW hg dX12_init_19
/-! java/util/AbstractCollection.<init>()V: kind O -/
abbrev rJ0_init : Room := { frames := 1, cells := 0, slots := 0, locals := 30 }
def fJ0_init (dA : Nat → Nat) (z : Nat) (t7 : Nat) (w : va_W) : Option ((Unit) × va_W × Nat × Nat) := gck 0 0 rJ0_init.cells rJ0_init.slots (some ((), w, 0, 0))
set_option maxHeartbeats 4000000 in
set_option maxRecDepth 100000 in
theorem mJ0_init {l : Launch} {D : va_G} {dA : Nat → ClassId} {z : Nat}  {t7 : Nat} {w : va_W} {q : ((Unit) × va_W × Nat × Nat)} (hf : fJ0_init dA z t7 w = some q) : CtO l yJ0_init cJ0_init 1 none rJ0_init D dA [.ref t7] w z (.inl none) q.2.1 q.2.2.1 q.2.2.2 := by
  refine e_O (by decide) (Nat.le_of_ble_eq_true rfl) ?_
  intro p e s m below meth c9 ls A FX hr hlk hnm hout hl hW
  have hx := FX.1; have hb := FX.2.1; have hown := FX.2.2.2.1; have hts := FX.2.2.2.2
  have hl : lv_has ls 1 [(0, .ref t7)] := hl
  rw [fJ0_init] at hf
  refine lv_aload_n hx hb dJ0_init_0 rfl (lv_at hl 0 rfl) ?_
  refine o_obj FX q181 hl.1 dJ0_init_1 (Nat.le_of_ble_eq_true rfl) (Nat.le_of_ble_eq_true rfl) ?_
  obtain ⟨hg, hf⟩ := gck_some hf
  obtain rfl := Option.some.inj hf
  exact ro_v FX hr hlk hW hg dJ0_init_4
/-! java/util/AbstractList.<init>()V: kind O -/
abbrev rJ1_init : Room := { frames := 2, cells := 0, slots := 0, locals := 50 }
def fJ1_init (dA : Nat → Nat) (z : Nat) (t7 : Nat) (w : va_W) : Option ((Unit) × va_W × Nat × Nat) := ocal rJ1_init.cells rJ1_init.slots 0 0 rJ0_init.cells rJ0_init.slots (fJ0_init dA (z + 0) t7 w) fun r1 w2 c3 y4 => ppt w2 t7 13 0 (.int (0 : Int32)) fun w5 => gck c3 y4 rJ1_init.cells rJ1_init.slots (some ((), w5, c3, y4))
set_option maxHeartbeats 4000000 in
set_option maxRecDepth 100000 in
theorem mJ1_init {l : Launch} {D : va_G} {dA : Nat → ClassId} {z : Nat}  {t7 : Nat} {w : va_W} {q : ((Unit) × va_W × Nat × Nat)} (hf : fJ1_init dA z t7 w = some q) : CtO l yJ1_init cJ1_init 1 none rJ1_init D dA [.ref t7] w z (.inl none) q.2.1 q.2.2.1 q.2.2.2 := by
  refine e_O (by decide) (Nat.le_of_ble_eq_true rfl) ?_
  intro p e s m below meth c9 ls A FX hr hlk hnm hout hl hW
  have hx := FX.1; have hb := FX.2.1; have hown := FX.2.2.2.1; have hts := FX.2.2.2.2
  have hl : lv_has ls 1 [(0, .ref t7)] := hl
  rw [fJ1_init] at hf
  refine lv_aload_n hx hb dJ1_init_0 rfl (lv_at hl 0 rfl) ?_
  refine oc_v hW hf (fun r0 h0 hg => o_I (As := []) (rest := []) (n := 0) FX (mJ0_init h0) (cwI 0 FX.2.2.2.2 (lw_meth q180) rfl rfl rfl (FX.2.2.2.2 _ q125) (FX.2.2.2.2 _ q178) (FX.2.2.2.2 _ q179) rfl (by decide +kernel) ⟨Nat.le_of_ble_eq_true rfl, Nat.le_of_ble_eq_true rfl⟩) rfl hl.1 rfl (Nat.le_of_ble_eq_true rfl) hg dJ1_init_1 hW) (fun w2 c3 y4 H locs hW hf => ?_)
  refine lv_aload_n hx hb dJ1_init_4 rfl (lv_at hl 0 rfl) ?_
  refine lv_iconst (v := 0) hx hb dJ1_init_5 (by decide) ?_
  refine op_put (C := RJ2) (T := TJ2) (N := 3) (ci := 13) (ty := .int) FX hW in_J2 tyJ2 tyJ2_ok nmJ2 rfl 0 (by decide) q188 (fun _ h => h) rfl (by decide +kernel) rfl rfl hf dJ1_init_6 (fun w5 H locs hW hf => ?_)
  obtain ⟨hg, hf⟩ := gck_some hf
  obtain rfl := Option.some.inj hf
  exact ro_v FX hr hlk hW hg dJ1_init_9
/-! java/util/ArrayList.<init>(I)V: kind O -/
abbrev rJ2_init : Room := { frames := 3, cells := 1, slots := 40, locals := 70 }
def fJ2_init (dA : Nat → Nat) (z : Nat) (t7 : Nat) (n7 : Int32) (w : va_W) : Option ((Unit) × va_W × Nat × Nat) := ocal rJ2_init.cells rJ2_init.slots 0 0 rJ1_init.cells rJ1_init.slots (fJ1_init dA (z + 0) t7 w) fun r1 w2 c3 y4 => (if n7 ≤ 0 then none else gsz n7 fun N => onew rJ2_init.cells rJ2_init.slots c3 y4 N w2 (z + c3) (.inl (dA 4, N, .inr (.inr (.inr (.inr (fun _ => none)))))) fun w5 c6 y7 => ppt w5 t7 13 1 (.ref (z + c3)) fun w8 => gck c6 y7 rJ2_init.cells rJ2_init.slots (some ((), w8, c6, y7)))
set_option maxHeartbeats 4000000 in
set_option maxRecDepth 100000 in
theorem mJ2_init {l : Launch} {D : va_G} {dA : Nat → ClassId} {z : Nat}  {t7 : Nat} {n7 : Int32} {w : va_W} {q : ((Unit) × va_W × Nat × Nat)} (hf : fJ2_init dA z t7 n7 w = some q) : CtO l yJ2_init cJ2_init 2 none rJ2_init D dA [.ref t7, .int n7] w z (.inl none) q.2.1 q.2.2.1 q.2.2.2 := by
  refine e_O (by decide) (Nat.le_of_ble_eq_true rfl) ?_
  intro p e s m below meth c9 ls A FX hr hlk hnm hout hl hW
  have hx := FX.1; have hb := FX.2.1; have hown := FX.2.2.2.1; have hts := FX.2.2.2.2
  have hl : lv_has ls 2 [(0, .ref t7), (1, .int n7)] := hl
  rw [fJ2_init] at hf
  refine lv_aload_n hx hb dJ2_init_0 rfl (lv_at hl 0 rfl) ?_
  refine oc_v hW hf (fun r0 h0 hg => o_I (As := []) (rest := []) (n := 0) FX (mJ1_init h0) (cwI 0 FX.2.2.2.2 (lw_meth q177) rfl rfl rfl (FX.2.2.2.2 _ q126) (FX.2.2.2.2 _ q175) (FX.2.2.2.2 _ q176) rfl (by decide +kernel) ⟨Nat.le_of_ble_eq_true rfl, Nat.le_of_ble_eq_true rfl⟩) rfl hl.1 rfl (Nat.le_of_ble_eq_true rfl) hg dJ2_init_1 hW) (fun w2 c3 y4 H locs hW hf => ?_)
  refine lv_iload_n hx hb dJ2_init_4 rfl (lv_at hl 1 rfl) ?_
  refine lv_if_le (tgt := 19) hx hb dJ2_init_5 (by decide) (fun c5 => ?_) (fun c5 => ?_)
  · have hf := ifp c5 hf
    cases hf
  · have hf := ifn c5 hf
    refine lv_aload_n hx hb dJ2_init_8 rfl (lv_at hl 0 rfl) ?_
    refine lv_iload_n hx hb dJ2_init_9 rfl (lv_at hl 1 rfl) ?_
    refine on_newO FX hW q182 hf dJ2_init_10 (fun w5 c6 y7 H hW hf => ?_)
    refine op_put (C := RJ2) (T := TJ2) (N := 3) (ci := 13) (ty := (.array (.object "java/lang/Object"))) FX hW in_J2 tyJ2 tyJ2_ok nmJ2 rfl 1 (by decide) q186 (fun _ h => h) rfl (by decide +kernel) rfl rfl hf dJ2_init_13 (fun w8 H locs hW hf => ?_)
    refine lv_goto (tgt := 60) hx hb dJ2_init_16 (by decide) ?_
    obtain ⟨hg, hf⟩ := gck_some hf
    obtain rfl := Option.some.inj hf
    exact ro_v FX hr hlk hW hg dJ2_init_60
/-! java/lang/Exception.<init>(Ljava/lang/String;Ljava/lang/Throwable;ZZ)V: kind O -/
abbrev rJ14_init : Room := { frames := 2, cells := 0, slots := 0, locals := 54 }
def fJ14_init (dA : Nat → Nat) (z : Nat) (t7 : Nat) (a7 : Option Nat) (b7 : Option Nat) (c7 : Int32) (d7 : Int32) (w : va_W) : Option ((Unit) × va_W × Nat × Nat) := ocal rJ14_init.cells rJ14_init.slots 0 0 rJ13_init2O.cells rJ13_init2O.slots (fJ13_init2O dA (z + 0) t7 a7 b7 c7 d7 w) fun r1 w2 c3 y4 => gck c3 y4 rJ14_init.cells rJ14_init.slots (some ((), w2, c3, y4))
set_option maxHeartbeats 4000000 in
set_option maxRecDepth 100000 in
theorem mJ14_init {l : Launch} {D : va_G} {dA : Nat → ClassId} {z : Nat}  {t7 : Nat} {a7 : Option Nat} {b7 : Option Nat} {c7 : Int32} {d7 : Int32} {w : va_W} {q : ((Unit) × va_W × Nat × Nat)} (hf : fJ14_init dA z t7 a7 b7 c7 d7 w = some q) : CtO l yJ14_init cJ14_init 5 none rJ14_init D dA [.ref t7, va_rf a7, va_rf b7, .int c7, .int d7] w z (.inl none) q.2.1 q.2.2.1 q.2.2.2 := by
  refine e_O (by decide) (by cases a7 <;> cases b7 <;> exact Nat.le_of_ble_eq_true rfl) ?_
  intro p e s m below meth c9 ls A FX hr hlk hnm hout hl hW
  have hx := FX.1; have hb := FX.2.1; have hown := FX.2.2.2.1; have hts := FX.2.2.2.2
  have hl : lv_has ls 5 [(0, .ref t7), (1, va_rf a7), (2, va_rf b7), (3, .int c7), (4, .int d7)] := by cases a7 <;> cases b7 <;> exact hl
  rw [fJ14_init] at hf
  refine lv_aload_n hx hb dJ14_init_0 rfl (lv_at hl 0 rfl) ?_
  refine lv_aload_nQ hx hb dJ14_init_1 rfl (lv_at hl 1 rfl) ?_
  refine lv_aload_nQ hx hb dJ14_init_2 rfl (lv_at hl 2 rfl) ?_
  refine lv_iload_n hx hb dJ14_init_3 rfl (lv_at hl 3 rfl) ?_
  refine lv_iload hx hb dJ14_init_4 (lv_at hl 4 rfl) ?_
  refine oc_v hW hf (fun r0 h0 hg => o_I (As := [va_rf a7, va_rf b7, .int c7, .int d7]) (rest := []) (n := 4) FX (mJ13_init2O h0) (cwI 4 FX.2.2.2.2 (lw_meth q867) rfl rfl rfl (FX.2.2.2.2 _ q145) (FX.2.2.2.2 _ q865) (FX.2.2.2.2 _ q866) rfl (by decide +kernel) ⟨Nat.le_of_ble_eq_true rfl, Nat.le_of_ble_eq_true rfl⟩) rfl hl.1 rfl (Nat.le_of_ble_eq_true rfl) hg dJ14_init_6 hW) (fun w2 c3 y4 H locs hW hf => ?_)
  obtain ⟨hg, hf⟩ := gck_some hf
  obtain rfl := Option.some.inj hf
  exact ro_v FX hr hlk hW hg dJ14_init_9
/-! TrunkLitters$Wrong.<init>(II)V: kind O -/
abbrev rX8_init : Room := { frames := 3, cells := 0, slots := 0, locals := 78 }
def fX8_init (dA : Nat → Nat) (z : Nat) (t7 : Nat) (k7 : Int32) (p7 : Int32) (w : va_W) : Option ((Unit) × va_W × Nat × Nat) := ocal rX8_init.cells rX8_init.slots 0 0 rJ14_init.cells rJ14_init.slots (fJ14_init dA (z + 0) t7 none none (0 : Int32) (0 : Int32) w) fun r1 w2 c3 y4 => ppt w2 t7 7 6 (.int k7) fun w5 => ppt w5 t7 7 7 (.int p7) fun w6 => gck c3 y4 rX8_init.cells rX8_init.slots (some ((), w6, c3, y4))
set_option maxHeartbeats 4000000 in
set_option maxRecDepth 100000 in
theorem mX8_init {l : Launch} {D : va_G} {dA : Nat → ClassId} {z : Nat}  {t7 : Nat} {k7 : Int32} {p7 : Int32} {w : va_W} {q : ((Unit) × va_W × Nat × Nat)} (hf : fX8_init dA z t7 k7 p7 w = some q) : CtO l yX8_init cX8_init 3 none rX8_init D dA [.ref t7, .int k7, .int p7] w z (.inl none) q.2.1 q.2.2.1 q.2.2.2 := by
  refine e_O (by decide) (Nat.le_of_ble_eq_true rfl) ?_
  intro p e s m below meth c9 ls A FX hr hlk hnm hout hl hW
  have hx := FX.1; have hb := FX.2.1; have hown := FX.2.2.2.1; have hts := FX.2.2.2.2
  have hl : lv_has ls 3 [(0, .ref t7), (1, .int k7), (2, .int p7)] := hl
  rw [fX8_init] at hf
  refine lv_aload_n hx hb dX8_init_0 rfl (lv_at hl 0 rfl) ?_
  refine lv_null hx hb dX8_init_1 ?_
  refine lv_null hx hb dX8_init_2 ?_
  refine lv_iconst (v := 0) hx hb dX8_init_3 (by decide) ?_
  refine lv_iconst (v := 0) hx hb dX8_init_4 (by decide) ?_
  refine oc_v hW hf (fun r0 h0 hg => o_I (As := [va_rf none, va_rf none, .int (0 : Int32), .int (0 : Int32)]) (rest := []) (n := 4) FX (mJ14_init h0) (cwI 4 FX.2.2.2.2 (lw_meth q864) rfl rfl rfl (FX.2.2.2.2 _ q146) (FX.2.2.2.2 _ q862) (FX.2.2.2.2 _ q863) rfl (by decide +kernel) ⟨Nat.le_of_ble_eq_true rfl, Nat.le_of_ble_eq_true rfl⟩) rfl hl.1 rfl (Nat.le_of_ble_eq_true rfl) hg dX8_init_5 hW) (fun w2 c3 y4 H locs hW hf => ?_)
  refine lv_aload_n hx hb dX8_init_8 rfl (lv_at hl 0 rfl) ?_
  refine lv_iload_n hx hb dX8_init_9 rfl (lv_at hl 1 rfl) ?_
  refine op_putF (C := RX8) (T := TX8) (N := 8) (ci := 7) (ty := .int) FX hW in_X8 tyX8 tyX8_ok nmX8 rfl 6 (by decide) q868 (fun _ h => h) rfl hnm rfl (by decide +kernel) rfl rfl hf dX8_init_10 (fun w5 H locs hW hf => ?_)
  refine lv_aload_n hx hb dX8_init_13 rfl (lv_at hl 0 rfl) ?_
  refine lv_iload_n hx hb dX8_init_14 rfl (lv_at hl 2 rfl) ?_
  refine op_putF (C := RX8) (T := TX8) (N := 8) (ci := 7) (ty := .int) FX hW in_X8 tyX8 tyX8_ok nmX8 rfl 7 (by decide) q870 (fun _ h => h) rfl hnm rfl (by decide +kernel) rfl rfl hf dX8_init_15 (fun w6 H locs hW hf => ?_)
  obtain ⟨hg, hf⟩ := gck_some hf
  obtain rfl := Option.some.inj hf
  exact ro_v FX hr hlk hW hg dX8_init_18
/-! TrunkLitters$Named.<init>(Ljava/lang/String;)V: kind O -/
abbrev rX6_initr : Room := { frames := 1, cells := 0, slots := 0, locals := 30 }
def fX6_initr (dA : Nat → Nat) (z : Nat) (t7 : Nat) (n7 : Nat) (w : va_W) : Option ((Unit) × va_W × Nat × Nat) := ppt w t7 6 0 (.ref n7) fun w1 => gck 0 0 rX6_initr.cells rX6_initr.slots (some ((), w1, 0, 0))
set_option maxHeartbeats 4000000 in
set_option maxRecDepth 100000 in
theorem mX6_initr {l : Launch} {D : va_G} {dA : Nat → ClassId} {z : Nat}  {t7 : Nat} {n7 : Nat} {w : va_W} {q : ((Unit) × va_W × Nat × Nat)} (hf : fX6_initr dA z t7 n7 w = some q) : CtO l yX6_init cX6_init 2 none rX6_initr D dA [.ref t7, .ref n7] w z (.inl none) q.2.1 q.2.2.1 q.2.2.2 := by
  refine e_O (by decide) (Nat.le_of_ble_eq_true rfl) ?_
  intro p e s m below meth c9 ls A FX hr hlk hnm hout hl hW
  have hx := FX.1; have hb := FX.2.1; have hown := FX.2.2.2.1; have hts := FX.2.2.2.2
  have hl : lv_has ls 2 [(0, .ref t7), (1, .ref n7)] := hl
  rw [fX6_initr] at hf
  refine lv_aload_n hx hb dX6_init_0 rfl (lv_at hl 0 rfl) ?_
  refine o_obj FX q902 hl.1 dX6_init_1 (Nat.le_of_ble_eq_true rfl) (Nat.le_of_ble_eq_true rfl) ?_
  refine lv_aload_n hx hb dX6_init_4 rfl (lv_at hl 0 rfl) ?_
  refine lv_aload_n hx hb dX6_init_5 rfl (lv_at hl 1 rfl) ?_
  refine op_putF (C := RX7) (T := TX7) (N := 3) (ci := 6) (ty := (.object "java/lang/String")) FX hW in_X7 tyX7 tyX7_ok nmX7 rfl 0 (by decide) q907 (fun _ h => h) rfl hnm rfl (by decide +kernel) rfl rfl hf dX6_init_6 (fun w1 H locs hW hf => ?_)
  obtain ⟨hg, hf⟩ := gck_some hf
  obtain rfl := Option.some.inj hf
  exact ro_v FX hr hlk hW hg dX6_init_9
/-! TrunkLitters$Named.<init>(Ljava/lang/String;)V: kind O -/
abbrev rX6_initt : Room := { frames := 1, cells := 0, slots := 0, locals := 30 }
def fX6_initt (dA : Nat → Nat) (z : Nat) (t7 : Nat) (n7 : Nat) (w : va_W) : Option ((Unit) × va_W × Nat × Nat) := ppt w t7 8 0 (.ref n7) fun w1 => gck 0 0 rX6_initt.cells rX6_initt.slots (some ((), w1, 0, 0))
set_option maxHeartbeats 4000000 in
set_option maxRecDepth 100000 in
theorem mX6_initt {l : Launch} {D : va_G} {dA : Nat → ClassId} {z : Nat}  {t7 : Nat} {n7 : Nat} {w : va_W} {q : ((Unit) × va_W × Nat × Nat)} (hf : fX6_initt dA z t7 n7 w = some q) : CtO l yX6_init cX6_init 2 none rX6_initt D dA [.ref t7, .ref n7] w z (.inl none) q.2.1 q.2.2.1 q.2.2.2 := by
  refine e_O (by decide) (Nat.le_of_ble_eq_true rfl) ?_
  intro p e s m below meth c9 ls A FX hr hlk hnm hout hl hW
  have hx := FX.1; have hb := FX.2.1; have hown := FX.2.2.2.1; have hts := FX.2.2.2.2
  have hl : lv_has ls 2 [(0, .ref t7), (1, .ref n7)] := hl
  rw [fX6_initt] at hf
  refine lv_aload_n hx hb dX6_init_0 rfl (lv_at hl 0 rfl) ?_
  refine o_obj FX q902 hl.1 dX6_init_1 (Nat.le_of_ble_eq_true rfl) (Nat.le_of_ble_eq_true rfl) ?_
  refine lv_aload_n hx hb dX6_init_4 rfl (lv_at hl 0 rfl) ?_
  refine lv_aload_n hx hb dX6_init_5 rfl (lv_at hl 1 rfl) ?_
  refine op_putF (C := RX9) (T := TX9) (N := 5) (ci := 8) (ty := (.object "java/lang/String")) FX hW in_X9 tyX9 tyX9_ok nmX9 rfl 0 (by decide) q907 (fun _ h => h) rfl hnm rfl (by decide +kernel) rfl rfl hf dX6_init_6 (fun w1 H locs hW hf => ?_)
  obtain ⟨hg, hf⟩ := gck_some hf
  obtain rfl := Option.some.inj hf
  exact ro_v FX hr hlk hW hg dX6_init_9
/-! TrunkLitters$Room.<init>(Ljava/lang/String;)V: kind O -/
abbrev rX7_init : Room := { frames := 2, cells := 0, slots := 0, locals := 51 }
def fX7_init (dA : Nat → Nat) (z : Nat) (t7 : Nat) (n7 : Nat) (w : va_W) : Option ((Unit) × va_W × Nat × Nat) := ocal rX7_init.cells rX7_init.slots 0 0 rX6_initr.cells rX6_initr.slots (fX6_initr dA (z + 0) t7 n7 w) fun r1 w2 c3 y4 => gck c3 y4 rX7_init.cells rX7_init.slots (some ((), w2, c3, y4))
set_option maxHeartbeats 4000000 in
set_option maxRecDepth 100000 in
theorem mX7_init {l : Launch} {D : va_G} {dA : Nat → ClassId} {z : Nat}  {t7 : Nat} {n7 : Nat} {w : va_W} {q : ((Unit) × va_W × Nat × Nat)} (hf : fX7_init dA z t7 n7 w = some q) : CtO l yX7_init cX7_init 2 none rX7_init D dA [.ref t7, .ref n7] w z (.inl none) q.2.1 q.2.2.1 q.2.2.2 := by
  refine e_O (by decide) (Nat.le_of_ble_eq_true rfl) ?_
  intro p e s m below meth c9 ls A FX hr hlk hnm hout hl hW
  have hx := FX.1; have hb := FX.2.1; have hown := FX.2.2.2.1; have hts := FX.2.2.2.2
  have hl : lv_has ls 2 [(0, .ref t7), (1, .ref n7)] := hl
  rw [fX7_init] at hf
  refine lv_aload_n hx hb dX7_init_0 rfl (lv_at hl 0 rfl) ?_
  refine lv_aload_n hx hb dX7_init_1 rfl (lv_at hl 1 rfl) ?_
  refine oc_v hW hf (fun r0 h0 hg => o_I (As := [.ref n7]) (rest := []) (n := 1) FX (mX6_initr h0) (cwI 1 FX.2.2.2.2 (lw_meth q901) rfl rfl rfl (FX.2.2.2.2 _ q143) (FX.2.2.2.2 _ q899) (FX.2.2.2.2 _ q900) rfl (by decide +kernel) ⟨Nat.le_of_ble_eq_true rfl, Nat.le_of_ble_eq_true rfl⟩) rfl hl.1 rfl (Nat.le_of_ble_eq_true rfl) hg dX7_init_2 hW) (fun w2 c3 y4 H locs hW hf => ?_)
  obtain ⟨hg, hf⟩ := gck_some hf
  obtain rfl := Option.some.inj hf
  exact ro_v FX hr hlk hW hg dX7_init_5
/-! TrunkLitters$Trunk.<init>(Ljava/lang/String;)V: kind O -/
abbrev rX9_init : Room := { frames := 2, cells := 0, slots := 0, locals := 51 }
def fX9_init (dA : Nat → Nat) (z : Nat) (t7 : Nat) (n7 : Nat) (w : va_W) : Option ((Unit) × va_W × Nat × Nat) := ocal rX9_init.cells rX9_init.slots 0 0 rX6_initt.cells rX6_initt.slots (fX6_initt dA (z + 0) t7 n7 w) fun r1 w2 c3 y4 => gck c3 y4 rX9_init.cells rX9_init.slots (some ((), w2, c3, y4))
set_option maxHeartbeats 4000000 in
set_option maxRecDepth 100000 in
theorem mX9_init {l : Launch} {D : va_G} {dA : Nat → ClassId} {z : Nat}  {t7 : Nat} {n7 : Nat} {w : va_W} {q : ((Unit) × va_W × Nat × Nat)} (hf : fX9_init dA z t7 n7 w = some q) : CtO l yX9_init cX9_init 2 none rX9_init D dA [.ref t7, .ref n7] w z (.inl none) q.2.1 q.2.2.1 q.2.2.2 := by
  refine e_O (by decide) (Nat.le_of_ble_eq_true rfl) ?_
  intro p e s m below meth c9 ls A FX hr hlk hnm hout hl hW
  have hx := FX.1; have hb := FX.2.1; have hown := FX.2.2.2.1; have hts := FX.2.2.2.2
  have hl : lv_has ls 2 [(0, .ref t7), (1, .ref n7)] := hl
  rw [fX9_init] at hf
  refine lv_aload_n hx hb dX9_init_0 rfl (lv_at hl 0 rfl) ?_
  refine lv_aload_n hx hb dX9_init_1 rfl (lv_at hl 1 rfl) ?_
  refine oc_v hW hf (fun r0 h0 hg => o_I (As := [.ref n7]) (rest := []) (n := 1) FX (mX6_initt h0) (cwI 1 FX.2.2.2.2 (lw_meth q901) rfl rfl rfl (FX.2.2.2.2 _ q143) (FX.2.2.2.2 _ q995) (FX.2.2.2.2 _ q900) rfl (by decide +kernel) ⟨Nat.le_of_ble_eq_true rfl, Nat.le_of_ble_eq_true rfl⟩) rfl hl.1 rfl (Nat.le_of_ble_eq_true rfl) hg dX9_init_2 hW) (fun w2 c3 y4 H locs hW hf => ?_)
  obtain ⟨hg, hf⟩ := gck_some hf
  obtain rfl := Option.some.inj hf
  exact ro_v FX hr hlk hW hg dX9_init_5
/-! TrunkLitters$Book.<init>()V: kind O -/
abbrev rX1_init : Room := { frames := 4, cells := 5, slots := 100, locals := 91 }
def fX1_init (dA : Nat → Nat) (z : Nat) (t7 : Nat) (w : va_W) : Option ((Unit) × va_W × Nat × Nat) := onew rX1_init.cells rX1_init.slots 0 0 3 w (z + 0) (.inr (13, [.int 0, .null, .int 0])) fun w1 c2 y3 => ocal rX1_init.cells rX1_init.slots c2 y3 rJ2_init.cells rJ2_init.slots (fJ2_init dA (z + c2) (z + 0) (2 : Int32) w1) fun r4 w5 c6 y7 => ppt w5 t7 1 0 (.ref (z + 0)) fun w8 => onew rX1_init.cells rX1_init.slots c6 y7 3 w8 (z + c6) (.inr (13, [.int 0, .null, .int 0])) fun w9 c10 y11 => ocal rX1_init.cells rX1_init.slots c10 y11 rJ2_init.cells rJ2_init.slots (fJ2_init dA (z + c10) (z + c6) (2 : Int32) w9) fun r12 w13 c14 y15 => ppt w13 t7 1 1 (.ref (z + c6)) fun w16 => onew rX1_init.cells rX1_init.slots c14 y15 5 w16 (z + c14) (.inr (2, [.int 0, .int 0, .int 0, .int 0, .int 0])) fun w17 c18 y19 => ocal rX1_init.cells rX1_init.slots c18 y19 rX2_init.cells rX2_init.slots (fX2_init dA (z + c18) (z + c14) w17) fun r20 w21 c22 y23 => ppt w21 t7 1 2 (.ref (z + c14)) fun w24 => ppt w24 t7 1 4 (.int (3 : Int32)) fun w25 => gck c22 y23 rX1_init.cells rX1_init.slots (some ((), w25, c22, y23))
set_option maxHeartbeats 4000000 in
set_option maxRecDepth 100000 in
theorem mX1_init {l : Launch} {D : va_G} {dA : Nat → ClassId} {z : Nat}  {t7 : Nat} {w : va_W} {q : ((Unit) × va_W × Nat × Nat)} (hf : fX1_init dA z t7 w = some q) : CtO l yX1_init cX1_init 1 none rX1_init D dA [.ref t7] w z (.inl none) q.2.1 q.2.2.1 q.2.2.2 := by
  refine e_O (by decide) (Nat.le_of_ble_eq_true rfl) ?_
  intro p e s m below meth c9 ls A FX hr hlk hnm hout hl hW
  have hx := FX.1; have hb := FX.2.1; have hown := FX.2.2.2.1; have hts := FX.2.2.2.2
  have hl : lv_has ls 1 [(0, .ref t7)] := hl
  rw [fX1_init] at hf
  refine lv_aload_n hx hb dX1_init_0 rfl (lv_at hl 0 rfl) ?_
  refine o_obj FX q169 hl.1 dX1_init_1 (Nat.le_of_ble_eq_true rfl) (Nat.le_of_ble_eq_true rfl) ?_
  refine lv_aload_n hx hb dX1_init_4 rfl (lv_at hl 0 rfl) ?_
  refine on_new (C := RJ2) (T := TJ2) (N := 3) (ci := 13) (fs := [.int 0, .null, .int 0]) FX hW in_J2 tyJ2 tyJ2_ok q170 q171 q127 rfl (by decide +kernel) hf dX1_init_5 (fun w1 c2 y3 H hW hf => ?_)
  refine lv_dup hx hb dX1_init_8 rfl ?_
  refine lv_iconst (v := 2) hx hb dX1_init_9 (by decide) ?_
  refine oc_v hW hf (fun r0 h0 hg => o_I (As := [.int (2 : Int32)]) (rest := [.ref (z + 0), .ref t7]) (n := 1) FX (mJ2_init h0) (cwI 1 FX.2.2.2.2 (lw_meth q174) rfl rfl rfl (FX.2.2.2.2 _ q127) (FX.2.2.2.2 _ q172) (FX.2.2.2.2 _ q173) rfl (by decide +kernel) ⟨Nat.le_of_ble_eq_true rfl, Nat.le_of_ble_eq_true rfl⟩) rfl hl.1 rfl (Nat.le_of_ble_eq_true rfl) hg dX1_init_10 hW) (fun w5 c6 y7 H locs hW hf => ?_)
  refine op_putF (C := RX1) (T := TX1) (N := 8) (ci := 1) (ty := (.object "java/util/ArrayList")) FX hW in_X1 tyX1 tyX1_ok nmX1 rfl 0 (by decide) q226 (fun _ h => h) rfl hnm rfl (by decide +kernel) rfl rfl hf dX1_init_13 (fun w8 H locs hW hf => ?_)
  refine lv_aload_n hx hb dX1_init_16 rfl (lv_at hl 0 rfl) ?_
  refine on_new (C := RJ2) (T := TJ2) (N := 3) (ci := 13) (fs := [.int 0, .null, .int 0]) FX hW in_J2 tyJ2 tyJ2_ok q170 q171 q127 rfl (by decide +kernel) hf dX1_init_17 (fun w9 c10 y11 H hW hf => ?_)
  refine lv_dup hx hb dX1_init_20 rfl ?_
  refine lv_iconst (v := 2) hx hb dX1_init_21 (by decide) ?_
  refine oc_v hW hf (fun r0 h0 hg => o_I (As := [.int (2 : Int32)]) (rest := [.ref (z + c6), .ref t7]) (n := 1) FX (mJ2_init h0) (cwI 1 FX.2.2.2.2 (lw_meth q174) rfl rfl rfl (FX.2.2.2.2 _ q127) (FX.2.2.2.2 _ q172) (FX.2.2.2.2 _ q173) rfl (by decide +kernel) ⟨Nat.le_of_ble_eq_true rfl, Nat.le_of_ble_eq_true rfl⟩) rfl hl.1 rfl (Nat.le_of_ble_eq_true rfl) hg dX1_init_22 hW) (fun w13 c14 y15 H locs hW hf => ?_)
  refine op_putF (C := RX1) (T := TX1) (N := 8) (ci := 1) (ty := (.object "java/util/ArrayList")) FX hW in_X1 tyX1 tyX1_ok nmX1 rfl 1 (by decide) q230 (fun _ h => h) rfl hnm rfl (by decide +kernel) rfl rfl hf dX1_init_25 (fun w16 H locs hW hf => ?_)
  refine lv_aload_n hx hb dX1_init_28 rfl (lv_at hl 0 rfl) ?_
  refine on_new (C := RX2) (T := TX2) (N := 5) (ci := 2) (fs := [.int 0, .int 0, .int 0, .int 0, .int 0]) FX hW in_X2 tyX2 tyX2_ok q199 q200 q128 rfl (by decide +kernel) hf dX1_init_29 (fun w17 c18 y19 H hW hf => ?_)
  refine lv_dup hx hb dX1_init_32 rfl ?_
  refine oc_v hW hf (fun r0 h0 hg => o_IN (As := []) (rest := [.ref (z + c14), .ref t7]) (n := 0) FX (mX2_init h0) ⟨va_cnB (host := "TrunkLitters") 0 FX.2.2.2.2 (lw_meth q203) rfl rfl rfl (hW.gx.1 _ (List.mem_of_getElem? (i := 6) rfl)) (FX.2.2.2.2 _ q128) (by decide +kernel) ⟨Nat.le_of_ble_eq_true rfl, Nat.le_of_ble_eq_true rfl⟩, rfl, FX.2.2.2.2 _ q202⟩ rfl hl.1 rfl (Nat.le_of_ble_eq_true rfl) hg dX1_init_33 hW) (fun w21 c22 y23 H locs hW hf => ?_)
  refine op_putF (C := RX1) (T := TX1) (N := 8) (ci := 1) (ty := (.object "TrunkLitters$Ask")) FX hW in_X1 tyX1 tyX1_ok nmX1 rfl 2 (by decide) q234 (fun _ h => h) rfl hnm rfl (by decide +kernel) rfl rfl hf dX1_init_36 (fun w24 H locs hW hf => ?_)
  refine lv_aload_n hx hb dX1_init_39 rfl (lv_at hl 0 rfl) ?_
  refine lv_iconst (v := 3) hx hb dX1_init_40 (by decide) ?_
  refine op_put (C := RX1) (T := TX1) (N := 8) (ci := 1) (ty := .int) FX hW in_X1 tyX1 tyX1_ok nmX1 rfl 4 (by decide) q238 (fun _ h => h) rfl (by decide +kernel) rfl rfl hf dX1_init_41 (fun w25 H locs hW hf => ?_)
  obtain ⟨hg, hf⟩ := gck_some hf
  obtain rfl := Option.some.inj hf
  exact ro_v FX hr hlk hW hg dX1_init_44
/-! TrunkLitters$Reader.<init>(LTrunkLitters;)V: kind O -/
abbrev rX5_init : Room := { frames := 5, cells := 6, slots := 120, locals := 111 }
def fX5_init (dA : Nat → Nat) (z : Nat) (t7 : Nat) (u7 : Nat) (w : va_W) : Option ((Unit) × va_W × Nat × Nat) := ppt w t7 5 11 (.ref u7) fun w1 => ppt w1 t7 5 9 (.ref (dA 200)) fun w2 => onew rX5_init.cells rX5_init.slots 0 0 8 w2 (z + 0) (.inr (1, [.null, .null, .null, .null, .int 0, .int 0, .int 0, .int 0])) fun w3 c4 y5 => ocal rX5_init.cells rX5_init.slots c4 y5 rX1_init.cells rX1_init.slots (fX1_init dA (z + c4) (z + 0) w3) fun r6 w7 c8 y9 => ppt w7 t7 5 10 (.ref (z + 0)) fun w10 => gck c8 y9 rX5_init.cells rX5_init.slots (some ((), w10, c8, y9))
set_option maxHeartbeats 4000000 in
set_option maxRecDepth 100000 in
theorem mX5_init {l : Launch} {D : va_G} {dA : Nat → ClassId} {z : Nat}  {t7 : Nat} {u7 : Nat} {w : va_W} {q : ((Unit) × va_W × Nat × Nat)} (hf : fX5_init dA z t7 u7 w = some q) : CtO l yX5_init cX5_init 2 none rX5_init D dA [.ref t7, .ref u7] w z (.inl none) q.2.1 q.2.2.1 q.2.2.2 := by
  refine e_O (by decide) (Nat.le_of_ble_eq_true rfl) ?_
  intro p e s m below meth c9 ls A FX hr hlk hnm hout hl hW
  have hx := FX.1; have hb := FX.2.1; have hown := FX.2.2.2.1; have hts := FX.2.2.2.2
  have hl : lv_has ls 2 [(0, .ref t7), (1, .ref u7)] := hl
  rw [fX5_init] at hf
  refine lv_aload_n hx hb dX5_init_0 rfl (lv_at hl 0 rfl) ?_
  refine lv_aload_n hx hb dX5_init_1 rfl (lv_at hl 1 rfl) ?_
  refine op_putF (C := RX5) (T := TX5) (N := 12) (ci := 5) (ty := (.object "TrunkLitters")) FX hW in_X5 tyX5 tyX5_ok nmX5 rfl 11 (by decide) q480 (fun _ h => h) rfl hnm rfl (by decide +kernel) rfl rfl hf dX5_init_2 (fun w1 H locs hW hf => ?_)
  refine lv_aload_n hx hb dX5_init_5 rfl (lv_at hl 0 rfl) ?_
  refine o_obj FX q465 hl.1 dX5_init_6 (Nat.le_of_ble_eq_true rfl) (Nat.le_of_ble_eq_true rfl) ?_
  refine lv_aload_n hx hb dX5_init_9 rfl (lv_at hl 0 rfl) ?_
  refine o_text FX rfl hW 0 (by decide) rfl dX5_init_10 ?_
  refine op_put (C := RX5) (T := TX5) (N := 12) (ci := 5) (ty := (.object "java/lang/String")) FX hW in_X5 tyX5 tyX5_ok nmX5 rfl 9 (by decide) q478 (fun _ h => h) rfl (by decide +kernel) rfl rfl hf dX5_init_12 (fun w2 H locs hW hf => ?_)
  refine lv_aload_n hx hb dX5_init_15 rfl (lv_at hl 0 rfl) ?_
  refine on_new (C := RX1) (T := TX1) (N := 8) (ci := 1) (fs := [.null, .null, .null, .null, .int 0, .int 0, .int 0, .int 0]) FX hW in_X1 tyX1 tyX1_ok q467 q165 q124 rfl (by decide +kernel) hf dX5_init_16 (fun w3 c4 y5 H hW hf => ?_)
  refine lv_dup hx hb dX5_init_19 rfl ?_
  refine oc_v hW hf (fun r0 h0 hg => o_IN (As := []) (rest := [.ref (z + 0), .ref t7]) (n := 0) FX (mX1_init h0) ⟨va_cnB (host := "TrunkLitters") 0 FX.2.2.2.2 (lw_meth q168) rfl rfl rfl (hW.gx.1 _ (List.mem_of_getElem? (i := 9) rfl)) (FX.2.2.2.2 _ q124) (by decide +kernel) ⟨Nat.le_of_ble_eq_true rfl, Nat.le_of_ble_eq_true rfl⟩, rfl, FX.2.2.2.2 _ q167⟩ rfl hl.1 rfl (Nat.le_of_ble_eq_true rfl) hg dX5_init_20 hW) (fun w7 c8 y9 H locs hW hf => ?_)
  refine op_putF (C := RX5) (T := TX5) (N := 12) (ci := 5) (ty := (.object "TrunkLitters$Book")) FX hW in_X5 tyX5 tyX5_ok nmX5 rfl 10 (by decide) q479 (fun _ h => h) rfl hnm rfl (by decide +kernel) rfl rfl hf dX5_init_23 (fun w10 H locs hW hf => ?_)
  obtain ⟨hg, hf⟩ := gck_some hf
  obtain rfl := Option.some.inj hf
  exact ro_v FX hr hlk hW hg dX5_init_26
/-! TrunkLitters$Tale.<init>(LTrunkLitters;IIZ)V: kind O -/
abbrev rX13_init : Room := { frames := 1, cells := 0, slots := 0, locals := 30 }
def fX13_init (dA : Nat → Nat) (z : Nat) (t7 : Nat) (u7 : Nat) (k7 : Int32) (m7 : Int32) (b7 : Int32) (w : va_W) : Option ((Unit) × va_W × Nat × Nat) := ppt w t7 12 5 (.ref u7) fun w1 => ppt w1 t7 12 4 (.int (-1 : Int32)) fun w2 => ppt w2 t7 12 0 (.int k7) fun w3 => ppt w3 t7 12 1 (.int m7) fun w4 => nrw .boolean b7 (ppt w4 t7 12 3 (.int b7) fun w5 => pgi w5 u7 0 8 fun v6 => ppt w5 t7 12 2 (.int v6) fun w7 => gck 0 0 rX13_init.cells rX13_init.slots (some ((), w7, 0, 0)))
set_option maxHeartbeats 4000000 in
set_option maxRecDepth 100000 in
theorem mX13_init {l : Launch} {D : va_G} {dA : Nat → ClassId} {z : Nat}  {t7 : Nat} {u7 : Nat} {k7 : Int32} {m7 : Int32} {b7 : Int32} {w : va_W} {q : ((Unit) × va_W × Nat × Nat)} (hf : fX13_init dA z t7 u7 k7 m7 b7 w = some q) : CtO l yX13_init cX13_init 5 none rX13_init D dA [.ref t7, .ref u7, .int k7, .int m7, .int b7] w z (.inl none) q.2.1 q.2.2.1 q.2.2.2 := by
  refine e_O (by decide) (Nat.le_of_ble_eq_true rfl) ?_
  intro p e s m below meth c9 ls A FX hr hlk hnm hout hl hW
  have hx := FX.1; have hb := FX.2.1; have hown := FX.2.2.2.1; have hts := FX.2.2.2.2
  have hl : lv_has ls 5 [(0, .ref t7), (1, .ref u7), (2, .int k7), (3, .int m7), (4, .int b7)] := hl
  rw [fX13_init] at hf
  refine lv_aload_n hx hb dX13_init_0 rfl (lv_at hl 0 rfl) ?_
  refine lv_aload_n hx hb dX13_init_1 rfl (lv_at hl 1 rfl) ?_
  refine op_putF (C := RX13) (T := TX13) (N := 6) (ci := 12) (ty := (.object "TrunkLitters")) FX hW in_X13 tyX13 tyX13_ok nmX13 rfl 5 (by decide) q1474 (fun _ h => h) rfl hnm rfl (by decide +kernel) rfl rfl hf dX13_init_2 (fun w1 H locs hW hf => ?_)
  refine lv_aload_n hx hb dX13_init_5 rfl (lv_at hl 0 rfl) ?_
  refine o_obj FX q1468 hl.1 dX13_init_6 (Nat.le_of_ble_eq_true rfl) (Nat.le_of_ble_eq_true rfl) ?_
  refine lv_aload_n hx hb dX13_init_9 rfl (lv_at hl 0 rfl) ?_
  refine lv_iconst (v := -1) hx hb dX13_init_10 (by decide) ?_
  refine op_put (C := RX13) (T := TX13) (N := 6) (ci := 12) (ty := .int) FX hW in_X13 tyX13 tyX13_ok nmX13 rfl 4 (by decide) q1473 (fun _ h => h) rfl (by decide +kernel) rfl rfl hf dX13_init_11 (fun w2 H locs hW hf => ?_)
  refine lv_aload_n hx hb dX13_init_14 rfl (lv_at hl 0 rfl) ?_
  refine lv_iload_n hx hb dX13_init_15 rfl (lv_at hl 2 rfl) ?_
  refine op_putF (C := RX13) (T := TX13) (N := 6) (ci := 12) (ty := .int) FX hW in_X13 tyX13 tyX13_ok nmX13 rfl 0 (by decide) q1469 (fun _ h => h) rfl hnm rfl (by decide +kernel) rfl rfl hf dX13_init_16 (fun w3 H locs hW hf => ?_)
  refine lv_aload_n hx hb dX13_init_19 rfl (lv_at hl 0 rfl) ?_
  refine lv_iload_n hx hb dX13_init_20 rfl (lv_at hl 3 rfl) ?_
  refine op_putF (C := RX13) (T := TX13) (N := 6) (ci := 12) (ty := .int) FX hW in_X13 tyX13 tyX13_ok nmX13 rfl 1 (by decide) q1470 (fun _ h => h) rfl hnm rfl (by decide +kernel) rfl rfl hf dX13_init_21 (fun w4 H locs hW hf => ?_)
  refine lv_aload_n hx hb dX13_init_24 rfl (lv_at hl 0 rfl) ?_
  refine lv_iload hx hb dX13_init_25 (lv_at hl 4 rfl) ?_
  obtain ⟨hnr, hft, hf⟩ := nrw_some hf
  refine op_putF (C := RX13) (T := TX13) (N := 6) (ci := 12) (ty := .boolean) FX hW in_X13 tyX13 tyX13_ok nmX13 rfl 3 (by decide) q1472 (fun _ h => h) rfl hnm rfl (by decide +kernel) hnr hft hf dX13_init_27 (fun w5 H locs hW hf => ?_)
  refine lv_aload_n hx hb dX13_init_30 rfl (lv_at hl 0 rfl) ?_
  refine lv_aload_n hx hb dX13_init_31 rfl (lv_at hl 1 rfl) ?_
  refine og_iN (C := RX0) (T := TX0) (N := 26) (ci := 0) FX hW in_X0 rfl 8 (by decide) (List.mem_of_getElem? (i := 0) rfl) (fun _ h => h) hf dX13_init_32 (fun v6 hf => ?_)
  refine op_putF (C := RX13) (T := TX13) (N := 6) (ci := 12) (ty := .int) FX hW in_X13 tyX13 tyX13_ok nmX13 rfl 2 (by decide) q1471 (fun _ h => h) rfl hnm rfl (by decide +kernel) rfl rfl hf dX13_init_35 (fun w7 H locs hW hf => ?_)
  obtain ⟨hg, hf⟩ := gck_some hf
  obtain rfl := Option.some.inj hf
  exact ro_v FX hr hlk hW hg dX13_init_38
/-! TrunkLitters$Tale.ends()Z: kind O -/
abbrev rX13_ends : Room := { frames := 0, cells := 0, slots := 0, locals := 0 }
def fX13_ends (dA : Nat → Nat) (z : Nat) (t7 : Nat) (w : va_W) : Option ((Int32) × va_W × Nat × Nat) := pgi w t7 12 4 fun v1 => (if v1 < 0 then pgR w t7 12 5 fun v2 => pgi w v2 0 8 fun v3 => ppt w t7 12 4 (.int v3) fun w4 => gck 0 0 rX13_ends.cells rX13_ends.slots (some ((1 : Int32), w4, 0, 0)) else gck 0 0 rX13_ends.cells rX13_ends.slots (some ((0 : Int32), w, 0, 0)))
set_option maxHeartbeats 4000000 in
set_option maxRecDepth 100000 in
theorem mX13_ends {l : Launch} {D : va_G} {dA : Nat → ClassId} {z : Nat}  {t7 : Nat} {w : va_W} {q : ((Int32) × va_W × Nat × Nat)} (hf : fX13_ends dA z t7 w = some q) : CtO l yX13_ends cX13_ends 1 (some .boolean) rX13_ends D dA [.ref t7] w z (.inl (some (.int q.1))) q.2.1 q.2.2.1 q.2.2.2 := by
  refine e_O (by decide) (Nat.le_of_ble_eq_true rfl) ?_
  intro p e s m below meth c9 ls A FX hr hlk hnm hout hl hW
  have hx := FX.1; have hb := FX.2.1; have hown := FX.2.2.2.1; have hts := FX.2.2.2.2
  have hl : lv_has ls 1 [(0, .ref t7)] := hl
  rw [fX13_ends] at hf
  refine lv_aload_n hx hb dX13_ends_0 rfl (lv_at hl 0 rfl) ?_
  refine og_i (C := RX13) (T := TX13) (N := 6) (ci := 12) FX hW in_X13 rfl 4 (by decide) q1473 (fun _ h => h) hf dX13_ends_1 (fun v1 hf => ?_)
  refine lv_if_lt (tgt := 9) hx hb dX13_ends_4 (by decide) (fun c4 => ?_) (fun c4 => ?_)
  · have hf := ifp c4 hf
    refine lv_aload_n hx hb dX13_ends_9 rfl (lv_at hl 0 rfl) ?_
    refine lv_aload_n hx hb dX13_ends_10 rfl (lv_at hl 0 rfl) ?_
    refine og_R (C := RX13) (T := TX13) (N := 6) (ci := 12) FX hW in_X13 rfl 5 (by decide) q1474 (fun _ h => h) hf dX13_ends_11 (fun v2 hf => ?_)
    refine og_iN (C := RX0) (T := TX0) (N := 26) (ci := 0) FX hW in_X0 rfl 8 (by decide) (List.mem_of_getElem? (i := 0) rfl) (fun _ h => h) hf dX13_ends_14 (fun v3 hf => ?_)
    refine op_put (C := RX13) (T := TX13) (N := 6) (ci := 12) (ty := .int) FX hW in_X13 tyX13 tyX13_ok nmX13 rfl 4 (by decide) q1473 (fun _ h => h) rfl (by decide +kernel) rfl rfl hf dX13_ends_17 (fun w4 H locs hW hf => ?_)
    refine lv_iconst (v := 1) hx hb dX13_ends_20 (by decide) ?_
    obtain ⟨hg, hf⟩ := gck_some hf
    obtain rfl := Option.some.inj hf
    exact ro_z (v := (1 : Int32)) FX hr hlk hW hg rfl dX13_ends_21
  · have hf := ifn c4 hf
    refine lv_iconst (v := 0) hx hb dX13_ends_7 (by decide) ?_
    obtain ⟨hg, hf⟩ := gck_some hf
    obtain rfl := Option.some.inj hf
    exact ro_z (v := (0 : Int32)) FX hr hlk hW hg rfl dX13_ends_8
