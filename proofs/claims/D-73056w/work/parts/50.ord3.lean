/-! TrunkLitters$Reader.e()LTrunkLitters$Node;: kind O -/
abbrev rX5_e : Room := { frames := 61, cells := 343000, slots := 2940000, locals := 2341 }
def fX5_e (dA : Nat → Nat) (z : Nat) (t7 : Nat) (w : va_W) : Option ((Nat ⊕ Nat) × va_W × Nat × Nat) := ppt w t7 5 4 (.int (0 : Int32)) fun w1 => ppt w1 t7 5 5 (.int (0 : Int32)) fun w2 => pck w2 t7 5 (ocal rX5_e.cells rX5_e.slots 0 0 (rlv 48).cells (rlv 48).slots ((frec dA 8).1 (z + 0) t7 w2) fun r3 w4 c5 y6 => othr r3 (fun v7 => gck c5 y6 rX5_e.cells rX5_e.slots (some ((.inl v7), w4, c5, y6))) fun t => gck c5 y6 rX5_e.cells rX5_e.slots (some (.inr t, w4, c5, y6)))
set_option maxHeartbeats 4000000 in
set_option maxRecDepth 100000 in
theorem mX5_e {l : Launch} {D : va_G} {dA : Nat → ClassId} {z : Nat}  {t7 : Nat} {w : va_W} {q : ((Nat ⊕ Nat) × va_W × Nat × Nat)} (hf : fX5_e dA z t7 w = some q) : CtO l yX5_e cX5_e 1 (some (Jvm.ClassFile.FieldType.object "TrunkLitters$Node")) rX5_e D dA [.ref t7] w z (Sum.map (fun r => some (.ref r)) id q.1) q.2.1 q.2.2.1 q.2.2.2 := by
  refine e_O (by decide) (Nat.le_of_ble_eq_true rfl) ?_
  intro p e s m below meth c9 ls A FX hr hlk hnm hout hl hW
  have hx := FX.1; have hb := FX.2.1; have hown := FX.2.2.2.1; have hts := FX.2.2.2.2
  have hl : lv_has ls 1 [(0, .ref t7)] := hl
  rw [fX5_e] at hf
  refine lv_aload_n hx hb dX5_e_0 rfl (lv_at hl 0 rfl) ?_
  refine lv_iconst (v := 0) hx hb dX5_e_1 (by decide) ?_
  refine op_put (C := RX5) (T := TX5) (N := 12) (ci := 5) (ty := .int) FX hW in_X5 tyX5 tyX5_ok nmX5 rfl 4 (by decide) q473 (fun _ h => h) rfl (by decide +kernel) rfl rfl hf dX5_e_2 (fun w1 H locs hW hf => ?_)
  refine lv_aload_n hx hb dX5_e_5 rfl (lv_at hl 0 rfl) ?_
  refine lv_iconst (v := 0) hx hb dX5_e_6 (by decide) ?_
  refine op_put (C := RX5) (T := TX5) (N := 12) (ci := 5) (ty := .int) FX hW in_X5 tyX5 tyX5_ok nmX5 rfl 5 (by decide) q474 (fun _ h => h) rfl (by decide +kernel) rfl rfl hf dX5_e_7 (fun w2 H locs hW hf => ?_)
  refine lv_aload_n hx hb dX5_e_10 rfl (lv_at hl 0 rfl) ?_
  obtain ⟨hv9, hf⟩ := pck_some hf
  refine oc_X (fun r => some (.ref r)) hW hf (fun r0 h0 hg => o_V (C := RX5) (As := []) (rest := []) (n := 0) FX (mrecB h0) (cwV 0 FX.2.2.2.2 (lw_V q1024 q1026 qs22 q133 q1027) rfl rfl rfl (by decide +kernel) ⟨Nat.le_of_ble_eq_true rfl, Nat.le_of_ble_eq_true rfl⟩) (o_recv hW rfl hv9) rfl hl.1 rfl (Nat.le_of_ble_eq_true rfl) hg dX5_e_11 hW) (fun t9 w4 c5 y6 H locs ce9 hW e1 e2 e3 hf => ?_) (fun v7 w4 c5 y6 H locs hW hf => ?_)
  · rw [othr_inr] at hf
    obtain ⟨hg, hf⟩ := gck_some hf
    obtain rfl := Option.some.inj hf
    exact ro_x hout hlk hW hg e1 e2 e3
  rw [othr_inl] at hf
  obtain ⟨hg, hf⟩ := gck_some hf
  obtain rfl := Option.some.inj hf
  exact ro_a (v := some v7) FX hr (Or.inl ⟨_, rfl⟩) hlk hW hg dX5_e_14
/-! TrunkLitters$Reader.readBrood()V: kind O -/
abbrev rX5_readBrood : Room := { frames := 62, cells := 343100, slots := 2945000, locals := 2361 }
def fX5_readBrood (dA : Nat → Nat) (z : Nat) (t7 : Nat) (w : va_W) : Option ((Unit ⊕ Nat) × va_W × Nat × Nat) := pck w t7 5 (ocal rX5_readBrood.cells rX5_readBrood.slots 0 0 rX5_go.cells rX5_go.slots (fX5_go dA (z + 0) t7 w) fun r1 w2 c3 y4 => pgR w2 t7 5 10 fun v5 => pck w2 t7 5 (ocal rX5_readBrood.cells rX5_readBrood.slots c3 y4 rX5_e.cells rX5_e.slots (fX5_e dA (z + c3) t7 w2) fun r6 w7 c8 y9 => othr r6 (fun v10 => ppt w7 v5 1 3 (.ref v10) fun w11 => gck c8 y9 rX5_readBrood.cells rX5_readBrood.slots (some ((.inl ()), w11, c8, y9))) fun t => gck c8 y9 rX5_readBrood.cells rX5_readBrood.slots (some (.inr t, w7, c8, y9))))
set_option maxHeartbeats 4000000 in
set_option maxRecDepth 100000 in
theorem mX5_readBrood {l : Launch} {D : va_G} {dA : Nat → ClassId} {z : Nat}  {t7 : Nat} {w : va_W} {q : ((Unit ⊕ Nat) × va_W × Nat × Nat)} (hf : fX5_readBrood dA z t7 w = some q) : CtO l yX5_readBrood cX5_readBrood 1 none rX5_readBrood D dA [.ref t7] w z (Sum.map (fun _ => none) id q.1) q.2.1 q.2.2.1 q.2.2.2 := by
  refine e_O (by decide) (Nat.le_of_ble_eq_true rfl) ?_
  intro p e s m below meth c9 ls A FX hr hlk hnm hout hl hW
  have hx := FX.1; have hb := FX.2.1; have hown := FX.2.2.2.1; have hts := FX.2.2.2.2
  have hl : lv_has ls 1 [(0, .ref t7)] := hl
  rw [fX5_readBrood] at hf
  refine lv_aload_n hx hb dX5_readBrood_0 rfl (lv_at hl 0 rfl) ?_
  obtain ⟨hv9, hf⟩ := pck_some hf
  refine oc_v hW hf (fun r0 h0 hg => o_V (C := RX5) (As := []) (rest := []) (n := 0) FX (mX5_go h0) (cwV 0 FX.2.2.2.2 (lw_V q510 q512 qs1 q133 q513) rfl rfl rfl (by decide +kernel) ⟨Nat.le_of_ble_eq_true rfl, Nat.le_of_ble_eq_true rfl⟩) (o_recv hW rfl hv9) rfl hl.1 rfl (Nat.le_of_ble_eq_true rfl) hg dX5_readBrood_1 hW) (fun w2 c3 y4 H locs hW hf => ?_)
  refine lv_aload_n hx hb dX5_readBrood_4 rfl (lv_at hl 0 rfl) ?_
  refine og_R (C := RX5) (T := TX5) (N := 12) (ci := 5) FX hW in_X5 rfl 10 (by decide) q479 (fun _ h => h) hf dX5_readBrood_5 (fun v5 hf => ?_)
  refine lv_aload_n hx hb dX5_readBrood_8 rfl (lv_at hl 0 rfl) ?_
  obtain ⟨hv9, hf⟩ := pck_some hf
  refine oc_X (fun r => some (.ref r)) hW hf (fun r0 h0 hg => o_V (C := RX5) (As := []) (rest := [.ref v5]) (n := 0) FX (mX5_e h0) (cwV 0 FX.2.2.2.2 (lw_V q1020 q1022 qs21 q133 q1023) rfl rfl rfl (by decide +kernel) ⟨Nat.le_of_ble_eq_true rfl, Nat.le_of_ble_eq_true rfl⟩) (o_recv hW rfl hv9) rfl hl.1 rfl (Nat.le_of_ble_eq_true rfl) hg dX5_readBrood_9 hW) (fun t9 w7 c8 y9 H locs ce9 hW e1 e2 e3 hf => ?_) (fun v10 w7 c8 y9 H locs hW hf => ?_)
  · rw [othr_inr] at hf
    obtain ⟨hg, hf⟩ := gck_some hf
    obtain rfl := Option.some.inj hf
    exact ro_x hout hlk hW hg e1 e2 e3
  rw [othr_inl] at hf
  refine op_put (C := RX1) (T := TX1) (N := 8) (ci := 1) (ty := (.object "TrunkLitters$Node")) FX hW in_X1 tyX1 tyX1_ok nmX1 rfl 3 (by decide) q237 (fun _ h => h) rfl (by decide +kernel) rfl rfl hf dX5_readBrood_12 (fun w11 H locs hW hf => ?_)
  obtain ⟨hg, hf⟩ := gck_some hf
  obtain rfl := Option.some.inj hf
  exact ro_v FX hr hlk hW hg dX5_readBrood_15
/-! TrunkLitters$Reader.readLine()V: kind O -/
abbrev rX5_readLine : Room := { frames := 63, cells := 343200, slots := 2950000, locals := 2381 }
def fX5_readLine_156 (dA : Nat → Nat) (z : Nat) (x0 : Nat) (w : va_W) (c : Nat) (y : Nat) : Option ((Unit ⊕ Nat) × va_W × Nat × Nat) := pck w x0 5 (ocal rX5_readLine.cells rX5_readLine.slots c y rX5_wrong.cells rX5_wrong.slots (fX5_wrong dA (z + c) x0 w) fun r1 w2 c3 y4 => gck c3 y4 rX5_readLine.cells rX5_readLine.slots (pck w2 r1 7 (some (.inr r1, w2, c3, y4))))
def fX5_readLine_133 (dA : Nat → Nat) (z : Nat) (x0 : Nat) (w : va_W) (c : Nat) (y : Nat) : Option ((Unit ⊕ Nat) × va_W × Nat × Nat) := pck w x0 5 (ocal rX5_readLine.cells rX5_readLine.slots c y rX5_is.cells rX5_is.slots (fX5_is dA (z + c) x0 (dA 211) w) fun r1 w2 c3 y4 => (if r1 = 0 then fX5_readLine_156 dA z x0 w2 c3 y4 else pgi w2 x0 5 8 fun v5 => (if v5 = 0 then pck w2 x0 5 (ocal rX5_readLine.cells rX5_readLine.slots c3 y4 rX5_readDraw.cells rX5_readDraw.slots (fX5_readDraw dA (z + c3) x0 w2) fun r6 w7 c8 y9 => othr r6 (fun v10 => gck c8 y9 rX5_readLine.cells rX5_readLine.slots (some ((.inl ()), w7, c8, y9))) fun t => gck c8 y9 rX5_readLine.cells rX5_readLine.slots (some (.inr t, w7, c8, y9))) else fX5_readLine_156 dA z x0 w2 c3 y4)))
def fX5_readLine_110 (dA : Nat → Nat) (z : Nat) (x0 : Nat) (w : va_W) (c : Nat) (y : Nat) : Option ((Unit ⊕ Nat) × va_W × Nat × Nat) := pck w x0 5 (ocal rX5_readLine.cells rX5_readLine.slots c y rX5_is.cells rX5_is.slots (fX5_is dA (z + c) x0 (dA 210) w) fun r1 w2 c3 y4 => (if r1 = 0 then fX5_readLine_133 dA z x0 w2 c3 y4 else pgi w2 x0 5 7 fun v5 => (if v5 = 0 then pck w2 x0 5 (ocal rX5_readLine.cells rX5_readLine.slots c3 y4 rX5_readTales.cells rX5_readTales.slots (fX5_readTales dA (z + c3) x0 w2) fun r6 w7 c8 y9 => othr r6 (fun v10 => gck c8 y9 rX5_readLine.cells rX5_readLine.slots (some ((.inl ()), w7, c8, y9))) fun t => gck c8 y9 rX5_readLine.cells rX5_readLine.slots (some (.inr t, w7, c8, y9))) else fX5_readLine_133 dA z x0 w2 c3 y4)))
def fX5_readLine_87 (dA : Nat → Nat) (z : Nat) (x0 : Nat) (w : va_W) (c : Nat) (y : Nat) : Option ((Unit ⊕ Nat) × va_W × Nat × Nat) := pck w x0 5 (ocal rX5_readLine.cells rX5_readLine.slots c y rX5_is.cells rX5_is.slots (fX5_is dA (z + c) x0 (dA 209) w) fun r1 w2 c3 y4 => (if r1 = 0 then fX5_readLine_110 dA z x0 w2 c3 y4 else pgi w2 x0 5 6 fun v5 => (if v5 = 0 then pck w2 x0 5 (ocal rX5_readLine.cells rX5_readLine.slots c3 y4 rX5_readPines.cells rX5_readPines.slots (fX5_readPines dA (z + c3) x0 w2) fun r6 w7 c8 y9 => othr r6 (fun v10 => gck c8 y9 rX5_readLine.cells rX5_readLine.slots (some ((.inl ()), w7, c8, y9))) fun t => gck c8 y9 rX5_readLine.cells rX5_readLine.slots (some (.inr t, w7, c8, y9))) else fX5_readLine_110 dA z x0 w2 c3 y4)))
def fX5_readLine_61 (dA : Nat → Nat) (z : Nat) (x0 : Nat) (w : va_W) (c : Nat) (y : Nat) : Option ((Unit ⊕ Nat) × va_W × Nat × Nat) := pck w x0 5 (ocal rX5_readLine.cells rX5_readLine.slots c y rX5_is.cells rX5_is.slots (fX5_is dA (z + c) x0 (dA 208) w) fun r1 w2 c3 y4 => (if r1 = 0 then fX5_readLine_87 dA z x0 w2 c3 y4 else pgR w2 x0 5 10 fun v5 => pgQ w2 v5 1 3 fun v6 => nlc v6 (pck w2 x0 5 (ocal rX5_readLine.cells rX5_readLine.slots c3 y4 rX5_readBrood.cells rX5_readBrood.slots (fX5_readBrood dA (z + c3) x0 w2) fun r8 w9 c10 y11 => othr r8 (fun v12 => gck c10 y11 rX5_readLine.cells rX5_readLine.slots (some ((.inl ()), w9, c10, y11))) fun t => gck c10 y11 rX5_readLine.cells rX5_readLine.slots (some (.inr t, w9, c10, y11)))) fun _ => fX5_readLine_87 dA z x0 w2 c3 y4))
def fX5_readLine_30 (dA : Nat → Nat) (z : Nat) (x0 : Nat) (w : va_W) (c : Nat) (y : Nat) : Option ((Unit ⊕ Nat) × va_W × Nat × Nat) := pck w x0 5 (ocal rX5_readLine.cells rX5_readLine.slots c y rX5_is.cells rX5_is.slots (fX5_is dA (z + c) x0 (dA 203) w) fun r1 w2 c3 y4 => (if r1 = 0 then fX5_readLine_61 dA z x0 w2 c3 y4 else pgR w2 x0 5 10 fun v5 => pgR w2 v5 1 1 fun v6 => pck w2 v6 13 (ocal rX5_readLine.cells rX5_readLine.slots c3 y4 rJ2_sizeO.cells rJ2_sizeO.slots (fJ2_sizeO dA (z + c3) v6 w2) fun r7 w8 c9 y10 => (if (6 : Int32) ≤ r7 then fX5_readLine_61 dA z x0 w8 c9 y10 else pck w8 x0 5 (ocal rX5_readLine.cells rX5_readLine.slots c9 y10 rX5_readTrunk.cells rX5_readTrunk.slots (fX5_readTrunk dA (z + c9) x0 w8) fun r11 w12 c13 y14 => othr r11 (fun v15 => gck c13 y14 rX5_readLine.cells rX5_readLine.slots (some ((.inl ()), w12, c13, y14))) fun t => gck c13 y14 rX5_readLine.cells rX5_readLine.slots (some (.inr t, w12, c13, y14)))))))
def fX5_readLine (dA : Nat → Nat) (z : Nat) (t7 : Nat) (w : va_W) : Option ((Unit ⊕ Nat) × va_W × Nat × Nat) := pck w t7 5 (ocal rX5_readLine.cells rX5_readLine.slots 0 0 rX5_is.cells rX5_is.slots (fX5_is dA (z + 0) t7 (dA 201) w) fun r1 w2 c3 y4 => (if r1 = 0 then fX5_readLine_30 dA z t7 w2 c3 y4 else pgR w2 t7 5 10 fun v5 => pgR w2 v5 1 0 fun v6 => pck w2 v6 13 (ocal rX5_readLine.cells rX5_readLine.slots c3 y4 rJ2_sizeO.cells rJ2_sizeO.slots (fJ2_sizeO dA (z + c3) v6 w2) fun r7 w8 c9 y10 => (if (4 : Int32) ≤ r7 then fX5_readLine_30 dA z t7 w8 c9 y10 else pck w8 t7 5 (ocal rX5_readLine.cells rX5_readLine.slots c9 y10 rX5_readRoom.cells rX5_readRoom.slots (fX5_readRoom dA (z + c9) t7 w8) fun r11 w12 c13 y14 => othr r11 (fun v15 => gck c13 y14 rX5_readLine.cells rX5_readLine.slots (some ((.inl ()), w12, c13, y14))) fun t => gck c13 y14 rX5_readLine.cells rX5_readLine.slots (some (.inr t, w12, c13, y14)))))))
set_option maxHeartbeats 4000000 in
set_option maxRecDepth 100000 in
theorem wX5_readLine_156 {l : Launch} {D : va_G} {dA : Nat → ClassId} {z : Nat} {p : Program} {e : Env} {s : State} {m : MethodId} {args : Array Value} {below : List Frame} {meth : Method} {c9 : Code} {A : Nat → Prop} {q : ((Unit ⊕ Nat) × va_W × Nat × Nat)} (FX : CallFix p m c9 cX5_readLine 1 s args lw_all RX5) (hr : meth.sig.returnType = none) (hlk : meth.locks = false) (hnm : meth.name = yX5_readLine.name) (hout : ∀ x ∈ c9.exceptionTable.toList, False) : ∀ (x0 : Nat) (w : va_W) (c : Nat) (y : Nat) (H : Heap) (locs : List Loc) (ls : Array Slot), lv_has ls 1 [(0, .ref x0)] → Wo D dA A s w z c H locs → fX5_readLine_156 dA z x0 w c y = some q → W p l e rX5_readLine s m args below meth c9 H locs c y (QO D dA A below args s rX5_readLine.cells rX5_readLine.slots (Sum.map (fun _ => none) id q.1) q.2.1 (z + q.2.2.1) q.2.2.2) (F0 m 156 ls []) := by
  have hx := FX.1; have hb := FX.2.1; have hown := FX.2.2.2.1; have hts := FX.2.2.2.2
  intro x0 w c y H locs ls hl hW hf
  rw [fX5_readLine_156] at hf
  refine lv_aload_n hx hb dX5_readLine_156 rfl (lv_at hl 0 rfl) ?_
  obtain ⟨hv9, hf⟩ := pck_some hf
  refine oc_R hW hf (fun r0 h0 hg => o_V (C := RX5) (As := []) (rest := []) (n := 0) FX (mX5_wrong h0) (cwV 0 FX.2.2.2.2 (lw_V q818 q820 qs10 q133 q821) rfl rfl rfl (by decide +kernel) ⟨Nat.le_of_ble_eq_true rfl, Nat.le_of_ble_eq_true rfl⟩) (o_recv hW rfl hv9) rfl hl.1 rfl (Nat.le_of_ble_eq_true rfl) hg dX5_readLine_157 hW) (fun r1 w2 c3 y4 H locs hW hf => ?_)
  obtain ⟨hg, hf⟩ := gck_some hf
  obtain ⟨⟨fs9, hv9⟩, hf⟩ := pck_some hf
  obtain rfl := Option.some.inj hf
  exact o_athrow FX hW hv9 dX5_readLine_160 (fun ce e1 e2 e3 => ro_x hout hlk hW hg e1 e2 e3)
set_option maxHeartbeats 4000000 in
set_option maxRecDepth 100000 in
theorem wX5_readLine_133 {l : Launch} {D : va_G} {dA : Nat → ClassId} {z : Nat} {p : Program} {e : Env} {s : State} {m : MethodId} {args : Array Value} {below : List Frame} {meth : Method} {c9 : Code} {A : Nat → Prop} {q : ((Unit ⊕ Nat) × va_W × Nat × Nat)} (FX : CallFix p m c9 cX5_readLine 1 s args lw_all RX5) (hr : meth.sig.returnType = none) (hlk : meth.locks = false) (hnm : meth.name = yX5_readLine.name) (hout : ∀ x ∈ c9.exceptionTable.toList, False) : ∀ (x0 : Nat) (w : va_W) (c : Nat) (y : Nat) (H : Heap) (locs : List Loc) (ls : Array Slot), lv_has ls 1 [(0, .ref x0)] → Wo D dA A s w z c H locs → fX5_readLine_133 dA z x0 w c y = some q → W p l e rX5_readLine s m args below meth c9 H locs c y (QO D dA A below args s rX5_readLine.cells rX5_readLine.slots (Sum.map (fun _ => none) id q.1) q.2.1 (z + q.2.2.1) q.2.2.2) (F0 m 133 ls []) := by
  have hx := FX.1; have hb := FX.2.1; have hown := FX.2.2.2.1; have hts := FX.2.2.2.2
  intro x0 w c y H locs ls hl hW hf
  rw [fX5_readLine_133] at hf
  refine lv_aload_n hx hb dX5_readLine_133 rfl (lv_at hl 0 rfl) ?_
  refine o_text FX rfl hW 11 (by decide) rfl dX5_readLine_134 ?_
  obtain ⟨hv9, hf⟩ := pck_some hf
  refine oc_i hW hf (fun r0 h0 hg => o_V (C := RX5) (As := [.ref (dA 211)]) (rest := []) (n := 1) FX (mX5_is h0) (cwV 1 FX.2.2.2.2 (lw_V q721 q723 qs6 q133 q724) rfl rfl rfl (by decide +kernel) ⟨Nat.le_of_ble_eq_true rfl, Nat.le_of_ble_eq_true rfl⟩) (o_recv hW rfl hv9) rfl hl.1 rfl (Nat.le_of_ble_eq_true rfl) hg dX5_readLine_136 hW) (fun r1 w2 c3 y4 H locs hW hf => ?_)
  refine lv_if_eq (tgt := 156) hx hb dX5_readLine_139 (by decide) (fun c139 => ?_) (fun c139 => ?_)
  · have hf := ifp c139 hf
    exact wX5_readLine_156 FX hr hlk hnm hout x0 w2 c3 y4 _ _ _ (lv_sub hl [0] rfl) hW hf
  · have hf := ifn c139 hf
    refine lv_aload_n hx hb dX5_readLine_142 rfl (lv_at hl 0 rfl) ?_
    refine og_i (C := RX5) (T := TX5) (N := 12) (ci := 5) FX hW in_X5 rfl 8 (by decide) q477 (fun _ h => h) hf dX5_readLine_143 (fun v5 hf => ?_)
    refine lv_if_ne (tgt := 156) hx hb dX5_readLine_146 (by decide) (fun c146 => ?_) (fun c146 => ?_)
    · have hf := ifn c146 hf
      exact wX5_readLine_156 FX hr hlk hnm hout x0 w2 c3 y4 _ _ _ (lv_sub hl [0] rfl) hW hf
    · have hf := ifp c146 hf
      refine lv_aload_n hx hb dX5_readLine_149 rfl (lv_at hl 0 rfl) ?_
      obtain ⟨hv9, hf⟩ := pck_some hf
      refine oc_X (fun _ => none) hW hf (fun r0 h0 hg => o_V (C := RX5) (As := []) (rest := []) (n := 0) FX (mX5_readDraw h0) (cwV 0 FX.2.2.2.2 (lw_V q1106 q1108 qs31 q133 q1109) rfl rfl rfl (by decide +kernel) ⟨Nat.le_of_ble_eq_true rfl, Nat.le_of_ble_eq_true rfl⟩) (o_recv hW rfl hv9) rfl hl.1 rfl (Nat.le_of_ble_eq_true rfl) hg dX5_readLine_150 hW) (fun t9 w7 c8 y9 H locs ce9 hW e1 e2 e3 hf => ?_) (fun v10 w7 c8 y9 H locs hW hf => ?_)
      · rw [othr_inr] at hf
        obtain ⟨hg, hf⟩ := gck_some hf
        obtain rfl := Option.some.inj hf
        exact ro_x hout hlk hW hg e1 e2 e3
      rw [othr_inl] at hf
      refine lv_goto (tgt := 161) hx hb dX5_readLine_153 (by decide) ?_
      obtain ⟨hg, hf⟩ := gck_some hf
      obtain rfl := Option.some.inj hf
      exact ro_v FX hr hlk hW hg dX5_readLine_161
set_option maxHeartbeats 4000000 in
set_option maxRecDepth 100000 in
theorem wX5_readLine_110 {l : Launch} {D : va_G} {dA : Nat → ClassId} {z : Nat} {p : Program} {e : Env} {s : State} {m : MethodId} {args : Array Value} {below : List Frame} {meth : Method} {c9 : Code} {A : Nat → Prop} {q : ((Unit ⊕ Nat) × va_W × Nat × Nat)} (FX : CallFix p m c9 cX5_readLine 1 s args lw_all RX5) (hr : meth.sig.returnType = none) (hlk : meth.locks = false) (hnm : meth.name = yX5_readLine.name) (hout : ∀ x ∈ c9.exceptionTable.toList, False) : ∀ (x0 : Nat) (w : va_W) (c : Nat) (y : Nat) (H : Heap) (locs : List Loc) (ls : Array Slot), lv_has ls 1 [(0, .ref x0)] → Wo D dA A s w z c H locs → fX5_readLine_110 dA z x0 w c y = some q → W p l e rX5_readLine s m args below meth c9 H locs c y (QO D dA A below args s rX5_readLine.cells rX5_readLine.slots (Sum.map (fun _ => none) id q.1) q.2.1 (z + q.2.2.1) q.2.2.2) (F0 m 110 ls []) := by
  have hx := FX.1; have hb := FX.2.1; have hown := FX.2.2.2.1; have hts := FX.2.2.2.2
  intro x0 w c y H locs ls hl hW hf
  rw [fX5_readLine_110] at hf
  refine lv_aload_n hx hb dX5_readLine_110 rfl (lv_at hl 0 rfl) ?_
  refine o_text FX rfl hW 10 (by decide) rfl dX5_readLine_111 ?_
  obtain ⟨hv9, hf⟩ := pck_some hf
  refine oc_i hW hf (fun r0 h0 hg => o_V (C := RX5) (As := [.ref (dA 210)]) (rest := []) (n := 1) FX (mX5_is h0) (cwV 1 FX.2.2.2.2 (lw_V q721 q723 qs6 q133 q724) rfl rfl rfl (by decide +kernel) ⟨Nat.le_of_ble_eq_true rfl, Nat.le_of_ble_eq_true rfl⟩) (o_recv hW rfl hv9) rfl hl.1 rfl (Nat.le_of_ble_eq_true rfl) hg dX5_readLine_113 hW) (fun r1 w2 c3 y4 H locs hW hf => ?_)
  refine lv_if_eq (tgt := 133) hx hb dX5_readLine_116 (by decide) (fun c116 => ?_) (fun c116 => ?_)
  · have hf := ifp c116 hf
    exact wX5_readLine_133 FX hr hlk hnm hout x0 w2 c3 y4 _ _ _ (lv_sub hl [0] rfl) hW hf
  · have hf := ifn c116 hf
    refine lv_aload_n hx hb dX5_readLine_119 rfl (lv_at hl 0 rfl) ?_
    refine og_i (C := RX5) (T := TX5) (N := 12) (ci := 5) FX hW in_X5 rfl 7 (by decide) q476 (fun _ h => h) hf dX5_readLine_120 (fun v5 hf => ?_)
    refine lv_if_ne (tgt := 133) hx hb dX5_readLine_123 (by decide) (fun c123 => ?_) (fun c123 => ?_)
    · have hf := ifn c123 hf
      exact wX5_readLine_133 FX hr hlk hnm hout x0 w2 c3 y4 _ _ _ (lv_sub hl [0] rfl) hW hf
    · have hf := ifp c123 hf
      refine lv_aload_n hx hb dX5_readLine_126 rfl (lv_at hl 0 rfl) ?_
      obtain ⟨hv9, hf⟩ := pck_some hf
      refine oc_X (fun _ => none) hW hf (fun r0 h0 hg => o_V (C := RX5) (As := []) (rest := []) (n := 0) FX (mX5_readTales h0) (cwV 0 FX.2.2.2.2 (lw_V q1102 q1104 qs30 q133 q1105) rfl rfl rfl (by decide +kernel) ⟨Nat.le_of_ble_eq_true rfl, Nat.le_of_ble_eq_true rfl⟩) (o_recv hW rfl hv9) rfl hl.1 rfl (Nat.le_of_ble_eq_true rfl) hg dX5_readLine_127 hW) (fun t9 w7 c8 y9 H locs ce9 hW e1 e2 e3 hf => ?_) (fun v10 w7 c8 y9 H locs hW hf => ?_)
      · rw [othr_inr] at hf
        obtain ⟨hg, hf⟩ := gck_some hf
        obtain rfl := Option.some.inj hf
        exact ro_x hout hlk hW hg e1 e2 e3
      rw [othr_inl] at hf
      refine lv_goto (tgt := 161) hx hb dX5_readLine_130 (by decide) ?_
      obtain ⟨hg, hf⟩ := gck_some hf
      obtain rfl := Option.some.inj hf
      exact ro_v FX hr hlk hW hg dX5_readLine_161
set_option maxHeartbeats 4000000 in
set_option maxRecDepth 100000 in
theorem wX5_readLine_87 {l : Launch} {D : va_G} {dA : Nat → ClassId} {z : Nat} {p : Program} {e : Env} {s : State} {m : MethodId} {args : Array Value} {below : List Frame} {meth : Method} {c9 : Code} {A : Nat → Prop} {q : ((Unit ⊕ Nat) × va_W × Nat × Nat)} (FX : CallFix p m c9 cX5_readLine 1 s args lw_all RX5) (hr : meth.sig.returnType = none) (hlk : meth.locks = false) (hnm : meth.name = yX5_readLine.name) (hout : ∀ x ∈ c9.exceptionTable.toList, False) : ∀ (x0 : Nat) (w : va_W) (c : Nat) (y : Nat) (H : Heap) (locs : List Loc) (ls : Array Slot), lv_has ls 1 [(0, .ref x0)] → Wo D dA A s w z c H locs → fX5_readLine_87 dA z x0 w c y = some q → W p l e rX5_readLine s m args below meth c9 H locs c y (QO D dA A below args s rX5_readLine.cells rX5_readLine.slots (Sum.map (fun _ => none) id q.1) q.2.1 (z + q.2.2.1) q.2.2.2) (F0 m 87 ls []) := by
  have hx := FX.1; have hb := FX.2.1; have hown := FX.2.2.2.1; have hts := FX.2.2.2.2
  intro x0 w c y H locs ls hl hW hf
  rw [fX5_readLine_87] at hf
  refine lv_aload_n hx hb dX5_readLine_87 rfl (lv_at hl 0 rfl) ?_
  refine o_text FX rfl hW 9 (by decide) rfl dX5_readLine_88 ?_
  obtain ⟨hv9, hf⟩ := pck_some hf
  refine oc_i hW hf (fun r0 h0 hg => o_V (C := RX5) (As := [.ref (dA 209)]) (rest := []) (n := 1) FX (mX5_is h0) (cwV 1 FX.2.2.2.2 (lw_V q721 q723 qs6 q133 q724) rfl rfl rfl (by decide +kernel) ⟨Nat.le_of_ble_eq_true rfl, Nat.le_of_ble_eq_true rfl⟩) (o_recv hW rfl hv9) rfl hl.1 rfl (Nat.le_of_ble_eq_true rfl) hg dX5_readLine_90 hW) (fun r1 w2 c3 y4 H locs hW hf => ?_)
  refine lv_if_eq (tgt := 110) hx hb dX5_readLine_93 (by decide) (fun c93 => ?_) (fun c93 => ?_)
  · have hf := ifp c93 hf
    exact wX5_readLine_110 FX hr hlk hnm hout x0 w2 c3 y4 _ _ _ (lv_sub hl [0] rfl) hW hf
  · have hf := ifn c93 hf
    refine lv_aload_n hx hb dX5_readLine_96 rfl (lv_at hl 0 rfl) ?_
    refine og_i (C := RX5) (T := TX5) (N := 12) (ci := 5) FX hW in_X5 rfl 6 (by decide) q475 (fun _ h => h) hf dX5_readLine_97 (fun v5 hf => ?_)
    refine lv_if_ne (tgt := 110) hx hb dX5_readLine_100 (by decide) (fun c100 => ?_) (fun c100 => ?_)
    · have hf := ifn c100 hf
      exact wX5_readLine_110 FX hr hlk hnm hout x0 w2 c3 y4 _ _ _ (lv_sub hl [0] rfl) hW hf
    · have hf := ifp c100 hf
      refine lv_aload_n hx hb dX5_readLine_103 rfl (lv_at hl 0 rfl) ?_
      obtain ⟨hv9, hf⟩ := pck_some hf
      refine oc_X (fun _ => none) hW hf (fun r0 h0 hg => o_V (C := RX5) (As := []) (rest := []) (n := 0) FX (mX5_readPines h0) (cwV 0 FX.2.2.2.2 (lw_V q1098 q1100 qs29 q133 q1101) rfl rfl rfl (by decide +kernel) ⟨Nat.le_of_ble_eq_true rfl, Nat.le_of_ble_eq_true rfl⟩) (o_recv hW rfl hv9) rfl hl.1 rfl (Nat.le_of_ble_eq_true rfl) hg dX5_readLine_104 hW) (fun t9 w7 c8 y9 H locs ce9 hW e1 e2 e3 hf => ?_) (fun v10 w7 c8 y9 H locs hW hf => ?_)
      · rw [othr_inr] at hf
        obtain ⟨hg, hf⟩ := gck_some hf
        obtain rfl := Option.some.inj hf
        exact ro_x hout hlk hW hg e1 e2 e3
      rw [othr_inl] at hf
      refine lv_goto (tgt := 161) hx hb dX5_readLine_107 (by decide) ?_
      obtain ⟨hg, hf⟩ := gck_some hf
      obtain rfl := Option.some.inj hf
      exact ro_v FX hr hlk hW hg dX5_readLine_161
set_option maxHeartbeats 4000000 in
set_option maxRecDepth 100000 in
theorem wX5_readLine_61 {l : Launch} {D : va_G} {dA : Nat → ClassId} {z : Nat} {p : Program} {e : Env} {s : State} {m : MethodId} {args : Array Value} {below : List Frame} {meth : Method} {c9 : Code} {A : Nat → Prop} {q : ((Unit ⊕ Nat) × va_W × Nat × Nat)} (FX : CallFix p m c9 cX5_readLine 1 s args lw_all RX5) (hr : meth.sig.returnType = none) (hlk : meth.locks = false) (hnm : meth.name = yX5_readLine.name) (hout : ∀ x ∈ c9.exceptionTable.toList, False) : ∀ (x0 : Nat) (w : va_W) (c : Nat) (y : Nat) (H : Heap) (locs : List Loc) (ls : Array Slot), lv_has ls 1 [(0, .ref x0)] → Wo D dA A s w z c H locs → fX5_readLine_61 dA z x0 w c y = some q → W p l e rX5_readLine s m args below meth c9 H locs c y (QO D dA A below args s rX5_readLine.cells rX5_readLine.slots (Sum.map (fun _ => none) id q.1) q.2.1 (z + q.2.2.1) q.2.2.2) (F0 m 61 ls []) := by
  have hx := FX.1; have hb := FX.2.1; have hown := FX.2.2.2.1; have hts := FX.2.2.2.2
  intro x0 w c y H locs ls hl hW hf
  rw [fX5_readLine_61] at hf
  refine lv_aload_n hx hb dX5_readLine_61 rfl (lv_at hl 0 rfl) ?_
  refine o_text FX rfl hW 8 (by decide) rfl dX5_readLine_62 ?_
  obtain ⟨hv9, hf⟩ := pck_some hf
  refine oc_i hW hf (fun r0 h0 hg => o_V (C := RX5) (As := [.ref (dA 208)]) (rest := []) (n := 1) FX (mX5_is h0) (cwV 1 FX.2.2.2.2 (lw_V q721 q723 qs6 q133 q724) rfl rfl rfl (by decide +kernel) ⟨Nat.le_of_ble_eq_true rfl, Nat.le_of_ble_eq_true rfl⟩) (o_recv hW rfl hv9) rfl hl.1 rfl (Nat.le_of_ble_eq_true rfl) hg dX5_readLine_64 hW) (fun r1 w2 c3 y4 H locs hW hf => ?_)
  refine lv_if_eq (tgt := 87) hx hb dX5_readLine_67 (by decide) (fun c67 => ?_) (fun c67 => ?_)
  · have hf := ifp c67 hf
    exact wX5_readLine_87 FX hr hlk hnm hout x0 w2 c3 y4 _ _ _ (lv_sub hl [0] rfl) hW hf
  · have hf := ifn c67 hf
    refine lv_aload_n hx hb dX5_readLine_70 rfl (lv_at hl 0 rfl) ?_
    refine og_R (C := RX5) (T := TX5) (N := 12) (ci := 5) FX hW in_X5 rfl 10 (by decide) q479 (fun _ h => h) hf dX5_readLine_71 (fun v5 hf => ?_)
    refine og_Q (C := RX1) (T := TX1) (N := 8) (ci := 1) FX hW in_X1 rfl 3 (by decide) q237 (fun _ h => h) hf dX5_readLine_74 (fun v6 hf => ?_)
    refine g_ifnonnull (tgt := 87) FX hf dX5_readLine_77 (by decide) (fun hf => ?_) (fun u7 eu7 hf => ?_)
    · skip
      refine lv_aload_n hx hb dX5_readLine_80 rfl (lv_at hl 0 rfl) ?_
      obtain ⟨hv9, hf⟩ := pck_some hf
      refine oc_X (fun _ => none) hW hf (fun r0 h0 hg => o_V (C := RX5) (As := []) (rest := []) (n := 0) FX (mX5_readBrood h0) (cwV 0 FX.2.2.2.2 (lw_V q1016 q1018 qs20 q133 q1019) rfl rfl rfl (by decide +kernel) ⟨Nat.le_of_ble_eq_true rfl, Nat.le_of_ble_eq_true rfl⟩) (o_recv hW rfl hv9) rfl hl.1 rfl (Nat.le_of_ble_eq_true rfl) hg dX5_readLine_81 hW) (fun t9 w9 c10 y11 H locs ce9 hW e1 e2 e3 hf => ?_) (fun v12 w9 c10 y11 H locs hW hf => ?_)
      · rw [othr_inr] at hf
        obtain ⟨hg, hf⟩ := gck_some hf
        obtain rfl := Option.some.inj hf
        exact ro_x hout hlk hW hg e1 e2 e3
      rw [othr_inl] at hf
      refine lv_goto (tgt := 161) hx hb dX5_readLine_84 (by decide) ?_
      obtain ⟨hg, hf⟩ := gck_some hf
      obtain rfl := Option.some.inj hf
      exact ro_v FX hr hlk hW hg dX5_readLine_161
    · skip
      exact wX5_readLine_87 FX hr hlk hnm hout x0 w2 c3 y4 _ _ _ (lv_sub hl [0] rfl) hW hf
set_option maxHeartbeats 4000000 in
set_option maxRecDepth 100000 in
theorem wX5_readLine_30 {l : Launch} {D : va_G} {dA : Nat → ClassId} {z : Nat} {p : Program} {e : Env} {s : State} {m : MethodId} {args : Array Value} {below : List Frame} {meth : Method} {c9 : Code} {A : Nat → Prop} {q : ((Unit ⊕ Nat) × va_W × Nat × Nat)} (FX : CallFix p m c9 cX5_readLine 1 s args lw_all RX5) (hr : meth.sig.returnType = none) (hlk : meth.locks = false) (hnm : meth.name = yX5_readLine.name) (hout : ∀ x ∈ c9.exceptionTable.toList, False) : ∀ (x0 : Nat) (w : va_W) (c : Nat) (y : Nat) (H : Heap) (locs : List Loc) (ls : Array Slot), lv_has ls 1 [(0, .ref x0)] → Wo D dA A s w z c H locs → fX5_readLine_30 dA z x0 w c y = some q → W p l e rX5_readLine s m args below meth c9 H locs c y (QO D dA A below args s rX5_readLine.cells rX5_readLine.slots (Sum.map (fun _ => none) id q.1) q.2.1 (z + q.2.2.1) q.2.2.2) (F0 m 30 ls []) := by
  have hx := FX.1; have hb := FX.2.1; have hown := FX.2.2.2.1; have hts := FX.2.2.2.2
  intro x0 w c y H locs ls hl hW hf
  rw [fX5_readLine_30] at hf
  refine lv_aload_n hx hb dX5_readLine_30 rfl (lv_at hl 0 rfl) ?_
  refine o_text FX rfl hW 3 (by decide) rfl dX5_readLine_31 ?_
  obtain ⟨hv9, hf⟩ := pck_some hf
  refine oc_i hW hf (fun r0 h0 hg => o_V (C := RX5) (As := [.ref (dA 203)]) (rest := []) (n := 1) FX (mX5_is h0) (cwV 1 FX.2.2.2.2 (lw_V q721 q723 qs6 q133 q724) rfl rfl rfl (by decide +kernel) ⟨Nat.le_of_ble_eq_true rfl, Nat.le_of_ble_eq_true rfl⟩) (o_recv hW rfl hv9) rfl hl.1 rfl (Nat.le_of_ble_eq_true rfl) hg dX5_readLine_33 hW) (fun r1 w2 c3 y4 H locs hW hf => ?_)
  refine lv_if_eq (tgt := 61) hx hb dX5_readLine_36 (by decide) (fun c36 => ?_) (fun c36 => ?_)
  · have hf := ifp c36 hf
    exact wX5_readLine_61 FX hr hlk hnm hout x0 w2 c3 y4 _ _ _ (lv_sub hl [0] rfl) hW hf
  · have hf := ifn c36 hf
    refine lv_aload_n hx hb dX5_readLine_39 rfl (lv_at hl 0 rfl) ?_
    refine og_R (C := RX5) (T := TX5) (N := 12) (ci := 5) FX hW in_X5 rfl 10 (by decide) q479 (fun _ h => h) hf dX5_readLine_40 (fun v5 hf => ?_)
    refine og_R (C := RX1) (T := TX1) (N := 8) (ci := 1) FX hW in_X1 rfl 1 (by decide) q233 (fun _ h => h) hf dX5_readLine_43 (fun v6 hf => ?_)
    obtain ⟨hv9, hf⟩ := pck_some hf
    refine oc_i hW hf (fun r0 h0 hg => o_V (C := RJ2) (As := []) (rest := []) (n := 0) FX (mJ2_sizeO h0) (cwV 0 FX.2.2.2.2 (lw_V q733 q333 q334 q127 q335) rfl rfl rfl (by decide +kernel) ⟨Nat.le_of_ble_eq_true rfl, Nat.le_of_ble_eq_true rfl⟩) (o_recv hW rfl hv9) rfl hl.1 rfl (Nat.le_of_ble_eq_true rfl) hg dX5_readLine_46 hW) (fun r7 w8 c9 y10 H locs hW hf => ?_)
    refine lv_bipush (v := 6) hx hb dX5_readLine_49 (by decide) ?_
    refine lv_icmp_ge (tgt := 61) hx hb dX5_readLine_51 (by decide) (fun c51 => ?_) (fun c51 => ?_)
    · have hf := ifp c51 hf
      exact wX5_readLine_61 FX hr hlk hnm hout x0 w8 c9 y10 _ _ _ (lv_sub hl [0] rfl) hW hf
    · have hf := ifn c51 hf
      refine lv_aload_n hx hb dX5_readLine_54 rfl (lv_at hl 0 rfl) ?_
      obtain ⟨hv9, hf⟩ := pck_some hf
      refine oc_X (fun _ => none) hW hf (fun r0 h0 hg => o_V (C := RX5) (As := []) (rest := []) (n := 0) FX (mX5_readTrunk h0) (cwV 0 FX.2.2.2.2 (lw_V q986 q988 qs19 q133 q989) rfl rfl rfl (by decide +kernel) ⟨Nat.le_of_ble_eq_true rfl, Nat.le_of_ble_eq_true rfl⟩) (o_recv hW rfl hv9) rfl hl.1 rfl (Nat.le_of_ble_eq_true rfl) hg dX5_readLine_55 hW) (fun t9 w12 c13 y14 H locs ce9 hW e1 e2 e3 hf => ?_) (fun v15 w12 c13 y14 H locs hW hf => ?_)
      · rw [othr_inr] at hf
        obtain ⟨hg, hf⟩ := gck_some hf
        obtain rfl := Option.some.inj hf
        exact ro_x hout hlk hW hg e1 e2 e3
      rw [othr_inl] at hf
      refine lv_goto (tgt := 161) hx hb dX5_readLine_58 (by decide) ?_
      obtain ⟨hg, hf⟩ := gck_some hf
      obtain rfl := Option.some.inj hf
      exact ro_v FX hr hlk hW hg dX5_readLine_161
set_option maxHeartbeats 4000000 in
set_option maxRecDepth 100000 in
theorem mX5_readLine {l : Launch} {D : va_G} {dA : Nat → ClassId} {z : Nat}  {t7 : Nat} {w : va_W} {q : ((Unit ⊕ Nat) × va_W × Nat × Nat)} (hf : fX5_readLine dA z t7 w = some q) : CtO l yX5_readLine cX5_readLine 1 none rX5_readLine D dA [.ref t7] w z (Sum.map (fun _ => none) id q.1) q.2.1 q.2.2.1 q.2.2.2 := by
  refine e_O (by decide) (Nat.le_of_ble_eq_true rfl) ?_
  intro p e s m below meth c9 ls A FX hr hlk hnm hout hl hW
  have hx := FX.1; have hb := FX.2.1; have hown := FX.2.2.2.1; have hts := FX.2.2.2.2
  have hl : lv_has ls 1 [(0, .ref t7)] := hl
  rw [fX5_readLine] at hf
  refine lv_aload_n hx hb dX5_readLine_0 rfl (lv_at hl 0 rfl) ?_
  refine o_text FX rfl hW 1 (by decide) rfl dX5_readLine_1 ?_
  obtain ⟨hv9, hf⟩ := pck_some hf
  refine oc_i hW hf (fun r0 h0 hg => o_V (C := RX5) (As := [.ref (dA 201)]) (rest := []) (n := 1) FX (mX5_is h0) (cwV 1 FX.2.2.2.2 (lw_V q721 q723 qs6 q133 q724) rfl rfl rfl (by decide +kernel) ⟨Nat.le_of_ble_eq_true rfl, Nat.le_of_ble_eq_true rfl⟩) (o_recv hW rfl hv9) rfl hl.1 rfl (Nat.le_of_ble_eq_true rfl) hg dX5_readLine_3 hW) (fun r1 w2 c3 y4 H locs hW hf => ?_)
  refine lv_if_eq (tgt := 30) hx hb dX5_readLine_6 (by decide) (fun c6 => ?_) (fun c6 => ?_)
  · have hf := ifp c6 hf
    exact wX5_readLine_30 FX hr hlk hnm hout t7 w2 c3 y4 _ _ _ (lv_sub hl [0] rfl) hW hf
  · have hf := ifn c6 hf
    refine lv_aload_n hx hb dX5_readLine_9 rfl (lv_at hl 0 rfl) ?_
    refine og_R (C := RX5) (T := TX5) (N := 12) (ci := 5) FX hW in_X5 rfl 10 (by decide) q479 (fun _ h => h) hf dX5_readLine_10 (fun v5 hf => ?_)
    refine og_R (C := RX1) (T := TX1) (N := 8) (ci := 1) FX hW in_X1 rfl 0 (by decide) q229 (fun _ h => h) hf dX5_readLine_13 (fun v6 hf => ?_)
    obtain ⟨hv9, hf⟩ := pck_some hf
    refine oc_i hW hf (fun r0 h0 hg => o_V (C := RJ2) (As := []) (rest := []) (n := 0) FX (mJ2_sizeO h0) (cwV 0 FX.2.2.2.2 (lw_V q733 q333 q334 q127 q335) rfl rfl rfl (by decide +kernel) ⟨Nat.le_of_ble_eq_true rfl, Nat.le_of_ble_eq_true rfl⟩) (o_recv hW rfl hv9) rfl hl.1 rfl (Nat.le_of_ble_eq_true rfl) hg dX5_readLine_16 hW) (fun r7 w8 c9 y10 H locs hW hf => ?_)
    refine lv_iconst (v := 4) hx hb dX5_readLine_19 (by decide) ?_
    refine lv_icmp_ge (tgt := 30) hx hb dX5_readLine_20 (by decide) (fun c20 => ?_) (fun c20 => ?_)
    · have hf := ifp c20 hf
      exact wX5_readLine_30 FX hr hlk hnm hout t7 w8 c9 y10 _ _ _ (lv_sub hl [0] rfl) hW hf
    · have hf := ifn c20 hf
      refine lv_aload_n hx hb dX5_readLine_23 rfl (lv_at hl 0 rfl) ?_
      obtain ⟨hv9, hf⟩ := pck_some hf
      refine oc_X (fun _ => none) hW hf (fun r0 h0 hg => o_V (C := RX5) (As := []) (rest := []) (n := 0) FX (mX5_readRoom h0) (cwV 0 FX.2.2.2.2 (lw_V q734 q736 qs7 q133 q737) rfl rfl rfl (by decide +kernel) ⟨Nat.le_of_ble_eq_true rfl, Nat.le_of_ble_eq_true rfl⟩) (o_recv hW rfl hv9) rfl hl.1 rfl (Nat.le_of_ble_eq_true rfl) hg dX5_readLine_24 hW) (fun t9 w12 c13 y14 H locs ce9 hW e1 e2 e3 hf => ?_) (fun v15 w12 c13 y14 H locs hW hf => ?_)
      · rw [othr_inr] at hf
        obtain ⟨hg, hf⟩ := gck_some hf
        obtain rfl := Option.some.inj hf
        exact ro_x hout hlk hW hg e1 e2 e3
      rw [othr_inl] at hf
      refine lv_goto (tgt := 161) hx hb dX5_readLine_27 (by decide) ?_
      obtain ⟨hg, hf⟩ := gck_some hf
      obtain rfl := Option.some.inj hf
      exact ro_v FX hr hlk hW hg dX5_readLine_161
/-! TrunkLitters$Reader.text()LTrunkLitters$Book;: kind O -/
abbrev rX5_text : Room := { frames := 64, cells := 351000, slots := 3020000, locals := 2401 }
def fX5_text_4 (dA : Nat → Nat) (z : Nat) : Nat → Nat → va_W → Nat → Nat → Option ((Nat ⊕ Nat) × va_W × Nat × Nat)
  | 0, _, _, _, _ => none
  | n + 1, x0, w, c, y => pgi w x0 5 1 fun v1 => (if v1 = 0 then pgR w x0 5 10 fun v2 => gck c y rX5_text.cells rX5_text.slots (some ((.inl v2), w, c, y)) else pck w x0 5 (ocal rX5_text.cells rX5_text.slots c y rX5_readLine.cells rX5_readLine.slots (fX5_readLine dA (z + c) x0 w) fun r3 w4 c5 y6 => othr r3 (fun v7 => pgi w4 x0 5 1 fun v8 => (if v8 = (59 : Int32) then pck w4 x0 5 (ocal rX5_text.cells rX5_text.slots c5 y6 rX5_go.cells rX5_go.slots (fX5_go dA (z + c5) x0 w4) fun r9 w10 c11 y12 => fX5_text_4 dA z n x0 w10 c11 y12) else pck w4 x0 5 (ocal rX5_text.cells rX5_text.slots c5 y6 rX5_wrong.cells rX5_wrong.slots (fX5_wrong dA (z + c5) x0 w4) fun r13 w14 c15 y16 => gck c15 y16 rX5_text.cells rX5_text.slots (pck w14 r13 7 (some (.inr r13, w14, c15, y16)))))) fun t => gck c5 y6 rX5_text.cells rX5_text.slots (some (.inr t, w4, c5, y6))))
def fX5_text (dA : Nat → Nat) (z : Nat) (t7 : Nat) (w : va_W) : Option ((Nat ⊕ Nat) × va_W × Nat × Nat) := pck w t7 5 (ocal rX5_text.cells rX5_text.slots 0 0 rX5_go.cells rX5_go.slots (fX5_go dA (z + 0) t7 w) fun r1 w2 c3 y4 => fX5_text_4 dA z FU t7 w2 c3 y4)
set_option maxHeartbeats 4000000 in
set_option maxRecDepth 100000 in
theorem wX5_text_4 {l : Launch} {D : va_G} {dA : Nat → ClassId} {z : Nat} {p : Program} {e : Env} {s : State} {m : MethodId} {args : Array Value} {below : List Frame} {meth : Method} {c9 : Code} {A : Nat → Prop} {q : ((Nat ⊕ Nat) × va_W × Nat × Nat)} (FX : CallFix p m c9 cX5_text 1 s args lw_all RX5) (hr : meth.sig.returnType = (some (Jvm.ClassFile.FieldType.object "TrunkLitters$Book"))) (hlk : meth.locks = false) (hnm : meth.name = yX5_text.name) (hout : ∀ x ∈ c9.exceptionTable.toList, False) : ∀ n : Nat, ∀ (x0 : Nat) (w : va_W) (c : Nat) (y : Nat) (H : Heap) (locs : List Loc) (ls : Array Slot), lv_has ls 1 [(0, .ref x0)] → Wo D dA A s w z c H locs → fX5_text_4 dA z n x0 w c y = some q → W p l e rX5_text s m args below meth c9 H locs c y (QO D dA A below args s rX5_text.cells rX5_text.slots (Sum.map (fun r => some (.ref r)) id q.1) q.2.1 (z + q.2.2.1) q.2.2.2) (F0 m 4 ls []) := by
  have hx := FX.1; have hb := FX.2.1; have hown := FX.2.2.2.1; have hts := FX.2.2.2.2
  intro n
  induction n with
  | zero =>
    intro x0 w c y H locs ls hl hW hf
    cases (show (none : Option ((Nat ⊕ Nat) × va_W × Nat × Nat)) = some q from hf)
  | succ n ih =>
    intro x0 w c y H locs ls hl hW hf
    rw [fX5_text_4] at hf
    refine lv_aload_n hx hb dX5_text_4 rfl (lv_at hl 0 rfl) ?_
    refine og_i (C := RX5) (T := TX5) (N := 12) (ci := 5) FX hW in_X5 rfl 1 (by decide) q470 (fun _ h => h) hf dX5_text_5 (fun v1 hf => ?_)
    refine lv_if_eq (tgt := 36) hx hb dX5_text_8 (by decide) (fun c8 => ?_) (fun c8 => ?_)
    · have hf := ifp c8 hf
      refine lv_aload_n hx hb dX5_text_36 rfl (lv_at hl 0 rfl) ?_
      refine og_R (C := RX5) (T := TX5) (N := 12) (ci := 5) FX hW in_X5 rfl 10 (by decide) q479 (fun _ h => h) hf dX5_text_37 (fun v2 hf => ?_)
      obtain ⟨hg, hf⟩ := gck_some hf
      obtain rfl := Option.some.inj hf
      exact ro_a (v := some v2) FX hr (Or.inl ⟨_, rfl⟩) hlk hW hg dX5_text_40
    · have hf := ifn c8 hf
      refine lv_aload_n hx hb dX5_text_11 rfl (lv_at hl 0 rfl) ?_
      obtain ⟨hv9, hf⟩ := pck_some hf
      refine oc_X (fun _ => none) hW hf (fun r0 h0 hg => o_V (C := RX5) (As := []) (rest := []) (n := 0) FX (mX5_readLine h0) (cwV 0 FX.2.2.2.2 (lw_V q716 q718 qs5 q133 q719) rfl rfl rfl (by decide +kernel) ⟨Nat.le_of_ble_eq_true rfl, Nat.le_of_ble_eq_true rfl⟩) (o_recv hW rfl hv9) rfl hl.1 rfl (Nat.le_of_ble_eq_true rfl) hg dX5_text_12 hW) (fun t9 w4 c5 y6 H locs ce9 hW e1 e2 e3 hf => ?_) (fun v7 w4 c5 y6 H locs hW hf => ?_)
      · rw [othr_inr] at hf
        obtain ⟨hg, hf⟩ := gck_some hf
        obtain rfl := Option.some.inj hf
        exact ro_x hout hlk hW hg e1 e2 e3
      rw [othr_inl] at hf
      refine lv_aload_n hx hb dX5_text_15 rfl (lv_at hl 0 rfl) ?_
      refine og_i (C := RX5) (T := TX5) (N := 12) (ci := 5) FX hW in_X5 rfl 1 (by decide) q470 (fun _ h => h) hf dX5_text_16 (fun v8 hf => ?_)
      refine lv_bipush (v := 59) hx hb dX5_text_19 (by decide) ?_
      refine lv_icmp_eq (tgt := 29) hx hb dX5_text_21 (by decide) (fun c21 => ?_) (fun c21 => ?_)
      · have hf := ifp c21 hf
        refine lv_aload_n hx hb dX5_text_29 rfl (lv_at hl 0 rfl) ?_
        obtain ⟨hv9, hf⟩ := pck_some hf
        refine oc_v hW hf (fun r0 h0 hg => o_V (C := RX5) (As := []) (rest := []) (n := 0) FX (mX5_go h0) (cwV 0 FX.2.2.2.2 (lw_V q510 q512 qs1 q133 q513) rfl rfl rfl (by decide +kernel) ⟨Nat.le_of_ble_eq_true rfl, Nat.le_of_ble_eq_true rfl⟩) (o_recv hW rfl hv9) rfl hl.1 rfl (Nat.le_of_ble_eq_true rfl) hg dX5_text_30 hW) (fun w10 c11 y12 H locs hW hf => ?_)
        refine lv_goto (tgt := 4) hx hb dX5_text_33 (by decide) ?_
        exact ih x0 w10 c11 y12 _ _ _ (lv_sub hl [0] rfl) hW hf
      · have hf := ifn c21 hf
        refine lv_aload_n hx hb dX5_text_24 rfl (lv_at hl 0 rfl) ?_
        obtain ⟨hv9, hf⟩ := pck_some hf
        refine oc_R hW hf (fun r0 h0 hg => o_V (C := RX5) (As := []) (rest := []) (n := 0) FX (mX5_wrong h0) (cwV 0 FX.2.2.2.2 (lw_V q818 q820 qs10 q133 q821) rfl rfl rfl (by decide +kernel) ⟨Nat.le_of_ble_eq_true rfl, Nat.le_of_ble_eq_true rfl⟩) (o_recv hW rfl hv9) rfl hl.1 rfl (Nat.le_of_ble_eq_true rfl) hg dX5_text_25 hW) (fun r13 w14 c15 y16 H locs hW hf => ?_)
        obtain ⟨hg, hf⟩ := gck_some hf
        obtain ⟨⟨fs9, hv9⟩, hf⟩ := pck_some hf
        obtain rfl := Option.some.inj hf
        exact o_athrow FX hW hv9 dX5_text_28 (fun ce e1 e2 e3 => ro_x hout hlk hW hg e1 e2 e3)
set_option maxHeartbeats 4000000 in
set_option maxRecDepth 100000 in
theorem mX5_text {l : Launch} {D : va_G} {dA : Nat → ClassId} {z : Nat}  {t7 : Nat} {w : va_W} {q : ((Nat ⊕ Nat) × va_W × Nat × Nat)} (hf : fX5_text dA z t7 w = some q) : CtO l yX5_text cX5_text 1 (some (Jvm.ClassFile.FieldType.object "TrunkLitters$Book")) rX5_text D dA [.ref t7] w z (Sum.map (fun r => some (.ref r)) id q.1) q.2.1 q.2.2.1 q.2.2.2 := by
  refine e_O (by decide) (Nat.le_of_ble_eq_true rfl) ?_
  intro p e s m below meth c9 ls A FX hr hlk hnm hout hl hW
  have hx := FX.1; have hb := FX.2.1; have hown := FX.2.2.2.1; have hts := FX.2.2.2.2
  have hl : lv_has ls 1 [(0, .ref t7)] := hl
  rw [fX5_text] at hf
  refine lv_aload_n hx hb dX5_text_0 rfl (lv_at hl 0 rfl) ?_
  obtain ⟨hv9, hf⟩ := pck_some hf
  refine oc_v hW hf (fun r0 h0 hg => o_V (C := RX5) (As := []) (rest := []) (n := 0) FX (mX5_go h0) (cwV 0 FX.2.2.2.2 (lw_V q510 q512 qs1 q133 q513) rfl rfl rfl (by decide +kernel) ⟨Nat.le_of_ble_eq_true rfl, Nat.le_of_ble_eq_true rfl⟩) (o_recv hW rfl hv9) rfl hl.1 rfl (Nat.le_of_ble_eq_true rfl) hg dX5_text_1 hW) (fun w2 c3 y4 H locs hW hf => ?_)
  exact wX5_text_4 FX hr hlk hnm hout _ t7 w2 c3 y4 _ _ _ (lv_sub hl [0] rfl) hW hf
