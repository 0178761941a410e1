/-- the rooms of the methods that read a formula -/
def rlv (n : Nat) : Room := { frames := 12 + n, cells := 7000 * (n + 1), slots := 60000 * (n + 1), locals := 400 + 40 * n }
abbrev RT : Type := Nat → Nat → va_W → Option ((Nat ⊕ Nat) × va_W × Nat × Nat)
/-! TrunkLitters$Reader.unit()LTrunkLitters$Node;: kind O -/
def fX5_unit_65 (dA : Nat → Nat) (d7 : Nat) (rcB rcO : RT) (z : Nat) (x0 : Nat) (w : va_W) (c : Nat) (y : Nat) : Option ((Nat ⊕ Nat) × va_W × Nat × Nat) := pck w x0 5 (ocal (rlv (6 * d7 + 1)).cells (rlv (6 * d7 + 1)).slots c y rX5_wrong.cells rX5_wrong.slots (fX5_wrong dA (z + c) x0 w) fun r1 w2 c3 y4 => gck c3 y4 (rlv (6 * d7 + 1)).cells (rlv (6 * d7 + 1)).slots (pck w2 r1 7 (some (.inr r1, w2, c3, y4))))
def fX5_unit_170 (dA : Nat → Nat) (d7 : Nat) (rcB rcO : RT) (z : Nat) (x0 : Nat) (y0 : Option Nat) (w : va_W) (c : Nat) (y : Nat) : Option ((Nat ⊕ Nat) × va_W × Nat × Nat) := pck w x0 5 (ocal (rlv (6 * d7 + 1)).cells (rlv (6 * d7 + 1)).slots c y rX5_go.cells rX5_go.slots (fX5_go dA (z + c) x0 w) fun r1 w2 c3 y4 => nn y0 fun v5 => gck c3 y4 (rlv (6 * d7 + 1)).cells (rlv (6 * d7 + 1)).slots (some ((.inl v5), w2, c3, y4)))
def fX5_unit_70 (dA : Nat → Nat) (d7 : Nat) (rcB rcO : RT) (z : Nat) (x0 : Nat) (x1 : Option Nat) (w : va_W) (c : Nat) (y : Nat) : Option ((Nat ⊕ Nat) × va_W × Nat × Nat) := pgR w x0 5 10 fun v1 => pgi w v1 1 7 fun v2 => ppt w v1 1 7 (.int (v2 + (1 : Int32))) fun w3 => pgi w3 x0 5 5 fun v4 => ppt w3 x0 5 5 (.int (v4 + (1 : Int32))) fun w5 => pgi w5 x0 5 1 fun v6 => (if v6 = (40 : Int32) then pgi w5 x0 5 4 fun v16 => ppt w5 x0 5 4 (.int (v16 + (1 : Int32))) fun w17 => pck w17 x0 5 (ocal (rlv (6 * d7 + 1)).cells (rlv (6 * d7 + 1)).slots c y rX5_go.cells rX5_go.slots (fX5_go dA (z + c) x0 w17) fun r18 w19 c20 y21 => pck w19 x0 5 (ocal (rlv (6 * d7 + 1)).cells (rlv (6 * d7 + 1)).slots c20 y21 (rlv (6 * d7)).cells (rlv (6 * d7)).slots (rcB (z + c20) x0 w19) fun r22 w23 c24 y25 => othr r22 (fun v26 => pgi w23 x0 5 1 fun v27 => (if v27 = (41 : Int32) then pgi w23 x0 5 4 fun v28 => ppt w23 x0 5 4 (.int (v28 - (1 : Int32))) fun w29 => pck w29 x0 5 (ocal (rlv (6 * d7 + 1)).cells (rlv (6 * d7 + 1)).slots c24 y25 rX5_go.cells rX5_go.slots (fX5_go dA (z + c24) x0 w29) fun r30 w31 c32 y33 => gck c32 y33 (rlv (6 * d7 + 1)).cells (rlv (6 * d7 + 1)).slots (some ((.inl v26), w31, c32, y33))) else pck w23 x0 5 (ocal (rlv (6 * d7 + 1)).cells (rlv (6 * d7 + 1)).slots c24 y25 rX5_wrong.cells rX5_wrong.slots (fX5_wrong dA (z + c24) x0 w23) fun r34 w35 c36 y37 => gck c36 y37 (rlv (6 * d7 + 1)).cells (rlv (6 * d7 + 1)).slots (pck w35 r34 7 (some (.inr r34, w35, c36, y37)))))) fun t => gck c24 y25 (rlv (6 * d7 + 1)).cells (rlv (6 * d7 + 1)).slots (some (.inr t, w23, c24, y25)))) else nlc x1 (onew (rlv (6 * d7 + 1)).cells (rlv (6 * d7 + 1)).slots c y 1 w5 (z + c) (.inr (10, [.int 0])) fun w8 c9 y10 => pgi w8 x0 5 3 fun v11 => ocal (rlv (6 * d7 + 1)).cells (rlv (6 * d7 + 1)).slots c9 y10 rX11_init.cells rX11_init.slots (fX11_init dA (z + c9) (z + c) v11 w8) fun r12 w13 c14 y15 => fX5_unit_170 dA d7 rcB rcO z x0 (some (z + c)) w13 c14 y15) fun _ => fX5_unit_170 dA d7 rcB rcO z x0 x1 w5 c y)
def fX5_unit_26 (dA : Nat → Nat) (d7 : Nat) (rcB rcO : RT) (z : Nat) (x0 : Nat) (x1 : Option Nat) (w : va_W) (c : Nat) (y : Nat) : Option ((Nat ⊕ Nat) × va_W × Nat × Nat) := pgR w x0 5 10 fun v1 => pgi w v1 1 7 fun v2 => (if v2 = (60 : Int32) then fX5_unit_65 dA d7 rcB rcO z x0 w c y else pgi w x0 5 5 fun v3 => (if v3 = (30 : Int32) then fX5_unit_65 dA d7 rcB rcO z x0 w c y else pgi w x0 5 1 fun v4 => (if v4 = (40 : Int32) then pgi w x0 5 4 fun v5 => (if v5 ≤ (6 : Int32) then fX5_unit_70 dA d7 rcB rcO z x0 x1 w c y else fX5_unit_65 dA d7 rcB rcO z x0 w c y) else fX5_unit_70 dA d7 rcB rcO z x0 x1 w c y)))
def fX5_unit (dA : Nat → Nat) (d7 : Nat) (rcB rcO : RT) (z : Nat) (t7 : Nat) (w : va_W) : Option ((Nat ⊕ Nat) × va_W × Nat × Nat) := pck w t7 5 (ocal (rlv (6 * d7 + 1)).cells (rlv (6 * d7 + 1)).slots 0 0 rX5_asked.cells rX5_asked.slots (fX5_asked dA (z + 0) t7 w) fun r1 w2 c3 y4 => pgi w2 t7 5 1 fun v5 => (if v5 = (2 : Int32) then fX5_unit_26 dA d7 rcB rcO z t7 r1 w2 c3 y4 else pgi w2 t7 5 1 fun v6 => (if v6 = (40 : Int32) then fX5_unit_26 dA d7 rcB rcO z t7 r1 w2 c3 y4 else nlc r1 (fX5_unit_65 dA d7 rcB rcO z t7 w2 c3 y4) fun _ => fX5_unit_26 dA d7 rcB rcO z t7 r1 w2 c3 y4)))
set_option maxHeartbeats 4000000 in
set_option maxRecDepth 100000 in
theorem wX5_unit_65 {l : Launch} {D : va_G} {dA : Nat → ClassId} {z : Nat} {d7 : Nat} {rcB rcO : RT} (hB : ∀ {z9 t9 : Nat} {w9 : va_W} {q9 : (Nat ⊕ Nat) × va_W × Nat × Nat}, rcB z9 t9 w9 = some q9 → CtO l yX5_both cX5_both 2 (some (.object "TrunkLitters$Node")) (rlv (6 * d7)) D dA [.ref t9] w9 z9 (Sum.map (fun r => some (.ref r)) id q9.1) q9.2.1 q9.2.2.1 q9.2.2.2) (hO : ∀ {z9 t9 : Nat} {w9 : va_W} {q9 : (Nat ⊕ Nat) × va_W × Nat × Nat}, rcO z9 t9 w9 = some q9 → CtO l yX5_one cX5_one 3 (some (.object "TrunkLitters$Node")) (rlv (6 * d7 - 2)) D dA [.ref t9] w9 z9 (Sum.map (fun r => some (.ref r)) id q9.1) q9.2.1 q9.2.2.1 q9.2.2.2) {p : Program} {e : Env} {s : State} {m : MethodId} {args : Array Value} {below : List Frame} {meth : Method} {c9 : Code} {A : Nat → Prop} {q : ((Nat ⊕ Nat) × va_W × Nat × Nat)} (FX : CallFix p m c9 cX5_unit 3 s args lw_all RX5) (hr : meth.sig.returnType = (some (Jvm.ClassFile.FieldType.object "TrunkLitters$Node"))) (hlk : meth.locks = false) (hnm : meth.name = yX5_unit.name) (hout : ∀ x ∈ c9.exceptionTable.toList, False) : ∀ (x0 : Nat) (w : va_W) (c : Nat) (y : Nat) (H : Heap) (locs : List Loc) (ls : Array Slot), lv_has ls 3 [(0, .ref x0)] → Wo D dA A s w z c H locs → fX5_unit_65 dA d7 rcB rcO z x0 w c y = some q → W p l e (rlv (6 * d7 + 1)) s m args below meth c9 H locs c y (QO D dA A below args s (rlv (6 * d7 + 1)).cells (rlv (6 * d7 + 1)).slots (Sum.map (fun r => some (.ref r)) id q.1) q.2.1 (z + q.2.2.1) q.2.2.2) (F0 m 65 ls []) := by
  have hx := FX.1; have hb := FX.2.1; have hown := FX.2.2.2.1; have hts := FX.2.2.2.2
  intro x0 w c y H locs ls hl hW hf
  rw [fX5_unit_65] at hf
  refine lv_aload_n hx hb dX5_unit_65 rfl (lv_at hl 0 rfl) ?_
  obtain ⟨hv9, hf⟩ := pck_some hf
  refine oc_R hW hf (fun r0 h0 hg => o_V (C := RX5) (As := []) (rest := []) (n := 0) FX (mX5_wrong h0) (cwV 0 FX.2.2.2.2 (lw_V q818 q820 qs10 q133 q821) rfl rfl rfl (by decide +kernel) ⟨by dsimp only [rlv]; omega, by dsimp only [rlv]; omega⟩) (o_recv hW rfl hv9) rfl hl.1 rfl (Nat.le_of_ble_eq_true rfl) hg dX5_unit_66 hW) (fun r1 w2 c3 y4 H locs hW hf => ?_)
  obtain ⟨hg, hf⟩ := gck_some hf
  obtain ⟨⟨fs9, hv9⟩, hf⟩ := pck_some hf
  obtain rfl := Option.some.inj hf
  exact o_athrow FX hW hv9 dX5_unit_69 (fun ce e1 e2 e3 => ro_x hout hlk hW hg e1 e2 e3)
set_option maxHeartbeats 4000000 in
set_option maxRecDepth 100000 in
theorem wX5_unit_170 {l : Launch} {D : va_G} {dA : Nat → ClassId} {z : Nat} {d7 : Nat} {rcB rcO : RT} (hB : ∀ {z9 t9 : Nat} {w9 : va_W} {q9 : (Nat ⊕ Nat) × va_W × Nat × Nat}, rcB z9 t9 w9 = some q9 → CtO l yX5_both cX5_both 2 (some (.object "TrunkLitters$Node")) (rlv (6 * d7)) D dA [.ref t9] w9 z9 (Sum.map (fun r => some (.ref r)) id q9.1) q9.2.1 q9.2.2.1 q9.2.2.2) (hO : ∀ {z9 t9 : Nat} {w9 : va_W} {q9 : (Nat ⊕ Nat) × va_W × Nat × Nat}, rcO z9 t9 w9 = some q9 → CtO l yX5_one cX5_one 3 (some (.object "TrunkLitters$Node")) (rlv (6 * d7 - 2)) D dA [.ref t9] w9 z9 (Sum.map (fun r => some (.ref r)) id q9.1) q9.2.1 q9.2.2.1 q9.2.2.2) {p : Program} {e : Env} {s : State} {m : MethodId} {args : Array Value} {below : List Frame} {meth : Method} {c9 : Code} {A : Nat → Prop} {q : ((Nat ⊕ Nat) × va_W × Nat × Nat)} (FX : CallFix p m c9 cX5_unit 3 s args lw_all RX5) (hr : meth.sig.returnType = (some (Jvm.ClassFile.FieldType.object "TrunkLitters$Node"))) (hlk : meth.locks = false) (hnm : meth.name = yX5_unit.name) (hout : ∀ x ∈ c9.exceptionTable.toList, False) : ∀ (x0 : Nat) (y0 : Option Nat) (w : va_W) (c : Nat) (y : Nat) (H : Heap) (locs : List Loc) (ls : Array Slot), lv_has ls 3 [(0, .ref x0)] → Wo D dA A s w z c H locs → fX5_unit_170 dA d7 rcB rcO z x0 y0 w c y = some q → W p l e (rlv (6 * d7 + 1)) s m args below meth c9 H locs c y (QO D dA A below args s (rlv (6 * d7 + 1)).cells (rlv (6 * d7 + 1)).slots (Sum.map (fun r => some (.ref r)) id q.1) q.2.1 (z + q.2.2.1) q.2.2.2) (F0 m 170 ls [va_rf y0]) := by
  have hx := FX.1; have hb := FX.2.1; have hown := FX.2.2.2.1; have hts := FX.2.2.2.2
  intro x0 y0 w c y H locs ls hl hW hf
  rw [fX5_unit_170] at hf
  refine lv_astore_nQ (lv' := [(2, va_rf y0), (0, .ref x0)]) hx hb dX5_unit_170 rfl hl (by decide) (by cases y0 <;> rfl) (fun ls hl => ?_)
  refine lv_aload_n hx hb dX5_unit_171 rfl (lv_at hl 1 rfl) ?_
  obtain ⟨hv9, hf⟩ := pck_some hf
  refine oc_v hW hf (fun r0 h0 hg => o_V (C := RX5) (As := []) (rest := []) (n := 0) FX (mX5_go h0) (cwV 0 FX.2.2.2.2 (lw_V q510 q512 qs1 q133 q513) rfl rfl rfl (by decide +kernel) ⟨by dsimp only [rlv]; omega, by dsimp only [rlv]; omega⟩) (o_recv hW rfl hv9) rfl hl.1 rfl (Nat.le_of_ble_eq_true rfl) hg dX5_unit_172 hW) (fun w2 c3 y4 H locs hW hf => ?_)
  refine lv_aload_nQ hx hb dX5_unit_175 rfl (lv_at hl 0 rfl) ?_
  obtain ⟨v5, en, hf⟩ := nn_some hf
  rw [en]
  obtain ⟨hg, hf⟩ := gck_some hf
  obtain rfl := Option.some.inj hf
  exact ro_a (v := some v5) FX hr (Or.inl ⟨_, rfl⟩) hlk hW hg dX5_unit_176
set_option maxHeartbeats 4000000 in
set_option maxRecDepth 100000 in
theorem wX5_unit_70 {l : Launch} {D : va_G} {dA : Nat → ClassId} {z : Nat} {d7 : Nat} {rcB rcO : RT} (hB : ∀ {z9 t9 : Nat} {w9 : va_W} {q9 : (Nat ⊕ Nat) × va_W × Nat × Nat}, rcB z9 t9 w9 = some q9 → CtO l yX5_both cX5_both 2 (some (.object "TrunkLitters$Node")) (rlv (6 * d7)) D dA [.ref t9] w9 z9 (Sum.map (fun r => some (.ref r)) id q9.1) q9.2.1 q9.2.2.1 q9.2.2.2) (hO : ∀ {z9 t9 : Nat} {w9 : va_W} {q9 : (Nat ⊕ Nat) × va_W × Nat × Nat}, rcO z9 t9 w9 = some q9 → CtO l yX5_one cX5_one 3 (some (.object "TrunkLitters$Node")) (rlv (6 * d7 - 2)) D dA [.ref t9] w9 z9 (Sum.map (fun r => some (.ref r)) id q9.1) q9.2.1 q9.2.2.1 q9.2.2.2) {p : Program} {e : Env} {s : State} {m : MethodId} {args : Array Value} {below : List Frame} {meth : Method} {c9 : Code} {A : Nat → Prop} {q : ((Nat ⊕ Nat) × va_W × Nat × Nat)} (FX : CallFix p m c9 cX5_unit 3 s args lw_all RX5) (hr : meth.sig.returnType = (some (Jvm.ClassFile.FieldType.object "TrunkLitters$Node"))) (hlk : meth.locks = false) (hnm : meth.name = yX5_unit.name) (hout : ∀ x ∈ c9.exceptionTable.toList, False) : ∀ (x0 : Nat) (x1 : Option Nat) (w : va_W) (c : Nat) (y : Nat) (H : Heap) (locs : List Loc) (ls : Array Slot), lv_has ls 3 [(0, .ref x0), (1, va_rf x1)] → Wo D dA A s w z c H locs → fX5_unit_70 dA d7 rcB rcO z x0 x1 w c y = some q → W p l e (rlv (6 * d7 + 1)) s m args below meth c9 H locs c y (QO D dA A below args s (rlv (6 * d7 + 1)).cells (rlv (6 * d7 + 1)).slots (Sum.map (fun r => some (.ref r)) id q.1) q.2.1 (z + q.2.2.1) q.2.2.2) (F0 m 70 ls []) := by
  have hx := FX.1; have hb := FX.2.1; have hown := FX.2.2.2.1; have hts := FX.2.2.2.2
  intro x0 x1 w c y H locs ls hl hW hf
  rw [fX5_unit_70] at hf
  refine lv_aload_n hx hb dX5_unit_70 rfl (lv_at hl 0 rfl) ?_
  refine og_R (C := RX5) (T := TX5) (N := 12) (ci := 5) FX hW in_X5 rfl 10 (by decide) q479 (fun _ h => h) hf dX5_unit_71 (fun v1 hf => ?_)
  refine lv_dup hx hb dX5_unit_74 rfl ?_
  refine og_i (C := RX1) (T := TX1) (N := 8) (ci := 1) FX hW in_X1 rfl 7 (by decide) q246 (fun _ h => h) hf dX5_unit_75 (fun v2 hf => ?_)
  refine lv_iconst (v := 1) hx hb dX5_unit_78 (by decide) ?_
  refine lv_iadd hx hb dX5_unit_79 ?_
  refine op_put (C := RX1) (T := TX1) (N := 8) (ci := 1) (ty := .int) FX hW in_X1 tyX1 tyX1_ok nmX1 rfl 7 (by decide) q246 (fun _ h => h) rfl (by decide +kernel) rfl rfl hf dX5_unit_80 (fun w3 H locs hW hf => ?_)
  refine lv_aload_n hx hb dX5_unit_83 rfl (lv_at hl 0 rfl) ?_
  refine lv_dup hx hb dX5_unit_84 rfl ?_
  refine og_i (C := RX5) (T := TX5) (N := 12) (ci := 5) FX hW in_X5 rfl 5 (by decide) q474 (fun _ h => h) hf dX5_unit_85 (fun v4 hf => ?_)
  refine lv_iconst (v := 1) hx hb dX5_unit_88 (by decide) ?_
  refine lv_iadd hx hb dX5_unit_89 ?_
  refine op_put (C := RX5) (T := TX5) (N := 12) (ci := 5) (ty := .int) FX hW in_X5 tyX5 tyX5_ok nmX5 rfl 5 (by decide) q474 (fun _ h => h) rfl (by decide +kernel) rfl rfl hf dX5_unit_90 (fun w5 H locs hW hf => ?_)
  refine lv_aload_n hx hb dX5_unit_93 rfl (lv_at hl 0 rfl) ?_
  refine og_i (C := RX5) (T := TX5) (N := 12) (ci := 5) FX hW in_X5 rfl 1 (by decide) q470 (fun _ h => h) hf dX5_unit_94 (fun v6 hf => ?_)
  refine lv_bipush (v := 40) hx hb dX5_unit_97 (by decide) ?_
  refine lv_icmp_ne (tgt := 151) hx hb dX5_unit_99 (by decide) (fun c99 => ?_) (fun c99 => ?_)
  · have hf := ifn c99 hf
    refine lv_aload_nQ hx hb dX5_unit_151 rfl (lv_at hl 1 rfl) ?_
    refine g_ifnonnull (tgt := 169) FX hf dX5_unit_152 (by decide) (fun hf => ?_) (fun u7 eu7 hf => ?_)
    · skip
      refine on_new (C := RX11) (T := TX11) (N := 1) (ci := 10) (fs := [.int 0]) FX hW in_X11 tyX11 tyX11_ok q1072 q1073 q152 rfl (by decide +kernel) hf dX5_unit_155 (fun w8 c9 y10 H hW hf => ?_)
      refine lv_dup hx hb dX5_unit_158 rfl ?_
      refine lv_aload_n hx hb dX5_unit_159 rfl (lv_at hl 0 rfl) ?_
      refine og_i (C := RX5) (T := TX5) (N := 12) (ci := 5) FX hW in_X5 rfl 3 (by decide) q472 (fun _ h => h) hf dX5_unit_160 (fun v11 hf => ?_)
      refine oc_v hW hf (fun r0 h0 hg => o_I (As := [.int v11]) (rest := [.ref (z + c)]) (n := 1) FX (mX11_init h0) (cwI 1 FX.2.2.2.2 (lw_meth q1076) rfl rfl rfl (FX.2.2.2.2 _ q152) (FX.2.2.2.2 _ q1074) (FX.2.2.2.2 _ q1075) rfl (by decide +kernel) ⟨by dsimp only [rlv]; omega, by dsimp only [rlv]; omega⟩) rfl hl.1 rfl (Nat.le_of_ble_eq_true rfl) hg dX5_unit_163 hW) (fun w13 c14 y15 H locs hW hf => ?_)
      refine lv_goto (tgt := 170) hx hb dX5_unit_166 (by decide) ?_
      exact wX5_unit_170 hB hO FX hr hlk hnm hout x0 (some (z + c)) w13 c14 y15 _ _ _ (lv_sub hl [0] rfl) hW hf
    · skip
      refine lv_aload_nQ hx hb dX5_unit_169 rfl (lv_at hl 1 rfl) ?_
      exact wX5_unit_170 hB hO FX hr hlk hnm hout x0 x1 w5 c y _ _ _ (lv_sub hl [0] rfl) hW hf
  · have hf := ifp c99 hf
    refine lv_aload_n hx hb dX5_unit_102 rfl (lv_at hl 0 rfl) ?_
    refine lv_dup hx hb dX5_unit_103 rfl ?_
    refine og_i (C := RX5) (T := TX5) (N := 12) (ci := 5) FX hW in_X5 rfl 4 (by decide) q473 (fun _ h => h) hf dX5_unit_104 (fun v16 hf => ?_)
    refine lv_iconst (v := 1) hx hb dX5_unit_107 (by decide) ?_
    refine lv_iadd hx hb dX5_unit_108 ?_
    refine op_put (C := RX5) (T := TX5) (N := 12) (ci := 5) (ty := .int) FX hW in_X5 tyX5 tyX5_ok nmX5 rfl 4 (by decide) q473 (fun _ h => h) rfl (by decide +kernel) rfl rfl hf dX5_unit_109 (fun w17 H locs hW hf => ?_)
    refine lv_aload_n hx hb dX5_unit_112 rfl (lv_at hl 0 rfl) ?_
    obtain ⟨hv9, hf⟩ := pck_some hf
    refine oc_v hW hf (fun r0 h0 hg => o_V (C := RX5) (As := []) (rest := []) (n := 0) FX (mX5_go h0) (cwV 0 FX.2.2.2.2 (lw_V q510 q512 qs1 q133 q513) rfl rfl rfl (by decide +kernel) ⟨by dsimp only [rlv]; omega, by dsimp only [rlv]; omega⟩) (o_recv hW rfl hv9) rfl hl.1 rfl (Nat.le_of_ble_eq_true rfl) hg dX5_unit_113 hW) (fun w19 c20 y21 H locs hW hf => ?_)
    refine lv_aload_n hx hb dX5_unit_116 rfl (lv_at hl 0 rfl) ?_
    obtain ⟨hv9, hf⟩ := pck_some hf
    refine oc_X (fun r => some (.ref r)) hW hf (fun r0 h0 hg => o_V (C := RX5) (As := []) (rest := []) (n := 0) FX (hB h0) (cwV 0 FX.2.2.2.2 (lw_V q1024 q1026 qs22 q133 q1027) rfl rfl rfl (by decide +kernel) ⟨by dsimp only [rlv]; omega, by dsimp only [rlv]; omega⟩) (o_recv hW rfl hv9) rfl hl.1 rfl (Nat.le_of_ble_eq_true rfl) hg dX5_unit_117 hW) (fun t9 w23 c24 y25 H locs ce9 hW e1 e2 e3 hf => ?_) (fun v26 w23 c24 y25 H locs hW hf => ?_)
    · rw [othr_inr] at hf
      obtain ⟨hg, hf⟩ := gck_some hf
      obtain rfl := Option.some.inj hf
      exact ro_x hout hlk hW hg e1 e2 e3
    rw [othr_inl] at hf
    refine lv_astore_n (lv' := [(2, .ref v26), (0, .ref x0), (1, va_rf x1)]) hx hb dX5_unit_120 rfl hl (by decide) (by cases x1 <;> rfl) (fun ls hl => ?_)
    refine lv_aload_n hx hb dX5_unit_121 rfl (lv_at hl 1 rfl) ?_
    refine og_i (C := RX5) (T := TX5) (N := 12) (ci := 5) FX hW in_X5 rfl 1 (by decide) q470 (fun _ h => h) hf dX5_unit_122 (fun v27 hf => ?_)
    refine lv_bipush (v := 41) hx hb dX5_unit_125 (by decide) ?_
    refine lv_icmp_eq (tgt := 135) hx hb dX5_unit_127 (by decide) (fun c127 => ?_) (fun c127 => ?_)
    · have hf := ifp c127 hf
      refine lv_aload_n hx hb dX5_unit_135 rfl (lv_at hl 1 rfl) ?_
      refine lv_dup hx hb dX5_unit_136 rfl ?_
      refine og_i (C := RX5) (T := TX5) (N := 12) (ci := 5) FX hW in_X5 rfl 4 (by decide) q473 (fun _ h => h) hf dX5_unit_137 (fun v28 hf => ?_)
      refine lv_iconst (v := 1) hx hb dX5_unit_140 (by decide) ?_
      refine lv_isub hx hb dX5_unit_141 ?_
      refine op_put (C := RX5) (T := TX5) (N := 12) (ci := 5) (ty := .int) FX hW in_X5 tyX5 tyX5_ok nmX5 rfl 4 (by decide) q473 (fun _ h => h) rfl (by decide +kernel) rfl rfl hf dX5_unit_142 (fun w29 H locs hW hf => ?_)
      refine lv_aload_n hx hb dX5_unit_145 rfl (lv_at hl 1 rfl) ?_
      obtain ⟨hv9, hf⟩ := pck_some hf
      refine oc_v hW hf (fun r0 h0 hg => o_V (C := RX5) (As := []) (rest := []) (n := 0) FX (mX5_go h0) (cwV 0 FX.2.2.2.2 (lw_V q510 q512 qs1 q133 q513) rfl rfl rfl (by decide +kernel) ⟨by dsimp only [rlv]; omega, by dsimp only [rlv]; omega⟩) (o_recv hW rfl hv9) rfl hl.1 rfl (Nat.le_of_ble_eq_true rfl) hg dX5_unit_146 hW) (fun w31 c32 y33 H locs hW hf => ?_)
      refine lv_aload_n hx hb dX5_unit_149 rfl (lv_at hl 0 rfl) ?_
      obtain ⟨hg, hf⟩ := gck_some hf
      obtain rfl := Option.some.inj hf
      exact ro_a (v := some v26) FX hr (Or.inl ⟨_, rfl⟩) hlk hW hg dX5_unit_150
    · have hf := ifn c127 hf
      refine lv_aload_n hx hb dX5_unit_130 rfl (lv_at hl 1 rfl) ?_
      obtain ⟨hv9, hf⟩ := pck_some hf
      refine oc_R hW hf (fun r0 h0 hg => o_V (C := RX5) (As := []) (rest := []) (n := 0) FX (mX5_wrong h0) (cwV 0 FX.2.2.2.2 (lw_V q818 q820 qs10 q133 q821) rfl rfl rfl (by decide +kernel) ⟨by dsimp only [rlv]; omega, by dsimp only [rlv]; omega⟩) (o_recv hW rfl hv9) rfl hl.1 rfl (Nat.le_of_ble_eq_true rfl) hg dX5_unit_131 hW) (fun r34 w35 c36 y37 H locs hW hf => ?_)
      obtain ⟨hg, hf⟩ := gck_some hf
      obtain ⟨⟨fs9, hv9⟩, hf⟩ := pck_some hf
      obtain rfl := Option.some.inj hf
      exact o_athrow FX hW hv9 dX5_unit_134 (fun ce e1 e2 e3 => ro_x hout hlk hW hg e1 e2 e3)
set_option maxHeartbeats 4000000 in
set_option maxRecDepth 100000 in
theorem wX5_unit_26 {l : Launch} {D : va_G} {dA : Nat → ClassId} {z : Nat} {d7 : Nat} {rcB rcO : RT} (hB : ∀ {z9 t9 : Nat} {w9 : va_W} {q9 : (Nat ⊕ Nat) × va_W × Nat × Nat}, rcB z9 t9 w9 = some q9 → CtO l yX5_both cX5_both 2 (some (.object "TrunkLitters$Node")) (rlv (6 * d7)) D dA [.ref t9] w9 z9 (Sum.map (fun r => some (.ref r)) id q9.1) q9.2.1 q9.2.2.1 q9.2.2.2) (hO : ∀ {z9 t9 : Nat} {w9 : va_W} {q9 : (Nat ⊕ Nat) × va_W × Nat × Nat}, rcO z9 t9 w9 = some q9 → CtO l yX5_one cX5_one 3 (some (.object "TrunkLitters$Node")) (rlv (6 * d7 - 2)) D dA [.ref t9] w9 z9 (Sum.map (fun r => some (.ref r)) id q9.1) q9.2.1 q9.2.2.1 q9.2.2.2) {p : Program} {e : Env} {s : State} {m : MethodId} {args : Array Value} {below : List Frame} {meth : Method} {c9 : Code} {A : Nat → Prop} {q : ((Nat ⊕ Nat) × va_W × Nat × Nat)} (FX : CallFix p m c9 cX5_unit 3 s args lw_all RX5) (hr : meth.sig.returnType = (some (Jvm.ClassFile.FieldType.object "TrunkLitters$Node"))) (hlk : meth.locks = false) (hnm : meth.name = yX5_unit.name) (hout : ∀ x ∈ c9.exceptionTable.toList, False) : ∀ (x0 : Nat) (x1 : Option Nat) (w : va_W) (c : Nat) (y : Nat) (H : Heap) (locs : List Loc) (ls : Array Slot), lv_has ls 3 [(0, .ref x0), (1, va_rf x1)] → Wo D dA A s w z c H locs → fX5_unit_26 dA d7 rcB rcO z x0 x1 w c y = some q → W p l e (rlv (6 * d7 + 1)) s m args below meth c9 H locs c y (QO D dA A below args s (rlv (6 * d7 + 1)).cells (rlv (6 * d7 + 1)).slots (Sum.map (fun r => some (.ref r)) id q.1) q.2.1 (z + q.2.2.1) q.2.2.2) (F0 m 26 ls []) := by
  have hx := FX.1; have hb := FX.2.1; have hown := FX.2.2.2.1; have hts := FX.2.2.2.2
  intro x0 x1 w c y H locs ls hl hW hf
  rw [fX5_unit_26] at hf
  refine lv_aload_n hx hb dX5_unit_26 rfl (lv_at hl 0 rfl) ?_
  refine og_R (C := RX5) (T := TX5) (N := 12) (ci := 5) FX hW in_X5 rfl 10 (by decide) q479 (fun _ h => h) hf dX5_unit_27 (fun v1 hf => ?_)
  refine og_i (C := RX1) (T := TX1) (N := 8) (ci := 1) FX hW in_X1 rfl 7 (by decide) q246 (fun _ h => h) hf dX5_unit_30 (fun v2 hf => ?_)
  refine lv_bipush (v := 60) hx hb dX5_unit_33 (by decide) ?_
  refine lv_icmp_eq (tgt := 65) hx hb dX5_unit_35 (by decide) (fun c35 => ?_) (fun c35 => ?_)
  · have hf := ifp c35 hf
    exact wX5_unit_65 hB hO FX hr hlk hnm hout x0 w c y _ _ _ (lv_sub hl [0] rfl) hW hf
  · have hf := ifn c35 hf
    refine lv_aload_n hx hb dX5_unit_38 rfl (lv_at hl 0 rfl) ?_
    refine og_i (C := RX5) (T := TX5) (N := 12) (ci := 5) FX hW in_X5 rfl 5 (by decide) q474 (fun _ h => h) hf dX5_unit_39 (fun v3 hf => ?_)
    refine lv_bipush (v := 30) hx hb dX5_unit_42 (by decide) ?_
    refine lv_icmp_eq (tgt := 65) hx hb dX5_unit_44 (by decide) (fun c44 => ?_) (fun c44 => ?_)
    · have hf := ifp c44 hf
      exact wX5_unit_65 hB hO FX hr hlk hnm hout x0 w c y _ _ _ (lv_sub hl [0] rfl) hW hf
    · have hf := ifn c44 hf
      refine lv_aload_n hx hb dX5_unit_47 rfl (lv_at hl 0 rfl) ?_
      refine og_i (C := RX5) (T := TX5) (N := 12) (ci := 5) FX hW in_X5 rfl 1 (by decide) q470 (fun _ h => h) hf dX5_unit_48 (fun v4 hf => ?_)
      refine lv_bipush (v := 40) hx hb dX5_unit_51 (by decide) ?_
      refine lv_icmp_ne (tgt := 70) hx hb dX5_unit_53 (by decide) (fun c53 => ?_) (fun c53 => ?_)
      · have hf := ifn c53 hf
        exact wX5_unit_70 hB hO FX hr hlk hnm hout x0 x1 w c y _ _ _ (lv_sub hl [0, 1] rfl) hW hf
      · have hf := ifp c53 hf
        refine lv_aload_n hx hb dX5_unit_56 rfl (lv_at hl 0 rfl) ?_
        refine og_i (C := RX5) (T := TX5) (N := 12) (ci := 5) FX hW in_X5 rfl 4 (by decide) q473 (fun _ h => h) hf dX5_unit_57 (fun v5 hf => ?_)
        refine lv_bipush (v := 6) hx hb dX5_unit_60 (by decide) ?_
        refine lv_icmp_le (tgt := 70) hx hb dX5_unit_62 (by decide) (fun c62 => ?_) (fun c62 => ?_)
        · have hf := ifp c62 hf
          exact wX5_unit_70 hB hO FX hr hlk hnm hout x0 x1 w c y _ _ _ (lv_sub hl [0, 1] rfl) hW hf
        · have hf := ifn c62 hf
          exact wX5_unit_65 hB hO FX hr hlk hnm hout x0 w c y _ _ _ (lv_sub hl [0] rfl) hW hf
set_option maxHeartbeats 4000000 in
set_option maxRecDepth 100000 in
theorem mX5_unit {l : Launch} {D : va_G} {dA : Nat → ClassId} {z : Nat} {d7 : Nat} {rcB rcO : RT} (hB : ∀ {z9 t9 : Nat} {w9 : va_W} {q9 : (Nat ⊕ Nat) × va_W × Nat × Nat}, rcB z9 t9 w9 = some q9 → CtO l yX5_both cX5_both 2 (some (.object "TrunkLitters$Node")) (rlv (6 * d7)) D dA [.ref t9] w9 z9 (Sum.map (fun r => some (.ref r)) id q9.1) q9.2.1 q9.2.2.1 q9.2.2.2) (hO : ∀ {z9 t9 : Nat} {w9 : va_W} {q9 : (Nat ⊕ Nat) × va_W × Nat × Nat}, rcO z9 t9 w9 = some q9 → CtO l yX5_one cX5_one 3 (some (.object "TrunkLitters$Node")) (rlv (6 * d7 - 2)) D dA [.ref t9] w9 z9 (Sum.map (fun r => some (.ref r)) id q9.1) q9.2.1 q9.2.2.1 q9.2.2.2)  {t7 : Nat} {w : va_W} {q : ((Nat ⊕ Nat) × va_W × Nat × Nat)} (hf : fX5_unit dA d7 rcB rcO z t7 w = some q) : CtO l yX5_unit cX5_unit 3 (some (Jvm.ClassFile.FieldType.object "TrunkLitters$Node")) (rlv (6 * d7 + 1)) D dA [.ref t7] w z (Sum.map (fun r => some (.ref r)) id q.1) q.2.1 q.2.2.1 q.2.2.2 := by
  refine e_O (by decide) (Nat.le_of_ble_eq_true rfl) ?_
  intro p e s m below meth c9 ls A FX hr hlk hnm hout hl hW
  have hx := FX.1; have hb := FX.2.1; have hown := FX.2.2.2.1; have hts := FX.2.2.2.2
  have hl : lv_has ls 3 [(0, .ref t7)] := hl
  rw [fX5_unit] at hf
  refine lv_aload_n hx hb dX5_unit_0 rfl (lv_at hl 0 rfl) ?_
  obtain ⟨hv9, hf⟩ := pck_some hf
  refine oc_Q hW hf (fun r0 h0 hg => o_V (C := RX5) (As := []) (rest := []) (n := 0) FX (mX5_asked h0) (cwV 0 FX.2.2.2.2 (lw_V q1058 q1060 qs28 q133 q1061) rfl rfl rfl (by decide +kernel) ⟨by dsimp only [rlv]; omega, by dsimp only [rlv]; omega⟩) (o_recv hW rfl hv9) rfl hl.1 rfl (Nat.le_of_ble_eq_true rfl) hg dX5_unit_1 hW) (fun r1 w2 c3 y4 H locs hW hf => ?_)
  refine lv_astore_nQ (lv' := [(1, va_rf r1), (0, .ref t7)]) hx hb dX5_unit_4 rfl hl (by decide) (by cases r1 <;> rfl) (fun ls hl => ?_)
  refine lv_aload_n hx hb dX5_unit_5 rfl (lv_at hl 1 rfl) ?_
  refine og_i (C := RX5) (T := TX5) (N := 12) (ci := 5) FX hW in_X5 rfl 1 (by decide) q470 (fun _ h => h) hf dX5_unit_6 (fun v5 hf => ?_)
  refine lv_iconst (v := 2) hx hb dX5_unit_9 (by decide) ?_
  refine lv_icmp_eq (tgt := 26) hx hb dX5_unit_10 (by decide) (fun c10 => ?_) (fun c10 => ?_)
  · have hf := ifp c10 hf
    exact wX5_unit_26 hB hO FX hr hlk hnm hout t7 r1 w2 c3 y4 _ _ _ (lv_sub hl [1, 0] rfl) hW hf
  · have hf := ifn c10 hf
    refine lv_aload_n hx hb dX5_unit_13 rfl (lv_at hl 1 rfl) ?_
    refine og_i (C := RX5) (T := TX5) (N := 12) (ci := 5) FX hW in_X5 rfl 1 (by decide) q470 (fun _ h => h) hf dX5_unit_14 (fun v6 hf => ?_)
    refine lv_bipush (v := 40) hx hb dX5_unit_17 (by decide) ?_
    refine lv_icmp_eq (tgt := 26) hx hb dX5_unit_19 (by decide) (fun c19 => ?_) (fun c19 => ?_)
    · have hf := ifp c19 hf
      exact wX5_unit_26 hB hO FX hr hlk hnm hout t7 r1 w2 c3 y4 _ _ _ (lv_sub hl [1, 0] rfl) hW hf
    · have hf := ifn c19 hf
      refine lv_aload_nQ hx hb dX5_unit_22 rfl (lv_at hl 0 rfl) ?_
      refine g_ifnull (tgt := 65) FX hf dX5_unit_23 (by decide) (fun hf => ?_) (fun u7 eu7 hf => ?_)
      · skip
        exact wX5_unit_65 hB hO FX hr hlk hnm hout t7 w2 c3 y4 _ _ _ (lv_sub hl [1] rfl) hW hf
      · skip
        exact wX5_unit_26 hB hO FX hr hlk hnm hout t7 r1 w2 c3 y4 _ _ _ (lv_sub hl [1, 0] rfl) hW hf
/-! TrunkLitters$Reader.term()LTrunkLitters$Node;: kind O -/
def fX5_term_32 (dA : Nat → Nat) (d7 : Nat) (rcB rcO : RT) (z : Nat) (k5 : Nat → Nat → va_W → Nat → Nat → Option ((Nat ⊕ Nat) × va_W × Nat × Nat)) (x0 : Nat) (x1 : Nat) (w : va_W) (c : Nat) (y : Nat) : Option ((Nat ⊕ Nat) × va_W × Nat × Nat) := pgi w x0 5 1 fun v1 => pck w x0 5 (ocal (rlv (6 * d7 + 2)).cells (rlv (6 * d7 + 2)).slots c y rX5_go.cells rX5_go.slots (fX5_go dA (z + c) x0 w) fun r2 w3 c4 y5 => onew (rlv (6 * d7 + 2)).cells (rlv (6 * d7 + 2)).slots c4 y5 3 w3 (z + c4) (.inr (11, [.null, .null, .int 0])) fun w6 c7 y8 => pck w6 x0 5 (ocal (rlv (6 * d7 + 2)).cells (rlv (6 * d7 + 2)).slots c7 y8 (rlv (6 * d7 + 1)).cells (rlv (6 * d7 + 1)).slots (fX5_unit dA d7 rcB rcO (z + c7) x0 w6) fun r9 w10 c11 y12 => othr r9 (fun v13 => ocal (rlv (6 * d7 + 2)).cells (rlv (6 * d7 + 2)).slots c11 y12 rX12_init.cells rX12_init.slots (fX12_init dA (z + c11) (z + c4) x1 v13 ((v1.toUInt32 % 65536).toInt32) w10) fun r14 w15 c16 y17 => k5 x0 (z + c4) w15 c16 y17) fun t => gck c11 y12 (rlv (6 * d7 + 2)).cells (rlv (6 * d7 + 2)).slots (some (.inr t, w10, c11, y12))))
def fX5_term_5 (dA : Nat → Nat) (d7 : Nat) (rcB rcO : RT) (z : Nat) : Nat → Nat → Nat → va_W → Nat → Nat → Option ((Nat ⊕ Nat) × va_W × Nat × Nat)
  | 0, _, _, _, _, _ => none
  | n + 1, x0, x1, w, c, y => pgi w x0 5 1 fun v1 => (if v1 = (42 : Int32) then fX5_term_32 dA d7 rcB rcO z (fX5_term_5 dA d7 rcB rcO z n) x0 x1 w c y else pgi w x0 5 1 fun v2 => (if v2 = (47 : Int32) then fX5_term_32 dA d7 rcB rcO z (fX5_term_5 dA d7 rcB rcO z n) x0 x1 w c y else pgi w x0 5 1 fun v3 => (if v3 = (37 : Int32) then fX5_term_32 dA d7 rcB rcO z (fX5_term_5 dA d7 rcB rcO z n) x0 x1 w c y else gck c y (rlv (6 * d7 + 2)).cells (rlv (6 * d7 + 2)).slots (some ((.inl x1), w, c, y)))))
def fX5_term (dA : Nat → Nat) (d7 : Nat) (rcB rcO : RT) (z : Nat) (t7 : Nat) (w : va_W) : Option ((Nat ⊕ Nat) × va_W × Nat × Nat) := pck w t7 5 (ocal (rlv (6 * d7 + 2)).cells (rlv (6 * d7 + 2)).slots 0 0 (rlv (6 * d7 + 1)).cells (rlv (6 * d7 + 1)).slots (fX5_unit dA d7 rcB rcO (z + 0) t7 w) fun r1 w2 c3 y4 => othr r1 (fun v5 => fX5_term_5 dA d7 rcB rcO z FU t7 v5 w2 c3 y4) fun t => gck c3 y4 (rlv (6 * d7 + 2)).cells (rlv (6 * d7 + 2)).slots (some (.inr t, w2, c3, y4)))
set_option maxHeartbeats 4000000 in
set_option maxRecDepth 100000 in
theorem wX5_term_32 {l : Launch} {D : va_G} {dA : Nat → ClassId} {z : Nat} {d7 : Nat} {rcB rcO : RT} (hB : ∀ {z9 t9 : Nat} {w9 : va_W} {q9 : (Nat ⊕ Nat) × va_W × Nat × Nat}, rcB z9 t9 w9 = some q9 → CtO l yX5_both cX5_both 2 (some (.object "TrunkLitters$Node")) (rlv (6 * d7)) D dA [.ref t9] w9 z9 (Sum.map (fun r => some (.ref r)) id q9.1) q9.2.1 q9.2.2.1 q9.2.2.2) (hO : ∀ {z9 t9 : Nat} {w9 : va_W} {q9 : (Nat ⊕ Nat) × va_W × Nat × Nat}, rcO z9 t9 w9 = some q9 → CtO l yX5_one cX5_one 3 (some (.object "TrunkLitters$Node")) (rlv (6 * d7 - 2)) D dA [.ref t9] w9 z9 (Sum.map (fun r => some (.ref r)) id q9.1) q9.2.1 q9.2.2.1 q9.2.2.2) {p : Program} {e : Env} {s : State} {m : MethodId} {args : Array Value} {below : List Frame} {meth : Method} {c9 : Code} {A : Nat → Prop} {q : ((Nat ⊕ Nat) × va_W × Nat × Nat)} (FX : CallFix p m c9 cX5_term 3 s args lw_all RX5) (hr : meth.sig.returnType = (some (Jvm.ClassFile.FieldType.object "TrunkLitters$Node"))) (hlk : meth.locks = false) (hnm : meth.name = yX5_term.name) (hout : ∀ x ∈ c9.exceptionTable.toList, False) {k5 : Nat → Nat → va_W → Nat → Nat → Option ((Nat ⊕ Nat) × va_W × Nat × Nat)} (hk5 : ∀ (x0 : Nat) (x1 : Nat) (w : va_W) (c : Nat) (y : Nat) (H : Heap) (locs : List Loc) (ls : Array Slot), lv_has ls 3 [(0, .ref x0), (1, .ref x1)] → Wo D dA A s w z c H locs → k5 x0 x1 w c y = some q → W p l e (rlv (6 * d7 + 2)) s m args below meth c9 H locs c y (QO D dA A below args s (rlv (6 * d7 + 2)).cells (rlv (6 * d7 + 2)).slots (Sum.map (fun r => some (.ref r)) id q.1) q.2.1 (z + q.2.2.1) q.2.2.2) (F0 m 5 ls [])) : ∀ (x0 : Nat) (x1 : Nat) (w : va_W) (c : Nat) (y : Nat) (H : Heap) (locs : List Loc) (ls : Array Slot), lv_has ls 3 [(0, .ref x0), (1, .ref x1)] → Wo D dA A s w z c H locs → fX5_term_32 dA d7 rcB rcO z k5 x0 x1 w c y = some q → W p l e (rlv (6 * d7 + 2)) s m args below meth c9 H locs c y (QO D dA A below args s (rlv (6 * d7 + 2)).cells (rlv (6 * d7 + 2)).slots (Sum.map (fun r => some (.ref r)) id q.1) q.2.1 (z + q.2.2.1) q.2.2.2) (F0 m 32 ls []) := by
  have hx := FX.1; have hb := FX.2.1; have hown := FX.2.2.2.1; have hts := FX.2.2.2.2
  intro x0 x1 w c y H locs ls hl hW hf
  rw [fX5_term_32] at hf
  refine lv_aload_n hx hb dX5_term_32 rfl (lv_at hl 0 rfl) ?_
  refine og_i (C := RX5) (T := TX5) (N := 12) (ci := 5) FX hW in_X5 rfl 1 (by decide) q470 (fun _ h => h) hf dX5_term_33 (fun v1 hf => ?_)
  refine lv_i2c (v := ((v1.toUInt32 % 65536).toInt32)) hx hb dX5_term_36 rfl ?_
  refine lv_istore_n (lv' := [(2, .int ((v1.toUInt32 % 65536).toInt32)), (0, .ref x0), (1, .ref x1)]) hx hb dX5_term_37 rfl hl (by decide) rfl (fun ls hl => ?_)
  refine lv_aload_n hx hb dX5_term_38 rfl (lv_at hl 1 rfl) ?_
  obtain ⟨hv9, hf⟩ := pck_some hf
  refine oc_v hW hf (fun r0 h0 hg => o_V (C := RX5) (As := []) (rest := []) (n := 0) FX (mX5_go h0) (cwV 0 FX.2.2.2.2 (lw_V q510 q512 qs1 q133 q513) rfl rfl rfl (by decide +kernel) ⟨by dsimp only [rlv]; omega, by dsimp only [rlv]; omega⟩) (o_recv hW rfl hv9) rfl hl.1 rfl (Nat.le_of_ble_eq_true rfl) hg dX5_term_39 hW) (fun w3 c4 y5 H locs hW hf => ?_)
  refine on_new (C := RX12) (T := TX12) (N := 3) (ci := 11) (fs := [.null, .null, .int 0]) FX hW in_X12 tyX12 tyX12_ok q1082 q1083 q153 rfl (by decide +kernel) hf dX5_term_42 (fun w6 c7 y8 H hW hf => ?_)
  refine lv_dup hx hb dX5_term_45 rfl ?_
  refine lv_aload_n hx hb dX5_term_46 rfl (lv_at hl 2 rfl) ?_
  refine lv_aload_n hx hb dX5_term_47 rfl (lv_at hl 1 rfl) ?_
  obtain ⟨hv9, hf⟩ := pck_some hf
  refine oc_X (fun r => some (.ref r)) hW hf (fun r0 h0 hg => o_V (C := RX5) (As := []) (rest := [.ref x1, .ref (z + c4), .ref (z + c4)]) (n := 0) FX (mX5_unit hB hO h0) (cwV 0 FX.2.2.2.2 (lw_V q1054 q1056 qs27 q133 q1057) rfl rfl rfl (by decide +kernel) ⟨by dsimp only [rlv]; omega, by dsimp only [rlv]; omega⟩) (o_recv hW rfl hv9) rfl hl.1 rfl (Nat.le_of_ble_eq_true rfl) hg dX5_term_48 hW) (fun t9 w10 c11 y12 H locs ce9 hW e1 e2 e3 hf => ?_) (fun v13 w10 c11 y12 H locs hW hf => ?_)
  · rw [othr_inr] at hf
    obtain ⟨hg, hf⟩ := gck_some hf
    obtain rfl := Option.some.inj hf
    exact ro_x hout hlk hW hg e1 e2 e3
  rw [othr_inl] at hf
  refine lv_iload_n hx hb dX5_term_51 rfl (lv_at hl 0 rfl) ?_
  refine oc_v hW hf (fun r0 h0 hg => o_I (As := [.ref x1, .ref v13, .int ((v1.toUInt32 % 65536).toInt32)]) (rest := [.ref (z + c4)]) (n := 3) FX (mX12_init h0) (cwI 3 FX.2.2.2.2 (lw_meth q1086) rfl rfl rfl (FX.2.2.2.2 _ q153) (FX.2.2.2.2 _ q1084) (FX.2.2.2.2 _ q1085) rfl (by decide +kernel) ⟨by dsimp only [rlv]; omega, by dsimp only [rlv]; omega⟩) rfl hl.1 rfl (Nat.le_of_ble_eq_true rfl) hg dX5_term_52 hW) (fun w15 c16 y17 H locs hW hf => ?_)
  refine lv_astore_n (lv' := [(1, .ref (z + c4)), (2, .int ((v1.toUInt32 % 65536).toInt32)), (0, .ref x0)]) hx hb dX5_term_55 rfl hl (by decide) rfl (fun ls hl => ?_)
  refine lv_goto (tgt := 5) hx hb dX5_term_56 (by decide) ?_
  exact hk5 x0 (z + c4) w15 c16 y17 _ _ _ (lv_sub hl [2, 0] rfl) hW hf
set_option maxHeartbeats 4000000 in
set_option maxRecDepth 100000 in
theorem wX5_term_5 {l : Launch} {D : va_G} {dA : Nat → ClassId} {z : Nat} {d7 : Nat} {rcB rcO : RT} (hB : ∀ {z9 t9 : Nat} {w9 : va_W} {q9 : (Nat ⊕ Nat) × va_W × Nat × Nat}, rcB z9 t9 w9 = some q9 → CtO l yX5_both cX5_both 2 (some (.object "TrunkLitters$Node")) (rlv (6 * d7)) D dA [.ref t9] w9 z9 (Sum.map (fun r => some (.ref r)) id q9.1) q9.2.1 q9.2.2.1 q9.2.2.2) (hO : ∀ {z9 t9 : Nat} {w9 : va_W} {q9 : (Nat ⊕ Nat) × va_W × Nat × Nat}, rcO z9 t9 w9 = some q9 → CtO l yX5_one cX5_one 3 (some (.object "TrunkLitters$Node")) (rlv (6 * d7 - 2)) D dA [.ref t9] w9 z9 (Sum.map (fun r => some (.ref r)) id q9.1) q9.2.1 q9.2.2.1 q9.2.2.2) {p : Program} {e : Env} {s : State} {m : MethodId} {args : Array Value} {below : List Frame} {meth : Method} {c9 : Code} {A : Nat → Prop} {q : ((Nat ⊕ Nat) × va_W × Nat × Nat)} (FX : CallFix p m c9 cX5_term 3 s args lw_all RX5) (hr : meth.sig.returnType = (some (Jvm.ClassFile.FieldType.object "TrunkLitters$Node"))) (hlk : meth.locks = false) (hnm : meth.name = yX5_term.name) (hout : ∀ x ∈ c9.exceptionTable.toList, False) : ∀ n : Nat, ∀ (x0 : Nat) (x1 : Nat) (w : va_W) (c : Nat) (y : Nat) (H : Heap) (locs : List Loc) (ls : Array Slot), lv_has ls 3 [(0, .ref x0), (1, .ref x1)] → Wo D dA A s w z c H locs → fX5_term_5 dA d7 rcB rcO z n x0 x1 w c y = some q → W p l e (rlv (6 * d7 + 2)) s m args below meth c9 H locs c y (QO D dA A below args s (rlv (6 * d7 + 2)).cells (rlv (6 * d7 + 2)).slots (Sum.map (fun r => some (.ref r)) id q.1) q.2.1 (z + q.2.2.1) q.2.2.2) (F0 m 5 ls []) := by
  have hx := FX.1; have hb := FX.2.1; have hown := FX.2.2.2.1; have hts := FX.2.2.2.2
  intro n
  induction n with
  | zero =>
    intro x0 x1 w c y H locs ls hl hW hf
    cases (show (none : Option ((Nat ⊕ Nat) × va_W × Nat × Nat)) = some q from hf)
  | succ n ih =>
    intro x0 x1 w c y H locs ls hl hW hf
    rw [fX5_term_5] at hf
    refine lv_aload_n hx hb dX5_term_5 rfl (lv_at hl 0 rfl) ?_
    refine og_i (C := RX5) (T := TX5) (N := 12) (ci := 5) FX hW in_X5 rfl 1 (by decide) q470 (fun _ h => h) hf dX5_term_6 (fun v1 hf => ?_)
    refine lv_bipush (v := 42) hx hb dX5_term_9 (by decide) ?_
    refine lv_icmp_eq (tgt := 32) hx hb dX5_term_11 (by decide) (fun c11 => ?_) (fun c11 => ?_)
    · have hf := ifp c11 hf
      exact wX5_term_32 hB hO FX hr hlk hnm hout (ih) x0 x1 w c y _ _ _ (lv_sub hl [0, 1] rfl) hW hf
    · have hf := ifn c11 hf
      refine lv_aload_n hx hb dX5_term_14 rfl (lv_at hl 0 rfl) ?_
      refine og_i (C := RX5) (T := TX5) (N := 12) (ci := 5) FX hW in_X5 rfl 1 (by decide) q470 (fun _ h => h) hf dX5_term_15 (fun v2 hf => ?_)
      refine lv_bipush (v := 47) hx hb dX5_term_18 (by decide) ?_
      refine lv_icmp_eq (tgt := 32) hx hb dX5_term_20 (by decide) (fun c20 => ?_) (fun c20 => ?_)
      · have hf := ifp c20 hf
        exact wX5_term_32 hB hO FX hr hlk hnm hout (ih) x0 x1 w c y _ _ _ (lv_sub hl [0, 1] rfl) hW hf
      · have hf := ifn c20 hf
        refine lv_aload_n hx hb dX5_term_23 rfl (lv_at hl 0 rfl) ?_
        refine og_i (C := RX5) (T := TX5) (N := 12) (ci := 5) FX hW in_X5 rfl 1 (by decide) q470 (fun _ h => h) hf dX5_term_24 (fun v3 hf => ?_)
        refine lv_bipush (v := 37) hx hb dX5_term_27 (by decide) ?_
        refine lv_icmp_ne (tgt := 59) hx hb dX5_term_29 (by decide) (fun c29 => ?_) (fun c29 => ?_)
        · have hf := ifn c29 hf
          refine lv_aload_n hx hb dX5_term_59 rfl (lv_at hl 1 rfl) ?_
          obtain ⟨hg, hf⟩ := gck_some hf
          obtain rfl := Option.some.inj hf
          exact ro_a (v := some x1) FX hr (Or.inl ⟨_, rfl⟩) hlk hW hg dX5_term_60
        · have hf := ifp c29 hf
          exact wX5_term_32 hB hO FX hr hlk hnm hout (ih) x0 x1 w c y _ _ _ (lv_sub hl [0, 1] rfl) hW hf
set_option maxHeartbeats 4000000 in
set_option maxRecDepth 100000 in
theorem mX5_term {l : Launch} {D : va_G} {dA : Nat → ClassId} {z : Nat} {d7 : Nat} {rcB rcO : RT} (hB : ∀ {z9 t9 : Nat} {w9 : va_W} {q9 : (Nat ⊕ Nat) × va_W × Nat × Nat}, rcB z9 t9 w9 = some q9 → CtO l yX5_both cX5_both 2 (some (.object "TrunkLitters$Node")) (rlv (6 * d7)) D dA [.ref t9] w9 z9 (Sum.map (fun r => some (.ref r)) id q9.1) q9.2.1 q9.2.2.1 q9.2.2.2) (hO : ∀ {z9 t9 : Nat} {w9 : va_W} {q9 : (Nat ⊕ Nat) × va_W × Nat × Nat}, rcO z9 t9 w9 = some q9 → CtO l yX5_one cX5_one 3 (some (.object "TrunkLitters$Node")) (rlv (6 * d7 - 2)) D dA [.ref t9] w9 z9 (Sum.map (fun r => some (.ref r)) id q9.1) q9.2.1 q9.2.2.1 q9.2.2.2)  {t7 : Nat} {w : va_W} {q : ((Nat ⊕ Nat) × va_W × Nat × Nat)} (hf : fX5_term dA d7 rcB rcO z t7 w = some q) : CtO l yX5_term cX5_term 3 (some (Jvm.ClassFile.FieldType.object "TrunkLitters$Node")) (rlv (6 * d7 + 2)) D dA [.ref t7] w z (Sum.map (fun r => some (.ref r)) id q.1) q.2.1 q.2.2.1 q.2.2.2 := by
  refine e_O (by decide) (Nat.le_of_ble_eq_true rfl) ?_
  intro p e s m below meth c9 ls A FX hr hlk hnm hout hl hW
  have hx := FX.1; have hb := FX.2.1; have hown := FX.2.2.2.1; have hts := FX.2.2.2.2
  have hl : lv_has ls 3 [(0, .ref t7)] := hl
  rw [fX5_term] at hf
  refine lv_aload_n hx hb dX5_term_0 rfl (lv_at hl 0 rfl) ?_
  obtain ⟨hv9, hf⟩ := pck_some hf
  refine oc_X (fun r => some (.ref r)) hW hf (fun r0 h0 hg => o_V (C := RX5) (As := []) (rest := []) (n := 0) FX (mX5_unit hB hO h0) (cwV 0 FX.2.2.2.2 (lw_V q1054 q1056 qs27 q133 q1057) rfl rfl rfl (by decide +kernel) ⟨by dsimp only [rlv]; omega, by dsimp only [rlv]; omega⟩) (o_recv hW rfl hv9) rfl hl.1 rfl (Nat.le_of_ble_eq_true rfl) hg dX5_term_1 hW) (fun t9 w2 c3 y4 H locs ce9 hW e1 e2 e3 hf => ?_) (fun v5 w2 c3 y4 H locs hW hf => ?_)
  · rw [othr_inr] at hf
    obtain ⟨hg, hf⟩ := gck_some hf
    obtain rfl := Option.some.inj hf
    exact ro_x hout hlk hW hg e1 e2 e3
  rw [othr_inl] at hf
  refine lv_astore_n (lv' := [(1, .ref v5), (0, .ref t7)]) hx hb dX5_term_4 rfl hl (by decide) rfl (fun ls hl => ?_)
  exact wX5_term_5 hB hO FX hr hlk hnm hout _ t7 v5 w2 c3 y4 _ _ _ (lv_sub hl [1, 0] rfl) hW hf
/-! TrunkLitters$Reader.sum()LTrunkLitters$Node;: kind O -/
def fX5_sum_23 (dA : Nat → Nat) (d7 : Nat) (rcB rcO : RT) (z : Nat) (k5 : Nat → Nat → va_W → Nat → Nat → Option ((Nat ⊕ Nat) × va_W × Nat × Nat)) (x0 : Nat) (x1 : Nat) (w : va_W) (c : Nat) (y : Nat) : Option ((Nat ⊕ Nat) × va_W × Nat × Nat) := pgi w x0 5 1 fun v1 => pck w x0 5 (ocal (rlv (6 * d7 + 3)).cells (rlv (6 * d7 + 3)).slots c y rX5_go.cells rX5_go.slots (fX5_go dA (z + c) x0 w) fun r2 w3 c4 y5 => onew (rlv (6 * d7 + 3)).cells (rlv (6 * d7 + 3)).slots c4 y5 3 w3 (z + c4) (.inr (11, [.null, .null, .int 0])) fun w6 c7 y8 => pck w6 x0 5 (ocal (rlv (6 * d7 + 3)).cells (rlv (6 * d7 + 3)).slots c7 y8 (rlv (6 * d7 + 2)).cells (rlv (6 * d7 + 2)).slots (fX5_term dA d7 rcB rcO (z + c7) x0 w6) fun r9 w10 c11 y12 => othr r9 (fun v13 => ocal (rlv (6 * d7 + 3)).cells (rlv (6 * d7 + 3)).slots c11 y12 rX12_init.cells rX12_init.slots (fX12_init dA (z + c11) (z + c4) x1 v13 ((v1.toUInt32 % 65536).toInt32) w10) fun r14 w15 c16 y17 => k5 x0 (z + c4) w15 c16 y17) fun t => gck c11 y12 (rlv (6 * d7 + 3)).cells (rlv (6 * d7 + 3)).slots (some (.inr t, w10, c11, y12))))
def fX5_sum_5 (dA : Nat → Nat) (d7 : Nat) (rcB rcO : RT) (z : Nat) : Nat → Nat → Nat → va_W → Nat → Nat → Option ((Nat ⊕ Nat) × va_W × Nat × Nat)
  | 0, _, _, _, _, _ => none
  | n + 1, x0, x1, w, c, y => pgi w x0 5 1 fun v1 => (if v1 = (43 : Int32) then fX5_sum_23 dA d7 rcB rcO z (fX5_sum_5 dA d7 rcB rcO z n) x0 x1 w c y else pgi w x0 5 1 fun v2 => (if v2 = (45 : Int32) then fX5_sum_23 dA d7 rcB rcO z (fX5_sum_5 dA d7 rcB rcO z n) x0 x1 w c y else gck c y (rlv (6 * d7 + 3)).cells (rlv (6 * d7 + 3)).slots (some ((.inl x1), w, c, y))))
def fX5_sum (dA : Nat → Nat) (d7 : Nat) (rcB rcO : RT) (z : Nat) (t7 : Nat) (w : va_W) : Option ((Nat ⊕ Nat) × va_W × Nat × Nat) := pck w t7 5 (ocal (rlv (6 * d7 + 3)).cells (rlv (6 * d7 + 3)).slots 0 0 (rlv (6 * d7 + 2)).cells (rlv (6 * d7 + 2)).slots (fX5_term dA d7 rcB rcO (z + 0) t7 w) fun r1 w2 c3 y4 => othr r1 (fun v5 => fX5_sum_5 dA d7 rcB rcO z FU t7 v5 w2 c3 y4) fun t => gck c3 y4 (rlv (6 * d7 + 3)).cells (rlv (6 * d7 + 3)).slots (some (.inr t, w2, c3, y4)))
set_option maxHeartbeats 4000000 in
set_option maxRecDepth 100000 in
theorem wX5_sum_23 {l : Launch} {D : va_G} {dA : Nat → ClassId} {z : Nat} {d7 : Nat} {rcB rcO : RT} (hB : ∀ {z9 t9 : Nat} {w9 : va_W} {q9 : (Nat ⊕ Nat) × va_W × Nat × Nat}, rcB z9 t9 w9 = some q9 → CtO l yX5_both cX5_both 2 (some (.object "TrunkLitters$Node")) (rlv (6 * d7)) D dA [.ref t9] w9 z9 (Sum.map (fun r => some (.ref r)) id q9.1) q9.2.1 q9.2.2.1 q9.2.2.2) (hO : ∀ {z9 t9 : Nat} {w9 : va_W} {q9 : (Nat ⊕ Nat) × va_W × Nat × Nat}, rcO z9 t9 w9 = some q9 → CtO l yX5_one cX5_one 3 (some (.object "TrunkLitters$Node")) (rlv (6 * d7 - 2)) D dA [.ref t9] w9 z9 (Sum.map (fun r => some (.ref r)) id q9.1) q9.2.1 q9.2.2.1 q9.2.2.2) {p : Program} {e : Env} {s : State} {m : MethodId} {args : Array Value} {below : List Frame} {meth : Method} {c9 : Code} {A : Nat → Prop} {q : ((Nat ⊕ Nat) × va_W × Nat × Nat)} (FX : CallFix p m c9 cX5_sum 3 s args lw_all RX5) (hr : meth.sig.returnType = (some (Jvm.ClassFile.FieldType.object "TrunkLitters$Node"))) (hlk : meth.locks = false) (hnm : meth.name = yX5_sum.name) (hout : ∀ x ∈ c9.exceptionTable.toList, False) {k5 : Nat → Nat → va_W → Nat → Nat → Option ((Nat ⊕ Nat) × va_W × Nat × Nat)} (hk5 : ∀ (x0 : Nat) (x1 : Nat) (w : va_W) (c : Nat) (y : Nat) (H : Heap) (locs : List Loc) (ls : Array Slot), lv_has ls 3 [(0, .ref x0), (1, .ref x1)] → Wo D dA A s w z c H locs → k5 x0 x1 w c y = some q → W p l e (rlv (6 * d7 + 3)) s m args below meth c9 H locs c y (QO D dA A below args s (rlv (6 * d7 + 3)).cells (rlv (6 * d7 + 3)).slots (Sum.map (fun r => some (.ref r)) id q.1) q.2.1 (z + q.2.2.1) q.2.2.2) (F0 m 5 ls [])) : ∀ (x0 : Nat) (x1 : Nat) (w : va_W) (c : Nat) (y : Nat) (H : Heap) (locs : List Loc) (ls : Array Slot), lv_has ls 3 [(0, .ref x0), (1, .ref x1)] → Wo D dA A s w z c H locs → fX5_sum_23 dA d7 rcB rcO z k5 x0 x1 w c y = some q → W p l e (rlv (6 * d7 + 3)) s m args below meth c9 H locs c y (QO D dA A below args s (rlv (6 * d7 + 3)).cells (rlv (6 * d7 + 3)).slots (Sum.map (fun r => some (.ref r)) id q.1) q.2.1 (z + q.2.2.1) q.2.2.2) (F0 m 23 ls []) := by
  have hx := FX.1; have hb := FX.2.1; have hown := FX.2.2.2.1; have hts := FX.2.2.2.2
  intro x0 x1 w c y H locs ls hl hW hf
  rw [fX5_sum_23] at hf
  refine lv_aload_n hx hb dX5_sum_23 rfl (lv_at hl 0 rfl) ?_
  refine og_i (C := RX5) (T := TX5) (N := 12) (ci := 5) FX hW in_X5 rfl 1 (by decide) q470 (fun _ h => h) hf dX5_sum_24 (fun v1 hf => ?_)
  refine lv_i2c (v := ((v1.toUInt32 % 65536).toInt32)) hx hb dX5_sum_27 rfl ?_
  refine lv_istore_n (lv' := [(2, .int ((v1.toUInt32 % 65536).toInt32)), (0, .ref x0), (1, .ref x1)]) hx hb dX5_sum_28 rfl hl (by decide) rfl (fun ls hl => ?_)
  refine lv_aload_n hx hb dX5_sum_29 rfl (lv_at hl 1 rfl) ?_
  obtain ⟨hv9, hf⟩ := pck_some hf
  refine oc_v hW hf (fun r0 h0 hg => o_V (C := RX5) (As := []) (rest := []) (n := 0) FX (mX5_go h0) (cwV 0 FX.2.2.2.2 (lw_V q510 q512 qs1 q133 q513) rfl rfl rfl (by decide +kernel) ⟨by dsimp only [rlv]; omega, by dsimp only [rlv]; omega⟩) (o_recv hW rfl hv9) rfl hl.1 rfl (Nat.le_of_ble_eq_true rfl) hg dX5_sum_30 hW) (fun w3 c4 y5 H locs hW hf => ?_)
  refine on_new (C := RX12) (T := TX12) (N := 3) (ci := 11) (fs := [.null, .null, .int 0]) FX hW in_X12 tyX12 tyX12_ok q1082 q1083 q153 rfl (by decide +kernel) hf dX5_sum_33 (fun w6 c7 y8 H hW hf => ?_)
  refine lv_dup hx hb dX5_sum_36 rfl ?_
  refine lv_aload_n hx hb dX5_sum_37 rfl (lv_at hl 2 rfl) ?_
  refine lv_aload_n hx hb dX5_sum_38 rfl (lv_at hl 1 rfl) ?_
  obtain ⟨hv9, hf⟩ := pck_some hf
  refine oc_X (fun r => some (.ref r)) hW hf (fun r0 h0 hg => o_V (C := RX5) (As := []) (rest := [.ref x1, .ref (z + c4), .ref (z + c4)]) (n := 0) FX (mX5_term hB hO h0) (cwV 0 FX.2.2.2.2 (lw_V q1050 q1052 qs26 q133 q1053) rfl rfl rfl (by decide +kernel) ⟨by dsimp only [rlv]; omega, by dsimp only [rlv]; omega⟩) (o_recv hW rfl hv9) rfl hl.1 rfl (Nat.le_of_ble_eq_true rfl) hg dX5_sum_39 hW) (fun t9 w10 c11 y12 H locs ce9 hW e1 e2 e3 hf => ?_) (fun v13 w10 c11 y12 H locs hW hf => ?_)
  · rw [othr_inr] at hf
    obtain ⟨hg, hf⟩ := gck_some hf
    obtain rfl := Option.some.inj hf
    exact ro_x hout hlk hW hg e1 e2 e3
  rw [othr_inl] at hf
  refine lv_iload_n hx hb dX5_sum_42 rfl (lv_at hl 0 rfl) ?_
  refine oc_v hW hf (fun r0 h0 hg => o_I (As := [.ref x1, .ref v13, .int ((v1.toUInt32 % 65536).toInt32)]) (rest := [.ref (z + c4)]) (n := 3) FX (mX12_init h0) (cwI 3 FX.2.2.2.2 (lw_meth q1086) rfl rfl rfl (FX.2.2.2.2 _ q153) (FX.2.2.2.2 _ q1084) (FX.2.2.2.2 _ q1085) rfl (by decide +kernel) ⟨by dsimp only [rlv]; omega, by dsimp only [rlv]; omega⟩) rfl hl.1 rfl (Nat.le_of_ble_eq_true rfl) hg dX5_sum_43 hW) (fun w15 c16 y17 H locs hW hf => ?_)
  refine lv_astore_n (lv' := [(1, .ref (z + c4)), (2, .int ((v1.toUInt32 % 65536).toInt32)), (0, .ref x0)]) hx hb dX5_sum_46 rfl hl (by decide) rfl (fun ls hl => ?_)
  refine lv_goto (tgt := 5) hx hb dX5_sum_47 (by decide) ?_
  exact hk5 x0 (z + c4) w15 c16 y17 _ _ _ (lv_sub hl [2, 0] rfl) hW hf
set_option maxHeartbeats 4000000 in
set_option maxRecDepth 100000 in
theorem wX5_sum_5 {l : Launch} {D : va_G} {dA : Nat → ClassId} {z : Nat} {d7 : Nat} {rcB rcO : RT} (hB : ∀ {z9 t9 : Nat} {w9 : va_W} {q9 : (Nat ⊕ Nat) × va_W × Nat × Nat}, rcB z9 t9 w9 = some q9 → CtO l yX5_both cX5_both 2 (some (.object "TrunkLitters$Node")) (rlv (6 * d7)) D dA [.ref t9] w9 z9 (Sum.map (fun r => some (.ref r)) id q9.1) q9.2.1 q9.2.2.1 q9.2.2.2) (hO : ∀ {z9 t9 : Nat} {w9 : va_W} {q9 : (Nat ⊕ Nat) × va_W × Nat × Nat}, rcO z9 t9 w9 = some q9 → CtO l yX5_one cX5_one 3 (some (.object "TrunkLitters$Node")) (rlv (6 * d7 - 2)) D dA [.ref t9] w9 z9 (Sum.map (fun r => some (.ref r)) id q9.1) q9.2.1 q9.2.2.1 q9.2.2.2) {p : Program} {e : Env} {s : State} {m : MethodId} {args : Array Value} {below : List Frame} {meth : Method} {c9 : Code} {A : Nat → Prop} {q : ((Nat ⊕ Nat) × va_W × Nat × Nat)} (FX : CallFix p m c9 cX5_sum 3 s args lw_all RX5) (hr : meth.sig.returnType = (some (Jvm.ClassFile.FieldType.object "TrunkLitters$Node"))) (hlk : meth.locks = false) (hnm : meth.name = yX5_sum.name) (hout : ∀ x ∈ c9.exceptionTable.toList, False) : ∀ n : Nat, ∀ (x0 : Nat) (x1 : Nat) (w : va_W) (c : Nat) (y : Nat) (H : Heap) (locs : List Loc) (ls : Array Slot), lv_has ls 3 [(0, .ref x0), (1, .ref x1)] → Wo D dA A s w z c H locs → fX5_sum_5 dA d7 rcB rcO z n x0 x1 w c y = some q → W p l e (rlv (6 * d7 + 3)) s m args below meth c9 H locs c y (QO D dA A below args s (rlv (6 * d7 + 3)).cells (rlv (6 * d7 + 3)).slots (Sum.map (fun r => some (.ref r)) id q.1) q.2.1 (z + q.2.2.1) q.2.2.2) (F0 m 5 ls []) := by
  have hx := FX.1; have hb := FX.2.1; have hown := FX.2.2.2.1; have hts := FX.2.2.2.2
  intro n
  induction n with
  | zero =>
    intro x0 x1 w c y H locs ls hl hW hf
    cases (show (none : Option ((Nat ⊕ Nat) × va_W × Nat × Nat)) = some q from hf)
  | succ n ih =>
    intro x0 x1 w c y H locs ls hl hW hf
    rw [fX5_sum_5] at hf
    refine lv_aload_n hx hb dX5_sum_5 rfl (lv_at hl 0 rfl) ?_
    refine og_i (C := RX5) (T := TX5) (N := 12) (ci := 5) FX hW in_X5 rfl 1 (by decide) q470 (fun _ h => h) hf dX5_sum_6 (fun v1 hf => ?_)
    refine lv_bipush (v := 43) hx hb dX5_sum_9 (by decide) ?_
    refine lv_icmp_eq (tgt := 23) hx hb dX5_sum_11 (by decide) (fun c11 => ?_) (fun c11 => ?_)
    · have hf := ifp c11 hf
      exact wX5_sum_23 hB hO FX hr hlk hnm hout (ih) x0 x1 w c y _ _ _ (lv_sub hl [0, 1] rfl) hW hf
    · have hf := ifn c11 hf
      refine lv_aload_n hx hb dX5_sum_14 rfl (lv_at hl 0 rfl) ?_
      refine og_i (C := RX5) (T := TX5) (N := 12) (ci := 5) FX hW in_X5 rfl 1 (by decide) q470 (fun _ h => h) hf dX5_sum_15 (fun v2 hf => ?_)
      refine lv_bipush (v := 45) hx hb dX5_sum_18 (by decide) ?_
      refine lv_icmp_ne (tgt := 50) hx hb dX5_sum_20 (by decide) (fun c20 => ?_) (fun c20 => ?_)
      · have hf := ifn c20 hf
        refine lv_aload_n hx hb dX5_sum_50 rfl (lv_at hl 1 rfl) ?_
        obtain ⟨hg, hf⟩ := gck_some hf
        obtain rfl := Option.some.inj hf
        exact ro_a (v := some x1) FX hr (Or.inl ⟨_, rfl⟩) hlk hW hg dX5_sum_51
      · have hf := ifp c20 hf
        exact wX5_sum_23 hB hO FX hr hlk hnm hout (ih) x0 x1 w c y _ _ _ (lv_sub hl [0, 1] rfl) hW hf
set_option maxHeartbeats 4000000 in
set_option maxRecDepth 100000 in
theorem mX5_sum {l : Launch} {D : va_G} {dA : Nat → ClassId} {z : Nat} {d7 : Nat} {rcB rcO : RT} (hB : ∀ {z9 t9 : Nat} {w9 : va_W} {q9 : (Nat ⊕ Nat) × va_W × Nat × Nat}, rcB z9 t9 w9 = some q9 → CtO l yX5_both cX5_both 2 (some (.object "TrunkLitters$Node")) (rlv (6 * d7)) D dA [.ref t9] w9 z9 (Sum.map (fun r => some (.ref r)) id q9.1) q9.2.1 q9.2.2.1 q9.2.2.2) (hO : ∀ {z9 t9 : Nat} {w9 : va_W} {q9 : (Nat ⊕ Nat) × va_W × Nat × Nat}, rcO z9 t9 w9 = some q9 → CtO l yX5_one cX5_one 3 (some (.object "TrunkLitters$Node")) (rlv (6 * d7 - 2)) D dA [.ref t9] w9 z9 (Sum.map (fun r => some (.ref r)) id q9.1) q9.2.1 q9.2.2.1 q9.2.2.2)  {t7 : Nat} {w : va_W} {q : ((Nat ⊕ Nat) × va_W × Nat × Nat)} (hf : fX5_sum dA d7 rcB rcO z t7 w = some q) : CtO l yX5_sum cX5_sum 3 (some (Jvm.ClassFile.FieldType.object "TrunkLitters$Node")) (rlv (6 * d7 + 3)) D dA [.ref t7] w z (Sum.map (fun r => some (.ref r)) id q.1) q.2.1 q.2.2.1 q.2.2.2 := by
  refine e_O (by decide) (Nat.le_of_ble_eq_true rfl) ?_
  intro p e s m below meth c9 ls A FX hr hlk hnm hout hl hW
  have hx := FX.1; have hb := FX.2.1; have hown := FX.2.2.2.1; have hts := FX.2.2.2.2
  have hl : lv_has ls 3 [(0, .ref t7)] := hl
  rw [fX5_sum] at hf
  refine lv_aload_n hx hb dX5_sum_0 rfl (lv_at hl 0 rfl) ?_
  obtain ⟨hv9, hf⟩ := pck_some hf
  refine oc_X (fun r => some (.ref r)) hW hf (fun r0 h0 hg => o_V (C := RX5) (As := []) (rest := []) (n := 0) FX (mX5_term hB hO h0) (cwV 0 FX.2.2.2.2 (lw_V q1050 q1052 qs26 q133 q1053) rfl rfl rfl (by decide +kernel) ⟨by dsimp only [rlv]; omega, by dsimp only [rlv]; omega⟩) (o_recv hW rfl hv9) rfl hl.1 rfl (Nat.le_of_ble_eq_true rfl) hg dX5_sum_1 hW) (fun t9 w2 c3 y4 H locs ce9 hW e1 e2 e3 hf => ?_) (fun v5 w2 c3 y4 H locs hW hf => ?_)
  · rw [othr_inr] at hf
    obtain ⟨hg, hf⟩ := gck_some hf
    obtain rfl := Option.some.inj hf
    exact ro_x hout hlk hW hg e1 e2 e3
  rw [othr_inl] at hf
  refine lv_astore_n (lv' := [(1, .ref v5), (0, .ref t7)]) hx hb dX5_sum_4 rfl hl (by decide) rfl (fun ls hl => ?_)
  exact wX5_sum_5 hB hO FX hr hlk hnm hout _ t7 v5 w2 c3 y4 _ _ _ (lv_sub hl [1, 0] rfl) hW hf
/-! TrunkLitters$Reader.one()LTrunkLitters$Node;: kind O -/
def fX5_one_95 (dA : Nat → Nat) (d7 : Nat) (rcB rcO : RT) (z : Nat) (x0 : Nat) (x1 : Nat) (w : va_W) (c : Nat) (y : Nat) : Option ((Nat ⊕ Nat) × va_W × Nat × Nat) := pgi w x0 5 1 fun v1 => pck w x0 5 (ocal (rlv (6 * d7 + 4)).cells (rlv (6 * d7 + 4)).slots c y rX5_go.cells rX5_go.slots (fX5_go dA (z + c) x0 w) fun r2 w3 c4 y5 => onew (rlv (6 * d7 + 4)).cells (rlv (6 * d7 + 4)).slots c4 y5 3 w3 (z + c4) (.inr (11, [.null, .null, .int 0])) fun w6 c7 y8 => pck w6 x0 5 (ocal (rlv (6 * d7 + 4)).cells (rlv (6 * d7 + 4)).slots c7 y8 (rlv (6 * d7 + 3)).cells (rlv (6 * d7 + 3)).slots (fX5_sum dA d7 rcB rcO (z + c7) x0 w6) fun r9 w10 c11 y12 => othr r9 (fun v13 => ocal (rlv (6 * d7 + 4)).cells (rlv (6 * d7 + 4)).slots c11 y12 rX12_init.cells rX12_init.slots (fX12_init dA (z + c11) (z + c4) x1 v13 ((v1.toUInt32 % 65536).toInt32) w10) fun r14 w15 c16 y17 => gck c16 y17 (rlv (6 * d7 + 4)).cells (rlv (6 * d7 + 4)).slots (some ((.inl (z + c4)), w15, c16, y17))) fun t => gck c11 y12 (rlv (6 * d7 + 4)).cells (rlv (6 * d7 + 4)).slots (some (.inr t, w10, c11, y12))))
def fX5_one (dA : Nat → Nat) (d7 : Nat) (rcB rcO : RT) (z : Nat) (t7 : Nat) (w : va_W) : Option ((Nat ⊕ Nat) × va_W × Nat × Nat) := pck w t7 5 (ocal (rlv (6 * d7 + 4)).cells (rlv (6 * d7 + 4)).slots 0 0 rX5_is.cells rX5_is.slots (fX5_is dA (z + 0) t7 (dA 218) w) fun r1 w2 c3 y4 => (if r1 = 0 then pck w2 t7 5 (ocal (rlv (6 * d7 + 4)).cells (rlv (6 * d7 + 4)).slots c3 y4 (rlv (6 * d7 + 3)).cells (rlv (6 * d7 + 3)).slots (fX5_sum dA d7 rcB rcO (z + c3) t7 w2) fun r5 w6 c7 y8 => othr r5 (fun v9 => pgi w6 t7 5 1 fun v10 => (if v10 = (60 : Int32) then fX5_one_95 dA d7 rcB rcO z t7 v9 w6 c7 y8 else pgi w6 t7 5 1 fun v11 => (if v11 = (62 : Int32) then fX5_one_95 dA d7 rcB rcO z t7 v9 w6 c7 y8 else pgi w6 t7 5 1 fun v12 => (if v12 = (61 : Int32) then fX5_one_95 dA d7 rcB rcO z t7 v9 w6 c7 y8 else gck c7 y8 (rlv (6 * d7 + 4)).cells (rlv (6 * d7 + 4)).slots (some ((.inl v9), w6, c7, y8)))))) fun t => gck c7 y8 (rlv (6 * d7 + 4)).cells (rlv (6 * d7 + 4)).slots (some (.inr t, w6, c7, y8))) else pgi w2 t7 5 4 fun v13 => (if v13 ≤ (6 : Int32) then pgi w2 t7 5 4 fun v14 => ppt w2 t7 5 4 (.int (v14 + (1 : Int32))) fun w15 => pck w15 t7 5 (ocal (rlv (6 * d7 + 4)).cells (rlv (6 * d7 + 4)).slots c3 y4 rX5_go.cells rX5_go.slots (fX5_go dA (z + c3) t7 w15) fun r16 w17 c18 y19 => onew (rlv (6 * d7 + 4)).cells (rlv (6 * d7 + 4)).slots c18 y19 1 w17 (z + c18) (.inr (9, [.null])) fun w20 c21 y22 => pck w20 t7 5 (ocal (rlv (6 * d7 + 4)).cells (rlv (6 * d7 + 4)).slots c21 y22 (rlv (6 * d7 - 2)).cells (rlv (6 * d7 - 2)).slots (rcO (z + c21) t7 w20) fun r23 w24 c25 y26 => othr r23 (fun v27 => ocal (rlv (6 * d7 + 4)).cells (rlv (6 * d7 + 4)).slots c25 y26 rX10_init.cells rX10_init.slots (fX10_init dA (z + c25) (z + c18) v27 w24) fun r28 w29 c30 y31 => pgi w29 t7 5 4 fun v32 => ppt w29 t7 5 4 (.int (v32 - (1 : Int32))) fun w33 => gck c30 y31 (rlv (6 * d7 + 4)).cells (rlv (6 * d7 + 4)).slots (some ((.inl (z + c18)), w33, c30, y31))) fun t => gck c25 y26 (rlv (6 * d7 + 4)).cells (rlv (6 * d7 + 4)).slots (some (.inr t, w24, c25, y26)))) else pck w2 t7 5 (ocal (rlv (6 * d7 + 4)).cells (rlv (6 * d7 + 4)).slots c3 y4 rX5_wrong.cells rX5_wrong.slots (fX5_wrong dA (z + c3) t7 w2) fun r34 w35 c36 y37 => gck c36 y37 (rlv (6 * d7 + 4)).cells (rlv (6 * d7 + 4)).slots (pck w35 r34 7 (some (.inr r34, w35, c36, y37)))))))
set_option maxHeartbeats 4000000 in
set_option maxRecDepth 100000 in
theorem wX5_one_95 {l : Launch} {D : va_G} {dA : Nat → ClassId} {z : Nat} {d7 : Nat} {rcB rcO : RT} (hB : ∀ {z9 t9 : Nat} {w9 : va_W} {q9 : (Nat ⊕ Nat) × va_W × Nat × Nat}, rcB z9 t9 w9 = some q9 → CtO l yX5_both cX5_both 2 (some (.object "TrunkLitters$Node")) (rlv (6 * d7)) D dA [.ref t9] w9 z9 (Sum.map (fun r => some (.ref r)) id q9.1) q9.2.1 q9.2.2.1 q9.2.2.2) (hO : ∀ {z9 t9 : Nat} {w9 : va_W} {q9 : (Nat ⊕ Nat) × va_W × Nat × Nat}, rcO z9 t9 w9 = some q9 → CtO l yX5_one cX5_one 3 (some (.object "TrunkLitters$Node")) (rlv (6 * d7 - 2)) D dA [.ref t9] w9 z9 (Sum.map (fun r => some (.ref r)) id q9.1) q9.2.1 q9.2.2.1 q9.2.2.2) {p : Program} {e : Env} {s : State} {m : MethodId} {args : Array Value} {below : List Frame} {meth : Method} {c9 : Code} {A : Nat → Prop} {q : ((Nat ⊕ Nat) × va_W × Nat × Nat)} (FX : CallFix p m c9 cX5_one 3 s args lw_all RX5) (hr : meth.sig.returnType = (some (Jvm.ClassFile.FieldType.object "TrunkLitters$Node"))) (hlk : meth.locks = false) (hnm : meth.name = yX5_one.name) (hout : ∀ x ∈ c9.exceptionTable.toList, False) : ∀ (x0 : Nat) (x1 : Nat) (w : va_W) (c : Nat) (y : Nat) (H : Heap) (locs : List Loc) (ls : Array Slot), lv_has ls 3 [(0, .ref x0), (1, .ref x1)] → Wo D dA A s w z c H locs → fX5_one_95 dA d7 rcB rcO z x0 x1 w c y = some q → W p l e (rlv (6 * d7 + 4)) s m args below meth c9 H locs c y (QO D dA A below args s (rlv (6 * d7 + 4)).cells (rlv (6 * d7 + 4)).slots (Sum.map (fun r => some (.ref r)) id q.1) q.2.1 (z + q.2.2.1) q.2.2.2) (F0 m 95 ls []) := by
  have hx := FX.1; have hb := FX.2.1; have hown := FX.2.2.2.1; have hts := FX.2.2.2.2
  intro x0 x1 w c y H locs ls hl hW hf
  rw [fX5_one_95] at hf
  refine lv_aload_n hx hb dX5_one_95 rfl (lv_at hl 0 rfl) ?_
  refine og_i (C := RX5) (T := TX5) (N := 12) (ci := 5) FX hW in_X5 rfl 1 (by decide) q470 (fun _ h => h) hf dX5_one_96 (fun v1 hf => ?_)
  refine lv_i2c (v := ((v1.toUInt32 % 65536).toInt32)) hx hb dX5_one_99 rfl ?_
  refine lv_istore_n (lv' := [(2, .int ((v1.toUInt32 % 65536).toInt32)), (0, .ref x0), (1, .ref x1)]) hx hb dX5_one_100 rfl hl (by decide) rfl (fun ls hl => ?_)
  refine lv_aload_n hx hb dX5_one_101 rfl (lv_at hl 1 rfl) ?_
  obtain ⟨hv9, hf⟩ := pck_some hf
  refine oc_v hW hf (fun r0 h0 hg => o_V (C := RX5) (As := []) (rest := []) (n := 0) FX (mX5_go h0) (cwV 0 FX.2.2.2.2 (lw_V q510 q512 qs1 q133 q513) rfl rfl rfl (by decide +kernel) ⟨by dsimp only [rlv]; omega, by dsimp only [rlv]; omega⟩) (o_recv hW rfl hv9) rfl hl.1 rfl (Nat.le_of_ble_eq_true rfl) hg dX5_one_102 hW) (fun w3 c4 y5 H locs hW hf => ?_)
  refine on_new (C := RX12) (T := TX12) (N := 3) (ci := 11) (fs := [.null, .null, .int 0]) FX hW in_X12 tyX12 tyX12_ok q1082 q1083 q153 rfl (by decide +kernel) hf dX5_one_105 (fun w6 c7 y8 H hW hf => ?_)
  refine lv_dup hx hb dX5_one_108 rfl ?_
  refine lv_aload_n hx hb dX5_one_109 rfl (lv_at hl 2 rfl) ?_
  refine lv_aload_n hx hb dX5_one_110 rfl (lv_at hl 1 rfl) ?_
  obtain ⟨hv9, hf⟩ := pck_some hf
  refine oc_X (fun r => some (.ref r)) hW hf (fun r0 h0 hg => o_V (C := RX5) (As := []) (rest := [.ref x1, .ref (z + c4), .ref (z + c4)]) (n := 0) FX (mX5_sum hB hO h0) (cwV 0 FX.2.2.2.2 (lw_V q1046 q1048 qs25 q133 q1049) rfl rfl rfl (by decide +kernel) ⟨by dsimp only [rlv]; omega, by dsimp only [rlv]; omega⟩) (o_recv hW rfl hv9) rfl hl.1 rfl (Nat.le_of_ble_eq_true rfl) hg dX5_one_111 hW) (fun t9 w10 c11 y12 H locs ce9 hW e1 e2 e3 hf => ?_) (fun v13 w10 c11 y12 H locs hW hf => ?_)
  · rw [othr_inr] at hf
    obtain ⟨hg, hf⟩ := gck_some hf
    obtain rfl := Option.some.inj hf
    exact ro_x hout hlk hW hg e1 e2 e3
  rw [othr_inl] at hf
  refine lv_iload_n hx hb dX5_one_114 rfl (lv_at hl 0 rfl) ?_
  refine oc_v hW hf (fun r0 h0 hg => o_I (As := [.ref x1, .ref v13, .int ((v1.toUInt32 % 65536).toInt32)]) (rest := [.ref (z + c4)]) (n := 3) FX (mX12_init h0) (cwI 3 FX.2.2.2.2 (lw_meth q1086) rfl rfl rfl (FX.2.2.2.2 _ q153) (FX.2.2.2.2 _ q1084) (FX.2.2.2.2 _ q1085) rfl (by decide +kernel) ⟨by dsimp only [rlv]; omega, by dsimp only [rlv]; omega⟩) rfl hl.1 rfl (Nat.le_of_ble_eq_true rfl) hg dX5_one_115 hW) (fun w15 c16 y17 H locs hW hf => ?_)
  obtain ⟨hg, hf⟩ := gck_some hf
  obtain rfl := Option.some.inj hf
  exact ro_a (v := some (z + c4)) FX hr (Or.inl ⟨_, rfl⟩) hlk hW hg dX5_one_118
set_option maxHeartbeats 4000000 in
set_option maxRecDepth 100000 in
theorem mX5_one {l : Launch} {D : va_G} {dA : Nat → ClassId} {z : Nat} {d7 : Nat} {rcB rcO : RT} (hB : ∀ {z9 t9 : Nat} {w9 : va_W} {q9 : (Nat ⊕ Nat) × va_W × Nat × Nat}, rcB z9 t9 w9 = some q9 → CtO l yX5_both cX5_both 2 (some (.object "TrunkLitters$Node")) (rlv (6 * d7)) D dA [.ref t9] w9 z9 (Sum.map (fun r => some (.ref r)) id q9.1) q9.2.1 q9.2.2.1 q9.2.2.2) (hO : ∀ {z9 t9 : Nat} {w9 : va_W} {q9 : (Nat ⊕ Nat) × va_W × Nat × Nat}, rcO z9 t9 w9 = some q9 → CtO l yX5_one cX5_one 3 (some (.object "TrunkLitters$Node")) (rlv (6 * d7 - 2)) D dA [.ref t9] w9 z9 (Sum.map (fun r => some (.ref r)) id q9.1) q9.2.1 q9.2.2.1 q9.2.2.2)  {t7 : Nat} {w : va_W} {q : ((Nat ⊕ Nat) × va_W × Nat × Nat)} (hf : fX5_one dA d7 rcB rcO z t7 w = some q) : CtO l yX5_one cX5_one 3 (some (Jvm.ClassFile.FieldType.object "TrunkLitters$Node")) (rlv (6 * d7 + 4)) D dA [.ref t7] w z (Sum.map (fun r => some (.ref r)) id q.1) q.2.1 q.2.2.1 q.2.2.2 := by
  refine e_O (by decide) (Nat.le_of_ble_eq_true rfl) ?_
  intro p e s m below meth c9 ls A FX hr hlk hnm hout hl hW
  have hx := FX.1; have hb := FX.2.1; have hown := FX.2.2.2.1; have hts := FX.2.2.2.2
  have hl : lv_has ls 3 [(0, .ref t7)] := hl
  rw [fX5_one] at hf
  refine lv_aload_n hx hb dX5_one_0 rfl (lv_at hl 0 rfl) ?_
  refine o_text FX rfl hW 18 (by decide) rfl dX5_one_1 ?_
  obtain ⟨hv9, hf⟩ := pck_some hf
  refine oc_i hW hf (fun r0 h0 hg => o_V (C := RX5) (As := [.ref (dA 218)]) (rest := []) (n := 1) FX (mX5_is h0) (cwV 1 FX.2.2.2.2 (lw_V q721 q723 qs6 q133 q724) rfl rfl rfl (by decide +kernel) ⟨by dsimp only [rlv]; omega, by dsimp only [rlv]; omega⟩) (o_recv hW rfl hv9) rfl hl.1 rfl (Nat.le_of_ble_eq_true rfl) hg dX5_one_3 hW) (fun r1 w2 c3 y4 H locs hW hf => ?_)
  refine lv_if_eq (tgt := 61) hx hb dX5_one_6 (by decide) (fun c6 => ?_) (fun c6 => ?_)
  · have hf := ifp c6 hf
    refine lv_aload_n hx hb dX5_one_61 rfl (lv_at hl 0 rfl) ?_
    obtain ⟨hv9, hf⟩ := pck_some hf
    refine oc_X (fun r => some (.ref r)) hW hf (fun r0 h0 hg => o_V (C := RX5) (As := []) (rest := []) (n := 0) FX (mX5_sum hB hO h0) (cwV 0 FX.2.2.2.2 (lw_V q1046 q1048 qs25 q133 q1049) rfl rfl rfl (by decide +kernel) ⟨by dsimp only [rlv]; omega, by dsimp only [rlv]; omega⟩) (o_recv hW rfl hv9) rfl hl.1 rfl (Nat.le_of_ble_eq_true rfl) hg dX5_one_62 hW) (fun t9 w6 c7 y8 H locs ce9 hW e1 e2 e3 hf => ?_) (fun v9 w6 c7 y8 H locs hW hf => ?_)
    · rw [othr_inr] at hf
      obtain ⟨hg, hf⟩ := gck_some hf
      obtain rfl := Option.some.inj hf
      exact ro_x hout hlk hW hg e1 e2 e3
    rw [othr_inl] at hf
    refine lv_astore_n (lv' := [(1, .ref v9), (0, .ref t7)]) hx hb dX5_one_65 rfl hl (by decide) rfl (fun ls hl => ?_)
    refine lv_aload_n hx hb dX5_one_66 rfl (lv_at hl 1 rfl) ?_
    refine og_i (C := RX5) (T := TX5) (N := 12) (ci := 5) FX hW in_X5 rfl 1 (by decide) q470 (fun _ h => h) hf dX5_one_67 (fun v10 hf => ?_)
    refine lv_bipush (v := 60) hx hb dX5_one_70 (by decide) ?_
    refine lv_icmp_eq (tgt := 95) hx hb dX5_one_72 (by decide) (fun c72 => ?_) (fun c72 => ?_)
    · have hf := ifp c72 hf
      exact wX5_one_95 hB hO FX hr hlk hnm hout t7 v9 w6 c7 y8 _ _ _ (lv_sub hl [1, 0] rfl) hW hf
    · have hf := ifn c72 hf
      refine lv_aload_n hx hb dX5_one_75 rfl (lv_at hl 1 rfl) ?_
      refine og_i (C := RX5) (T := TX5) (N := 12) (ci := 5) FX hW in_X5 rfl 1 (by decide) q470 (fun _ h => h) hf dX5_one_76 (fun v11 hf => ?_)
      refine lv_bipush (v := 62) hx hb dX5_one_79 (by decide) ?_
      refine lv_icmp_eq (tgt := 95) hx hb dX5_one_81 (by decide) (fun c81 => ?_) (fun c81 => ?_)
      · have hf := ifp c81 hf
        exact wX5_one_95 hB hO FX hr hlk hnm hout t7 v9 w6 c7 y8 _ _ _ (lv_sub hl [1, 0] rfl) hW hf
      · have hf := ifn c81 hf
        refine lv_aload_n hx hb dX5_one_84 rfl (lv_at hl 1 rfl) ?_
        refine og_i (C := RX5) (T := TX5) (N := 12) (ci := 5) FX hW in_X5 rfl 1 (by decide) q470 (fun _ h => h) hf dX5_one_85 (fun v12 hf => ?_)
        refine lv_bipush (v := 61) hx hb dX5_one_88 (by decide) ?_
        refine lv_icmp_eq (tgt := 95) hx hb dX5_one_90 (by decide) (fun c90 => ?_) (fun c90 => ?_)
        · have hf := ifp c90 hf
          exact wX5_one_95 hB hO FX hr hlk hnm hout t7 v9 w6 c7 y8 _ _ _ (lv_sub hl [1, 0] rfl) hW hf
        · have hf := ifn c90 hf
          refine lv_aload_n hx hb dX5_one_93 rfl (lv_at hl 0 rfl) ?_
          obtain ⟨hg, hf⟩ := gck_some hf
          obtain rfl := Option.some.inj hf
          exact ro_a (v := some v9) FX hr (Or.inl ⟨_, rfl⟩) hlk hW hg dX5_one_94
  · have hf := ifn c6 hf
    refine lv_aload_n hx hb dX5_one_9 rfl (lv_at hl 0 rfl) ?_
    refine og_i (C := RX5) (T := TX5) (N := 12) (ci := 5) FX hW in_X5 rfl 4 (by decide) q473 (fun _ h => h) hf dX5_one_10 (fun v13 hf => ?_)
    refine lv_bipush (v := 6) hx hb dX5_one_13 (by decide) ?_
    refine lv_icmp_le (tgt := 23) hx hb dX5_one_15 (by decide) (fun c15 => ?_) (fun c15 => ?_)
    · have hf := ifp c15 hf
      refine lv_aload_n hx hb dX5_one_23 rfl (lv_at hl 0 rfl) ?_
      refine lv_dup hx hb dX5_one_24 rfl ?_
      refine og_i (C := RX5) (T := TX5) (N := 12) (ci := 5) FX hW in_X5 rfl 4 (by decide) q473 (fun _ h => h) hf dX5_one_25 (fun v14 hf => ?_)
      refine lv_iconst (v := 1) hx hb dX5_one_28 (by decide) ?_
      refine lv_iadd hx hb dX5_one_29 ?_
      refine op_put (C := RX5) (T := TX5) (N := 12) (ci := 5) (ty := .int) FX hW in_X5 tyX5 tyX5_ok nmX5 rfl 4 (by decide) q473 (fun _ h => h) rfl (by decide +kernel) rfl rfl hf dX5_one_30 (fun w15 H locs hW hf => ?_)
      refine lv_aload_n hx hb dX5_one_33 rfl (lv_at hl 0 rfl) ?_
      obtain ⟨hv9, hf⟩ := pck_some hf
      refine oc_v hW hf (fun r0 h0 hg => o_V (C := RX5) (As := []) (rest := []) (n := 0) FX (mX5_go h0) (cwV 0 FX.2.2.2.2 (lw_V q510 q512 qs1 q133 q513) rfl rfl rfl (by decide +kernel) ⟨by dsimp only [rlv]; omega, by dsimp only [rlv]; omega⟩) (o_recv hW rfl hv9) rfl hl.1 rfl (Nat.le_of_ble_eq_true rfl) hg dX5_one_34 hW) (fun w17 c18 y19 H locs hW hf => ?_)
      refine on_new (C := RX10) (T := TX10) (N := 1) (ci := 9) (fs := [.null]) FX hW in_X10 tyX10 tyX10_ok q1036 q1037 q149 rfl (by decide +kernel) hf dX5_one_37 (fun w20 c21 y22 H hW hf => ?_)
      refine lv_dup hx hb dX5_one_40 rfl ?_
      refine lv_aload_n hx hb dX5_one_41 rfl (lv_at hl 0 rfl) ?_
      obtain ⟨hv9, hf⟩ := pck_some hf
      refine oc_X (fun r => some (.ref r)) hW hf (fun r0 h0 hg => o_V (C := RX5) (As := []) (rest := [.ref (z + c18), .ref (z + c18)]) (n := 0) FX (hO h0) (cwV 0 FX.2.2.2.2 (lw_V q1032 q1034 qs24 q133 q1035) rfl rfl rfl (by decide +kernel) ⟨by dsimp only [rlv]; omega, by dsimp only [rlv]; omega⟩) (o_recv hW rfl hv9) rfl hl.1 rfl (Nat.le_of_ble_eq_true rfl) hg dX5_one_42 hW) (fun t9 w24 c25 y26 H locs ce9 hW e1 e2 e3 hf => ?_) (fun v27 w24 c25 y26 H locs hW hf => ?_)
      · rw [othr_inr] at hf
        obtain ⟨hg, hf⟩ := gck_some hf
        obtain rfl := Option.some.inj hf
        exact ro_x hout hlk hW hg e1 e2 e3
      rw [othr_inl] at hf
      refine oc_v hW hf (fun r0 h0 hg => o_I (As := [.ref v27]) (rest := [.ref (z + c18)]) (n := 1) FX (mX10_init h0) (cwI 1 FX.2.2.2.2 (lw_meth q1040) rfl rfl rfl (FX.2.2.2.2 _ q149) (FX.2.2.2.2 _ q1038) (FX.2.2.2.2 _ q1039) rfl (by decide +kernel) ⟨by dsimp only [rlv]; omega, by dsimp only [rlv]; omega⟩) rfl hl.1 rfl (Nat.le_of_ble_eq_true rfl) hg dX5_one_45 hW) (fun w29 c30 y31 H locs hW hf => ?_)
      refine lv_astore_n (lv' := [(1, .ref (z + c18)), (0, .ref t7)]) hx hb dX5_one_48 rfl hl (by decide) rfl (fun ls hl => ?_)
      refine lv_aload_n hx hb dX5_one_49 rfl (lv_at hl 1 rfl) ?_
      refine lv_dup hx hb dX5_one_50 rfl ?_
      refine og_i (C := RX5) (T := TX5) (N := 12) (ci := 5) FX hW in_X5 rfl 4 (by decide) q473 (fun _ h => h) hf dX5_one_51 (fun v32 hf => ?_)
      refine lv_iconst (v := 1) hx hb dX5_one_54 (by decide) ?_
      refine lv_isub hx hb dX5_one_55 ?_
      refine op_put (C := RX5) (T := TX5) (N := 12) (ci := 5) (ty := .int) FX hW in_X5 tyX5 tyX5_ok nmX5 rfl 4 (by decide) q473 (fun _ h => h) rfl (by decide +kernel) rfl rfl hf dX5_one_56 (fun w33 H locs hW hf => ?_)
      refine lv_aload_n hx hb dX5_one_59 rfl (lv_at hl 0 rfl) ?_
      obtain ⟨hg, hf⟩ := gck_some hf
      obtain rfl := Option.some.inj hf
      exact ro_a (v := some (z + c18)) FX hr (Or.inl ⟨_, rfl⟩) hlk hW hg dX5_one_60
    · have hf := ifn c15 hf
      refine lv_aload_n hx hb dX5_one_18 rfl (lv_at hl 0 rfl) ?_
      obtain ⟨hv9, hf⟩ := pck_some hf
      refine oc_R hW hf (fun r0 h0 hg => o_V (C := RX5) (As := []) (rest := []) (n := 0) FX (mX5_wrong h0) (cwV 0 FX.2.2.2.2 (lw_V q818 q820 qs10 q133 q821) rfl rfl rfl (by decide +kernel) ⟨by dsimp only [rlv]; omega, by dsimp only [rlv]; omega⟩) (o_recv hW rfl hv9) rfl hl.1 rfl (Nat.le_of_ble_eq_true rfl) hg dX5_one_19 hW) (fun r34 w35 c36 y37 H locs hW hf => ?_)
      obtain ⟨hg, hf⟩ := gck_some hf
      obtain ⟨⟨fs9, hv9⟩, hf⟩ := pck_some hf
      obtain rfl := Option.some.inj hf
      exact o_athrow FX hW hv9 dX5_one_22 (fun ce e1 e2 e3 => ro_x hout hlk hW hg e1 e2 e3)
/-! TrunkLitters$Reader.all()LTrunkLitters$Node;: kind O -/
def fX5_all_5 (dA : Nat → Nat) (d7 : Nat) (rcB rcO : RT) (z : Nat) : Nat → Nat → Nat → va_W → Nat → Nat → Option ((Nat ⊕ Nat) × va_W × Nat × Nat)
  | 0, _, _, _, _, _ => none
  | n + 1, x0, x1, w, c, y => pck w x0 5 (ocal (rlv (6 * d7 + 5)).cells (rlv (6 * d7 + 5)).slots c y rX5_takes.cells rX5_takes.slots (fX5_takes dA (z + c) x0 (dA 216) w) fun r1 w2 c3 y4 => (if r1 = 0 then gck c3 y4 (rlv (6 * d7 + 5)).cells (rlv (6 * d7 + 5)).slots (some ((.inl x1), w2, c3, y4)) else onew (rlv (6 * d7 + 5)).cells (rlv (6 * d7 + 5)).slots c3 y4 3 w2 (z + c3) (.inr (11, [.null, .null, .int 0])) fun w5 c6 y7 => pck w5 x0 5 (ocal (rlv (6 * d7 + 5)).cells (rlv (6 * d7 + 5)).slots c6 y7 (rlv (6 * d7 + 4)).cells (rlv (6 * d7 + 4)).slots (fX5_one dA d7 rcB rcO (z + c6) x0 w5) fun r8 w9 c10 y11 => othr r8 (fun v12 => ocal (rlv (6 * d7 + 5)).cells (rlv (6 * d7 + 5)).slots c10 y11 rX12_init.cells rX12_init.slots (fX12_init dA (z + c10) (z + c3) x1 v12 (38 : Int32) w9) fun r13 w14 c15 y16 => fX5_all_5 dA d7 rcB rcO z n x0 (z + c3) w14 c15 y16) fun t => gck c10 y11 (rlv (6 * d7 + 5)).cells (rlv (6 * d7 + 5)).slots (some (.inr t, w9, c10, y11)))))
def fX5_all (dA : Nat → Nat) (d7 : Nat) (rcB rcO : RT) (z : Nat) (t7 : Nat) (w : va_W) : Option ((Nat ⊕ Nat) × va_W × Nat × Nat) := pck w t7 5 (ocal (rlv (6 * d7 + 5)).cells (rlv (6 * d7 + 5)).slots 0 0 (rlv (6 * d7 + 4)).cells (rlv (6 * d7 + 4)).slots (fX5_one dA d7 rcB rcO (z + 0) t7 w) fun r1 w2 c3 y4 => othr r1 (fun v5 => fX5_all_5 dA d7 rcB rcO z FU t7 v5 w2 c3 y4) fun t => gck c3 y4 (rlv (6 * d7 + 5)).cells (rlv (6 * d7 + 5)).slots (some (.inr t, w2, c3, y4)))
set_option maxHeartbeats 4000000 in
set_option maxRecDepth 100000 in
theorem wX5_all_5 {l : Launch} {D : va_G} {dA : Nat → ClassId} {z : Nat} {d7 : Nat} {rcB rcO : RT} (hB : ∀ {z9 t9 : Nat} {w9 : va_W} {q9 : (Nat ⊕ Nat) × va_W × Nat × Nat}, rcB z9 t9 w9 = some q9 → CtO l yX5_both cX5_both 2 (some (.object "TrunkLitters$Node")) (rlv (6 * d7)) D dA [.ref t9] w9 z9 (Sum.map (fun r => some (.ref r)) id q9.1) q9.2.1 q9.2.2.1 q9.2.2.2) (hO : ∀ {z9 t9 : Nat} {w9 : va_W} {q9 : (Nat ⊕ Nat) × va_W × Nat × Nat}, rcO z9 t9 w9 = some q9 → CtO l yX5_one cX5_one 3 (some (.object "TrunkLitters$Node")) (rlv (6 * d7 - 2)) D dA [.ref t9] w9 z9 (Sum.map (fun r => some (.ref r)) id q9.1) q9.2.1 q9.2.2.1 q9.2.2.2) {p : Program} {e : Env} {s : State} {m : MethodId} {args : Array Value} {below : List Frame} {meth : Method} {c9 : Code} {A : Nat → Prop} {q : ((Nat ⊕ Nat) × va_W × Nat × Nat)} (FX : CallFix p m c9 cX5_all 2 s args lw_all RX5) (hr : meth.sig.returnType = (some (Jvm.ClassFile.FieldType.object "TrunkLitters$Node"))) (hlk : meth.locks = false) (hnm : meth.name = yX5_all.name) (hout : ∀ x ∈ c9.exceptionTable.toList, False) : ∀ n : Nat, ∀ (x0 : Nat) (x1 : Nat) (w : va_W) (c : Nat) (y : Nat) (H : Heap) (locs : List Loc) (ls : Array Slot), lv_has ls 2 [(0, .ref x0), (1, .ref x1)] → Wo D dA A s w z c H locs → fX5_all_5 dA d7 rcB rcO z n x0 x1 w c y = some q → W p l e (rlv (6 * d7 + 5)) s m args below meth c9 H locs c y (QO D dA A below args s (rlv (6 * d7 + 5)).cells (rlv (6 * d7 + 5)).slots (Sum.map (fun r => some (.ref r)) id q.1) q.2.1 (z + q.2.2.1) q.2.2.2) (F0 m 5 ls []) := by
  have hx := FX.1; have hb := FX.2.1; have hown := FX.2.2.2.1; have hts := FX.2.2.2.2
  intro n
  induction n with
  | zero =>
    intro x0 x1 w c y H locs ls hl hW hf
    cases (show (none : Option ((Nat ⊕ Nat) × va_W × Nat × Nat)) = some q from hf)
  | succ n ih =>
    intro x0 x1 w c y H locs ls hl hW hf
    rw [fX5_all_5] at hf
    refine lv_aload_n hx hb dX5_all_5 rfl (lv_at hl 0 rfl) ?_
    refine o_text FX rfl hW 16 (by decide) rfl dX5_all_6 ?_
    obtain ⟨hv9, hf⟩ := pck_some hf
    refine oc_i hW hf (fun r0 h0 hg => o_V (C := RX5) (As := [.ref (dA 216)]) (rest := []) (n := 1) FX (mX5_takes h0) (cwV 1 FX.2.2.2.2 (lw_V q924 q926 qs14 q133 q927) rfl rfl rfl (by decide +kernel) ⟨by dsimp only [rlv]; omega, by dsimp only [rlv]; omega⟩) (o_recv hW rfl hv9) rfl hl.1 rfl (Nat.le_of_ble_eq_true rfl) hg dX5_all_8 hW) (fun r1 w2 c3 y4 H locs hW hf => ?_)
    refine lv_if_eq (tgt := 32) hx hb dX5_all_11 (by decide) (fun c11 => ?_) (fun c11 => ?_)
    · have hf := ifp c11 hf
      refine lv_aload_n hx hb dX5_all_32 rfl (lv_at hl 1 rfl) ?_
      obtain ⟨hg, hf⟩ := gck_some hf
      obtain rfl := Option.some.inj hf
      exact ro_a (v := some x1) FX hr (Or.inl ⟨_, rfl⟩) hlk hW hg dX5_all_33
    · have hf := ifn c11 hf
      refine on_new (C := RX12) (T := TX12) (N := 3) (ci := 11) (fs := [.null, .null, .int 0]) FX hW in_X12 tyX12 tyX12_ok q1082 q1083 q153 rfl (by decide +kernel) hf dX5_all_14 (fun w5 c6 y7 H hW hf => ?_)
      refine lv_dup hx hb dX5_all_17 rfl ?_
      refine lv_aload_n hx hb dX5_all_18 rfl (lv_at hl 1 rfl) ?_
      refine lv_aload_n hx hb dX5_all_19 rfl (lv_at hl 0 rfl) ?_
      obtain ⟨hv9, hf⟩ := pck_some hf
      refine oc_X (fun r => some (.ref r)) hW hf (fun r0 h0 hg => o_V (C := RX5) (As := []) (rest := [.ref x1, .ref (z + c3), .ref (z + c3)]) (n := 0) FX (mX5_one hB hO h0) (cwV 0 FX.2.2.2.2 (lw_V q1032 q1034 qs24 q133 q1035) rfl rfl rfl (by decide +kernel) ⟨by dsimp only [rlv]; omega, by dsimp only [rlv]; omega⟩) (o_recv hW rfl hv9) rfl hl.1 rfl (Nat.le_of_ble_eq_true rfl) hg dX5_all_20 hW) (fun t9 w9 c10 y11 H locs ce9 hW e1 e2 e3 hf => ?_) (fun v12 w9 c10 y11 H locs hW hf => ?_)
      · rw [othr_inr] at hf
        obtain ⟨hg, hf⟩ := gck_some hf
        obtain rfl := Option.some.inj hf
        exact ro_x hout hlk hW hg e1 e2 e3
      rw [othr_inl] at hf
      refine lv_bipush (v := 38) hx hb dX5_all_23 (by decide) ?_
      refine oc_v hW hf (fun r0 h0 hg => o_I (As := [.ref x1, .ref v12, .int (38 : Int32)]) (rest := [.ref (z + c3)]) (n := 3) FX (mX12_init h0) (cwI 3 FX.2.2.2.2 (lw_meth q1086) rfl rfl rfl (FX.2.2.2.2 _ q153) (FX.2.2.2.2 _ q1084) (FX.2.2.2.2 _ q1085) rfl (by decide +kernel) ⟨by dsimp only [rlv]; omega, by dsimp only [rlv]; omega⟩) rfl hl.1 rfl (Nat.le_of_ble_eq_true rfl) hg dX5_all_25 hW) (fun w14 c15 y16 H locs hW hf => ?_)
      refine lv_astore_n (lv' := [(1, .ref (z + c3)), (0, .ref x0)]) hx hb dX5_all_28 rfl hl (by decide) rfl (fun ls hl => ?_)
      refine lv_goto (tgt := 5) hx hb dX5_all_29 (by decide) ?_
      exact ih x0 (z + c3) w14 c15 y16 _ _ _ (lv_sub hl [1, 0] rfl) hW hf
set_option maxHeartbeats 4000000 in
set_option maxRecDepth 100000 in
theorem mX5_all {l : Launch} {D : va_G} {dA : Nat → ClassId} {z : Nat} {d7 : Nat} {rcB rcO : RT} (hB : ∀ {z9 t9 : Nat} {w9 : va_W} {q9 : (Nat ⊕ Nat) × va_W × Nat × Nat}, rcB z9 t9 w9 = some q9 → CtO l yX5_both cX5_both 2 (some (.object "TrunkLitters$Node")) (rlv (6 * d7)) D dA [.ref t9] w9 z9 (Sum.map (fun r => some (.ref r)) id q9.1) q9.2.1 q9.2.2.1 q9.2.2.2) (hO : ∀ {z9 t9 : Nat} {w9 : va_W} {q9 : (Nat ⊕ Nat) × va_W × Nat × Nat}, rcO z9 t9 w9 = some q9 → CtO l yX5_one cX5_one 3 (some (.object "TrunkLitters$Node")) (rlv (6 * d7 - 2)) D dA [.ref t9] w9 z9 (Sum.map (fun r => some (.ref r)) id q9.1) q9.2.1 q9.2.2.1 q9.2.2.2)  {t7 : Nat} {w : va_W} {q : ((Nat ⊕ Nat) × va_W × Nat × Nat)} (hf : fX5_all dA d7 rcB rcO z t7 w = some q) : CtO l yX5_all cX5_all 2 (some (Jvm.ClassFile.FieldType.object "TrunkLitters$Node")) (rlv (6 * d7 + 5)) D dA [.ref t7] w z (Sum.map (fun r => some (.ref r)) id q.1) q.2.1 q.2.2.1 q.2.2.2 := by
  refine e_O (by decide) (Nat.le_of_ble_eq_true rfl) ?_
  intro p e s m below meth c9 ls A FX hr hlk hnm hout hl hW
  have hx := FX.1; have hb := FX.2.1; have hown := FX.2.2.2.1; have hts := FX.2.2.2.2
  have hl : lv_has ls 2 [(0, .ref t7)] := hl
  rw [fX5_all] at hf
  refine lv_aload_n hx hb dX5_all_0 rfl (lv_at hl 0 rfl) ?_
  obtain ⟨hv9, hf⟩ := pck_some hf
  refine oc_X (fun r => some (.ref r)) hW hf (fun r0 h0 hg => o_V (C := RX5) (As := []) (rest := []) (n := 0) FX (mX5_one hB hO h0) (cwV 0 FX.2.2.2.2 (lw_V q1032 q1034 qs24 q133 q1035) rfl rfl rfl (by decide +kernel) ⟨by dsimp only [rlv]; omega, by dsimp only [rlv]; omega⟩) (o_recv hW rfl hv9) rfl hl.1 rfl (Nat.le_of_ble_eq_true rfl) hg dX5_all_1 hW) (fun t9 w2 c3 y4 H locs ce9 hW e1 e2 e3 hf => ?_) (fun v5 w2 c3 y4 H locs hW hf => ?_)
  · rw [othr_inr] at hf
    obtain ⟨hg, hf⟩ := gck_some hf
    obtain rfl := Option.some.inj hf
    exact ro_x hout hlk hW hg e1 e2 e3
  rw [othr_inl] at hf
  refine lv_astore_n (lv' := [(1, .ref v5), (0, .ref t7)]) hx hb dX5_all_4 rfl hl (by decide) rfl (fun ls hl => ?_)
  exact wX5_all_5 hB hO FX hr hlk hnm hout _ t7 v5 w2 c3 y4 _ _ _ (lv_sub hl [1, 0] rfl) hW hf
/-! TrunkLitters$Reader.both()LTrunkLitters$Node;: kind O -/
def fX5_both_5 (dA : Nat → Nat) (d7 : Nat) (rcB rcO : RT) (z : Nat) : Nat → Nat → Nat → va_W → Nat → Nat → Option ((Nat ⊕ Nat) × va_W × Nat × Nat)
  | 0, _, _, _, _, _ => none
  | n + 1, x0, x1, w, c, y => pck w x0 5 (ocal (rlv (6 * d7 + 6)).cells (rlv (6 * d7 + 6)).slots c y rX5_takes.cells rX5_takes.slots (fX5_takes dA (z + c) x0 (dA 217) w) fun r1 w2 c3 y4 => (if r1 = 0 then gck c3 y4 (rlv (6 * d7 + 6)).cells (rlv (6 * d7 + 6)).slots (some ((.inl x1), w2, c3, y4)) else onew (rlv (6 * d7 + 6)).cells (rlv (6 * d7 + 6)).slots c3 y4 3 w2 (z + c3) (.inr (11, [.null, .null, .int 0])) fun w5 c6 y7 => pck w5 x0 5 (ocal (rlv (6 * d7 + 6)).cells (rlv (6 * d7 + 6)).slots c6 y7 (rlv (6 * d7 + 5)).cells (rlv (6 * d7 + 5)).slots (fX5_all dA d7 rcB rcO (z + c6) x0 w5) fun r8 w9 c10 y11 => othr r8 (fun v12 => ocal (rlv (6 * d7 + 6)).cells (rlv (6 * d7 + 6)).slots c10 y11 rX12_init.cells rX12_init.slots (fX12_init dA (z + c10) (z + c3) x1 v12 (124 : Int32) w9) fun r13 w14 c15 y16 => fX5_both_5 dA d7 rcB rcO z n x0 (z + c3) w14 c15 y16) fun t => gck c10 y11 (rlv (6 * d7 + 6)).cells (rlv (6 * d7 + 6)).slots (some (.inr t, w9, c10, y11)))))
def fX5_both (dA : Nat → Nat) (d7 : Nat) (rcB rcO : RT) (z : Nat) (t7 : Nat) (w : va_W) : Option ((Nat ⊕ Nat) × va_W × Nat × Nat) := pck w t7 5 (ocal (rlv (6 * d7 + 6)).cells (rlv (6 * d7 + 6)).slots 0 0 (rlv (6 * d7 + 5)).cells (rlv (6 * d7 + 5)).slots (fX5_all dA d7 rcB rcO (z + 0) t7 w) fun r1 w2 c3 y4 => othr r1 (fun v5 => fX5_both_5 dA d7 rcB rcO z FU t7 v5 w2 c3 y4) fun t => gck c3 y4 (rlv (6 * d7 + 6)).cells (rlv (6 * d7 + 6)).slots (some (.inr t, w2, c3, y4)))
set_option maxHeartbeats 4000000 in
set_option maxRecDepth 100000 in
theorem wX5_both_5 {l : Launch} {D : va_G} {dA : Nat → ClassId} {z : Nat} {d7 : Nat} {rcB rcO : RT} (hB : ∀ {z9 t9 : Nat} {w9 : va_W} {q9 : (Nat ⊕ Nat) × va_W × Nat × Nat}, rcB z9 t9 w9 = some q9 → CtO l yX5_both cX5_both 2 (some (.object "TrunkLitters$Node")) (rlv (6 * d7)) D dA [.ref t9] w9 z9 (Sum.map (fun r => some (.ref r)) id q9.1) q9.2.1 q9.2.2.1 q9.2.2.2) (hO : ∀ {z9 t9 : Nat} {w9 : va_W} {q9 : (Nat ⊕ Nat) × va_W × Nat × Nat}, rcO z9 t9 w9 = some q9 → CtO l yX5_one cX5_one 3 (some (.object "TrunkLitters$Node")) (rlv (6 * d7 - 2)) D dA [.ref t9] w9 z9 (Sum.map (fun r => some (.ref r)) id q9.1) q9.2.1 q9.2.2.1 q9.2.2.2) {p : Program} {e : Env} {s : State} {m : MethodId} {args : Array Value} {below : List Frame} {meth : Method} {c9 : Code} {A : Nat → Prop} {q : ((Nat ⊕ Nat) × va_W × Nat × Nat)} (FX : CallFix p m c9 cX5_both 2 s args lw_all RX5) (hr : meth.sig.returnType = (some (Jvm.ClassFile.FieldType.object "TrunkLitters$Node"))) (hlk : meth.locks = false) (hnm : meth.name = yX5_both.name) (hout : ∀ x ∈ c9.exceptionTable.toList, False) : ∀ n : Nat, ∀ (x0 : Nat) (x1 : Nat) (w : va_W) (c : Nat) (y : Nat) (H : Heap) (locs : List Loc) (ls : Array Slot), lv_has ls 2 [(0, .ref x0), (1, .ref x1)] → Wo D dA A s w z c H locs → fX5_both_5 dA d7 rcB rcO z n x0 x1 w c y = some q → W p l e (rlv (6 * d7 + 6)) s m args below meth c9 H locs c y (QO D dA A below args s (rlv (6 * d7 + 6)).cells (rlv (6 * d7 + 6)).slots (Sum.map (fun r => some (.ref r)) id q.1) q.2.1 (z + q.2.2.1) q.2.2.2) (F0 m 5 ls []) := by
  have hx := FX.1; have hb := FX.2.1; have hown := FX.2.2.2.1; have hts := FX.2.2.2.2
  intro n
  induction n with
  | zero =>
    intro x0 x1 w c y H locs ls hl hW hf
    cases (show (none : Option ((Nat ⊕ Nat) × va_W × Nat × Nat)) = some q from hf)
  | succ n ih =>
    intro x0 x1 w c y H locs ls hl hW hf
    rw [fX5_both_5] at hf
    refine lv_aload_n hx hb dX5_both_5 rfl (lv_at hl 0 rfl) ?_
    refine o_text FX rfl hW 17 (by decide) rfl dX5_both_6 ?_
    obtain ⟨hv9, hf⟩ := pck_some hf
    refine oc_i hW hf (fun r0 h0 hg => o_V (C := RX5) (As := [.ref (dA 217)]) (rest := []) (n := 1) FX (mX5_takes h0) (cwV 1 FX.2.2.2.2 (lw_V q924 q926 qs14 q133 q927) rfl rfl rfl (by decide +kernel) ⟨by dsimp only [rlv]; omega, by dsimp only [rlv]; omega⟩) (o_recv hW rfl hv9) rfl hl.1 rfl (Nat.le_of_ble_eq_true rfl) hg dX5_both_8 hW) (fun r1 w2 c3 y4 H locs hW hf => ?_)
    refine lv_if_eq (tgt := 32) hx hb dX5_both_11 (by decide) (fun c11 => ?_) (fun c11 => ?_)
    · have hf := ifp c11 hf
      refine lv_aload_n hx hb dX5_both_32 rfl (lv_at hl 1 rfl) ?_
      obtain ⟨hg, hf⟩ := gck_some hf
      obtain rfl := Option.some.inj hf
      exact ro_a (v := some x1) FX hr (Or.inl ⟨_, rfl⟩) hlk hW hg dX5_both_33
    · have hf := ifn c11 hf
      refine on_new (C := RX12) (T := TX12) (N := 3) (ci := 11) (fs := [.null, .null, .int 0]) FX hW in_X12 tyX12 tyX12_ok q1082 q1083 q153 rfl (by decide +kernel) hf dX5_both_14 (fun w5 c6 y7 H hW hf => ?_)
      refine lv_dup hx hb dX5_both_17 rfl ?_
      refine lv_aload_n hx hb dX5_both_18 rfl (lv_at hl 1 rfl) ?_
      refine lv_aload_n hx hb dX5_both_19 rfl (lv_at hl 0 rfl) ?_
      obtain ⟨hv9, hf⟩ := pck_some hf
      refine oc_X (fun r => some (.ref r)) hW hf (fun r0 h0 hg => o_V (C := RX5) (As := []) (rest := [.ref x1, .ref (z + c3), .ref (z + c3)]) (n := 0) FX (mX5_all hB hO h0) (cwV 0 FX.2.2.2.2 (lw_V q1028 q1030 qs23 q133 q1031) rfl rfl rfl (by decide +kernel) ⟨by dsimp only [rlv]; omega, by dsimp only [rlv]; omega⟩) (o_recv hW rfl hv9) rfl hl.1 rfl (Nat.le_of_ble_eq_true rfl) hg dX5_both_20 hW) (fun t9 w9 c10 y11 H locs ce9 hW e1 e2 e3 hf => ?_) (fun v12 w9 c10 y11 H locs hW hf => ?_)
      · rw [othr_inr] at hf
        obtain ⟨hg, hf⟩ := gck_some hf
        obtain rfl := Option.some.inj hf
        exact ro_x hout hlk hW hg e1 e2 e3
      rw [othr_inl] at hf
      refine lv_bipush (v := 124) hx hb dX5_both_23 (by decide) ?_
      refine oc_v hW hf (fun r0 h0 hg => o_I (As := [.ref x1, .ref v12, .int (124 : Int32)]) (rest := [.ref (z + c3)]) (n := 3) FX (mX12_init h0) (cwI 3 FX.2.2.2.2 (lw_meth q1086) rfl rfl rfl (FX.2.2.2.2 _ q153) (FX.2.2.2.2 _ q1084) (FX.2.2.2.2 _ q1085) rfl (by decide +kernel) ⟨by dsimp only [rlv]; omega, by dsimp only [rlv]; omega⟩) rfl hl.1 rfl (Nat.le_of_ble_eq_true rfl) hg dX5_both_25 hW) (fun w14 c15 y16 H locs hW hf => ?_)
      refine lv_astore_n (lv' := [(1, .ref (z + c3)), (0, .ref x0)]) hx hb dX5_both_28 rfl hl (by decide) rfl (fun ls hl => ?_)
      refine lv_goto (tgt := 5) hx hb dX5_both_29 (by decide) ?_
      exact ih x0 (z + c3) w14 c15 y16 _ _ _ (lv_sub hl [1, 0] rfl) hW hf
set_option maxHeartbeats 4000000 in
set_option maxRecDepth 100000 in
theorem mX5_both {l : Launch} {D : va_G} {dA : Nat → ClassId} {z : Nat} {d7 : Nat} {rcB rcO : RT} (hB : ∀ {z9 t9 : Nat} {w9 : va_W} {q9 : (Nat ⊕ Nat) × va_W × Nat × Nat}, rcB z9 t9 w9 = some q9 → CtO l yX5_both cX5_both 2 (some (.object "TrunkLitters$Node")) (rlv (6 * d7)) D dA [.ref t9] w9 z9 (Sum.map (fun r => some (.ref r)) id q9.1) q9.2.1 q9.2.2.1 q9.2.2.2) (hO : ∀ {z9 t9 : Nat} {w9 : va_W} {q9 : (Nat ⊕ Nat) × va_W × Nat × Nat}, rcO z9 t9 w9 = some q9 → CtO l yX5_one cX5_one 3 (some (.object "TrunkLitters$Node")) (rlv (6 * d7 - 2)) D dA [.ref t9] w9 z9 (Sum.map (fun r => some (.ref r)) id q9.1) q9.2.1 q9.2.2.1 q9.2.2.2)  {t7 : Nat} {w : va_W} {q : ((Nat ⊕ Nat) × va_W × Nat × Nat)} (hf : fX5_both dA d7 rcB rcO z t7 w = some q) : CtO l yX5_both cX5_both 2 (some (Jvm.ClassFile.FieldType.object "TrunkLitters$Node")) (rlv (6 * d7 + 6)) D dA [.ref t7] w z (Sum.map (fun r => some (.ref r)) id q.1) q.2.1 q.2.2.1 q.2.2.2 := by
  refine e_O (by decide) (Nat.le_of_ble_eq_true rfl) ?_
  intro p e s m below meth c9 ls A FX hr hlk hnm hout hl hW
  have hx := FX.1; have hb := FX.2.1; have hown := FX.2.2.2.1; have hts := FX.2.2.2.2
  have hl : lv_has ls 2 [(0, .ref t7)] := hl
  rw [fX5_both] at hf
  refine lv_aload_n hx hb dX5_both_0 rfl (lv_at hl 0 rfl) ?_
  obtain ⟨hv9, hf⟩ := pck_some hf
  refine oc_X (fun r => some (.ref r)) hW hf (fun r0 h0 hg => o_V (C := RX5) (As := []) (rest := []) (n := 0) FX (mX5_all hB hO h0) (cwV 0 FX.2.2.2.2 (lw_V q1028 q1030 qs23 q133 q1031) rfl rfl rfl (by decide +kernel) ⟨by dsimp only [rlv]; omega, by dsimp only [rlv]; omega⟩) (o_recv hW rfl hv9) rfl hl.1 rfl (Nat.le_of_ble_eq_true rfl) hg dX5_both_1 hW) (fun t9 w2 c3 y4 H locs ce9 hW e1 e2 e3 hf => ?_) (fun v5 w2 c3 y4 H locs hW hf => ?_)
  · rw [othr_inr] at hf
    obtain ⟨hg, hf⟩ := gck_some hf
    obtain rfl := Option.some.inj hf
    exact ro_x hout hlk hW hg e1 e2 e3
  rw [othr_inl] at hf
  refine lv_astore_n (lv' := [(1, .ref v5), (0, .ref t7)]) hx hb dX5_both_4 rfl hl (by decide) rfl (fun ls hl => ?_)
  exact wX5_both_5 hB hO FX hr hlk hnm hout _ t7 v5 w2 c3 y4 _ _ _ (lv_sub hl [1, 0] rfl) hW hf
def frec (dA : Nat → Nat) : Nat → RT × RT
  | 0 => (fun _ _ _ => none, fun _ _ _ => none)
  | d + 1 => (fun z t w => fX5_both dA d (frec dA d).1 (frec dA d).2 z t w, fun z t w => fX5_one dA d (frec dA d).1 (frec dA d).2 z t w)
theorem mrec {l : Launch} {D : va_G} {dA : Nat → ClassId} : ∀ d : Nat, (∀ {z9 t9 : Nat} {w9 : va_W} {q9 : (Nat ⊕ Nat) × va_W × Nat × Nat}, (frec dA d).1 z9 t9 w9 = some q9 → CtO l yX5_both cX5_both 2 (some (.object "TrunkLitters$Node")) (rlv (6 * d)) D dA [.ref t9] w9 z9 (Sum.map (fun r => some (.ref r)) id q9.1) q9.2.1 q9.2.2.1 q9.2.2.2) ∧ (∀ {z9 t9 : Nat} {w9 : va_W} {q9 : (Nat ⊕ Nat) × va_W × Nat × Nat}, (frec dA d).2 z9 t9 w9 = some q9 → CtO l yX5_one cX5_one 3 (some (.object "TrunkLitters$Node")) (rlv (6 * d - 2)) D dA [.ref t9] w9 z9 (Sum.map (fun r => some (.ref r)) id q9.1) q9.2.1 q9.2.2.1 q9.2.2.2) := by
  intro d
  induction d with
  | zero => exact ⟨fun h => (nomatch (show (none : Option ((Nat ⊕ Nat) × va_W × Nat × Nat)) = some _ from h)), fun h => (nomatch (show (none : Option ((Nat ⊕ Nat) × va_W × Nat × Nat)) = some _ from h))⟩
  | succ d ih => exact ⟨fun h => mX5_both ih.1 ih.2 h, fun h => mX5_one ih.1 ih.2 h⟩
theorem mrecB {l : Launch} {D : va_G} {dA : Nat → ClassId} : ∀ {z9 t9 : Nat} {w9 : va_W} {q9 : (Nat ⊕ Nat) × va_W × Nat × Nat}, (frec dA 8).1 z9 t9 w9 = some q9 → CtO l yX5_both cX5_both 2 (some (.object "TrunkLitters$Node")) (rlv 48) D dA [.ref t9] w9 z9 (Sum.map (fun r => some (.ref r)) id q9.1) q9.2.1 q9.2.2.1 q9.2.2.2 := (mrec 8).1
