/-! TrunkLitters$House.has(I)Z: kind O -/
abbrev rOX3_has : Room := { frames := 0, cells := 0, slots := 0, locals := 0 }
def fOX3_has (dA : Nat → Nat) (z : Nat) (t7 : Nat) (k7 : Int32) (w : va_W) : Option ((Int32) × va_W × Nat × Nat) := pgi w t7 3 8 fun v1 => (if ((v1 >>> (k7 &&& 31)) &&& (1 : Int32)) = (1 : Int32) then gck 0 0 rOX3_has.cells rOX3_has.slots (some ((1 : Int32), w, 0, 0)) else gck 0 0 rOX3_has.cells rOX3_has.slots (some ((0 : Int32), w, 0, 0)))
set_option maxHeartbeats 4000000 in
set_option maxRecDepth 100000 in
theorem mOX3_has {l : Launch} {D : va_G} {dA : Nat → ClassId} {z : Nat}  {t7 : Nat} {k7 : Int32} {w : va_W} {q : ((Int32) × va_W × Nat × Nat)} (hf : fOX3_has dA z t7 k7 w = some q) : CtO l yX3_has cX3_has 2 (some .boolean) rOX3_has D dA [.ref t7, .int k7] w z (.inl (some (.int q.1))) q.2.1 q.2.2.1 q.2.2.2 := by
  refine e_O (by decide) (Nat.le_of_ble_eq_true rfl) ?_
  intro p e s m below meth c9 ls A FX hr hlk hnm hout hl hW
  have hx := FX.1; have hb := FX.2.1; have hown := FX.2.2.2.1; have hts := FX.2.2.2.2
  have hl : lv_has ls 2 [(0, .ref t7), (1, .int k7)] := hl
  rw [fOX3_has] at hf
  refine lv_aload_n hx hb dX3_has_0 rfl (lv_at hl 0 rfl) ?_
  refine og_i (C := RX3) (T := TX3) (N := 14) (ci := 3) FX hW in_X3 rfl 8 (by decide) q287 (fun _ h => h) hf dX3_has_1 (fun v1 hf => ?_)
  refine lv_iload_n hx hb dX3_has_4 rfl (lv_at hl 1 rfl) ?_
  refine lv_ishr hx hb dX3_has_5 ?_
  refine lv_iconst (v := 1) hx hb dX3_has_6 (by decide) ?_
  refine lv_iand hx hb dX3_has_7 ?_
  refine lv_iconst (v := 1) hx hb dX3_has_8 (by decide) ?_
  refine lv_icmp_ne (tgt := 16) hx hb dX3_has_9 (by decide) (fun c9 => ?_) (fun c9 => ?_)
  · have hf := ifn c9 hf
    refine lv_iconst (v := 0) hx hb dX3_has_16 (by decide) ?_
    obtain ⟨hg, hf⟩ := gck_some hf
    obtain rfl := Option.some.inj hf
    exact ro_z (v := (0 : Int32)) FX hr hlk hW hg rfl dX3_has_17
  · have hf := ifp c9 hf
    refine lv_iconst (v := 1) hx hb dX3_has_12 (by decide) ?_
    refine lv_goto (tgt := 17) hx hb dX3_has_13 (by decide) ?_
    obtain ⟨hg, hf⟩ := gck_some hf
    obtain rfl := Option.some.inj hf
    exact ro_z (v := (1 : Int32)) FX hr hlk hW hg rfl dX3_has_17
/-! TrunkLitters$House.clear(I)V: kind O -/
abbrev rOX3_clear : Room := { frames := 0, cells := 0, slots := 0, locals := 0 }
def fOX3_clear (dA : Nat → Nat) (z : Nat) (t7 : Nat) (k7 : Int32) (w : va_W) : Option ((Unit) × va_W × Nat × Nat) := pgR w t7 3 0 fun v1 => hast w (dA 0) v1 k7 (0 : Int32) fun w2 => pgR w2 t7 3 1 fun v3 => hast w2 (dA 0) v3 k7 (-1 : Int32) fun w4 => pgR w4 t7 3 2 fun v5 => hast w4 (dA 0) v5 k7 (0 : Int32) fun w6 => pgR w6 t7 3 3 fun v7 => hast w6 (dA 0) v7 k7 (0 : Int32) fun w8 => pgR w8 t7 3 4 fun v9 => hast w8 (dA 0) v9 k7 (0 : Int32) fun w10 => pgR w10 t7 3 5 fun v11 => hast w10 (dA 0) v11 k7 (-1 : Int32) fun w12 => pgR w12 t7 3 6 fun v13 => hast w12 (dA 0) v13 k7 (-1 : Int32) fun w14 => gck 0 0 rOX3_clear.cells rOX3_clear.slots (some ((), w14, 0, 0))
set_option maxHeartbeats 4000000 in
set_option maxRecDepth 100000 in
theorem mOX3_clear {l : Launch} {D : va_G} {dA : Nat → ClassId} {z : Nat}  {t7 : Nat} {k7 : Int32} {w : va_W} {q : ((Unit) × va_W × Nat × Nat)} (hf : fOX3_clear dA z t7 k7 w = some q) : CtO l yX3_clear cX3_clear 2 none rOX3_clear D dA [.ref t7, .int k7] w z (.inl none) q.2.1 q.2.2.1 q.2.2.2 := by
  refine e_O (by decide) (Nat.le_of_ble_eq_true rfl) ?_
  intro p e s m below meth c9 ls A FX hr hlk hnm hout hl hW
  have hx := FX.1; have hb := FX.2.1; have hown := FX.2.2.2.1; have hts := FX.2.2.2.2
  have hl : lv_has ls 2 [(0, .ref t7), (1, .int k7)] := hl
  rw [fOX3_clear] at hf
  refine lv_aload_n hx hb dX3_clear_0 rfl (lv_at hl 0 rfl) ?_
  refine og_R (C := RX3) (T := TX3) (N := 14) (ci := 3) FX hW in_X3 rfl 0 (by decide) q271 (fun _ h => h) hf dX3_clear_1 (fun v1 hf => ?_)
  refine lv_iload_n hx hb dX3_clear_4 rfl (lv_at hl 1 rfl) ?_
  refine lv_iconst (v := 0) hx hb dX3_clear_5 (by decide) ?_
  refine op_iast FX hW hf dX3_clear_6 (fun w2 H locs hW hf => ?_)
  refine lv_aload_n hx hb dX3_clear_7 rfl (lv_at hl 0 rfl) ?_
  refine og_R (C := RX3) (T := TX3) (N := 14) (ci := 3) FX hW in_X3 rfl 1 (by decide) q273 (fun _ h => h) hf dX3_clear_8 (fun v3 hf => ?_)
  refine lv_iload_n hx hb dX3_clear_11 rfl (lv_at hl 1 rfl) ?_
  refine lv_iconst (v := -1) hx hb dX3_clear_12 (by decide) ?_
  refine op_iast FX hW hf dX3_clear_13 (fun w4 H locs hW hf => ?_)
  refine lv_aload_n hx hb dX3_clear_14 rfl (lv_at hl 0 rfl) ?_
  refine og_R (C := RX3) (T := TX3) (N := 14) (ci := 3) FX hW in_X3 rfl 2 (by decide) q275 (fun _ h => h) hf dX3_clear_15 (fun v5 hf => ?_)
  refine lv_iload_n hx hb dX3_clear_18 rfl (lv_at hl 1 rfl) ?_
  refine lv_iconst (v := 0) hx hb dX3_clear_19 (by decide) ?_
  refine op_iast FX hW hf dX3_clear_20 (fun w6 H locs hW hf => ?_)
  refine lv_aload_n hx hb dX3_clear_21 rfl (lv_at hl 0 rfl) ?_
  refine og_R (C := RX3) (T := TX3) (N := 14) (ci := 3) FX hW in_X3 rfl 3 (by decide) q277 (fun _ h => h) hf dX3_clear_22 (fun v7 hf => ?_)
  refine lv_iload_n hx hb dX3_clear_25 rfl (lv_at hl 1 rfl) ?_
  refine lv_iconst (v := 0) hx hb dX3_clear_26 (by decide) ?_
  refine op_iast FX hW hf dX3_clear_27 (fun w8 H locs hW hf => ?_)
  refine lv_aload_n hx hb dX3_clear_28 rfl (lv_at hl 0 rfl) ?_
  refine og_R (C := RX3) (T := TX3) (N := 14) (ci := 3) FX hW in_X3 rfl 4 (by decide) q279 (fun _ h => h) hf dX3_clear_29 (fun v9 hf => ?_)
  refine lv_iload_n hx hb dX3_clear_32 rfl (lv_at hl 1 rfl) ?_
  refine lv_iconst (v := 0) hx hb dX3_clear_33 (by decide) ?_
  refine op_iast FX hW hf dX3_clear_34 (fun w10 H locs hW hf => ?_)
  refine lv_aload_n hx hb dX3_clear_35 rfl (lv_at hl 0 rfl) ?_
  refine og_R (C := RX3) (T := TX3) (N := 14) (ci := 3) FX hW in_X3 rfl 5 (by decide) q281 (fun _ h => h) hf dX3_clear_36 (fun v11 hf => ?_)
  refine lv_iload_n hx hb dX3_clear_39 rfl (lv_at hl 1 rfl) ?_
  refine lv_iconst (v := -1) hx hb dX3_clear_40 (by decide) ?_
  refine op_iast FX hW hf dX3_clear_41 (fun w12 H locs hW hf => ?_)
  refine lv_aload_n hx hb dX3_clear_42 rfl (lv_at hl 0 rfl) ?_
  refine og_R (C := RX3) (T := TX3) (N := 14) (ci := 3) FX hW in_X3 rfl 6 (by decide) q283 (fun _ h => h) hf dX3_clear_43 (fun v13 hf => ?_)
  refine lv_iload_n hx hb dX3_clear_46 rfl (lv_at hl 1 rfl) ?_
  refine lv_iconst (v := -1) hx hb dX3_clear_47 (by decide) ?_
  refine op_iast FX hW hf dX3_clear_48 (fun w14 H locs hW hf => ?_)
  obtain ⟨hg, hf⟩ := gck_some hf
  obtain rfl := Option.some.inj hf
  exact ro_v FX hr hlk hW hg dX3_clear_49
/-! TrunkLitters$House.begin(LTrunkLitters$Book;)LTrunkLitters$House;: kind O -/
abbrev rOX3_begin : Room := { frames := 4, cells := 0, slots := 0, locals := 91 }
def fOX3_begin_145 (dA : Nat → Nat) (z : Nat) (k17 : Nat → Nat → Int32 → va_W → Nat → Nat → Option ((Nat) × va_W × Nat × Nat)) (x0 : Nat) (x1 : Nat) (x2 : Int32) (y0 : Nat) (y1 : Int32) (y2 : Int32) (w : va_W) (c : Nat) (y : Nat) : Option ((Nat) × va_W × Nat × Nat) := hast w (dA 0) y0 y1 y2 fun w1 => pgR w1 x0 3 7 fun v2 => hast w1 (dA 0) v2 x2 x2 fun w3 => k17 x0 x1 (x2 + (1 : Int32)) w3 c y
def fOX3_begin_117 (dA : Nat → Nat) (z : Nat) (k17 : Nat → Nat → Int32 → va_W → Nat → Nat → Option ((Nat) × va_W × Nat × Nat)) (x0 : Nat) (x1 : Nat) (x2 : Int32) (x3 : Int32) (y0 : Nat) (y1 : Int32) (y2 : Int32) (w : va_W) (c : Nat) (y : Nat) : Option ((Nat) × va_W × Nat × Nat) := hast w (dA 0) y0 y1 y2 fun w1 => pgR w1 x0 3 3 fun v2 => (if x3 = 0 then fOX3_begin_145 dA z k17 x0 x1 x2 v2 x2 (0 : Int32) w1 c y else pgR w1 x1 1 1 fun v3 => pck w1 v3 13 (ocal rOX3_begin.cells rOX3_begin.slots c y rJ2_getO.cells rJ2_getO.slots (fJ2_getO dA (z + c) v3 x2 w1) fun r4 w5 c6 y7 => pck w5 r4 8 (pgi w5 r4 8 4 fun v8 => fOX3_begin_145 dA z k17 x0 x1 x2 v2 x2 v8 w5 c6 y7)))
def fOX3_begin_89 (dA : Nat → Nat) (z : Nat) (k17 : Nat → Nat → Int32 → va_W → Nat → Nat → Option ((Nat) × va_W × Nat × Nat)) (x0 : Nat) (x1 : Nat) (x2 : Int32) (x3 : Int32) (y0 : Nat) (y1 : Int32) (y2 : Int32) (w : va_W) (c : Nat) (y : Nat) : Option ((Nat) × va_W × Nat × Nat) := hast w (dA 0) y0 y1 y2 fun w1 => pgR w1 x0 3 2 fun v2 => (if x3 = 0 then fOX3_begin_117 dA z k17 x0 x1 x2 x3 v2 x2 (0 : Int32) w1 c y else pgR w1 x1 1 1 fun v3 => pck w1 v3 13 (ocal rOX3_begin.cells rOX3_begin.slots c y rJ2_getO.cells rJ2_getO.slots (fJ2_getO dA (z + c) v3 x2 w1) fun r4 w5 c6 y7 => pck w5 r4 8 (pgi w5 r4 8 3 fun v8 => fOX3_begin_117 dA z k17 x0 x1 x2 x3 v2 x2 v8 w5 c6 y7)))
def fOX3_begin_61 (dA : Nat → Nat) (z : Nat) (k17 : Nat → Nat → Int32 → va_W → Nat → Nat → Option ((Nat) × va_W × Nat × Nat)) (x0 : Nat) (x1 : Nat) (x2 : Int32) (x3 : Int32) (y0 : Nat) (y1 : Int32) (y2 : Int32) (w : va_W) (c : Nat) (y : Nat) : Option ((Nat) × va_W × Nat × Nat) := hast w (dA 0) y0 y1 y2 fun w1 => pgR w1 x0 3 1 fun v2 => (if x3 = 0 then fOX3_begin_89 dA z k17 x0 x1 x2 x3 v2 x2 (-1 : Int32) w1 c y else pgR w1 x1 1 1 fun v3 => pck w1 v3 13 (ocal rOX3_begin.cells rOX3_begin.slots c y rJ2_getO.cells rJ2_getO.slots (fJ2_getO dA (z + c) v3 x2 w1) fun r4 w5 c6 y7 => pck w5 r4 8 (pgi w5 r4 8 2 fun v8 => fOX3_begin_89 dA z k17 x0 x1 x2 x3 v2 x2 v8 w5 c6 y7)))
def fOX3_begin_17 (dA : Nat → Nat) (z : Nat) : Nat → Nat → Nat → Int32 → va_W → Nat → Nat → Option ((Nat) × va_W × Nat × Nat)
  | 0, _, _, _, _, _, _ => none
  | n + 1, x0, x1, x2, w, c, y => (if (8 : Int32) ≤ x2 then ppt w x0 3 12 (.int (8 : Int32)) fun w1 => pgi w1 x1 1 5 fun v2 => ppt w1 x0 3 9 (.int v2) fun w3 => ppt w3 x0 3 10 (.int (0 : Int32)) fun w4 => pgi w4 x1 1 6 fun v5 => ppt w4 x0 3 11 (.int v5) fun w6 => ppt w6 x0 3 13 (.int (-1 : Int32)) fun w7 => gck c y rOX3_begin.cells rOX3_begin.slots (some (x0, w7, c, y)) else pck w x0 3 (ocal rOX3_begin.cells rOX3_begin.slots c y rOX3_has.cells rOX3_has.slots (fOX3_has dA (z + c) x0 x2 w) fun r8 w9 c10 y11 => pck w9 x0 3 (ocal rOX3_begin.cells rOX3_begin.slots c10 y11 rOX3_clear.cells rOX3_clear.slots (fOX3_clear dA (z + c10) x0 x2 w9) fun r12 w13 c14 y15 => pgR w13 x0 3 0 fun v16 => (if r8 = 0 then fOX3_begin_61 dA z (fOX3_begin_17 dA z n) x0 x1 x2 r8 v16 x2 (0 : Int32) w13 c14 y15 else pgR w13 x1 1 1 fun v17 => pck w13 v17 13 (ocal rOX3_begin.cells rOX3_begin.slots c14 y15 rJ2_getO.cells rJ2_getO.slots (fJ2_getO dA (z + c14) v17 x2 w13) fun r18 w19 c20 y21 => pck w19 r18 8 (pgi w19 r18 8 1 fun v22 => fOX3_begin_61 dA z (fOX3_begin_17 dA z n) x0 x1 x2 r8 v16 x2 v22 w19 c20 y21))))))
def fOX3_begin (dA : Nat → Nat) (z : Nat) (t7 : Nat) (b7 : Nat) (w : va_W) : Option ((Nat) × va_W × Nat × Nat) := pgR w b7 1 1 fun v1 => pck w v1 13 (ocal rOX3_begin.cells rOX3_begin.slots 0 0 rJ2_sizeO.cells rJ2_sizeO.slots (fJ2_sizeO dA (z + 0) v1 w) fun r2 w3 c4 y5 => ppt w3 t7 3 8 (.int (((1 : Int32) <<< (r2 &&& 31)) - (1 : Int32))) fun w6 => fOX3_begin_17 dA z FU t7 b7 (0 : Int32) w6 c4 y5)
set_option maxHeartbeats 4000000 in
set_option maxRecDepth 100000 in
theorem wOX3_begin_145 {l : Launch} {D : va_G} {dA : Nat → ClassId} {z : Nat} {p : Program} {e : Env} {s : State} {m : MethodId} {args : Array Value} {below : List Frame} {meth : Method} {c9 : Code} {A : Nat → Prop} {q : ((Nat) × va_W × Nat × Nat)} (FX : CallFix p m c9 cX3_begin 4 s args lw_all RX3) (hr : meth.sig.returnType = (some (Jvm.ClassFile.FieldType.object "TrunkLitters$House"))) (hlk : meth.locks = false) (hnm : meth.name = yX3_begin.name) (hout : ∀ x ∈ c9.exceptionTable.toList, False) {k17 : Nat → Nat → Int32 → va_W → Nat → Nat → Option ((Nat) × va_W × Nat × Nat)} (hk17 : ∀ (x0 : Nat) (x1 : Nat) (x2 : Int32) (w : va_W) (c : Nat) (y : Nat) (H : Heap) (locs : List Loc) (ls : Array Slot), lv_has ls 4 [(0, .ref x0), (1, .ref x1), (2, .int x2)] → Wo D dA A s w z c H locs → k17 x0 x1 x2 w c y = some q → W p l e rOX3_begin s m args below meth c9 H locs c y (QO D dA A below args s rOX3_begin.cells rOX3_begin.slots (.inl (some (.ref q.1))) q.2.1 (z + q.2.2.1) q.2.2.2) (F0 m 17 ls [])) : ∀ (x0 : Nat) (x1 : Nat) (x2 : Int32) (y0 : Nat) (y1 : Int32) (y2 : Int32) (w : va_W) (c : Nat) (y : Nat) (H : Heap) (locs : List Loc) (ls : Array Slot), lv_has ls 4 [(0, .ref x0), (1, .ref x1), (2, .int x2)] → Wo D dA A s w z c H locs → fOX3_begin_145 dA z k17 x0 x1 x2 y0 y1 y2 w c y = some q → W p l e rOX3_begin s m args below meth c9 H locs c y (QO D dA A below args s rOX3_begin.cells rOX3_begin.slots (.inl (some (.ref q.1))) q.2.1 (z + q.2.2.1) q.2.2.2) (F0 m 145 ls [.int y2, .int y1, .ref y0]) := by
  have hx := FX.1; have hb := FX.2.1; have hown := FX.2.2.2.1; have hts := FX.2.2.2.2
  intro x0 x1 x2 y0 y1 y2 w c y H locs ls hl hW hf
  rw [fOX3_begin_145] at hf
  refine op_iast FX hW hf dX3_begin_145 (fun w1 H locs hW hf => ?_)
  refine lv_aload_n hx hb dX3_begin_146 rfl (lv_at hl 0 rfl) ?_
  refine og_R (C := RX3) (T := TX3) (N := 14) (ci := 3) FX hW in_X3 rfl 7 (by decide) q285 (fun _ h => h) hf dX3_begin_147 (fun v2 hf => ?_)
  refine lv_iload_n hx hb dX3_begin_150 rfl (lv_at hl 2 rfl) ?_
  refine lv_iload_n hx hb dX3_begin_151 rfl (lv_at hl 2 rfl) ?_
  refine op_iast FX hW hf dX3_begin_152 (fun w3 H locs hW hf => ?_)
  refine lv_iinc (v := (x2 + (1 : Int32))) (lv' := [(2, .int (x2 + (1 : Int32))), (0, .ref x0), (1, .ref x1)]) hx hb dX3_begin_153 hl (k := 2) rfl rfl (by decide) rfl (fun ls hl => ?_)
  refine lv_goto (tgt := 17) hx hb dX3_begin_156 (by decide) ?_
  exact hk17 x0 x1 (x2 + (1 : Int32)) w3 c y _ _ _ (lv_sub hl [1, 2, 0] rfl) hW hf
set_option maxHeartbeats 4000000 in
set_option maxRecDepth 100000 in
theorem wOX3_begin_117 {l : Launch} {D : va_G} {dA : Nat → ClassId} {z : Nat} {p : Program} {e : Env} {s : State} {m : MethodId} {args : Array Value} {below : List Frame} {meth : Method} {c9 : Code} {A : Nat → Prop} {q : ((Nat) × va_W × Nat × Nat)} (FX : CallFix p m c9 cX3_begin 4 s args lw_all RX3) (hr : meth.sig.returnType = (some (Jvm.ClassFile.FieldType.object "TrunkLitters$House"))) (hlk : meth.locks = false) (hnm : meth.name = yX3_begin.name) (hout : ∀ x ∈ c9.exceptionTable.toList, False) {k17 : Nat → Nat → Int32 → va_W → Nat → Nat → Option ((Nat) × va_W × Nat × Nat)} (hk17 : ∀ (x0 : Nat) (x1 : Nat) (x2 : Int32) (w : va_W) (c : Nat) (y : Nat) (H : Heap) (locs : List Loc) (ls : Array Slot), lv_has ls 4 [(0, .ref x0), (1, .ref x1), (2, .int x2)] → Wo D dA A s w z c H locs → k17 x0 x1 x2 w c y = some q → W p l e rOX3_begin s m args below meth c9 H locs c y (QO D dA A below args s rOX3_begin.cells rOX3_begin.slots (.inl (some (.ref q.1))) q.2.1 (z + q.2.2.1) q.2.2.2) (F0 m 17 ls [])) : ∀ (x0 : Nat) (x1 : Nat) (x2 : Int32) (x3 : Int32) (y0 : Nat) (y1 : Int32) (y2 : Int32) (w : va_W) (c : Nat) (y : Nat) (H : Heap) (locs : List Loc) (ls : Array Slot), lv_has ls 4 [(0, .ref x0), (1, .ref x1), (2, .int x2), (3, .int x3)] → Wo D dA A s w z c H locs → fOX3_begin_117 dA z k17 x0 x1 x2 x3 y0 y1 y2 w c y = some q → W p l e rOX3_begin s m args below meth c9 H locs c y (QO D dA A below args s rOX3_begin.cells rOX3_begin.slots (.inl (some (.ref q.1))) q.2.1 (z + q.2.2.1) q.2.2.2) (F0 m 117 ls [.int y2, .int y1, .ref y0]) := by
  have hx := FX.1; have hb := FX.2.1; have hown := FX.2.2.2.1; have hts := FX.2.2.2.2
  intro x0 x1 x2 x3 y0 y1 y2 w c y H locs ls hl hW hf
  rw [fOX3_begin_117] at hf
  refine op_iast FX hW hf dX3_begin_117 (fun w1 H locs hW hf => ?_)
  refine lv_aload_n hx hb dX3_begin_118 rfl (lv_at hl 0 rfl) ?_
  refine og_R (C := RX3) (T := TX3) (N := 14) (ci := 3) FX hW in_X3 rfl 3 (by decide) q277 (fun _ h => h) hf dX3_begin_119 (fun v2 hf => ?_)
  refine lv_iload_n hx hb dX3_begin_122 rfl (lv_at hl 2 rfl) ?_
  refine lv_iload_n hx hb dX3_begin_123 rfl (lv_at hl 3 rfl) ?_
  refine lv_if_eq (tgt := 144) hx hb dX3_begin_124 (by decide) (fun c124 => ?_) (fun c124 => ?_)
  · have hf := ifp c124 hf
    refine lv_iconst (v := 0) hx hb dX3_begin_144 (by decide) ?_
    exact wOX3_begin_145 FX hr hlk hnm hout hk17 x0 x1 x2 v2 x2 (0 : Int32) w1 c y _ _ _ (lv_sub hl [0, 1, 2] rfl) hW hf
  · have hf := ifn c124 hf
    refine lv_aload_n hx hb dX3_begin_127 rfl (lv_at hl 1 rfl) ?_
    refine og_R (C := RX1) (T := TX1) (N := 8) (ci := 1) FX hW in_X1 rfl 1 (by decide) q231 (fun _ h => h) hf dX3_begin_128 (fun v3 hf => ?_)
    refine lv_iload_n hx hb dX3_begin_131 rfl (lv_at hl 2 rfl) ?_
    obtain ⟨hv9, hf⟩ := pck_some hf
    refine oc_R hW hf (fun r0 h0 hg => o_V (C := RJ2) (As := [.int x2]) (rest := [.int x2, .ref v2]) (n := 1) FX (mJ2_getO h0) (cwV 1 FX.2.2.2.2 (lw_V q344 q345 q346 q127 q347) rfl rfl rfl (by decide +kernel) ⟨Nat.le_of_ble_eq_true rfl, Nat.le_of_ble_eq_true rfl⟩) (o_recv hW rfl hv9) rfl hl.1 rfl (Nat.le_of_ble_eq_true rfl) hg dX3_begin_132 hW) (fun r4 w5 c6 y7 H locs hW hf => ?_)
    obtain ⟨hv9, hf⟩ := pck_some hf
    refine o_castS (C := RX9) (T := TX9) (N := 5) (ci := 8) FX hW rfl q358 hv9 dX3_begin_135 ?_
    refine og_i (C := RX9) (T := TX9) (N := 5) (ci := 8) FX hW in_X9 rfl 4 (by decide) q1003 (fun _ h => h) hf dX3_begin_138 (fun v8 hf => ?_)
    refine lv_goto (tgt := 145) hx hb dX3_begin_141 (by decide) ?_
    exact wOX3_begin_145 FX hr hlk hnm hout hk17 x0 x1 x2 v2 x2 v8 w5 c6 y7 _ _ _ (lv_sub hl [0, 1, 2] rfl) hW hf
set_option maxHeartbeats 4000000 in
set_option maxRecDepth 100000 in
theorem wOX3_begin_89 {l : Launch} {D : va_G} {dA : Nat → ClassId} {z : Nat} {p : Program} {e : Env} {s : State} {m : MethodId} {args : Array Value} {below : List Frame} {meth : Method} {c9 : Code} {A : Nat → Prop} {q : ((Nat) × va_W × Nat × Nat)} (FX : CallFix p m c9 cX3_begin 4 s args lw_all RX3) (hr : meth.sig.returnType = (some (Jvm.ClassFile.FieldType.object "TrunkLitters$House"))) (hlk : meth.locks = false) (hnm : meth.name = yX3_begin.name) (hout : ∀ x ∈ c9.exceptionTable.toList, False) {k17 : Nat → Nat → Int32 → va_W → Nat → Nat → Option ((Nat) × va_W × Nat × Nat)} (hk17 : ∀ (x0 : Nat) (x1 : Nat) (x2 : Int32) (w : va_W) (c : Nat) (y : Nat) (H : Heap) (locs : List Loc) (ls : Array Slot), lv_has ls 4 [(0, .ref x0), (1, .ref x1), (2, .int x2)] → Wo D dA A s w z c H locs → k17 x0 x1 x2 w c y = some q → W p l e rOX3_begin s m args below meth c9 H locs c y (QO D dA A below args s rOX3_begin.cells rOX3_begin.slots (.inl (some (.ref q.1))) q.2.1 (z + q.2.2.1) q.2.2.2) (F0 m 17 ls [])) : ∀ (x0 : Nat) (x1 : Nat) (x2 : Int32) (x3 : Int32) (y0 : Nat) (y1 : Int32) (y2 : Int32) (w : va_W) (c : Nat) (y : Nat) (H : Heap) (locs : List Loc) (ls : Array Slot), lv_has ls 4 [(0, .ref x0), (1, .ref x1), (2, .int x2), (3, .int x3)] → Wo D dA A s w z c H locs → fOX3_begin_89 dA z k17 x0 x1 x2 x3 y0 y1 y2 w c y = some q → W p l e rOX3_begin s m args below meth c9 H locs c y (QO D dA A below args s rOX3_begin.cells rOX3_begin.slots (.inl (some (.ref q.1))) q.2.1 (z + q.2.2.1) q.2.2.2) (F0 m 89 ls [.int y2, .int y1, .ref y0]) := by
  have hx := FX.1; have hb := FX.2.1; have hown := FX.2.2.2.1; have hts := FX.2.2.2.2
  intro x0 x1 x2 x3 y0 y1 y2 w c y H locs ls hl hW hf
  rw [fOX3_begin_89] at hf
  refine op_iast FX hW hf dX3_begin_89 (fun w1 H locs hW hf => ?_)
  refine lv_aload_n hx hb dX3_begin_90 rfl (lv_at hl 0 rfl) ?_
  refine og_R (C := RX3) (T := TX3) (N := 14) (ci := 3) FX hW in_X3 rfl 2 (by decide) q275 (fun _ h => h) hf dX3_begin_91 (fun v2 hf => ?_)
  refine lv_iload_n hx hb dX3_begin_94 rfl (lv_at hl 2 rfl) ?_
  refine lv_iload_n hx hb dX3_begin_95 rfl (lv_at hl 3 rfl) ?_
  refine lv_if_eq (tgt := 116) hx hb dX3_begin_96 (by decide) (fun c96 => ?_) (fun c96 => ?_)
  · have hf := ifp c96 hf
    refine lv_iconst (v := 0) hx hb dX3_begin_116 (by decide) ?_
    exact wOX3_begin_117 FX hr hlk hnm hout hk17 x0 x1 x2 x3 v2 x2 (0 : Int32) w1 c y _ _ _ (lv_sub hl [0, 1, 2, 3] rfl) hW hf
  · have hf := ifn c96 hf
    refine lv_aload_n hx hb dX3_begin_99 rfl (lv_at hl 1 rfl) ?_
    refine og_R (C := RX1) (T := TX1) (N := 8) (ci := 1) FX hW in_X1 rfl 1 (by decide) q231 (fun _ h => h) hf dX3_begin_100 (fun v3 hf => ?_)
    refine lv_iload_n hx hb dX3_begin_103 rfl (lv_at hl 2 rfl) ?_
    obtain ⟨hv9, hf⟩ := pck_some hf
    refine oc_R hW hf (fun r0 h0 hg => o_V (C := RJ2) (As := [.int x2]) (rest := [.int x2, .ref v2]) (n := 1) FX (mJ2_getO h0) (cwV 1 FX.2.2.2.2 (lw_V q344 q345 q346 q127 q347) rfl rfl rfl (by decide +kernel) ⟨Nat.le_of_ble_eq_true rfl, Nat.le_of_ble_eq_true rfl⟩) (o_recv hW rfl hv9) rfl hl.1 rfl (Nat.le_of_ble_eq_true rfl) hg dX3_begin_104 hW) (fun r4 w5 c6 y7 H locs hW hf => ?_)
    obtain ⟨hv9, hf⟩ := pck_some hf
    refine o_castS (C := RX9) (T := TX9) (N := 5) (ci := 8) FX hW rfl q358 hv9 dX3_begin_107 ?_
    refine og_i (C := RX9) (T := TX9) (N := 5) (ci := 8) FX hW in_X9 rfl 3 (by decide) q1000 (fun _ h => h) hf dX3_begin_110 (fun v8 hf => ?_)
    refine lv_goto (tgt := 117) hx hb dX3_begin_113 (by decide) ?_
    exact wOX3_begin_117 FX hr hlk hnm hout hk17 x0 x1 x2 x3 v2 x2 v8 w5 c6 y7 _ _ _ (lv_sub hl [0, 1, 2, 3] rfl) hW hf
set_option maxHeartbeats 4000000 in
set_option maxRecDepth 100000 in
theorem wOX3_begin_61 {l : Launch} {D : va_G} {dA : Nat → ClassId} {z : Nat} {p : Program} {e : Env} {s : State} {m : MethodId} {args : Array Value} {below : List Frame} {meth : Method} {c9 : Code} {A : Nat → Prop} {q : ((Nat) × va_W × Nat × Nat)} (FX : CallFix p m c9 cX3_begin 4 s args lw_all RX3) (hr : meth.sig.returnType = (some (Jvm.ClassFile.FieldType.object "TrunkLitters$House"))) (hlk : meth.locks = false) (hnm : meth.name = yX3_begin.name) (hout : ∀ x ∈ c9.exceptionTable.toList, False) {k17 : Nat → Nat → Int32 → va_W → Nat → Nat → Option ((Nat) × va_W × Nat × Nat)} (hk17 : ∀ (x0 : Nat) (x1 : Nat) (x2 : Int32) (w : va_W) (c : Nat) (y : Nat) (H : Heap) (locs : List Loc) (ls : Array Slot), lv_has ls 4 [(0, .ref x0), (1, .ref x1), (2, .int x2)] → Wo D dA A s w z c H locs → k17 x0 x1 x2 w c y = some q → W p l e rOX3_begin s m args below meth c9 H locs c y (QO D dA A below args s rOX3_begin.cells rOX3_begin.slots (.inl (some (.ref q.1))) q.2.1 (z + q.2.2.1) q.2.2.2) (F0 m 17 ls [])) : ∀ (x0 : Nat) (x1 : Nat) (x2 : Int32) (x3 : Int32) (y0 : Nat) (y1 : Int32) (y2 : Int32) (w : va_W) (c : Nat) (y : Nat) (H : Heap) (locs : List Loc) (ls : Array Slot), lv_has ls 4 [(0, .ref x0), (1, .ref x1), (2, .int x2), (3, .int x3)] → Wo D dA A s w z c H locs → fOX3_begin_61 dA z k17 x0 x1 x2 x3 y0 y1 y2 w c y = some q → W p l e rOX3_begin s m args below meth c9 H locs c y (QO D dA A below args s rOX3_begin.cells rOX3_begin.slots (.inl (some (.ref q.1))) q.2.1 (z + q.2.2.1) q.2.2.2) (F0 m 61 ls [.int y2, .int y1, .ref y0]) := by
  have hx := FX.1; have hb := FX.2.1; have hown := FX.2.2.2.1; have hts := FX.2.2.2.2
  intro x0 x1 x2 x3 y0 y1 y2 w c y H locs ls hl hW hf
  rw [fOX3_begin_61] at hf
  refine op_iast FX hW hf dX3_begin_61 (fun w1 H locs hW hf => ?_)
  refine lv_aload_n hx hb dX3_begin_62 rfl (lv_at hl 0 rfl) ?_
  refine og_R (C := RX3) (T := TX3) (N := 14) (ci := 3) FX hW in_X3 rfl 1 (by decide) q273 (fun _ h => h) hf dX3_begin_63 (fun v2 hf => ?_)
  refine lv_iload_n hx hb dX3_begin_66 rfl (lv_at hl 2 rfl) ?_
  refine lv_iload_n hx hb dX3_begin_67 rfl (lv_at hl 3 rfl) ?_
  refine lv_if_eq (tgt := 88) hx hb dX3_begin_68 (by decide) (fun c68 => ?_) (fun c68 => ?_)
  · have hf := ifp c68 hf
    refine lv_iconst (v := -1) hx hb dX3_begin_88 (by decide) ?_
    exact wOX3_begin_89 FX hr hlk hnm hout hk17 x0 x1 x2 x3 v2 x2 (-1 : Int32) w1 c y _ _ _ (lv_sub hl [0, 1, 2, 3] rfl) hW hf
  · have hf := ifn c68 hf
    refine lv_aload_n hx hb dX3_begin_71 rfl (lv_at hl 1 rfl) ?_
    refine og_R (C := RX1) (T := TX1) (N := 8) (ci := 1) FX hW in_X1 rfl 1 (by decide) q231 (fun _ h => h) hf dX3_begin_72 (fun v3 hf => ?_)
    refine lv_iload_n hx hb dX3_begin_75 rfl (lv_at hl 2 rfl) ?_
    obtain ⟨hv9, hf⟩ := pck_some hf
    refine oc_R hW hf (fun r0 h0 hg => o_V (C := RJ2) (As := [.int x2]) (rest := [.int x2, .ref v2]) (n := 1) FX (mJ2_getO h0) (cwV 1 FX.2.2.2.2 (lw_V q344 q345 q346 q127 q347) rfl rfl rfl (by decide +kernel) ⟨Nat.le_of_ble_eq_true rfl, Nat.le_of_ble_eq_true rfl⟩) (o_recv hW rfl hv9) rfl hl.1 rfl (Nat.le_of_ble_eq_true rfl) hg dX3_begin_76 hW) (fun r4 w5 c6 y7 H locs hW hf => ?_)
    obtain ⟨hv9, hf⟩ := pck_some hf
    refine o_castS (C := RX9) (T := TX9) (N := 5) (ci := 8) FX hW rfl q358 hv9 dX3_begin_79 ?_
    refine og_i (C := RX9) (T := TX9) (N := 5) (ci := 8) FX hW in_X9 rfl 2 (by decide) q998 (fun _ h => h) hf dX3_begin_82 (fun v8 hf => ?_)
    refine lv_goto (tgt := 89) hx hb dX3_begin_85 (by decide) ?_
    exact wOX3_begin_89 FX hr hlk hnm hout hk17 x0 x1 x2 x3 v2 x2 v8 w5 c6 y7 _ _ _ (lv_sub hl [0, 1, 2, 3] rfl) hW hf
set_option maxHeartbeats 4000000 in
set_option maxRecDepth 100000 in
theorem wOX3_begin_17 {l : Launch} {D : va_G} {dA : Nat → ClassId} {z : Nat} {p : Program} {e : Env} {s : State} {m : MethodId} {args : Array Value} {below : List Frame} {meth : Method} {c9 : Code} {A : Nat → Prop} {q : ((Nat) × va_W × Nat × Nat)} (FX : CallFix p m c9 cX3_begin 4 s args lw_all RX3) (hr : meth.sig.returnType = (some (Jvm.ClassFile.FieldType.object "TrunkLitters$House"))) (hlk : meth.locks = false) (hnm : meth.name = yX3_begin.name) (hout : ∀ x ∈ c9.exceptionTable.toList, False) : ∀ n : Nat, ∀ (x0 : Nat) (x1 : Nat) (x2 : Int32) (w : va_W) (c : Nat) (y : Nat) (H : Heap) (locs : List Loc) (ls : Array Slot), lv_has ls 4 [(0, .ref x0), (1, .ref x1), (2, .int x2)] → Wo D dA A s w z c H locs → fOX3_begin_17 dA z n x0 x1 x2 w c y = some q → W p l e rOX3_begin s m args below meth c9 H locs c y (QO D dA A below args s rOX3_begin.cells rOX3_begin.slots (.inl (some (.ref q.1))) q.2.1 (z + q.2.2.1) q.2.2.2) (F0 m 17 ls []) := by
  have hx := FX.1; have hb := FX.2.1; have hown := FX.2.2.2.1; have hts := FX.2.2.2.2
  intro n
  induction n with
  | zero =>
    intro x0 x1 x2 w c y H locs ls hl hW hf
    cases (show (none : Option ((Nat) × va_W × Nat × Nat)) = some q from hf)
  | succ n ih =>
    intro x0 x1 x2 w c y H locs ls hl hW hf
    rw [fOX3_begin_17] at hf
    refine lv_iload_n hx hb dX3_begin_17 rfl (lv_at hl 2 rfl) ?_
    refine lv_bipush (v := 8) hx hb dX3_begin_18 (by decide) ?_
    refine lv_icmp_ge (tgt := 159) hx hb dX3_begin_20 (by decide) (fun c20 => ?_) (fun c20 => ?_)
    · have hf := ifp c20 hf
      refine lv_aload_n hx hb dX3_begin_159 rfl (lv_at hl 0 rfl) ?_
      refine lv_bipush (v := 8) hx hb dX3_begin_160 (by decide) ?_
      refine op_put (C := RX3) (T := TX3) (N := 14) (ci := 3) (ty := .int) FX hW in_X3 tyX3 tyX3_ok nmX3 rfl 12 (by decide) q295 (fun _ h => h) rfl (by decide +kernel) rfl rfl hf dX3_begin_162 (fun w1 H locs hW hf => ?_)
      refine lv_aload_n hx hb dX3_begin_165 rfl (lv_at hl 0 rfl) ?_
      refine lv_aload_n hx hb dX3_begin_166 rfl (lv_at hl 1 rfl) ?_
      refine og_i (C := RX1) (T := TX1) (N := 8) (ci := 1) FX hW in_X1 rfl 5 (by decide) q242 (fun _ h => h) hf dX3_begin_167 (fun v2 hf => ?_)
      refine op_put (C := RX3) (T := TX3) (N := 14) (ci := 3) (ty := .int) FX hW in_X3 tyX3 tyX3_ok nmX3 rfl 9 (by decide) q289 (fun _ h => h) rfl (by decide +kernel) rfl rfl hf dX3_begin_170 (fun w3 H locs hW hf => ?_)
      refine lv_aload_n hx hb dX3_begin_173 rfl (lv_at hl 0 rfl) ?_
      refine lv_iconst (v := 0) hx hb dX3_begin_174 (by decide) ?_
      refine op_put (C := RX3) (T := TX3) (N := 14) (ci := 3) (ty := .int) FX hW in_X3 tyX3 tyX3_ok nmX3 rfl 10 (by decide) q291 (fun _ h => h) rfl (by decide +kernel) rfl rfl hf dX3_begin_175 (fun w4 H locs hW hf => ?_)
      refine lv_aload_n hx hb dX3_begin_178 rfl (lv_at hl 0 rfl) ?_
      refine lv_aload_n hx hb dX3_begin_179 rfl (lv_at hl 1 rfl) ?_
      refine og_i (C := RX1) (T := TX1) (N := 8) (ci := 1) FX hW in_X1 rfl 6 (by decide) q244 (fun _ h => h) hf dX3_begin_180 (fun v5 hf => ?_)
      refine op_put (C := RX3) (T := TX3) (N := 14) (ci := 3) (ty := .int) FX hW in_X3 tyX3 tyX3_ok nmX3 rfl 11 (by decide) q293 (fun _ h => h) rfl (by decide +kernel) rfl rfl hf dX3_begin_183 (fun w6 H locs hW hf => ?_)
      refine lv_aload_n hx hb dX3_begin_186 rfl (lv_at hl 0 rfl) ?_
      refine lv_iconst (v := -1) hx hb dX3_begin_187 (by decide) ?_
      refine op_put (C := RX3) (T := TX3) (N := 14) (ci := 3) (ty := .int) FX hW in_X3 tyX3 tyX3_ok nmX3 rfl 13 (by decide) q296 (fun _ h => h) rfl (by decide +kernel) rfl rfl hf dX3_begin_188 (fun w7 H locs hW hf => ?_)
      refine lv_aload_n hx hb dX3_begin_191 rfl (lv_at hl 0 rfl) ?_
      obtain ⟨hg, hf⟩ := gck_some hf
      obtain rfl := Option.some.inj hf
      exact ro_a (v := some x0) FX hr (Or.inl ⟨_, rfl⟩) hlk hW hg dX3_begin_192
    · have hf := ifn c20 hf
      refine lv_aload_n hx hb dX3_begin_23 rfl (lv_at hl 0 rfl) ?_
      refine lv_iload_n hx hb dX3_begin_24 rfl (lv_at hl 2 rfl) ?_
      obtain ⟨hv9, hf⟩ := pck_some hf
      refine oc_i hW hf (fun r0 h0 hg => o_V (C := RX3) (As := [.int x2]) (rest := []) (n := 1) FX (mOX3_has h0) (cwV 1 FX.2.2.2.2 (lw_V q336 q337 q338 q129 q339) rfl rfl rfl (by decide +kernel) ⟨Nat.le_of_ble_eq_true rfl, Nat.le_of_ble_eq_true rfl⟩) (o_recv hW rfl hv9) rfl hl.1 rfl (Nat.le_of_ble_eq_true rfl) hg dX3_begin_25 hW) (fun r8 w9 c10 y11 H locs hW hf => ?_)
      refine lv_istore_n (lv' := [(3, .int r8), (0, .ref x0), (1, .ref x1), (2, .int x2)]) hx hb dX3_begin_28 rfl hl (by decide) rfl (fun ls hl => ?_)
      refine lv_aload_n hx hb dX3_begin_29 rfl (lv_at hl 1 rfl) ?_
      refine lv_iload_n hx hb dX3_begin_30 rfl (lv_at hl 3 rfl) ?_
      obtain ⟨hv9, hf⟩ := pck_some hf
      refine oc_v hW hf (fun r0 h0 hg => o_V (C := RX3) (As := [.int x2]) (rest := []) (n := 1) FX (mOX3_clear h0) (cwV 1 FX.2.2.2.2 (lw_V q340 q342 qs0 q129 q343) rfl rfl rfl (by decide +kernel) ⟨Nat.le_of_ble_eq_true rfl, Nat.le_of_ble_eq_true rfl⟩) (o_recv hW rfl hv9) rfl hl.1 rfl (Nat.le_of_ble_eq_true rfl) hg dX3_begin_31 hW) (fun w13 c14 y15 H locs hW hf => ?_)
      refine lv_aload_n hx hb dX3_begin_34 rfl (lv_at hl 1 rfl) ?_
      refine og_R (C := RX3) (T := TX3) (N := 14) (ci := 3) FX hW in_X3 rfl 0 (by decide) q271 (fun _ h => h) hf dX3_begin_35 (fun v16 hf => ?_)
      refine lv_iload_n hx hb dX3_begin_38 rfl (lv_at hl 3 rfl) ?_
      refine lv_iload_n hx hb dX3_begin_39 rfl (lv_at hl 0 rfl) ?_
      refine lv_if_eq (tgt := 60) hx hb dX3_begin_40 (by decide) (fun c40 => ?_) (fun c40 => ?_)
      · have hf := ifp c40 hf
        refine lv_iconst (v := 0) hx hb dX3_begin_60 (by decide) ?_
        exact wOX3_begin_61 FX hr hlk hnm hout (ih) x0 x1 x2 r8 v16 x2 (0 : Int32) w13 c14 y15 _ _ _ (lv_sub hl [1, 2, 3, 0] rfl) hW hf
      · have hf := ifn c40 hf
        refine lv_aload_n hx hb dX3_begin_43 rfl (lv_at hl 2 rfl) ?_
        refine og_R (C := RX1) (T := TX1) (N := 8) (ci := 1) FX hW in_X1 rfl 1 (by decide) q231 (fun _ h => h) hf dX3_begin_44 (fun v17 hf => ?_)
        refine lv_iload_n hx hb dX3_begin_47 rfl (lv_at hl 3 rfl) ?_
        obtain ⟨hv9, hf⟩ := pck_some hf
        refine oc_R hW hf (fun r0 h0 hg => o_V (C := RJ2) (As := [.int x2]) (rest := [.int x2, .ref v16]) (n := 1) FX (mJ2_getO h0) (cwV 1 FX.2.2.2.2 (lw_V q344 q345 q346 q127 q347) rfl rfl rfl (by decide +kernel) ⟨Nat.le_of_ble_eq_true rfl, Nat.le_of_ble_eq_true rfl⟩) (o_recv hW rfl hv9) rfl hl.1 rfl (Nat.le_of_ble_eq_true rfl) hg dX3_begin_48 hW) (fun r18 w19 c20 y21 H locs hW hf => ?_)
        obtain ⟨hv9, hf⟩ := pck_some hf
        refine o_castS (C := RX9) (T := TX9) (N := 5) (ci := 8) FX hW rfl q358 hv9 dX3_begin_51 ?_
        refine og_i (C := RX9) (T := TX9) (N := 5) (ci := 8) FX hW in_X9 rfl 1 (by decide) q996 (fun _ h => h) hf dX3_begin_54 (fun v22 hf => ?_)
        refine lv_goto (tgt := 61) hx hb dX3_begin_57 (by decide) ?_
        exact wOX3_begin_61 FX hr hlk hnm hout (ih) x0 x1 x2 r8 v16 x2 v22 w19 c20 y21 _ _ _ (lv_sub hl [1, 2, 3, 0] rfl) hW hf
set_option maxHeartbeats 4000000 in
set_option maxRecDepth 100000 in
theorem mOX3_begin {l : Launch} {D : va_G} {dA : Nat → ClassId} {z : Nat}  {t7 : Nat} {b7 : Nat} {w : va_W} {q : ((Nat) × va_W × Nat × Nat)} (hf : fOX3_begin dA z t7 b7 w = some q) : CtO l yX3_begin cX3_begin 4 (some (Jvm.ClassFile.FieldType.object "TrunkLitters$House")) rOX3_begin D dA [.ref t7, .ref b7] w z (.inl (some (.ref q.1))) q.2.1 q.2.2.1 q.2.2.2 := by
  refine e_O (by decide) (Nat.le_of_ble_eq_true rfl) ?_
  intro p e s m below meth c9 ls A FX hr hlk hnm hout hl hW
  have hx := FX.1; have hb := FX.2.1; have hown := FX.2.2.2.1; have hts := FX.2.2.2.2
  have hl : lv_has ls 4 [(0, .ref t7), (1, .ref b7)] := hl
  rw [fOX3_begin] at hf
  refine lv_aload_n hx hb dX3_begin_0 rfl (lv_at hl 0 rfl) ?_
  refine lv_iconst (v := 1) hx hb dX3_begin_1 (by decide) ?_
  refine lv_aload_n hx hb dX3_begin_2 rfl (lv_at hl 1 rfl) ?_
  refine og_R (C := RX1) (T := TX1) (N := 8) (ci := 1) FX hW in_X1 rfl 1 (by decide) q231 (fun _ h => h) hf dX3_begin_3 (fun v1 hf => ?_)
  obtain ⟨hv9, hf⟩ := pck_some hf
  refine oc_i hW hf (fun r0 h0 hg => o_V (C := RJ2) (As := []) (rest := [.int (1 : Int32), .ref t7]) (n := 0) FX (mJ2_sizeO h0) (cwV 0 FX.2.2.2.2 (lw_V q332 q333 q334 q127 q335) rfl rfl rfl (by decide +kernel) ⟨Nat.le_of_ble_eq_true rfl, Nat.le_of_ble_eq_true rfl⟩) (o_recv hW rfl hv9) rfl hl.1 rfl (Nat.le_of_ble_eq_true rfl) hg dX3_begin_6 hW) (fun r2 w3 c4 y5 H locs hW hf => ?_)
  refine lv_ishl hx hb dX3_begin_9 ?_
  refine lv_iconst (v := 1) hx hb dX3_begin_10 (by decide) ?_
  refine lv_isub hx hb dX3_begin_11 ?_
  refine op_put (C := RX3) (T := TX3) (N := 14) (ci := 3) (ty := .int) FX hW in_X3 tyX3 tyX3_ok nmX3 rfl 8 (by decide) q287 (fun _ h => h) rfl (by decide +kernel) rfl rfl hf dX3_begin_12 (fun w6 H locs hW hf => ?_)
  refine lv_iconst (v := 0) hx hb dX3_begin_15 (by decide) ?_
  refine lv_istore_n (lv' := [(2, .int (0 : Int32)), (0, .ref t7), (1, .ref b7)]) hx hb dX3_begin_16 rfl hl (by decide) rfl (fun ls hl => ?_)
  exact wOX3_begin_17 FX hr hlk hnm hout _ t7 b7 (0 : Int32) w6 c4 y5 _ _ _ (lv_sub hl [1, 2, 0] rfl) hW hf
/-! TrunkLitters$House.<init>()V: kind O -/
abbrev rOX3_init : Room := { frames := 1, cells := 8, slots := 64, locals := 30 }
def fOX3_init (dA : Nat → Nat) (z : Nat) (t7 : Nat) (w : va_W) : Option ((Unit) × va_W × Nat × Nat) := gsz (8 : Int32) fun N => onew rOX3_init.cells rOX3_init.slots 0 0 N w (z + 0) (.inl (dA 0, N, .inl (fun _ => 0))) fun w1 c2 y3 => ppt w1 t7 3 0 (.ref (z + 0)) fun w4 => gsz (8 : Int32) fun N => onew rOX3_init.cells rOX3_init.slots c2 y3 N w4 (z + c2) (.inl (dA 0, N, .inl (fun _ => 0))) fun w5 c6 y7 => ppt w5 t7 3 1 (.ref (z + c2)) fun w8 => gsz (8 : Int32) fun N => onew rOX3_init.cells rOX3_init.slots c6 y7 N w8 (z + c6) (.inl (dA 0, N, .inl (fun _ => 0))) fun w9 c10 y11 => ppt w9 t7 3 2 (.ref (z + c6)) fun w12 => gsz (8 : Int32) fun N => onew rOX3_init.cells rOX3_init.slots c10 y11 N w12 (z + c10) (.inl (dA 0, N, .inl (fun _ => 0))) fun w13 c14 y15 => ppt w13 t7 3 3 (.ref (z + c10)) fun w16 => gsz (8 : Int32) fun N => onew rOX3_init.cells rOX3_init.slots c14 y15 N w16 (z + c14) (.inl (dA 0, N, .inl (fun _ => 0))) fun w17 c18 y19 => ppt w17 t7 3 4 (.ref (z + c14)) fun w20 => gsz (8 : Int32) fun N => onew rOX3_init.cells rOX3_init.slots c18 y19 N w20 (z + c18) (.inl (dA 0, N, .inl (fun _ => 0))) fun w21 c22 y23 => ppt w21 t7 3 5 (.ref (z + c18)) fun w24 => gsz (8 : Int32) fun N => onew rOX3_init.cells rOX3_init.slots c22 y23 N w24 (z + c22) (.inl (dA 0, N, .inl (fun _ => 0))) fun w25 c26 y27 => ppt w25 t7 3 6 (.ref (z + c22)) fun w28 => gsz (8 : Int32) fun N => onew rOX3_init.cells rOX3_init.slots c26 y27 N w28 (z + c26) (.inl (dA 0, N, .inl (fun _ => 0))) fun w29 c30 y31 => ppt w29 t7 3 7 (.ref (z + c26)) fun w32 => ppt w32 t7 3 13 (.int (-1 : Int32)) fun w33 => gck c30 y31 rOX3_init.cells rOX3_init.slots (some ((), w33, c30, y31))
set_option maxHeartbeats 4000000 in
set_option maxRecDepth 100000 in
theorem mOX3_init {l : Launch} {D : va_G} {dA : Nat → ClassId} {z : Nat}  {t7 : Nat} {w : va_W} {q : ((Unit) × va_W × Nat × Nat)} (hf : fOX3_init dA z t7 w = some q) : CtO l yX3_init cX3_init 1 none rOX3_init D dA [.ref t7] w z (.inl none) q.2.1 q.2.2.1 q.2.2.2 := by
  refine e_O (by decide) (Nat.le_of_ble_eq_true rfl) ?_
  intro p e s m below meth c9 ls A FX hr hlk hnm hout hl hW
  have hx := FX.1; have hb := FX.2.1; have hown := FX.2.2.2.1; have hts := FX.2.2.2.2
  have hl : lv_has ls 1 [(0, .ref t7)] := hl
  rw [fOX3_init] at hf
  refine lv_aload_n hx hb dX3_init_0 rfl (lv_at hl 0 rfl) ?_
  refine o_obj FX q270 hl.1 dX3_init_1 (Nat.le_of_ble_eq_true rfl) (Nat.le_of_ble_eq_true rfl) ?_
  refine lv_aload_n hx hb dX3_init_4 rfl (lv_at hl 0 rfl) ?_
  refine lv_bipush (v := 8) hx hb dX3_init_5 (by decide) ?_
  refine on_newi FX hW hf dX3_init_7 (fun w1 c2 y3 H hW hf => ?_)
  refine op_putF (C := RX3) (T := TX3) (N := 14) (ci := 3) (ty := (.array .int)) FX hW in_X3 tyX3 tyX3_ok nmX3 rfl 0 (by decide) q271 (fun _ h => h) rfl hnm rfl (by decide +kernel) rfl rfl hf dX3_init_9 (fun w4 H locs hW hf => ?_)
  refine lv_aload_n hx hb dX3_init_12 rfl (lv_at hl 0 rfl) ?_
  refine lv_bipush (v := 8) hx hb dX3_init_13 (by decide) ?_
  refine on_newi FX hW hf dX3_init_15 (fun w5 c6 y7 H hW hf => ?_)
  refine op_putF (C := RX3) (T := TX3) (N := 14) (ci := 3) (ty := (.array .int)) FX hW in_X3 tyX3 tyX3_ok nmX3 rfl 1 (by decide) q273 (fun _ h => h) rfl hnm rfl (by decide +kernel) rfl rfl hf dX3_init_17 (fun w8 H locs hW hf => ?_)
  refine lv_aload_n hx hb dX3_init_20 rfl (lv_at hl 0 rfl) ?_
  refine lv_bipush (v := 8) hx hb dX3_init_21 (by decide) ?_
  refine on_newi FX hW hf dX3_init_23 (fun w9 c10 y11 H hW hf => ?_)
  refine op_putF (C := RX3) (T := TX3) (N := 14) (ci := 3) (ty := (.array .int)) FX hW in_X3 tyX3 tyX3_ok nmX3 rfl 2 (by decide) q275 (fun _ h => h) rfl hnm rfl (by decide +kernel) rfl rfl hf dX3_init_25 (fun w12 H locs hW hf => ?_)
  refine lv_aload_n hx hb dX3_init_28 rfl (lv_at hl 0 rfl) ?_
  refine lv_bipush (v := 8) hx hb dX3_init_29 (by decide) ?_
  refine on_newi FX hW hf dX3_init_31 (fun w13 c14 y15 H hW hf => ?_)
  refine op_putF (C := RX3) (T := TX3) (N := 14) (ci := 3) (ty := (.array .int)) FX hW in_X3 tyX3 tyX3_ok nmX3 rfl 3 (by decide) q277 (fun _ h => h) rfl hnm rfl (by decide +kernel) rfl rfl hf dX3_init_33 (fun w16 H locs hW hf => ?_)
  refine lv_aload_n hx hb dX3_init_36 rfl (lv_at hl 0 rfl) ?_
  refine lv_bipush (v := 8) hx hb dX3_init_37 (by decide) ?_
  refine on_newi FX hW hf dX3_init_39 (fun w17 c18 y19 H hW hf => ?_)
  refine op_putF (C := RX3) (T := TX3) (N := 14) (ci := 3) (ty := (.array .int)) FX hW in_X3 tyX3 tyX3_ok nmX3 rfl 4 (by decide) q279 (fun _ h => h) rfl hnm rfl (by decide +kernel) rfl rfl hf dX3_init_41 (fun w20 H locs hW hf => ?_)
  refine lv_aload_n hx hb dX3_init_44 rfl (lv_at hl 0 rfl) ?_
  refine lv_bipush (v := 8) hx hb dX3_init_45 (by decide) ?_
  refine on_newi FX hW hf dX3_init_47 (fun w21 c22 y23 H hW hf => ?_)
  refine op_putF (C := RX3) (T := TX3) (N := 14) (ci := 3) (ty := (.array .int)) FX hW in_X3 tyX3 tyX3_ok nmX3 rfl 5 (by decide) q281 (fun _ h => h) rfl hnm rfl (by decide +kernel) rfl rfl hf dX3_init_49 (fun w24 H locs hW hf => ?_)
  refine lv_aload_n hx hb dX3_init_52 rfl (lv_at hl 0 rfl) ?_
  refine lv_bipush (v := 8) hx hb dX3_init_53 (by decide) ?_
  refine on_newi FX hW hf dX3_init_55 (fun w25 c26 y27 H hW hf => ?_)
  refine op_putF (C := RX3) (T := TX3) (N := 14) (ci := 3) (ty := (.array .int)) FX hW in_X3 tyX3 tyX3_ok nmX3 rfl 6 (by decide) q283 (fun _ h => h) rfl hnm rfl (by decide +kernel) rfl rfl hf dX3_init_57 (fun w28 H locs hW hf => ?_)
  refine lv_aload_n hx hb dX3_init_60 rfl (lv_at hl 0 rfl) ?_
  refine lv_bipush (v := 8) hx hb dX3_init_61 (by decide) ?_
  refine on_newi FX hW hf dX3_init_63 (fun w29 c30 y31 H hW hf => ?_)
  refine op_putF (C := RX3) (T := TX3) (N := 14) (ci := 3) (ty := (.array .int)) FX hW in_X3 tyX3 tyX3_ok nmX3 rfl 7 (by decide) q285 (fun _ h => h) rfl hnm rfl (by decide +kernel) rfl rfl hf dX3_init_65 (fun w32 H locs hW hf => ?_)
  refine lv_aload_n hx hb dX3_init_68 rfl (lv_at hl 0 rfl) ?_
  refine lv_iconst (v := -1) hx hb dX3_init_69 (by decide) ?_
  refine op_put (C := RX3) (T := TX3) (N := 14) (ci := 3) (ty := .int) FX hW in_X3 tyX3 tyX3_ok nmX3 rfl 13 (by decide) q296 (fun _ h => h) rfl (by decide +kernel) rfl rfl hf dX3_init_70 (fun w33 H locs hW hf => ?_)
  obtain ⟨hg, hf⟩ := gck_some hf
  obtain rfl := Option.some.inj hf
  exact ro_v FX hr hlk hW hg dX3_init_73
/-! TrunkLitters.<init>()V: kind O -/
abbrev rOX0_init : Room := { frames := 5, cells := 600, slots := 8000, locals := 114 }
def fOX0_init_193 (dA : Nat → Nat) (z : Nat) : Nat → Nat → Int32 → va_W → Nat → Nat → Option ((Unit) × va_W × Nat × Nat)
  | 0, _, _, _, _, _ => none
  | n + 1, x0, x1, w, c, y => (if (3 : Int32) ≤ x1 then gck c y rOX0_init.cells rOX0_init.slots (some ((), w, c, y)) else pgR w x0 0 24 fun v1 => onew rOX0_init.cells rOX0_init.slots c y 14 w (z + c) (.inr (3, [.null, .null, .null, .null, .null, .null, .null, .null, .int 0, .int 0, .int 0, .int 0, .int 0, .int 0])) fun w2 c3 y4 => ocal rOX0_init.cells rOX0_init.slots c3 y4 rOX3_init.cells rOX3_init.slots (fOX3_init dA (z + c3) (z + c) w2) fun r5 w6 c7 y8 => hqsh w6 (dA 5) v1 x1 (z + c) (z + c7 - 1) fun w9 => fOX0_init_193 dA z n x0 (x1 + (1 : Int32)) w9 c7 y8)
def fOX0_init_166 (dA : Nat → Nat) (z : Nat) : Nat → Nat → Int32 → va_W → Nat → Nat → Option ((Unit) × va_W × Nat × Nat)
  | 0, _, _, _, _, _ => none
  | n + 1, x0, x1, w, c, y => (if (40 : Int32) ≤ x1 then fOX0_init_193 dA z FU x0 (0 : Int32) w c y else pgR w x0 0 9 fun v1 => onew rOX0_init.cells rOX0_init.slots c y 14 w (z + c) (.inr (3, [.null, .null, .null, .null, .null, .null, .null, .null, .int 0, .int 0, .int 0, .int 0, .int 0, .int 0])) fun w2 c3 y4 => ocal rOX0_init.cells rOX0_init.slots c3 y4 rOX3_init.cells rOX3_init.slots (fOX3_init dA (z + c3) (z + c) w2) fun r5 w6 c7 y8 => hqsh w6 (dA 5) v1 x1 (z + c) (z + c7 - 1) fun w9 => fOX0_init_166 dA z n x0 (x1 + (1 : Int32)) w9 c7 y8)
def fOX0_init (dA : Nat → Nat) (z : Nat) (t7 : Nat) (w : va_W) : Option ((Unit) × va_W × Nat × Nat) := gsz (1600 : Int32) fun N => onew rOX0_init.cells rOX0_init.slots 0 0 N w (z + 0) (.inl (dA 1, N, .inl (fun _ => 0))) fun w1 c2 y3 => ppt w1 t7 0 0 (.ref (z + 0)) fun w4 => ppt w4 t7 0 3 (.int (-1 : Int32)) fun w5 => onew rOX0_init.cells rOX0_init.slots c2 y3 8 w5 (z + c2) (.inr (1, [.null, .null, .null, .null, .int 0, .int 0, .int 0, .int 0])) fun w6 c7 y8 => ocal rOX0_init.cells rOX0_init.slots c7 y8 rX1_init.cells rX1_init.slots (fX1_init dA (z + c7) (z + c2) w6) fun r9 w10 c11 y12 => ppt w10 t7 0 4 (.ref (z + c2)) fun w13 => onew rOX0_init.cells rOX0_init.slots c11 y12 14 w13 (z + c11) (.inr (3, [.null, .null, .null, .null, .null, .null, .null, .null, .int 0, .int 0, .int 0, .int 0, .int 0, .int 0])) fun w14 c15 y16 => ocal rOX0_init.cells rOX0_init.slots c15 y16 rOX3_init.cells rOX3_init.slots (fOX3_init dA (z + c15) (z + c11) w14) fun r17 w18 c19 y20 => pgR w18 t7 0 4 fun v21 => pck w18 (z + c11) 3 (ocal rOX0_init.cells rOX0_init.slots c19 y20 rOX3_begin.cells rOX3_begin.slots (fOX3_begin dA (z + c19) (z + c11) v21 w18) fun r22 w23 c24 y25 => ppt w23 t7 0 5 (.ref r22) fun w26 => onew rOX0_init.cells rOX0_init.slots c24 y25 14 w26 (z + c24) (.inr (3, [.null, .null, .null, .null, .null, .null, .null, .null, .int 0, .int 0, .int 0, .int 0, .int 0, .int 0])) fun w27 c28 y29 => ocal rOX0_init.cells rOX0_init.slots c28 y29 rOX3_init.cells rOX3_init.slots (fOX3_init dA (z + c28) (z + c24) w27) fun r30 w31 c32 y33 => ppt w31 t7 0 6 (.ref (z + c24)) fun w34 => onew rOX0_init.cells rOX0_init.slots c32 y33 14 w34 (z + c32) (.inr (3, [.null, .null, .null, .null, .null, .null, .null, .null, .int 0, .int 0, .int 0, .int 0, .int 0, .int 0])) fun w35 c36 y37 => ocal rOX0_init.cells rOX0_init.slots c36 y37 rOX3_init.cells rOX3_init.slots (fOX3_init dA (z + c36) (z + c32) w35) fun r38 w39 c40 y41 => ppt w39 t7 0 7 (.ref (z + c32)) fun w42 => gsz (40 : Int32) fun N => onew rOX0_init.cells rOX0_init.slots c40 y41 N w42 (z + c40) (.inl (dA 5, N, .inr (.inr (.inr (.inr (fun _ => none)))))) fun w43 c44 y45 => ppt w43 t7 0 9 (.ref (z + c40)) fun w46 => gsz (8 : Int32) fun N => onew rOX0_init.cells rOX0_init.slots c44 y45 N w46 (z + c44) (.inl (dA 0, N, .inl (fun _ => 0))) fun w47 c48 y49 => ppt w47 t7 0 12 (.ref (z + c44)) fun w50 => gsz (8 : Int32) fun N => onew rOX0_init.cells rOX0_init.slots c48 y49 N w50 (z + c48) (.inl (dA 0, N, .inl (fun _ => 0))) fun w51 c52 y53 => ppt w51 t7 0 13 (.ref (z + c48)) fun w54 => gsz (4 : Int32) fun N => onew rOX0_init.cells rOX0_init.slots c52 y53 N w54 (z + c52) (.inl (dA 0, N, .inl (fun _ => 0))) fun w55 c56 y57 => ppt w55 t7 0 14 (.ref (z + c52)) fun w58 => ogrd rOX0_init.cells rOX0_init.slots c56 y57 dA w58 (z + c56) fun w59 c60 y61 => ppt w59 t7 0 17 (.ref (z + c56)) fun w62 => ogrd rOX0_init.cells rOX0_init.slots c60 y61 dA w62 (z + c60) fun w63 c64 y65 => ppt w63 t7 0 18 (.ref (z + c60)) fun w66 => onew rOX0_init.cells rOX0_init.slots c64 y65 3 w66 (z + c64) (.inr (13, [.int 0, .null, .int 0])) fun w67 c68 y69 => ocal rOX0_init.cells rOX0_init.slots c68 y69 rJ2_init.cells rJ2_init.slots (fJ2_init dA (z + c68) (z + c64) (2 : Int32) w67) fun r70 w71 c72 y73 => ppt w71 t7 0 21 (.ref (z + c64)) fun w74 => gsz (64 : Int32) fun N => onew rOX0_init.cells rOX0_init.slots c72 y73 N w74 (z + c72) (.inl (dA 2, N, .inl (fun _ => 0))) fun w75 c76 y77 => ppt w75 t7 0 22 (.ref (z + c72)) fun w78 => gsz (7 : Int32) fun N => onew rOX0_init.cells rOX0_init.slots c76 y77 N w78 (z + c76) (.inl (dA 0, N, .inl (fun _ => 0))) fun w79 c80 y81 => ppt w79 t7 0 23 (.ref (z + c76)) fun w82 => gsz (3 : Int32) fun N => onew rOX0_init.cells rOX0_init.slots c80 y81 N w82 (z + c80) (.inl (dA 5, N, .inr (.inr (.inr (.inr (fun _ => none)))))) fun w83 c84 y85 => ppt w83 t7 0 24 (.ref (z + c80)) fun w86 => gsz (3 : Int32) fun N => onew rOX0_init.cells rOX0_init.slots c84 y85 N w86 (z + c84) (.inl (dA 2, N, .inl (fun _ => 0))) fun w87 c88 y89 => ppt w87 t7 0 25 (.ref (z + c84)) fun w90 => fOX0_init_166 dA z FU t7 (0 : Int32) w90 c88 y89)
set_option maxHeartbeats 4000000 in
set_option maxRecDepth 100000 in
theorem wOX0_init_193 {l : Launch} {D : va_G} {dA : Nat → ClassId} {z : Nat} {p : Program} {e : Env} {s : State} {m : MethodId} {args : Array Value} {below : List Frame} {meth : Method} {c9 : Code} {A : Nat → Prop} {q : ((Unit) × va_W × Nat × Nat)} (FX : CallFix p m c9 cX0_init 2 s args lw_all RX0) (hr : meth.sig.returnType = none) (hlk : meth.locks = false) (hnm : meth.name = yX0_init.name) (hout : ∀ x ∈ c9.exceptionTable.toList, False) : ∀ n : Nat, ∀ (x0 : Nat) (x1 : Int32) (w : va_W) (c : Nat) (y : Nat) (H : Heap) (locs : List Loc) (ls : Array Slot), lv_has ls 2 [(0, .ref x0), (1, .int x1)] → Wo D dA A s w z c H locs → fOX0_init_193 dA z n x0 x1 w c y = some q → W p l e rOX0_init s m args below meth c9 H locs c y (QO D dA A below args s rOX0_init.cells rOX0_init.slots (.inl none) q.2.1 (z + q.2.2.1) q.2.2.2) (F0 m 193 ls []) := by
  have hx := FX.1; have hb := FX.2.1; have hown := FX.2.2.2.1; have hts := FX.2.2.2.2
  intro n
  induction n with
  | zero =>
    intro x0 x1 w c y H locs ls hl hW hf
    cases (show (none : Option ((Unit) × va_W × Nat × Nat)) = some q from hf)
  | succ n ih =>
    intro x0 x1 w c y H locs ls hl hW hf
    rw [fOX0_init_193] at hf
    refine lv_iload_n hx hb dX0_init_193 rfl (lv_at hl 1 rfl) ?_
    refine lv_iconst (v := 3) hx hb dX0_init_194 (by decide) ?_
    refine lv_icmp_ge (tgt := 217) hx hb dX0_init_195 (by decide) (fun c195 => ?_) (fun c195 => ?_)
    · have hf := ifp c195 hf
      obtain ⟨hg, hf⟩ := gck_some hf
      obtain rfl := Option.some.inj hf
      exact ro_v FX hr hlk hW hg dX0_init_217
    · have hf := ifn c195 hf
      refine lv_aload_n hx hb dX0_init_198 rfl (lv_at hl 0 rfl) ?_
      refine og_R (C := RX0) (T := TX0) (N := 26) (ci := 0) FX hW in_X0 rfl 24 (by decide) q391 (fun _ h => h) hf dX0_init_199 (fun v1 hf => ?_)
      refine lv_iload_n hx hb dX0_init_202 rfl (lv_at hl 1 rfl) ?_
      refine on_new (C := RX3) (T := TX3) (N := 14) (ci := 3) (fs := [.null, .null, .null, .null, .null, .null, .null, .null, .int 0, .int 0, .int 0, .int 0, .int 0, .int 0]) FX hW in_X3 tyX3 tyX3_ok q265 q266 q129 rfl (by decide +kernel) hf dX0_init_203 (fun w2 c3 y4 H hW hf => ?_)
      refine lv_dup hx hb dX0_init_206 rfl ?_
      refine oc_v hW hf (fun r0 h0 hg => o_IN (As := []) (rest := [.ref (z + c), .int x1, .ref v1]) (n := 0) FX (mOX3_init h0) ⟨va_cnB (host := "TrunkLitters") 0 FX.2.2.2.2 (lw_meth q269) rfl rfl rfl (hW.gx.1 _ (List.mem_of_getElem? (i := 4) rfl)) (FX.2.2.2.2 _ q129) (by decide +kernel) ⟨Nat.le_of_ble_eq_true rfl, Nat.le_of_ble_eq_true rfl⟩, rfl, FX.2.2.2.2 _ q268⟩ rfl hl.1 rfl (Nat.le_of_ble_eq_true rfl) hg dX0_init_207 hW) (fun w6 c7 y8 H locs hW hf => ?_)
      refine op_aasH FX hW hf dX0_init_210 (fun w9 H locs hW hf => ?_)
      refine lv_iinc (v := (x1 + (1 : Int32))) (lv' := [(1, .int (x1 + (1 : Int32))), (0, .ref x0)]) hx hb dX0_init_211 hl (k := 1) rfl rfl (by decide) rfl (fun ls hl => ?_)
      refine lv_goto (tgt := 193) hx hb dX0_init_214 (by decide) ?_
      exact ih x0 (x1 + (1 : Int32)) w9 c7 y8 _ _ _ (lv_sub hl [1, 0] rfl) hW hf
set_option maxHeartbeats 4000000 in
set_option maxRecDepth 100000 in
theorem wOX0_init_166 {l : Launch} {D : va_G} {dA : Nat → ClassId} {z : Nat} {p : Program} {e : Env} {s : State} {m : MethodId} {args : Array Value} {below : List Frame} {meth : Method} {c9 : Code} {A : Nat → Prop} {q : ((Unit) × va_W × Nat × Nat)} (FX : CallFix p m c9 cX0_init 2 s args lw_all RX0) (hr : meth.sig.returnType = none) (hlk : meth.locks = false) (hnm : meth.name = yX0_init.name) (hout : ∀ x ∈ c9.exceptionTable.toList, False) : ∀ n : Nat, ∀ (x0 : Nat) (x1 : Int32) (w : va_W) (c : Nat) (y : Nat) (H : Heap) (locs : List Loc) (ls : Array Slot), lv_has ls 2 [(0, .ref x0), (1, .int x1)] → Wo D dA A s w z c H locs → fOX0_init_166 dA z n x0 x1 w c y = some q → W p l e rOX0_init s m args below meth c9 H locs c y (QO D dA A below args s rOX0_init.cells rOX0_init.slots (.inl none) q.2.1 (z + q.2.2.1) q.2.2.2) (F0 m 166 ls []) := by
  have hx := FX.1; have hb := FX.2.1; have hown := FX.2.2.2.1; have hts := FX.2.2.2.2
  intro n
  induction n with
  | zero =>
    intro x0 x1 w c y H locs ls hl hW hf
    cases (show (none : Option ((Unit) × va_W × Nat × Nat)) = some q from hf)
  | succ n ih =>
    intro x0 x1 w c y H locs ls hl hW hf
    rw [fOX0_init_166] at hf
    refine lv_iload_n hx hb dX0_init_166 rfl (lv_at hl 1 rfl) ?_
    refine lv_bipush (v := 40) hx hb dX0_init_167 (by decide) ?_
    refine lv_icmp_ge (tgt := 191) hx hb dX0_init_169 (by decide) (fun c169 => ?_) (fun c169 => ?_)
    · have hf := ifp c169 hf
      refine lv_iconst (v := 0) hx hb dX0_init_191 (by decide) ?_
      refine lv_istore_n (lv' := [(1, .int (0 : Int32)), (0, .ref x0)]) hx hb dX0_init_192 rfl hl (by decide) rfl (fun ls hl => ?_)
      exact wOX0_init_193 FX hr hlk hnm hout _ x0 (0 : Int32) w c y _ _ _ (lv_sub hl [1, 0] rfl) hW hf
    · have hf := ifn c169 hf
      refine lv_aload_n hx hb dX0_init_172 rfl (lv_at hl 0 rfl) ?_
      refine og_R (C := RX0) (T := TX0) (N := 26) (ci := 0) FX hW in_X0 rfl 9 (by decide) q376 (fun _ h => h) hf dX0_init_173 (fun v1 hf => ?_)
      refine lv_iload_n hx hb dX0_init_176 rfl (lv_at hl 1 rfl) ?_
      refine on_new (C := RX3) (T := TX3) (N := 14) (ci := 3) (fs := [.null, .null, .null, .null, .null, .null, .null, .null, .int 0, .int 0, .int 0, .int 0, .int 0, .int 0]) FX hW in_X3 tyX3 tyX3_ok q265 q266 q129 rfl (by decide +kernel) hf dX0_init_177 (fun w2 c3 y4 H hW hf => ?_)
      refine lv_dup hx hb dX0_init_180 rfl ?_
      refine oc_v hW hf (fun r0 h0 hg => o_IN (As := []) (rest := [.ref (z + c), .int x1, .ref v1]) (n := 0) FX (mOX3_init h0) ⟨va_cnB (host := "TrunkLitters") 0 FX.2.2.2.2 (lw_meth q269) rfl rfl rfl (hW.gx.1 _ (List.mem_of_getElem? (i := 4) rfl)) (FX.2.2.2.2 _ q129) (by decide +kernel) ⟨Nat.le_of_ble_eq_true rfl, Nat.le_of_ble_eq_true rfl⟩, rfl, FX.2.2.2.2 _ q268⟩ rfl hl.1 rfl (Nat.le_of_ble_eq_true rfl) hg dX0_init_181 hW) (fun w6 c7 y8 H locs hW hf => ?_)
      refine op_aasH FX hW hf dX0_init_184 (fun w9 H locs hW hf => ?_)
      refine lv_iinc (v := (x1 + (1 : Int32))) (lv' := [(1, .int (x1 + (1 : Int32))), (0, .ref x0)]) hx hb dX0_init_185 hl (k := 1) rfl rfl (by decide) rfl (fun ls hl => ?_)
      refine lv_goto (tgt := 166) hx hb dX0_init_188 (by decide) ?_
      exact ih x0 (x1 + (1 : Int32)) w9 c7 y8 _ _ _ (lv_sub hl [1, 0] rfl) hW hf
set_option maxHeartbeats 4000000 in
set_option maxRecDepth 100000 in
theorem mOX0_init {l : Launch} {D : va_G} {dA : Nat → ClassId} {z : Nat}  {t7 : Nat} {w : va_W} {q : ((Unit) × va_W × Nat × Nat)} (hf : fOX0_init dA z t7 w = some q) : CtO l yX0_init cX0_init 2 none rOX0_init D dA [.ref t7] w z (.inl none) q.2.1 q.2.2.1 q.2.2.2 := by
  refine e_O (by decide) (Nat.le_of_ble_eq_true rfl) ?_
  intro p e s m below meth c9 ls A FX hr hlk hnm hout hl hW
  have hx := FX.1; have hb := FX.2.1; have hown := FX.2.2.2.1; have hts := FX.2.2.2.2
  have hl : lv_has ls 2 [(0, .ref t7)] := hl
  rw [fOX0_init] at hf
  refine lv_aload_n hx hb dX0_init_0 rfl (lv_at hl 0 rfl) ?_
  refine o_obj FX q161 hl.1 dX0_init_1 (Nat.le_of_ble_eq_true rfl) (Nat.le_of_ble_eq_true rfl) ?_
  refine lv_aload_n hx hb dX0_init_4 rfl (lv_at hl 0 rfl) ?_
  refine lv_sipush (v := 1600) hx hb dX0_init_5 (by decide) ?_
  refine on_newb FX hW hf dX0_init_8 (fun w1 c2 y3 H hW hf => ?_)
  refine op_putF (C := RX0) (T := TX0) (N := 26) (ci := 0) (ty := (.array .byte)) FX hW in_X0 tyX0 tyX0_ok nmX0 rfl 0 (by decide) q365 (fun _ h => h) rfl hnm rfl (by decide +kernel) rfl rfl hf dX0_init_10 (fun w4 H locs hW hf => ?_)
  refine lv_aload_n hx hb dX0_init_13 rfl (lv_at hl 0 rfl) ?_
  refine lv_iconst (v := -1) hx hb dX0_init_14 (by decide) ?_
  refine op_put (C := RX0) (T := TX0) (N := 26) (ci := 0) (ty := .int) FX hW in_X0 tyX0 tyX0_ok nmX0 rfl 3 (by decide) q369 (fun _ h => h) rfl (by decide +kernel) rfl rfl hf dX0_init_15 (fun w5 H locs hW hf => ?_)
  refine lv_aload_n hx hb dX0_init_18 rfl (lv_at hl 0 rfl) ?_
  refine on_new (C := RX1) (T := TX1) (N := 8) (ci := 1) (fs := [.null, .null, .null, .null, .int 0, .int 0, .int 0, .int 0]) FX hW in_X1 tyX1 tyX1_ok q164 q165 q124 rfl (by decide +kernel) hf dX0_init_19 (fun w6 c7 y8 H hW hf => ?_)
  refine lv_dup hx hb dX0_init_22 rfl ?_
  refine oc_v hW hf (fun r0 h0 hg => o_IN (As := []) (rest := [.ref (z + c2), .ref t7]) (n := 0) FX (mX1_init h0) ⟨va_cnB (host := "TrunkLitters") 0 FX.2.2.2.2 (lw_meth q168) rfl rfl rfl (hW.gx.1 _ (List.mem_of_getElem? (i := 3) rfl)) (FX.2.2.2.2 _ q124) (by decide +kernel) ⟨Nat.le_of_ble_eq_true rfl, Nat.le_of_ble_eq_true rfl⟩, rfl, FX.2.2.2.2 _ q167⟩ rfl hl.1 rfl (Nat.le_of_ble_eq_true rfl) hg dX0_init_23 hW) (fun w10 c11 y12 H locs hW hf => ?_)
  refine op_put (C := RX0) (T := TX0) (N := 26) (ci := 0) (ty := (.object "TrunkLitters$Book")) FX hW in_X0 tyX0 tyX0_ok nmX0 rfl 4 (by decide) q370 (fun _ h => h) rfl (by decide +kernel) rfl rfl hf dX0_init_26 (fun w13 H locs hW hf => ?_)
  refine lv_aload_n hx hb dX0_init_29 rfl (lv_at hl 0 rfl) ?_
  refine on_new (C := RX3) (T := TX3) (N := 14) (ci := 3) (fs := [.null, .null, .null, .null, .null, .null, .null, .null, .int 0, .int 0, .int 0, .int 0, .int 0, .int 0]) FX hW in_X3 tyX3 tyX3_ok q265 q266 q129 rfl (by decide +kernel) hf dX0_init_30 (fun w14 c15 y16 H hW hf => ?_)
  refine lv_dup hx hb dX0_init_33 rfl ?_
  refine oc_v hW hf (fun r0 h0 hg => o_IN (As := []) (rest := [.ref (z + c11), .ref t7]) (n := 0) FX (mOX3_init h0) ⟨va_cnB (host := "TrunkLitters") 0 FX.2.2.2.2 (lw_meth q269) rfl rfl rfl (hW.gx.1 _ (List.mem_of_getElem? (i := 4) rfl)) (FX.2.2.2.2 _ q129) (by decide +kernel) ⟨Nat.le_of_ble_eq_true rfl, Nat.le_of_ble_eq_true rfl⟩, rfl, FX.2.2.2.2 _ q268⟩ rfl hl.1 rfl (Nat.le_of_ble_eq_true rfl) hg dX0_init_34 hW) (fun w18 c19 y20 H locs hW hf => ?_)
  refine lv_aload_n hx hb dX0_init_37 rfl (lv_at hl 0 rfl) ?_
  refine og_R (C := RX0) (T := TX0) (N := 26) (ci := 0) FX hW in_X0 rfl 4 (by decide) q370 (fun _ h => h) hf dX0_init_38 (fun v21 hf => ?_)
  obtain ⟨hv9, hf⟩ := pck_some hf
  refine oc_R hW hf (fun r0 h0 hg => o_V (C := RX3) (As := [.ref v21]) (rest := [.ref t7]) (n := 1) FX (mOX3_begin h0) (cwV 1 FX.2.2.2.2 (lw_V q328 q329 q330 q129 q331) rfl rfl rfl (by decide +kernel) ⟨Nat.le_of_ble_eq_true rfl, Nat.le_of_ble_eq_true rfl⟩) (o_recv hW rfl hv9) rfl hl.1 rfl (Nat.le_of_ble_eq_true rfl) hg dX0_init_41 hW) (fun r22 w23 c24 y25 H locs hW hf => ?_)
  refine op_putF (C := RX0) (T := TX0) (N := 26) (ci := 0) (ty := (.object "TrunkLitters$House")) FX hW in_X0 tyX0 tyX0_ok nmX0 rfl 5 (by decide) q371 (fun _ h => h) rfl hnm rfl (by decide +kernel) rfl rfl hf dX0_init_44 (fun w26 H locs hW hf => ?_)
  refine lv_aload_n hx hb dX0_init_47 rfl (lv_at hl 0 rfl) ?_
  refine on_new (C := RX3) (T := TX3) (N := 14) (ci := 3) (fs := [.null, .null, .null, .null, .null, .null, .null, .null, .int 0, .int 0, .int 0, .int 0, .int 0, .int 0]) FX hW in_X3 tyX3 tyX3_ok q265 q266 q129 rfl (by decide +kernel) hf dX0_init_48 (fun w27 c28 y29 H hW hf => ?_)
  refine lv_dup hx hb dX0_init_51 rfl ?_
  refine oc_v hW hf (fun r0 h0 hg => o_IN (As := []) (rest := [.ref (z + c24), .ref t7]) (n := 0) FX (mOX3_init h0) ⟨va_cnB (host := "TrunkLitters") 0 FX.2.2.2.2 (lw_meth q269) rfl rfl rfl (hW.gx.1 _ (List.mem_of_getElem? (i := 4) rfl)) (FX.2.2.2.2 _ q129) (by decide +kernel) ⟨Nat.le_of_ble_eq_true rfl, Nat.le_of_ble_eq_true rfl⟩, rfl, FX.2.2.2.2 _ q268⟩ rfl hl.1 rfl (Nat.le_of_ble_eq_true rfl) hg dX0_init_52 hW) (fun w31 c32 y33 H locs hW hf => ?_)
  refine op_putF (C := RX0) (T := TX0) (N := 26) (ci := 0) (ty := (.object "TrunkLitters$House")) FX hW in_X0 tyX0 tyX0_ok nmX0 rfl 6 (by decide) q372 (fun _ h => h) rfl hnm rfl (by decide +kernel) rfl rfl hf dX0_init_55 (fun w34 H locs hW hf => ?_)
  refine lv_aload_n hx hb dX0_init_58 rfl (lv_at hl 0 rfl) ?_
  refine on_new (C := RX3) (T := TX3) (N := 14) (ci := 3) (fs := [.null, .null, .null, .null, .null, .null, .null, .null, .int 0, .int 0, .int 0, .int 0, .int 0, .int 0]) FX hW in_X3 tyX3 tyX3_ok q265 q266 q129 rfl (by decide +kernel) hf dX0_init_59 (fun w35 c36 y37 H hW hf => ?_)
  refine lv_dup hx hb dX0_init_62 rfl ?_
  refine oc_v hW hf (fun r0 h0 hg => o_IN (As := []) (rest := [.ref (z + c32), .ref t7]) (n := 0) FX (mOX3_init h0) ⟨va_cnB (host := "TrunkLitters") 0 FX.2.2.2.2 (lw_meth q269) rfl rfl rfl (hW.gx.1 _ (List.mem_of_getElem? (i := 4) rfl)) (FX.2.2.2.2 _ q129) (by decide +kernel) ⟨Nat.le_of_ble_eq_true rfl, Nat.le_of_ble_eq_true rfl⟩, rfl, FX.2.2.2.2 _ q268⟩ rfl hl.1 rfl (Nat.le_of_ble_eq_true rfl) hg dX0_init_63 hW) (fun w39 c40 y41 H locs hW hf => ?_)
  refine op_putF (C := RX0) (T := TX0) (N := 26) (ci := 0) (ty := (.object "TrunkLitters$House")) FX hW in_X0 tyX0 tyX0_ok nmX0 rfl 7 (by decide) q373 (fun _ h => h) rfl hnm rfl (by decide +kernel) rfl rfl hf dX0_init_66 (fun w42 H locs hW hf => ?_)
  refine lv_aload_n hx hb dX0_init_69 rfl (lv_at hl 0 rfl) ?_
  refine lv_bipush (v := 40) hx hb dX0_init_70 (by decide) ?_
  refine on_newH FX hW q265 hf dX0_init_72 (fun w43 c44 y45 H hW hf => ?_)
  refine op_putF (C := RX0) (T := TX0) (N := 26) (ci := 0) (ty := (.array (.object "TrunkLitters$House"))) FX hW in_X0 tyX0 tyX0_ok nmX0 rfl 9 (by decide) q376 (fun _ h => h) rfl hnm rfl (by decide +kernel) rfl rfl hf dX0_init_75 (fun w46 H locs hW hf => ?_)
  refine lv_aload_n hx hb dX0_init_78 rfl (lv_at hl 0 rfl) ?_
  refine lv_bipush (v := 8) hx hb dX0_init_79 (by decide) ?_
  refine on_newi FX hW hf dX0_init_81 (fun w47 c48 y49 H hW hf => ?_)
  refine op_putF (C := RX0) (T := TX0) (N := 26) (ci := 0) (ty := (.array .int)) FX hW in_X0 tyX0 tyX0_ok nmX0 rfl 12 (by decide) q379 (fun _ h => h) rfl hnm rfl (by decide +kernel) rfl rfl hf dX0_init_83 (fun w50 H locs hW hf => ?_)
  refine lv_aload_n hx hb dX0_init_86 rfl (lv_at hl 0 rfl) ?_
  refine lv_bipush (v := 8) hx hb dX0_init_87 (by decide) ?_
  refine on_newi FX hW hf dX0_init_89 (fun w51 c52 y53 H hW hf => ?_)
  refine op_putF (C := RX0) (T := TX0) (N := 26) (ci := 0) (ty := (.array .int)) FX hW in_X0 tyX0 tyX0_ok nmX0 rfl 13 (by decide) q380 (fun _ h => h) rfl hnm rfl (by decide +kernel) rfl rfl hf dX0_init_91 (fun w54 H locs hW hf => ?_)
  refine lv_aload_n hx hb dX0_init_94 rfl (lv_at hl 0 rfl) ?_
  refine lv_iconst (v := 4) hx hb dX0_init_95 (by decide) ?_
  refine on_newi FX hW hf dX0_init_96 (fun w55 c56 y57 H hW hf => ?_)
  refine op_putF (C := RX0) (T := TX0) (N := 26) (ci := 0) (ty := (.array .int)) FX hW in_X0 tyX0 tyX0_ok nmX0 rfl 14 (by decide) q381 (fun _ h => h) rfl hnm rfl (by decide +kernel) rfl rfl hf dX0_init_98 (fun w58 H locs hW hf => ?_)
  refine lv_aload_n hx hb dX0_init_101 rfl (lv_at hl 0 rfl) ?_
  refine lv_iconst (v := 4) hx hb dX0_init_102 (by decide) ?_
  refine lv_iconst (v := 4) hx hb dX0_init_103 (by decide) ?_
  refine on_grid FX hW q360 hf dX0_init_104 (fun w59 c60 y61 H hW hf => ?_)
  refine op_putF (C := RX0) (T := TX0) (N := 26) (ci := 0) (ty := (.array (.array .int))) FX hW in_X0 tyX0 tyX0_ok nmX0 rfl 17 (by decide) q384 (fun _ h => h) rfl hnm rfl (by decide +kernel) rfl rfl hf dX0_init_108 (fun w62 H locs hW hf => ?_)
  refine lv_aload_n hx hb dX0_init_111 rfl (lv_at hl 0 rfl) ?_
  refine lv_iconst (v := 4) hx hb dX0_init_112 (by decide) ?_
  refine lv_iconst (v := 4) hx hb dX0_init_113 (by decide) ?_
  refine on_grid FX hW q360 hf dX0_init_114 (fun w63 c64 y65 H hW hf => ?_)
  refine op_putF (C := RX0) (T := TX0) (N := 26) (ci := 0) (ty := (.array (.array .int))) FX hW in_X0 tyX0 tyX0_ok nmX0 rfl 18 (by decide) q385 (fun _ h => h) rfl hnm rfl (by decide +kernel) rfl rfl hf dX0_init_118 (fun w66 H locs hW hf => ?_)
  refine lv_aload_n hx hb dX0_init_121 rfl (lv_at hl 0 rfl) ?_
  refine on_new (C := RJ2) (T := TJ2) (N := 3) (ci := 13) (fs := [.int 0, .null, .int 0]) FX hW in_J2 tyJ2 tyJ2_ok q362 q171 q127 rfl (by decide +kernel) hf dX0_init_122 (fun w67 c68 y69 H hW hf => ?_)
  refine lv_dup hx hb dX0_init_125 rfl ?_
  refine lv_iconst (v := 2) hx hb dX0_init_126 (by decide) ?_
  refine oc_v hW hf (fun r0 h0 hg => o_I (As := [.int (2 : Int32)]) (rest := [.ref (z + c64), .ref t7]) (n := 1) FX (mJ2_init h0) (cwI 1 FX.2.2.2.2 (lw_meth q174) rfl rfl rfl (FX.2.2.2.2 _ q127) (FX.2.2.2.2 _ q363) (FX.2.2.2.2 _ q173) rfl (by decide +kernel) ⟨Nat.le_of_ble_eq_true rfl, Nat.le_of_ble_eq_true rfl⟩) rfl hl.1 rfl (Nat.le_of_ble_eq_true rfl) hg dX0_init_127 hW) (fun w71 c72 y73 H locs hW hf => ?_)
  refine op_putF (C := RX0) (T := TX0) (N := 26) (ci := 0) (ty := (.object "java/util/ArrayList")) FX hW in_X0 tyX0 tyX0_ok nmX0 rfl 21 (by decide) q388 (fun _ h => h) rfl hnm rfl (by decide +kernel) rfl rfl hf dX0_init_130 (fun w74 H locs hW hf => ?_)
  refine lv_aload_n hx hb dX0_init_133 rfl (lv_at hl 0 rfl) ?_
  refine lv_bipush (v := 64) hx hb dX0_init_134 (by decide) ?_
  refine on_newz FX hW hf dX0_init_136 (fun w75 c76 y77 H hW hf => ?_)
  refine op_putF (C := RX0) (T := TX0) (N := 26) (ci := 0) (ty := (.array .boolean)) FX hW in_X0 tyX0 tyX0_ok nmX0 rfl 22 (by decide) q389 (fun _ h => h) rfl hnm rfl (by decide +kernel) rfl rfl hf dX0_init_138 (fun w78 H locs hW hf => ?_)
  refine lv_aload_n hx hb dX0_init_141 rfl (lv_at hl 0 rfl) ?_
  refine lv_bipush (v := 7) hx hb dX0_init_142 (by decide) ?_
  refine on_newi FX hW hf dX0_init_144 (fun w79 c80 y81 H hW hf => ?_)
  refine op_putF (C := RX0) (T := TX0) (N := 26) (ci := 0) (ty := (.array .int)) FX hW in_X0 tyX0 tyX0_ok nmX0 rfl 23 (by decide) q390 (fun _ h => h) rfl hnm rfl (by decide +kernel) rfl rfl hf dX0_init_146 (fun w82 H locs hW hf => ?_)
  refine lv_aload_n hx hb dX0_init_149 rfl (lv_at hl 0 rfl) ?_
  refine lv_iconst (v := 3) hx hb dX0_init_150 (by decide) ?_
  refine on_newH FX hW q265 hf dX0_init_151 (fun w83 c84 y85 H hW hf => ?_)
  refine op_putF (C := RX0) (T := TX0) (N := 26) (ci := 0) (ty := (.array (.object "TrunkLitters$House"))) FX hW in_X0 tyX0 tyX0_ok nmX0 rfl 24 (by decide) q391 (fun _ h => h) rfl hnm rfl (by decide +kernel) rfl rfl hf dX0_init_154 (fun w86 H locs hW hf => ?_)
  refine lv_aload_n hx hb dX0_init_157 rfl (lv_at hl 0 rfl) ?_
  refine lv_iconst (v := 3) hx hb dX0_init_158 (by decide) ?_
  refine on_newz FX hW hf dX0_init_159 (fun w87 c88 y89 H hW hf => ?_)
  refine op_putF (C := RX0) (T := TX0) (N := 26) (ci := 0) (ty := (.array .boolean)) FX hW in_X0 tyX0 tyX0_ok nmX0 rfl 25 (by decide) q392 (fun _ h => h) rfl hnm rfl (by decide +kernel) rfl rfl hf dX0_init_161 (fun w90 H locs hW hf => ?_)
  refine lv_iconst (v := 0) hx hb dX0_init_164 (by decide) ?_
  refine lv_istore_n (lv' := [(1, .int (0 : Int32)), (0, .ref t7)]) hx hb dX0_init_165 rfl hl (by decide) rfl (fun ls hl => ?_)
  exact wOX0_init_166 FX hr hlk hnm hout _ t7 (0 : Int32) w90 c88 y89 _ _ _ (lv_sub hl [1, 0] rfl) hW hf
