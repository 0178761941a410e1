/-! java/lang/AbstractStringBuilder.isLatin1()Z: kind O -/
abbrev rJ5_isLatin1 : Room := { frames := 0, cells := 0, slots := 0, locals := 0 }
def fJ5_isLatin1 (dA : Nat → Nat) (z : Nat) (t7 : Nat) (w : va_W) : Option ((Int32) × va_W × Nat × Nat) := (if (1 : Int32) = 0 then gck 0 0 rJ5_isLatin1.cells rJ5_isLatin1.slots (some ((0 : Int32), w, 0, 0)) else pgi w t7 14 1 fun v1 => (if v1 = 0 then gck 0 0 rJ5_isLatin1.cells rJ5_isLatin1.slots (some ((1 : Int32), w, 0, 0)) else gck 0 0 rJ5_isLatin1.cells rJ5_isLatin1.slots (some ((0 : Int32), w, 0, 0))))
set_option maxHeartbeats 4000000 in
set_option maxRecDepth 100000 in
theorem mJ5_isLatin1 {l : Launch} {D : va_G} {dA : Nat → ClassId} {z : Nat}  {t7 : Nat} {w : va_W} {q : ((Int32) × va_W × Nat × Nat)} (hf : fJ5_isLatin1 dA z t7 w = some q) : CtO l yJ5_isLatin1 cJ5_isLatin1 1 (some .boolean) rJ5_isLatin1 D dA [.ref t7] w z (.inl (some (.int q.1))) q.2.1 q.2.2.1 q.2.2.2 := by
  refine e_O (by decide) (Nat.le_of_ble_eq_true rfl) ?_
  intro p e s m below meth c9 ls A FX hr hlk hnm hout hl hW
  have hx := FX.1; have hb := FX.2.1; have hown := FX.2.2.2.1; have hts := FX.2.2.2.2
  have hl : lv_has ls 1 [(0, .ref t7)] := hl
  rw [fJ5_isLatin1] at hf
  refine va_gets hx hb hW.1.2.2.2.2.2.2.2.2.2.2.1 hW.1.2.2.1 FX.2.2.2.1 (FX.2.2.2.2 _ q531) (fun _ h => h) dJ5_isLatin1_0 ?_
  refine lv_if_eq (tgt := 17) hx hb dJ5_isLatin1_3 (by decide) (fun c3 => ?_) (fun c3 => ?_)
  · have hf := ifp c3 hf
    refine lv_iconst (v := 0) hx hb dJ5_isLatin1_17 (by decide) ?_
    obtain ⟨hg, hf⟩ := gck_some hf
    obtain rfl := Option.some.inj hf
    exact ro_z (v := (0 : Int32)) FX hr hlk hW hg rfl dJ5_isLatin1_18
  · have hf := ifn c3 hf
    refine lv_aload_n hx hb dJ5_isLatin1_6 rfl (lv_at hl 0 rfl) ?_
    refine og_i (C := RJ6) (T := TJ6) (N := 4) (ci := 14) FX hW in_J6 rfl 1 (by decide) q541 (fun _ h => h) hf dJ5_isLatin1_7 (fun v1 hf => ?_)
    refine lv_if_ne (tgt := 17) hx hb dJ5_isLatin1_10 (by decide) (fun c10 => ?_) (fun c10 => ?_)
    · have hf := ifn c10 hf
      refine lv_iconst (v := 0) hx hb dJ5_isLatin1_17 (by decide) ?_
      obtain ⟨hg, hf⟩ := gck_some hf
      obtain rfl := Option.some.inj hf
      exact ro_z (v := (0 : Int32)) FX hr hlk hW hg rfl dJ5_isLatin1_18
    · have hf := ifp c10 hf
      refine lv_iconst (v := 1) hx hb dJ5_isLatin1_13 (by decide) ?_
      refine lv_goto (tgt := 18) hx hb dJ5_isLatin1_14 (by decide) ?_
      obtain ⟨hg, hf⟩ := gck_some hf
      obtain rfl := Option.some.inj hf
      exact ro_z (v := (1 : Int32)) FX hr hlk hW hg rfl dJ5_isLatin1_18
/-! java/lang/AbstractStringBuilder.getValue()[B: kind O -/
abbrev rJ5_getValue : Room := { frames := 0, cells := 0, slots := 0, locals := 0 }
def fJ5_getValue (dA : Nat → Nat) (z : Nat) (t7 : Nat) (w : va_W) : Option ((Nat) × va_W × Nat × Nat) := pgR w t7 14 0 fun v1 => gck 0 0 rJ5_getValue.cells rJ5_getValue.slots (some (v1, w, 0, 0))
set_option maxHeartbeats 4000000 in
set_option maxRecDepth 100000 in
theorem mJ5_getValue {l : Launch} {D : va_G} {dA : Nat → ClassId} {z : Nat}  {t7 : Nat} {w : va_W} {q : ((Nat) × va_W × Nat × Nat)} (hf : fJ5_getValue dA z t7 w = some q) : CtO l yJ5_getValue cJ5_getValue 1 (some (Jvm.ClassFile.FieldType.array Jvm.ClassFile.FieldType.byte)) rJ5_getValue D dA [.ref t7] w z (.inl (some (.ref q.1))) q.2.1 q.2.2.1 q.2.2.2 := by
  refine e_O (by decide) (Nat.le_of_ble_eq_true rfl) ?_
  intro p e s m below meth c9 ls A FX hr hlk hnm hout hl hW
  have hx := FX.1; have hb := FX.2.1; have hown := FX.2.2.2.1; have hts := FX.2.2.2.2
  have hl : lv_has ls 1 [(0, .ref t7)] := hl
  rw [fJ5_getValue] at hf
  refine lv_aload_n hx hb dJ5_getValue_0 rfl (lv_at hl 0 rfl) ?_
  refine og_R (C := RJ6) (T := TJ6) (N := 4) (ci := 14) FX hW in_J6 rfl 0 (by decide) q540 (fun _ h => h) hf dJ5_getValue_1 (fun v1 hf => ?_)
  obtain ⟨hg, hf⟩ := gck_some hf
  obtain rfl := Option.some.inj hf
  exact ro_a (v := some v1) FX hr (Or.inr ⟨_, rfl⟩) hlk hW hg dJ5_getValue_4
/-! java/lang/AbstractStringBuilder.length()I: kind O -/
abbrev rJ5_length : Room := { frames := 0, cells := 0, slots := 0, locals := 0 }
def fJ5_length (dA : Nat → Nat) (z : Nat) (t7 : Nat) (w : va_W) : Option ((Int32) × va_W × Nat × Nat) := pgi w t7 14 3 fun v1 => gck 0 0 rJ5_length.cells rJ5_length.slots (some (v1, w, 0, 0))
set_option maxHeartbeats 4000000 in
set_option maxRecDepth 100000 in
theorem mJ5_length {l : Launch} {D : va_G} {dA : Nat → ClassId} {z : Nat}  {t7 : Nat} {w : va_W} {q : ((Int32) × va_W × Nat × Nat)} (hf : fJ5_length dA z t7 w = some q) : CtO l yJ5_length cJ5_length 1 (some .int) rJ5_length D dA [.ref t7] w z (.inl (some (.int q.1))) q.2.1 q.2.2.1 q.2.2.2 := by
  refine e_O (by decide) (Nat.le_of_ble_eq_true rfl) ?_
  intro p e s m below meth c9 ls A FX hr hlk hnm hout hl hW
  have hx := FX.1; have hb := FX.2.1; have hown := FX.2.2.2.1; have hts := FX.2.2.2.2
  have hl : lv_has ls 1 [(0, .ref t7)] := hl
  rw [fJ5_length] at hf
  refine lv_aload_n hx hb dJ5_length_0 rfl (lv_at hl 0 rfl) ?_
  refine og_i (C := RJ6) (T := TJ6) (N := 4) (ci := 14) FX hW in_J6 rfl 3 (by decide) q543 (fun _ h => h) hf dJ5_length_1 (fun v1 hf => ?_)
  obtain ⟨hg, hf⟩ := gck_some hf
  obtain rfl := Option.some.inj hf
  exact ro_i FX hr hlk hW hg dJ5_length_4
/-! java/lang/StringBuilder.length()I: kind O -/
abbrev rJ6_length : Room := { frames := 1, cells := 0, slots := 0, locals := 20 }
def fJ6_length (dA : Nat → Nat) (z : Nat) (t7 : Nat) (w : va_W) : Option ((Int32) × va_W × Nat × Nat) := pck w t7 14 (ocal rJ6_length.cells rJ6_length.slots 0 0 rJ5_length.cells rJ5_length.slots (fJ5_length dA (z + 0) t7 w) fun r1 w2 c3 y4 => gck c3 y4 rJ6_length.cells rJ6_length.slots (some (r1, w2, c3, y4)))
set_option maxHeartbeats 4000000 in
set_option maxRecDepth 100000 in
theorem mJ6_length {l : Launch} {D : va_G} {dA : Nat → ClassId} {z : Nat}  {t7 : Nat} {w : va_W} {q : ((Int32) × va_W × Nat × Nat)} (hf : fJ6_length dA z t7 w = some q) : CtO l yJ6_length cJ6_length 1 (some .int) rJ6_length D dA [.ref t7] w z (.inl (some (.int q.1))) q.2.1 q.2.2.1 q.2.2.2 := by
  refine e_O (by decide) (Nat.le_of_ble_eq_true rfl) ?_
  intro p e s m below meth c9 ls A FX hr hlk hnm hout hl hW
  have hx := FX.1; have hb := FX.2.1; have hown := FX.2.2.2.1; have hts := FX.2.2.2.2
  have hl : lv_has ls 1 [(0, .ref t7)] := hl
  rw [fJ6_length] at hf
  refine lv_aload_n hx hb dJ6_length_0 rfl (lv_at hl 0 rfl) ?_
  obtain ⟨hv9, hf⟩ := pck_some hf
  refine oc_i hW hf (fun r0 h0 hg => o_SU (C := RJ6) (As := []) (rest := []) (n := 0) (T := TJ6) (N := 4) (ci := 14) rfl FX (mJ5_length h0) (va_cwSU 0 FX.2.2.2.2 (lw_SUx q670 q666 q552 q665 q134 q671) rfl rfl rfl (by decide +kernel) ⟨Nat.le_of_ble_eq_true rfl, Nat.le_of_ble_eq_true rfl⟩) (o_recv hW rfl hv9) rfl hl.1 rfl (Nat.le_of_ble_eq_true rfl) hg dJ6_length_1 hW) (fun r1 w2 c3 y4 H locs hW hf => ?_)
  obtain ⟨hg, hf⟩ := gck_some hf
  obtain rfl := Option.some.inj hf
  exact ro_i FX hr hlk hW hg dJ6_length_4
/-! java/lang/AbstractStringBuilder.<init>(I)V: kind O -/
abbrev rJ5_init : Room := { frames := 1, cells := 1, slots := 40, locals := 30 }
def fJ5_init (dA : Nat → Nat) (z : Nat) (t7 : Nat) (n7 : Int32) (w : va_W) : Option ((Unit) × va_W × Nat × Nat) := (if (1 : Int32) = 0 then none else gsz n7 fun N => onew rJ5_init.cells rJ5_init.slots 0 0 N w (z + 0) (.inl (dA 1, N, .inl (fun _ => 0))) fun w1 c2 y3 => ppt w1 t7 14 0 (.ref (z + 0)) fun w4 => ppt w4 t7 14 1 (.int (0 : Int32)) fun w5 => gck c2 y3 rJ5_init.cells rJ5_init.slots (some ((), w5, c2, y3)))
set_option maxHeartbeats 4000000 in
set_option maxRecDepth 100000 in
theorem mJ5_init {l : Launch} {D : va_G} {dA : Nat → ClassId} {z : Nat}  {t7 : Nat} {n7 : Int32} {w : va_W} {q : ((Unit) × va_W × Nat × Nat)} (hf : fJ5_init dA z t7 n7 w = some q) : CtO l yJ5_init cJ5_init 2 none rJ5_init D dA [.ref t7, .int n7] w z (.inl none) q.2.1 q.2.2.1 q.2.2.2 := by
  refine e_O (by decide) (Nat.le_of_ble_eq_true rfl) ?_
  intro p e s m below meth c9 ls A FX hr hlk hnm hout hl hW
  have hx := FX.1; have hb := FX.2.1; have hown := FX.2.2.2.1; have hts := FX.2.2.2.2
  have hl : lv_has ls 2 [(0, .ref t7), (1, .int n7)] := hl
  rw [fJ5_init] at hf
  refine lv_aload_n hx hb dJ5_init_0 rfl (lv_at hl 0 rfl) ?_
  refine o_obj FX q530 hl.1 dJ5_init_1 (Nat.le_of_ble_eq_true rfl) (Nat.le_of_ble_eq_true rfl) ?_
  refine va_gets hx hb hW.1.2.2.2.2.2.2.2.2.2.2.1 hW.1.2.2.1 FX.2.2.2.1 (FX.2.2.2.2 _ q531) (fun _ h => h) dJ5_init_4 ?_
  refine lv_if_eq (tgt := 25) hx hb dJ5_init_7 (by decide) (fun c7 => ?_) (fun c7 => ?_)
  · have hf := ifp c7 hf
    cases hf
  · have hf := ifn c7 hf
    refine lv_aload_n hx hb dJ5_init_10 rfl (lv_at hl 0 rfl) ?_
    refine lv_iload_n hx hb dJ5_init_11 rfl (lv_at hl 1 rfl) ?_
    refine on_newb FX hW hf dJ5_init_12 (fun w1 c2 y3 H hW hf => ?_)
    refine op_put (C := RJ6) (T := TJ6) (N := 4) (ci := 14) (ty := (.array .byte)) FX hW in_J6 tyJ6 tyJ6_ok nmJ6 rfl 0 (by decide) q540 (fun _ h => h) rfl (by decide +kernel) rfl rfl hf dJ5_init_14 (fun w4 H locs hW hf => ?_)
    refine lv_aload_n hx hb dJ5_init_17 rfl (lv_at hl 0 rfl) ?_
    refine lv_iconst (v := 0) hx hb dJ5_init_18 (by decide) ?_
    refine op_put (C := RJ6) (T := TJ6) (N := 4) (ci := 14) (ty := .byte) FX hW in_J6 tyJ6 tyJ6_ok nmJ6 rfl 1 (by decide) q541 (fun _ h => h) rfl (by decide +kernel) rfl rfl hf dJ5_init_19 (fun w5 H locs hW hf => ?_)
    refine lv_goto (tgt := 38) hx hb dJ5_init_22 (by decide) ?_
    obtain ⟨hg, hf⟩ := gck_some hf
    obtain rfl := Option.some.inj hf
    exact ro_v FX hr hlk hW hg dJ5_init_38
/-! java/lang/StringBuilder.<init>(I)V: kind O -/
abbrev rJ6_init : Room := { frames := 2, cells := 1, slots := 40, locals := 51 }
def fJ6_init (dA : Nat → Nat) (z : Nat) (t7 : Nat) (n7 : Int32) (w : va_W) : Option ((Unit) × va_W × Nat × Nat) := ocal rJ6_init.cells rJ6_init.slots 0 0 rJ5_init.cells rJ5_init.slots (fJ5_init dA (z + 0) t7 n7 w) fun r1 w2 c3 y4 => gck c3 y4 rJ6_init.cells rJ6_init.slots (some ((), w2, c3, y4))
set_option maxHeartbeats 4000000 in
set_option maxRecDepth 100000 in
theorem mJ6_init {l : Launch} {D : va_G} {dA : Nat → ClassId} {z : Nat}  {t7 : Nat} {n7 : Int32} {w : va_W} {q : ((Unit) × va_W × Nat × Nat)} (hf : fJ6_init dA z t7 n7 w = some q) : CtO l yJ6_init cJ6_init 2 none rJ6_init D dA [.ref t7, .int n7] w z (.inl none) q.2.1 q.2.2.1 q.2.2.2 := by
  refine e_O (by decide) (Nat.le_of_ble_eq_true rfl) ?_
  intro p e s m below meth c9 ls A FX hr hlk hnm hout hl hW
  have hx := FX.1; have hb := FX.2.1; have hown := FX.2.2.2.1; have hts := FX.2.2.2.2
  have hl : lv_has ls 2 [(0, .ref t7), (1, .int n7)] := hl
  rw [fJ6_init] at hf
  refine lv_aload_n hx hb dJ6_init_0 rfl (lv_at hl 0 rfl) ?_
  refine lv_iload_n hx hb dJ6_init_1 rfl (lv_at hl 1 rfl) ?_
  refine oc_v hW hf (fun r0 h0 hg => o_I (As := [.int n7]) (rest := []) (n := 1) FX (mJ5_init h0) (cwI 1 FX.2.2.2.2 (lw_meth q529) rfl rfl rfl (FX.2.2.2.2 _ q134) (FX.2.2.2.2 _ q527) (FX.2.2.2.2 _ q528) rfl (by decide +kernel) ⟨Nat.le_of_ble_eq_true rfl, Nat.le_of_ble_eq_true rfl⟩) rfl hl.1 rfl (Nat.le_of_ble_eq_true rfl) hg dJ6_init_2 hW) (fun w2 c3 y4 H locs hW hf => ?_)
  obtain ⟨hg, hf⟩ := gck_some hf
  obtain rfl := Option.some.inj hf
  exact ro_v FX hr hlk hW hg dJ6_init_5
/-! java/lang/AbstractStringBuilder.ensureCapacityInternal(I)V: kind O -/
abbrev rJ5_ensureCapacityInternal : Room := { frames := 0, cells := 0, slots := 0, locals := 0 }
def fJ5_ensureCapacityInternal (dA : Nat → Nat) (z : Nat) (t7 : Nat) (n7 : Int32) (w : va_W) : Option ((Unit) × va_W × Nat × Nat) := pgR w t7 14 0 fun v1 => hlen w (dA 1) v1 fun v2 => pgi w t7 14 1 fun v3 => (if (n7 - (v2 >>> (v3 &&& 31))) ≤ 0 then gck 0 0 rJ5_ensureCapacityInternal.cells rJ5_ensureCapacityInternal.slots (some ((), w, 0, 0)) else none)
set_option maxHeartbeats 4000000 in
set_option maxRecDepth 100000 in
theorem mJ5_ensureCapacityInternal {l : Launch} {D : va_G} {dA : Nat → ClassId} {z : Nat}  {t7 : Nat} {n7 : Int32} {w : va_W} {q : ((Unit) × va_W × Nat × Nat)} (hf : fJ5_ensureCapacityInternal dA z t7 n7 w = some q) : CtO l yJ5_ensureCapacityInternal cJ5_ensureCapacityInternal 3 none rJ5_ensureCapacityInternal D dA [.ref t7, .int n7] w z (.inl none) q.2.1 q.2.2.1 q.2.2.2 := by
  refine e_O (by decide) (Nat.le_of_ble_eq_true rfl) ?_
  intro p e s m below meth c9 ls A FX hr hlk hnm hout hl hW
  have hx := FX.1; have hb := FX.2.1; have hown := FX.2.2.2.1; have hts := FX.2.2.2.2
  have hl : lv_has ls 3 [(0, .ref t7), (1, .int n7)] := hl
  rw [fJ5_ensureCapacityInternal] at hf
  refine lv_aload_n hx hb dJ5_ensureCapacityInternal_0 rfl (lv_at hl 0 rfl) ?_
  refine og_R (C := RJ6) (T := TJ6) (N := 4) (ci := 14) FX hW in_J6 rfl 0 (by decide) q540 (fun _ h => h) hf dJ5_ensureCapacityInternal_1 (fun v1 hf => ?_)
  refine o_len FX hW.1 1 rfl hf dJ5_ensureCapacityInternal_4 (fun v2 hf => ?_)
  refine lv_aload_n hx hb dJ5_ensureCapacityInternal_5 rfl (lv_at hl 0 rfl) ?_
  refine og_i (C := RJ6) (T := TJ6) (N := 4) (ci := 14) FX hW in_J6 rfl 1 (by decide) q541 (fun _ h => h) hf dJ5_ensureCapacityInternal_6 (fun v3 hf => ?_)
  refine lv_ishr hx hb dJ5_ensureCapacityInternal_9 ?_
  refine lv_istore_n (lv' := [(2, .int (v2 >>> (v3 &&& 31))), (0, .ref t7), (1, .int n7)]) hx hb dJ5_ensureCapacityInternal_10 rfl hl (by decide) rfl (fun ls hl => ?_)
  refine lv_iload_n hx hb dJ5_ensureCapacityInternal_11 rfl (lv_at hl 2 rfl) ?_
  refine lv_iload_n hx hb dJ5_ensureCapacityInternal_12 rfl (lv_at hl 0 rfl) ?_
  refine lv_isub hx hb dJ5_ensureCapacityInternal_13 ?_
  refine lv_if_le (tgt := 38) hx hb dJ5_ensureCapacityInternal_14 (by decide) (fun c14 => ?_) (fun c14 => ?_)
  · have hf := ifp c14 hf
    obtain ⟨hg, hf⟩ := gck_some hf
    obtain rfl := Option.some.inj hf
    exact ro_v FX hr hlk hW hg dJ5_ensureCapacityInternal_38
  · have hf := ifn c14 hf
    cases hf
/-! java/lang/StringLatin1.canEncode(C)Z: kind O -/
abbrev rJ12_canEncode : Room := { frames := 0, cells := 0, slots := 0, locals := 0 }
def fJ12_canEncode (dA : Nat → Nat) (z : Nat) (v7 : Int32) (w : va_W) : Option ((Int32) × va_W × Nat × Nat) := (if (255 : Int32) < v7 then gck 0 0 rJ12_canEncode.cells rJ12_canEncode.slots (some ((0 : Int32), w, 0, 0)) else gck 0 0 rJ12_canEncode.cells rJ12_canEncode.slots (some ((1 : Int32), w, 0, 0)))
set_option maxHeartbeats 4000000 in
set_option maxRecDepth 100000 in
theorem mJ12_canEncode {l : Launch} {D : va_G} {dA : Nat → ClassId} {z : Nat}  {v7 : Int32} {w : va_W} {q : ((Int32) × va_W × Nat × Nat)} (hf : fJ12_canEncode dA z v7 w = some q) : CtO l yJ12_canEncode cJ12_canEncode 1 (some .boolean) rJ12_canEncode D dA [.int v7] w z (.inl (some (.int q.1))) q.2.1 q.2.2.1 q.2.2.2 := by
  refine e_O (by decide) (Nat.le_of_ble_eq_true rfl) ?_
  intro p e s m below meth c9 ls A FX hr hlk hnm hout hl hW
  have hx := FX.1; have hb := FX.2.1; have hown := FX.2.2.2.1; have hts := FX.2.2.2.2
  have hl : lv_has ls 1 [(0, .int v7)] := hl
  rw [fJ12_canEncode] at hf
  refine lv_iload_n hx hb dJ12_canEncode_0 rfl (lv_at hl 0 rfl) ?_
  refine lv_sipush (v := 255) hx hb dJ12_canEncode_1 (by decide) ?_
  refine lv_icmp_gt (tgt := 11) hx hb dJ12_canEncode_4 (by decide) (fun c4 => ?_) (fun c4 => ?_)
  · have hf := ifp c4 hf
    refine lv_iconst (v := 0) hx hb dJ12_canEncode_11 (by decide) ?_
    obtain ⟨hg, hf⟩ := gck_some hf
    obtain rfl := Option.some.inj hf
    exact ro_z (v := (0 : Int32)) FX hr hlk hW hg rfl dJ12_canEncode_12
  · have hf := ifn c4 hf
    refine lv_iconst (v := 1) hx hb dJ12_canEncode_7 (by decide) ?_
    refine lv_goto (tgt := 12) hx hb dJ12_canEncode_8 (by decide) ?_
    obtain ⟨hg, hf⟩ := gck_some hf
    obtain rfl := Option.some.inj hf
    exact ro_z (v := (1 : Int32)) FX hr hlk hW hg rfl dJ12_canEncode_12
/-! java/lang/AbstractStringBuilder.append(C)Ljava/lang/AbstractStringBuilder;: kind O -/
abbrev rJ5_append : Room := { frames := 1, cells := 0, slots := 0, locals := 22 }
def fJ5_append (dA : Nat → Nat) (z : Nat) (t7 : Nat) (v7 : Int32) (w : va_W) : Option ((Nat) × va_W × Nat × Nat) := pgi w t7 14 3 fun v1 => pck w t7 14 (ocal rJ5_append.cells rJ5_append.slots 0 0 rJ5_ensureCapacityInternal.cells rJ5_ensureCapacityInternal.slots (fJ5_ensureCapacityInternal dA (z + 0) t7 (v1 + (1 : Int32)) w) fun r2 w3 c4 y5 => pck w3 t7 14 (ocal rJ5_append.cells rJ5_append.slots c4 y5 rJ5_isLatin1.cells rJ5_isLatin1.slots (fJ5_isLatin1 dA (z + c4) t7 w3) fun r6 w7 c8 y9 => (if r6 = 0 then none else ocal rJ5_append.cells rJ5_append.slots c8 y9 rJ12_canEncode.cells rJ12_canEncode.slots (fJ12_canEncode dA (z + c8) v7 w7) fun r10 w11 c12 y13 => (if r10 = 0 then none else pgR w11 t7 14 0 fun v14 => pgi w11 t7 14 3 fun v15 => ppt w11 t7 14 3 (.int (v15 + (1 : Int32))) fun w16 => hast w16 (dA 1) v14 v15 (vp_nar .byte (v7.toInt8.toInt32)) fun w17 => gck c12 y13 rJ5_append.cells rJ5_append.slots (some (t7, w17, c12, y13))))))
set_option maxHeartbeats 4000000 in
set_option maxRecDepth 100000 in
theorem mJ5_append {l : Launch} {D : va_G} {dA : Nat → ClassId} {z : Nat}  {t7 : Nat} {v7 : Int32} {w : va_W} {q : ((Nat) × va_W × Nat × Nat)} (hf : fJ5_append dA z t7 v7 w = some q) : CtO l yJ5_append cJ5_append 2 (some (Jvm.ClassFile.FieldType.object "java/lang/AbstractStringBuilder")) rJ5_append D dA [.ref t7, .int v7] w z (.inl (some (.ref q.1))) q.2.1 q.2.2.1 q.2.2.2 := by
  refine e_O (by decide) (Nat.le_of_ble_eq_true rfl) ?_
  intro p e s m below meth c9 ls A FX hr hlk hnm hout hl hW
  have hx := FX.1; have hb := FX.2.1; have hown := FX.2.2.2.1; have hts := FX.2.2.2.2
  have hl : lv_has ls 2 [(0, .ref t7), (1, .int v7)] := hl
  rw [fJ5_append] at hf
  refine lv_aload_n hx hb dJ5_append_0 rfl (lv_at hl 0 rfl) ?_
  refine lv_aload_n hx hb dJ5_append_1 rfl (lv_at hl 0 rfl) ?_
  refine og_i (C := RJ6) (T := TJ6) (N := 4) (ci := 14) FX hW in_J6 rfl 3 (by decide) q543 (fun _ h => h) hf dJ5_append_2 (fun v1 hf => ?_)
  refine lv_iconst (v := 1) hx hb dJ5_append_5 (by decide) ?_
  refine lv_iadd hx hb dJ5_append_6 ?_
  obtain ⟨hv9, hf⟩ := pck_some hf
  refine oc_v hW hf (fun r0 h0 hg => o_V (C := RJ6) (As := [.int (v1 + (1 : Int32))]) (rest := []) (n := 1) FX (mJ5_ensureCapacityInternal h0) (cwG 1 FX.2.2.2.2 q560 q562 (sel_priv (FX.2.2.2.2 _ q598) rfl (by decide) (va_Nw.use rfl (hW.gx.1 _ (List.mem_of_getElem? (i := 17) rfl))) (FX.2.2.2.2 _ q562)) q134 q563 (by decide +kernel) ⟨Nat.le_of_ble_eq_true rfl, Nat.le_of_ble_eq_true rfl⟩) (o_recv hW rfl hv9) rfl hl.1 rfl (Nat.le_of_ble_eq_true rfl) hg dJ5_append_7 hW) (fun w3 c4 y5 H locs hW hf => ?_)
  refine lv_aload_n hx hb dJ5_append_10 rfl (lv_at hl 0 rfl) ?_
  obtain ⟨hv9, hf⟩ := pck_some hf
  refine oc_i hW hf (fun r0 h0 hg => o_V (C := RJ6) (As := []) (rest := []) (n := 0) FX (mJ5_isLatin1 h0) (cwG 0 FX.2.2.2.2 q595 q596 (FX.2.2.2.2 _ q598) q134 q599 (by decide +kernel) ⟨Nat.le_of_ble_eq_true rfl, Nat.le_of_ble_eq_true rfl⟩) (o_recv hW rfl hv9) rfl hl.1 rfl (Nat.le_of_ble_eq_true rfl) hg dJ5_append_11 hW) (fun r6 w7 c8 y9 H locs hW hf => ?_)
  refine lv_if_eq (tgt := 45) hx hb dJ5_append_14 (by decide) (fun c14 => ?_) (fun c14 => ?_)
  · have hf := ifp c14 hf
    cases hf
  · have hf := ifn c14 hf
    refine lv_iload_n hx hb dJ5_append_17 rfl (lv_at hl 1 rfl) ?_
    refine oc_i hW hf (fun r0 h0 hg => o_S (As := [.int v7]) (rest := []) (n := 1) FX (mJ12_canEncode h0) (va_cwS 1 FX.2.2.2.2 (lw_S q600 q601 q142 q602) rfl rfl rfl (by decide +kernel) ⟨Nat.le_of_ble_eq_true rfl, Nat.le_of_ble_eq_true rfl⟩) rfl hl.1 rfl (Nat.le_of_ble_eq_true rfl) hg dJ5_append_18 hW) (fun r10 w11 c12 y13 H locs hW hf => ?_)
    refine lv_if_eq (tgt := 45) hx hb dJ5_append_21 (by decide) (fun c21 => ?_) (fun c21 => ?_)
    · have hf := ifp c21 hf
      cases hf
    · have hf := ifn c21 hf
      refine lv_aload_n hx hb dJ5_append_24 rfl (lv_at hl 0 rfl) ?_
      refine og_R (C := RJ6) (T := TJ6) (N := 4) (ci := 14) FX hW in_J6 rfl 0 (by decide) q540 (fun _ h => h) hf dJ5_append_25 (fun v14 hf => ?_)
      refine lv_aload_n hx hb dJ5_append_28 rfl (lv_at hl 0 rfl) ?_
      refine lv_dup hx hb dJ5_append_29 rfl ?_
      refine og_i (C := RJ6) (T := TJ6) (N := 4) (ci := 14) FX hW in_J6 rfl 3 (by decide) q543 (fun _ h => h) hf dJ5_append_30 (fun v15 hf => ?_)
      refine lv_dup_x1 hx hb dJ5_append_33 rfl rfl ?_
      refine lv_iconst (v := 1) hx hb dJ5_append_34 (by decide) ?_
      refine lv_iadd hx hb dJ5_append_35 ?_
      refine op_put (C := RJ6) (T := TJ6) (N := 4) (ci := 14) (ty := .int) FX hW in_J6 tyJ6 tyJ6_ok nmJ6 rfl 3 (by decide) q543 (fun _ h => h) rfl (by decide +kernel) rfl rfl hf dJ5_append_36 (fun w16 H locs hW hf => ?_)
      refine lv_iload_n hx hb dJ5_append_39 rfl (lv_at hl 1 rfl) ?_
      refine lv_i2b (v := (v7.toInt8.toInt32)) hx hb dJ5_append_40 rfl ?_
      refine op_bast FX hW hf dJ5_append_41 (fun w17 H locs hW hf => ?_)
      refine lv_goto (tgt := 75) hx hb dJ5_append_42 (by decide) ?_
      refine lv_aload_n hx hb dJ5_append_75 rfl (lv_at hl 0 rfl) ?_
      obtain ⟨hg, hf⟩ := gck_some hf
      obtain rfl := Option.some.inj hf
      exact ro_a (v := some t7) FX hr (Or.inl ⟨_, rfl⟩) hlk hW hg dJ5_append_76
/-! java/lang/StringBuilder.append(C)Ljava/lang/StringBuilder;: kind O -/
abbrev rJ6_append : Room := { frames := 2, cells := 0, slots := 0, locals := 43 }
def fJ6_append (dA : Nat → Nat) (z : Nat) (t7 : Nat) (v7 : Int32) (w : va_W) : Option ((Nat) × va_W × Nat × Nat) := pck w t7 14 (ocal rJ6_append.cells rJ6_append.slots 0 0 rJ5_append.cells rJ5_append.slots (fJ5_append dA (z + 0) t7 v7 w) fun r1 w2 c3 y4 => gck c3 y4 rJ6_append.cells rJ6_append.slots (some (t7, w2, c3, y4)))
set_option maxHeartbeats 4000000 in
set_option maxRecDepth 100000 in
theorem mJ6_append {l : Launch} {D : va_G} {dA : Nat → ClassId} {z : Nat}  {t7 : Nat} {v7 : Int32} {w : va_W} {q : ((Nat) × va_W × Nat × Nat)} (hf : fJ6_append dA z t7 v7 w = some q) : CtO l yJ6_append cJ6_append 2 (some (Jvm.ClassFile.FieldType.object "java/lang/StringBuilder")) rJ6_append D dA [.ref t7, .int v7] w z (.inl (some (.ref q.1))) q.2.1 q.2.2.1 q.2.2.2 := by
  refine e_O (by decide) (Nat.le_of_ble_eq_true rfl) ?_
  intro p e s m below meth c9 ls A FX hr hlk hnm hout hl hW
  have hx := FX.1; have hb := FX.2.1; have hown := FX.2.2.2.1; have hts := FX.2.2.2.2
  have hl : lv_has ls 2 [(0, .ref t7), (1, .int v7)] := hl
  rw [fJ6_append] at hf
  refine lv_aload_n hx hb dJ6_append_0 rfl (lv_at hl 0 rfl) ?_
  refine lv_iload_n hx hb dJ6_append_1 rfl (lv_at hl 1 rfl) ?_
  obtain ⟨hv9, hf⟩ := pck_some hf
  refine oc_R hW hf (fun r0 h0 hg => o_SU (C := RJ6) (As := [.int v7]) (rest := []) (n := 1) (T := TJ6) (N := 4) (ci := 14) rfl FX (mJ5_append h0) (va_cwSU 1 FX.2.2.2.2 (lw_SUx q557 q2252 q552 q558 q134 q559) rfl rfl rfl (by decide +kernel) ⟨Nat.le_of_ble_eq_true rfl, Nat.le_of_ble_eq_true rfl⟩) (o_recv hW rfl hv9) rfl hl.1 rfl (Nat.le_of_ble_eq_true rfl) hg dJ6_append_2 hW) (fun r1 w2 c3 y4 H locs hW hf => ?_)
  refine lv_pop hx hb dJ6_append_5 rfl ?_
  refine lv_aload_n hx hb dJ6_append_6 rfl (lv_at hl 0 rfl) ?_
  obtain ⟨hg, hf⟩ := gck_some hf
  obtain rfl := Option.some.inj hf
  exact ro_a (v := some t7) FX hr (Or.inl ⟨_, rfl⟩) hlk hW hg dJ6_append_7
/-! java/util/Arrays.checkLength(II)V: kind O -/
abbrev rJ11_checkLength : Room := { frames := 0, cells := 0, slots := 0, locals := 0 }
def fJ11_checkLength (dA : Nat → Nat) (z : Nat) (a7 : Int32) (b7 : Int32) (w : va_W) : Option ((Unit) × va_W × Nat × Nat) := (if a7 ≤ b7 then gck 0 0 rJ11_checkLength.cells rJ11_checkLength.slots (some ((), w, 0, 0)) else none)
set_option maxHeartbeats 4000000 in
set_option maxRecDepth 100000 in
theorem mJ11_checkLength {l : Launch} {D : va_G} {dA : Nat → ClassId} {z : Nat}  {a7 : Int32} {b7 : Int32} {w : va_W} {q : ((Unit) × va_W × Nat × Nat)} (hf : fJ11_checkLength dA z a7 b7 w = some q) : CtO l yJ11_checkLength cJ11_checkLength 2 none rJ11_checkLength D dA [.int a7, .int b7] w z (.inl none) q.2.1 q.2.2.1 q.2.2.2 := by
  refine e_O (by decide) (Nat.le_of_ble_eq_true rfl) ?_
  intro p e s m below meth c9 ls A FX hr hlk hnm hout hl hW
  have hx := FX.1; have hb := FX.2.1; have hown := FX.2.2.2.1; have hts := FX.2.2.2.2
  have hl : lv_has ls 2 [(0, .int a7), (1, .int b7)] := hl
  rw [fJ11_checkLength] at hf
  refine lv_iload_n hx hb dJ11_checkLength_0 rfl (lv_at hl 1 rfl) ?_
  refine lv_iload_n hx hb dJ11_checkLength_1 rfl (lv_at hl 0 rfl) ?_
  refine lv_icmp_ge (tgt := 37) hx hb dJ11_checkLength_2 (by decide) (fun c2 => ?_) (fun c2 => ?_)
  · have hf := ifp c2 hf
    obtain ⟨hg, hf⟩ := gck_some hf
    obtain rfl := Option.some.inj hf
    exact ro_v FX hr hlk hW hg dJ11_checkLength_37
  · have hf := ifn c2 hf
    cases hf
/-! java/util/Arrays.copyOfRangeByte([BII)[B: kind O -/
abbrev rJ11_copyOfRangeByte : Room := { frames := 1, cells := 1, slots := 100, locals := 60 }
def fJ11_copyOfRangeByte (dA : Nat → Nat) (z : Nat) (a7 : Nat) (f7 : Int32) (t7 : Int32) (w : va_W) : Option ((Nat) × va_W × Nat × Nat) := ocal rJ11_copyOfRangeByte.cells rJ11_copyOfRangeByte.slots 0 0 rJ11_checkLength.cells rJ11_checkLength.slots (fJ11_checkLength dA (z + 0) f7 t7 w) fun r1 w2 c3 y4 => gsz (t7 - f7) fun N => onew rJ11_copyOfRangeByte.cells rJ11_copyOfRangeByte.slots c3 y4 N w2 (z + c3) (.inl (dA 1, N, .inl (fun _ => 0))) fun w5 c6 y7 => hlen w5 (dA 1) a7 fun v8 => gck c6 y7 rJ11_copyOfRangeByte.cells rJ11_copyOfRangeByte.slots (hcpb w5 (dA 1) a7 (z + c3) (z + c6) f7 (if (t7 - f7) < (v8 - f7) then (t7 - f7) else (v8 - f7)) fun w9 => gck c6 y7 rJ11_copyOfRangeByte.cells rJ11_copyOfRangeByte.slots (some ((z + c3), w9, c6, y7)))
set_option maxHeartbeats 4000000 in
set_option maxRecDepth 100000 in
theorem mJ11_copyOfRangeByte {l : Launch} {D : va_G} {dA : Nat → ClassId} {z : Nat}  {a7 : Nat} {f7 : Int32} {t7 : Int32} {w : va_W} {q : ((Nat) × va_W × Nat × Nat)} (hf : fJ11_copyOfRangeByte dA z a7 f7 t7 w = some q) : CtO l yJ11_copyOfRangeByte cJ11_copyOfRangeByte 5 (some (Jvm.ClassFile.FieldType.array Jvm.ClassFile.FieldType.byte)) rJ11_copyOfRangeByte D dA [.ref a7, .int f7, .int t7] w z (.inl (some (.ref q.1))) q.2.1 q.2.2.1 q.2.2.2 := by
  refine e_O (by decide) (Nat.le_of_ble_eq_true rfl) ?_
  intro p e s m below meth c9 ls A FX hr hlk hnm hout hl hW
  have hx := FX.1; have hb := FX.2.1; have hown := FX.2.2.2.1; have hts := FX.2.2.2.2
  have hl : lv_has ls 5 [(0, .ref a7), (1, .int f7), (2, .int t7)] := hl
  rw [fJ11_copyOfRangeByte] at hf
  refine lv_iload_n hx hb dJ11_copyOfRangeByte_0 rfl (lv_at hl 1 rfl) ?_
  refine lv_iload_n hx hb dJ11_copyOfRangeByte_1 rfl (lv_at hl 2 rfl) ?_
  refine oc_v hW hf (fun r0 h0 hg => o_S (As := [.int f7, .int t7]) (rest := []) (n := 2) FX (mJ11_checkLength h0) (va_cwS 2 FX.2.2.2.2 (lw_S q679 q680 q140 q681) rfl rfl rfl (by decide +kernel) ⟨Nat.le_of_ble_eq_true rfl, Nat.le_of_ble_eq_true rfl⟩) rfl hl.1 rfl (Nat.le_of_ble_eq_true rfl) hg dJ11_copyOfRangeByte_2 hW) (fun w2 c3 y4 H locs hW hf => ?_)
  refine lv_iload_n hx hb dJ11_copyOfRangeByte_5 rfl (lv_at hl 2 rfl) ?_
  refine lv_iload_n hx hb dJ11_copyOfRangeByte_6 rfl (lv_at hl 1 rfl) ?_
  refine lv_isub hx hb dJ11_copyOfRangeByte_7 ?_
  refine lv_istore_n (lv' := [(3, .int (t7 - f7)), (0, .ref a7), (1, .int f7), (2, .int t7)]) hx hb dJ11_copyOfRangeByte_8 rfl hl (by decide) rfl (fun ls hl => ?_)
  refine lv_iload_n hx hb dJ11_copyOfRangeByte_9 rfl (lv_at hl 0 rfl) ?_
  refine on_newb FX hW hf dJ11_copyOfRangeByte_10 (fun w5 c6 y7 H hW hf => ?_)
  refine lv_astore (lv' := [(4, .ref (z + c3)), (3, .int (t7 - f7)), (0, .ref a7), (1, .int f7), (2, .int t7)]) hx hb dJ11_copyOfRangeByte_12 hl (by decide) rfl (fun ls hl => ?_)
  refine lv_aload_n hx hb dJ11_copyOfRangeByte_14 rfl (lv_at hl 2 rfl) ?_
  refine lv_iload_n hx hb dJ11_copyOfRangeByte_15 rfl (lv_at hl 3 rfl) ?_
  refine lv_aload hx hb dJ11_copyOfRangeByte_16 (lv_at hl 0 rfl) ?_
  refine lv_iconst (v := 0) hx hb dJ11_copyOfRangeByte_18 (by decide) ?_
  refine lv_aload_n hx hb dJ11_copyOfRangeByte_19 rfl (lv_at hl 2 rfl) ?_
  refine o_len FX hW.1 1 rfl hf dJ11_copyOfRangeByte_20 (fun v8 hf => ?_)
  refine lv_iload_n hx hb dJ11_copyOfRangeByte_21 rfl (lv_at hl 3 rfl) ?_
  refine lv_isub hx hb dJ11_copyOfRangeByte_22 ?_
  refine lv_iload_n hx hb dJ11_copyOfRangeByte_23 rfl (lv_at hl 1 rfl) ?_
  obtain ⟨hg9, hf⟩ := gck_some hf
  refine va_mmin hx hb (FX.2.2.1.trans hl.1.symm) hown (hts _ q589) (hts _ q590) (hts _ q139) (hts _ q591) (Nat.le_of_ble_eq_true rfl) (Nat.le_of_ble_eq_true rfl) hg9.1 hg9.2 dJ11_copyOfRangeByte_24 ?_
  refine o_cpb FX hW q592 hl.1 hf ⟨(Nat.le_of_ble_eq_true rfl), by decide +kernel⟩ (Nat.le_of_ble_eq_true rfl) dJ11_copyOfRangeByte_27 (fun w9 H locs hW hf => ?_)
  refine lv_aload hx hb dJ11_copyOfRangeByte_30 (lv_at hl 0 rfl) ?_
  obtain ⟨hg, hf⟩ := gck_some hf
  obtain rfl := Option.some.inj hf
  exact ro_a (v := some (z + c3)) FX hr (Or.inr ⟨_, rfl⟩) hlk hW hg dJ11_copyOfRangeByte_32
/-! java/util/Arrays.copyOfRange([BII)[B: kind O -/
abbrev rJ11_copyOfRange : Room := { frames := 2, cells := 1, slots := 100, locals := 84 }
def fJ11_copyOfRange_10 (dA : Nat → Nat) (z : Nat) (x0 : Nat) (x1 : Int32) (x2 : Int32) (w : va_W) (c : Nat) (y : Nat) : Option ((Nat) × va_W × Nat × Nat) := ocal rJ11_copyOfRange.cells rJ11_copyOfRange.slots c y rJ11_copyOfRangeByte.cells rJ11_copyOfRangeByte.slots (fJ11_copyOfRangeByte dA (z + c) x0 x1 x2 w) fun r1 w2 c3 y4 => gck c3 y4 rJ11_copyOfRange.cells rJ11_copyOfRange.slots (some (r1, w2, c3, y4))
def fJ11_copyOfRange (dA : Nat → Nat) (z : Nat) (a7 : Nat) (f7 : Int32) (t7 : Int32) (w : va_W) : Option ((Nat) × va_W × Nat × Nat) := (if f7 = 0 then hlen w (dA 1) a7 fun v1 => (if t7 = v1 then hcln rJ11_copyOfRange.cells rJ11_copyOfRange.slots 0 0 w (dA 1) a7 (z + 0) fun w2 c3 y4 => hck w2 (dA 1) (z + 0) (gck c3 y4 rJ11_copyOfRange.cells rJ11_copyOfRange.slots (some ((z + 0), w2, c3, y4))) else fJ11_copyOfRange_10 dA z a7 f7 t7 w 0 0) else fJ11_copyOfRange_10 dA z a7 f7 t7 w 0 0)
set_option maxHeartbeats 4000000 in
set_option maxRecDepth 100000 in
theorem wJ11_copyOfRange_10 {l : Launch} {D : va_G} {dA : Nat → ClassId} {z : Nat} {p : Program} {e : Env} {s : State} {m : MethodId} {args : Array Value} {below : List Frame} {meth : Method} {c9 : Code} {A : Nat → Prop} {q : ((Nat) × va_W × Nat × Nat)} (FX : CallFix p m c9 cJ11_copyOfRange 3 s args lw_all RJ11) (hr : meth.sig.returnType = (some (Jvm.ClassFile.FieldType.array Jvm.ClassFile.FieldType.byte))) (hlk : meth.locks = false) (hnm : meth.name = yJ11_copyOfRange.name) (hout : ∀ x ∈ c9.exceptionTable.toList, False) : ∀ (x0 : Nat) (x1 : Int32) (x2 : Int32) (w : va_W) (c : Nat) (y : Nat) (H : Heap) (locs : List Loc) (ls : Array Slot), lv_has ls 3 [(0, .ref x0), (1, .int x1), (2, .int x2)] → Wo D dA A s w z c H locs → fJ11_copyOfRange_10 dA z x0 x1 x2 w c y = some q → W p l e rJ11_copyOfRange s m args below meth c9 H locs c y (QO D dA A below args s rJ11_copyOfRange.cells rJ11_copyOfRange.slots (.inl (some (.ref q.1))) q.2.1 (z + q.2.2.1) q.2.2.2) (F0 m 10 ls []) := by
  have hx := FX.1; have hb := FX.2.1; have hown := FX.2.2.2.1; have hts := FX.2.2.2.2
  intro x0 x1 x2 w c y H locs ls hl hW hf
  rw [fJ11_copyOfRange_10] at hf
  refine lv_aload_n hx hb dJ11_copyOfRange_10 rfl (lv_at hl 0 rfl) ?_
  refine lv_iload_n hx hb dJ11_copyOfRange_11 rfl (lv_at hl 1 rfl) ?_
  refine lv_iload_n hx hb dJ11_copyOfRange_12 rfl (lv_at hl 2 rfl) ?_
  refine oc_R hW hf (fun r0 h0 hg => o_S (As := [.ref x0, .int x1, .int x2]) (rest := []) (n := 3) FX (mJ11_copyOfRangeByte h0) (va_cwS 3 FX.2.2.2.2 (lw_S q676 q677 q140 q678) rfl rfl rfl (by decide +kernel) ⟨Nat.le_of_ble_eq_true rfl, Nat.le_of_ble_eq_true rfl⟩) rfl hl.1 rfl (Nat.le_of_ble_eq_true rfl) hg dJ11_copyOfRange_13 hW) (fun r1 w2 c3 y4 H locs hW hf => ?_)
  obtain ⟨hg, hf⟩ := gck_some hf
  obtain rfl := Option.some.inj hf
  exact ro_a (v := some r1) FX hr (Or.inr ⟨_, rfl⟩) hlk hW hg dJ11_copyOfRange_16
set_option maxHeartbeats 4000000 in
set_option maxRecDepth 100000 in
theorem mJ11_copyOfRange {l : Launch} {D : va_G} {dA : Nat → ClassId} {z : Nat}  {a7 : Nat} {f7 : Int32} {t7 : Int32} {w : va_W} {q : ((Nat) × va_W × Nat × Nat)} (hf : fJ11_copyOfRange dA z a7 f7 t7 w = some q) : CtO l yJ11_copyOfRange cJ11_copyOfRange 3 (some (Jvm.ClassFile.FieldType.array Jvm.ClassFile.FieldType.byte)) rJ11_copyOfRange D dA [.ref a7, .int f7, .int t7] w z (.inl (some (.ref q.1))) q.2.1 q.2.2.1 q.2.2.2 := by
  refine e_O (by decide) (Nat.le_of_ble_eq_true rfl) ?_
  intro p e s m below meth c9 ls A FX hr hlk hnm hout hl hW
  have hx := FX.1; have hb := FX.2.1; have hown := FX.2.2.2.1; have hts := FX.2.2.2.2
  have hl : lv_has ls 3 [(0, .ref a7), (1, .int f7), (2, .int t7)] := hl
  rw [fJ11_copyOfRange] at hf
  refine lv_iload_n hx hb dJ11_copyOfRange_0 rfl (lv_at hl 1 rfl) ?_
  refine lv_if_ne (tgt := 10) hx hb dJ11_copyOfRange_1 (by decide) (fun c1 => ?_) (fun c1 => ?_)
  · have hf := ifn c1 hf
    exact wJ11_copyOfRange_10 FX hr hlk hnm hout a7 f7 t7 w 0 0 _ _ _ (lv_sub hl [0, 1, 2] rfl) hW hf
  · have hf := ifp c1 hf
    refine lv_iload_n hx hb dJ11_copyOfRange_4 rfl (lv_at hl 2 rfl) ?_
    refine lv_aload_n hx hb dJ11_copyOfRange_5 rfl (lv_at hl 0 rfl) ?_
    refine o_len FX hW.1 1 rfl hf dJ11_copyOfRange_6 (fun v1 hf => ?_)
    refine lv_icmp_eq (tgt := 17) hx hb dJ11_copyOfRange_7 (by decide) (fun c7 => ?_) (fun c7 => ?_)
    · have hf := ifp c7 hf
      refine lv_aload_n hx hb dJ11_copyOfRange_17 rfl (lv_at hl 0 rfl) ?_
      refine o_cln FX hW q582 q583 q585 q586 hl.1 hf ⟨(Nat.le_of_ble_eq_true rfl), (Nat.le_of_ble_eq_true rfl)⟩ (Nat.le_of_ble_eq_true rfl) dJ11_copyOfRange_18 (fun w2 c3 y4 H hW hf => ?_)
      obtain ⟨hv9, hf⟩ := hck_some hf
      refine o_castB FX hW q588 hv9 dJ11_copyOfRange_21 ?_
      obtain ⟨hg, hf⟩ := gck_some hf
      obtain rfl := Option.some.inj hf
      exact ro_a (v := some (z + 0)) FX hr (Or.inr ⟨_, rfl⟩) hlk hW hg dJ11_copyOfRange_24
    · have hf := ifn c7 hf
      exact wJ11_copyOfRange_10 FX hr hlk hnm hout a7 f7 t7 w 0 0 _ _ _ (lv_sub hl [0, 1, 2] rfl) hW hf
/-! java/lang/String.<init>(Ljava/lang/AbstractStringBuilder;Ljava/lang/Void;)V: kind O -/
abbrev rJ7_init_2 : Room := { frames := 3, cells := 1, slots := 100, locals := 106 }
def fJ7_init_2 (dA : Nat → Nat) (z : Nat) (t7 : Nat) (b7 : Nat) (v7 : Option Nat) (w : va_W) : Option ((Unit) × va_W × Nat × Nat) := pck w b7 14 (ocal rJ7_init_2.cells rJ7_init_2.slots 0 0 rJ5_getValue.cells rJ5_getValue.slots (fJ5_getValue dA (z + 0) b7 w) fun r1 w2 c3 y4 => pck w2 b7 14 (ocal rJ7_init_2.cells rJ7_init_2.slots c3 y4 rJ6_length.cells rJ6_length.slots (fJ6_length dA (z + c3) b7 w2) fun r5 w6 c7 y8 => pck w6 b7 14 (ocal rJ7_init_2.cells rJ7_init_2.slots c7 y8 rJ5_isLatin1.cells rJ5_isLatin1.slots (fJ5_isLatin1 dA (z + c7) b7 w6) fun r9 w10 c11 y12 => (if r9 = 0 then none else ppt w10 t7 15 1 (.int (0 : Int32)) fun w13 => ocal rJ7_init_2.cells rJ7_init_2.slots c11 y12 rJ11_copyOfRange.cells rJ11_copyOfRange.slots (fJ11_copyOfRange dA (z + c11) r1 (0 : Int32) r5 w13) fun r14 w15 c16 y17 => ppt w15 t7 15 0 (.ref r14) fun w18 => gck c16 y17 rJ7_init_2.cells rJ7_init_2.slots (some ((), w18, c16, y17))))))
set_option maxHeartbeats 4000000 in
set_option maxRecDepth 100000 in
theorem mJ7_init_2 {l : Launch} {D : va_G} {dA : Nat → ClassId} {z : Nat}  {t7 : Nat} {b7 : Nat} {v7 : Option Nat} {w : va_W} {q : ((Unit) × va_W × Nat × Nat)} (hf : fJ7_init_2 dA z t7 b7 v7 w = some q) : CtO l yJ7_init_2 cJ7_init_2 5 none rJ7_init_2 D dA [.ref t7, .ref b7, va_rf v7] w z (.inl none) q.2.1 q.2.2.1 q.2.2.2 := by
  refine e_O (by decide) (by cases v7 <;> exact Nat.le_of_ble_eq_true rfl) ?_
  intro p e s m below meth c9 ls A FX hr hlk hnm hout hl hW
  have hx := FX.1; have hb := FX.2.1; have hown := FX.2.2.2.1; have hts := FX.2.2.2.2
  have hl : lv_has ls 5 [(0, .ref t7), (1, .ref b7), (2, va_rf v7)] := by cases v7 <;> exact hl
  rw [fJ7_init_2] at hf
  refine lv_aload_n hx hb dJ7_init_2_0 rfl (lv_at hl 0 rfl) ?_
  refine o_obj FX q658 hl.1 dJ7_init_2_1 (Nat.le_of_ble_eq_true rfl) (Nat.le_of_ble_eq_true rfl) ?_
  refine lv_aload_n hx hb dJ7_init_2_4 rfl (lv_at hl 1 rfl) ?_
  obtain ⟨hv9, hf⟩ := pck_some hf
  refine oc_R hW hf (fun r0 h0 hg => o_V (C := RJ6) (As := []) (rest := []) (n := 0) FX (mJ5_getValue h0) (cwG 0 FX.2.2.2.2 q659 q660 (FX.2.2.2.2 _ q662) q134 q663 (by decide +kernel) ⟨Nat.le_of_ble_eq_true rfl, Nat.le_of_ble_eq_true rfl⟩) (o_recv hW rfl hv9) rfl hl.1 rfl (Nat.le_of_ble_eq_true rfl) hg dJ7_init_2_5 hW) (fun r1 w2 c3 y4 H locs hW hf => ?_)
  refine lv_astore_n (lv' := [(3, .ref r1), (0, .ref t7), (1, .ref b7), (2, va_rf v7)]) hx hb dJ7_init_2_8 rfl hl (by decide) (by cases v7 <;> rfl) (fun ls hl => ?_)
  refine lv_aload_n hx hb dJ7_init_2_9 rfl (lv_at hl 2 rfl) ?_
  obtain ⟨hv9, hf⟩ := pck_some hf
  refine oc_i hW hf (fun r0 h0 hg => o_U (C := RJ6) (As := []) (rest := []) (n := 0) FX (mJ6_length h0) (va_cwO (x := yJ5_length) 0 FX.2.2.2.2 (lw_Ox q664 q666 q665 q667 q668 q135 q669) rfl rfl rfl q671 (by decide +kernel) ⟨Nat.le_of_ble_eq_true rfl, Nat.le_of_ble_eq_true rfl⟩) (o_recv hW rfl hv9) rfl hl.1 rfl (Nat.le_of_ble_eq_true rfl) hg dJ7_init_2_10 hW) (fun r5 w6 c7 y8 H locs hW hf => ?_)
  refine lv_istore (lv' := [(4, .int r5), (3, .ref r1), (0, .ref t7), (1, .ref b7), (2, va_rf v7)]) hx hb dJ7_init_2_13 hl (by decide) (by cases v7 <;> rfl) (fun ls hl => ?_)
  refine lv_aload_n hx hb dJ7_init_2_15 rfl (lv_at hl 3 rfl) ?_
  obtain ⟨hv9, hf⟩ := pck_some hf
  refine oc_i hW hf (fun r0 h0 hg => o_V (C := RJ6) (As := []) (rest := []) (n := 0) FX (mJ5_isLatin1 h0) (cwG 0 FX.2.2.2.2 q672 q596 (FX.2.2.2.2 _ q598) q134 q599 (by decide +kernel) ⟨Nat.le_of_ble_eq_true rfl, Nat.le_of_ble_eq_true rfl⟩) (o_recv hW rfl hv9) rfl hl.1 rfl (Nat.le_of_ble_eq_true rfl) hg dJ7_init_2_16 hW) (fun r9 w10 c11 y12 H locs hW hf => ?_)
  refine lv_if_eq (tgt := 41) hx hb dJ7_init_2_19 (by decide) (fun c19 => ?_) (fun c19 => ?_)
  · have hf := ifp c19 hf
    cases hf
  · have hf := ifn c19 hf
    refine lv_aload_n hx hb dJ7_init_2_22 rfl (lv_at hl 2 rfl) ?_
    refine lv_iconst (v := 0) hx hb dJ7_init_2_23 (by decide) ?_
    refine op_putF (C := RJ7) (T := TJ7) (N := 4) (ci := 15) (ty := .byte) FX hW in_J7 tyJ7 tyJ7_ok nmJ7 rfl 1 (by decide) q697 (fun _ h => h) rfl hnm rfl (by decide +kernel) rfl rfl hf dJ7_init_2_24 (fun w13 H locs hW hf => ?_)
    refine lv_aload_n hx hb dJ7_init_2_27 rfl (lv_at hl 2 rfl) ?_
    refine lv_aload_n hx hb dJ7_init_2_28 rfl (lv_at hl 1 rfl) ?_
    refine lv_iconst (v := 0) hx hb dJ7_init_2_29 (by decide) ?_
    refine lv_iload hx hb dJ7_init_2_30 (lv_at hl 0 rfl) ?_
    refine oc_R hW hf (fun r0 h0 hg => o_S (As := [.ref r1, .int (0 : Int32), .int r5]) (rest := [.ref t7]) (n := 3) FX (mJ11_copyOfRange h0) (va_cwS 3 FX.2.2.2.2 (lw_S q673 q674 q140 q675) rfl rfl rfl (by decide +kernel) ⟨Nat.le_of_ble_eq_true rfl, Nat.le_of_ble_eq_true rfl⟩) rfl hl.1 rfl (Nat.le_of_ble_eq_true rfl) hg dJ7_init_2_32 hW) (fun r14 w15 c16 y17 H locs hW hf => ?_)
    refine op_putF (C := RJ7) (T := TJ7) (N := 4) (ci := 15) (ty := (.array .byte)) FX hW in_J7 tyJ7 tyJ7_ok nmJ7 rfl 0 (by decide) q696 (fun _ h => h) rfl hnm rfl (by decide +kernel) rfl rfl hf dJ7_init_2_35 (fun w18 H locs hW hf => ?_)
    refine lv_goto (tgt := 97) hx hb dJ7_init_2_38 (by decide) ?_
    obtain ⟨hg, hf⟩ := gck_some hf
    obtain rfl := Option.some.inj hf
    exact ro_v FX hr hlk hW hg dJ7_init_2_97
/-! java/lang/String.<init>(Ljava/lang/StringBuilder;)V: kind O -/
abbrev rJ7_init : Room := { frames := 4, cells := 1, slots := 100, locals := 130 }
def fJ7_init (dA : Nat → Nat) (z : Nat) (t7 : Nat) (b7 : Nat) (w : va_W) : Option ((Unit) × va_W × Nat × Nat) := ocal rJ7_init.cells rJ7_init.slots 0 0 rJ7_init_2.cells rJ7_init_2.slots (fJ7_init_2 dA (z + 0) t7 b7 none w) fun r1 w2 c3 y4 => gck c3 y4 rJ7_init.cells rJ7_init.slots (some ((), w2, c3, y4))
set_option maxHeartbeats 4000000 in
set_option maxRecDepth 100000 in
theorem mJ7_init {l : Launch} {D : va_G} {dA : Nat → ClassId} {z : Nat}  {t7 : Nat} {b7 : Nat} {w : va_W} {q : ((Unit) × va_W × Nat × Nat)} (hf : fJ7_init dA z t7 b7 w = some q) : CtO l yJ7_init cJ7_init 2 none rJ7_init D dA [.ref t7, .ref b7] w z (.inl none) q.2.1 q.2.2.1 q.2.2.2 := by
  refine e_O (by decide) (Nat.le_of_ble_eq_true rfl) ?_
  intro p e s m below meth c9 ls A FX hr hlk hnm hout hl hW
  have hx := FX.1; have hb := FX.2.1; have hown := FX.2.2.2.1; have hts := FX.2.2.2.2
  have hl : lv_has ls 2 [(0, .ref t7), (1, .ref b7)] := hl
  rw [fJ7_init] at hf
  refine lv_aload_n hx hb dJ7_init_0 rfl (lv_at hl 0 rfl) ?_
  refine lv_aload_n hx hb dJ7_init_1 rfl (lv_at hl 1 rfl) ?_
  refine lv_null hx hb dJ7_init_2 ?_
  refine oc_v hW hf (fun r0 h0 hg => o_I (As := [.ref b7, va_rf none]) (rest := []) (n := 2) FX (mJ7_init_2 h0) (cwI 2 FX.2.2.2.2 (lw_meth q657) rfl rfl rfl (FX.2.2.2.2 _ q136) (FX.2.2.2.2 _ q655) (FX.2.2.2.2 _ q656) rfl (by decide +kernel) ⟨Nat.le_of_ble_eq_true rfl, Nat.le_of_ble_eq_true rfl⟩) rfl hl.1 rfl (Nat.le_of_ble_eq_true rfl) hg dJ7_init_3 hW) (fun w2 c3 y4 H locs hW hf => ?_)
  obtain ⟨hg, hf⟩ := gck_some hf
  obtain rfl := Option.some.inj hf
  exact ro_v FX hr hlk hW hg dJ7_init_6
/-! java/lang/StringBuilder.toString()Ljava/lang/String;: kind O -/
abbrev rJ6_toString : Room := { frames := 5, cells := 2, slots := 110, locals := 151 }
def fJ6_toString (dA : Nat → Nat) (z : Nat) (t7 : Nat) (w : va_W) : Option ((Nat) × va_W × Nat × Nat) := onew rJ6_toString.cells rJ6_toString.slots 0 0 4 w (z + 0) (.inr (15, [.null, .int 0, .int 0, .int 0])) fun w1 c2 y3 => ocal rJ6_toString.cells rJ6_toString.slots c2 y3 rJ7_init.cells rJ7_init.slots (fJ7_init dA (z + c2) (z + 0) t7 w1) fun r4 w5 c6 y7 => gck c6 y7 rJ6_toString.cells rJ6_toString.slots (some ((z + 0), w5, c6, y7))
set_option maxHeartbeats 4000000 in
set_option maxRecDepth 100000 in
theorem mJ6_toString {l : Launch} {D : va_G} {dA : Nat → ClassId} {z : Nat}  {t7 : Nat} {w : va_W} {q : ((Nat) × va_W × Nat × Nat)} (hf : fJ6_toString dA z t7 w = some q) : CtO l yJ6_toString cJ6_toString 1 (some (Jvm.ClassFile.FieldType.object "java/lang/String")) rJ6_toString D dA [.ref t7] w z (.inl (some (.ref q.1))) q.2.1 q.2.2.1 q.2.2.2 := by
  refine e_O (by decide) (Nat.le_of_ble_eq_true rfl) ?_
  intro p e s m below meth c9 ls A FX hr hlk hnm hout hl hW
  have hx := FX.1; have hb := FX.2.1; have hown := FX.2.2.2.1; have hts := FX.2.2.2.2
  have hl : lv_has ls 1 [(0, .ref t7)] := hl
  rw [fJ6_toString] at hf
  refine on_new (C := RJ7) (T := TJ7) (N := 4) (ci := 15) (fs := [.null, .int 0, .int 0, .int 0]) FX hW in_J7 tyJ7 tyJ7_ok q650 q651 q136 rfl (by decide +kernel) hf dJ6_toString_0 (fun w1 c2 y3 H hW hf => ?_)
  refine lv_dup hx hb dJ6_toString_3 rfl ?_
  refine lv_aload_n hx hb dJ6_toString_4 rfl (lv_at hl 0 rfl) ?_
  refine oc_v hW hf (fun r0 h0 hg => o_I (As := [.ref t7]) (rest := [.ref (z + 0)]) (n := 1) FX (mJ7_init h0) (cwI 1 FX.2.2.2.2 (lw_meth q654) rfl rfl rfl (FX.2.2.2.2 _ q136) (FX.2.2.2.2 _ q652) (FX.2.2.2.2 _ q653) rfl (by decide +kernel) ⟨Nat.le_of_ble_eq_true rfl, Nat.le_of_ble_eq_true rfl⟩) rfl hl.1 rfl (Nat.le_of_ble_eq_true rfl) hg dJ6_toString_5 hW) (fun w5 c6 y7 H locs hW hf => ?_)
  obtain ⟨hg, hf⟩ := gck_some hf
  obtain rfl := Option.some.inj hf
  exact ro_a (v := some (z + 0)) FX hr (Or.inl ⟨_, rfl⟩) hlk hW hg dJ6_toString_8
