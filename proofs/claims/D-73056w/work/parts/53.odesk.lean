/-! TrunkLitters.isIn(III)Z: kind O -/
abbrev rOX0_isIn : Room := { frames := 0, cells := 0, slots := 0, locals := 0 }
def fOX0_isIn (dA : Nat → Nat) (z : Nat) (v7 : Int32) (a7 : Int32) (b7 : Int32) (w : va_W) : Option ((Int32) × va_W × Nat × Nat) := (if v7 < a7 then gck 0 0 rOX0_isIn.cells rOX0_isIn.slots (some ((0 : Int32), w, 0, 0)) else (if b7 < v7 then gck 0 0 rOX0_isIn.cells rOX0_isIn.slots (some ((0 : Int32), w, 0, 0)) else gck 0 0 rOX0_isIn.cells rOX0_isIn.slots (some ((1 : Int32), w, 0, 0))))
set_option maxHeartbeats 4000000 in
set_option maxRecDepth 100000 in
theorem mOX0_isIn {l : Launch} {D : va_G} {dA : Nat → ClassId} {z : Nat}  {v7 : Int32} {a7 : Int32} {b7 : Int32} {w : va_W} {q : ((Int32) × va_W × Nat × Nat)} (hf : fOX0_isIn dA z v7 a7 b7 w = some q) : CtO l yX0_isIn cX0_isIn 3 (some .boolean) rOX0_isIn D dA [.int v7, .int a7, .int b7] w z (.inl (some (.int q.1))) q.2.1 q.2.2.1 q.2.2.2 := by
  refine e_O (by decide) (Nat.le_of_ble_eq_true rfl) ?_
  intro p e s m below meth c9 ls A FX hr hlk hnm hout hl hW
  have hx := FX.1; have hb := FX.2.1; have hown := FX.2.2.2.1; have hts := FX.2.2.2.2
  have hl : lv_has ls 3 [(0, .int v7), (1, .int a7), (2, .int b7)] := hl
  rw [fOX0_isIn] at hf
  refine lv_iload_n hx hb dX0_isIn_0 rfl (lv_at hl 0 rfl) ?_
  refine lv_iload_n hx hb dX0_isIn_1 rfl (lv_at hl 1 rfl) ?_
  refine lv_icmp_lt (tgt := 14) hx hb dX0_isIn_2 (by decide) (fun c2 => ?_) (fun c2 => ?_)
  · have hf := ifp c2 hf
    refine lv_iconst (v := 0) hx hb dX0_isIn_14 (by decide) ?_
    obtain ⟨hg, hf⟩ := gck_some hf
    obtain rfl := Option.some.inj hf
    exact ro_z (v := (0 : Int32)) FX hr hlk hW hg rfl dX0_isIn_15
  · have hf := ifn c2 hf
    refine lv_iload_n hx hb dX0_isIn_5 rfl (lv_at hl 0 rfl) ?_
    refine lv_iload_n hx hb dX0_isIn_6 rfl (lv_at hl 2 rfl) ?_
    refine lv_icmp_gt (tgt := 14) hx hb dX0_isIn_7 (by decide) (fun c7 => ?_) (fun c7 => ?_)
    · have hf := ifp c7 hf
      refine lv_iconst (v := 0) hx hb dX0_isIn_14 (by decide) ?_
      obtain ⟨hg, hf⟩ := gck_some hf
      obtain rfl := Option.some.inj hf
      exact ro_z (v := (0 : Int32)) FX hr hlk hW hg rfl dX0_isIn_15
    · have hf := ifn c7 hf
      refine lv_iconst (v := 1) hx hb dX0_isIn_10 (by decide) ?_
      refine lv_goto (tgt := 15) hx hb dX0_isIn_11 (by decide) ?_
      obtain ⟨hg, hf⟩ := gck_some hf
      obtain rfl := Option.some.inj hf
      exact ro_z (v := (1 : Int32)) FX hr hlk hW hg rfl dX0_isIn_15
/-! java/lang/Integer.bitCount(I)I: kind O -/
abbrev rOJ15_bitCount : Room := { frames := 0, cells := 0, slots := 0, locals := 0 }
def fOJ15_bitCount (dA : Nat → Nat) (z : Nat) (x7 : Int32) (w : va_W) : Option ((Int32) × va_W × Nat × Nat) := gck 0 0 rOJ15_bitCount.cells rOJ15_bitCount.slots (some (((((((((x7 - (((x7.toUInt32 >>> ((1 : Int32).toUInt32 &&& Int32.toUInt32 31)).toInt32) &&& (1431655765 : Int32))) &&& (858993459 : Int32)) + ((((x7 - (((x7.toUInt32 >>> ((1 : Int32).toUInt32 &&& Int32.toUInt32 31)).toInt32) &&& (1431655765 : Int32))).toUInt32 >>> ((2 : Int32).toUInt32 &&& Int32.toUInt32 31)).toInt32) &&& (858993459 : Int32))) + (((((x7 - (((x7.toUInt32 >>> ((1 : Int32).toUInt32 &&& Int32.toUInt32 31)).toInt32) &&& (1431655765 : Int32))) &&& (858993459 : Int32)) + ((((x7 - (((x7.toUInt32 >>> ((1 : Int32).toUInt32 &&& Int32.toUInt32 31)).toInt32) &&& (1431655765 : Int32))).toUInt32 >>> ((2 : Int32).toUInt32 &&& Int32.toUInt32 31)).toInt32) &&& (858993459 : Int32))).toUInt32 >>> ((4 : Int32).toUInt32 &&& Int32.toUInt32 31)).toInt32)) &&& (252645135 : Int32)) + (((((((x7 - (((x7.toUInt32 >>> ((1 : Int32).toUInt32 &&& Int32.toUInt32 31)).toInt32) &&& (1431655765 : Int32))) &&& (858993459 : Int32)) + ((((x7 - (((x7.toUInt32 >>> ((1 : Int32).toUInt32 &&& Int32.toUInt32 31)).toInt32) &&& (1431655765 : Int32))).toUInt32 >>> ((2 : Int32).toUInt32 &&& Int32.toUInt32 31)).toInt32) &&& (858993459 : Int32))) + (((((x7 - (((x7.toUInt32 >>> ((1 : Int32).toUInt32 &&& Int32.toUInt32 31)).toInt32) &&& (1431655765 : Int32))) &&& (858993459 : Int32)) + ((((x7 - (((x7.toUInt32 >>> ((1 : Int32).toUInt32 &&& Int32.toUInt32 31)).toInt32) &&& (1431655765 : Int32))).toUInt32 >>> ((2 : Int32).toUInt32 &&& Int32.toUInt32 31)).toInt32) &&& (858993459 : Int32))).toUInt32 >>> ((4 : Int32).toUInt32 &&& Int32.toUInt32 31)).toInt32)) &&& (252645135 : Int32)).toUInt32 >>> ((8 : Int32).toUInt32 &&& Int32.toUInt32 31)).toInt32)) + ((((((((x7 - (((x7.toUInt32 >>> ((1 : Int32).toUInt32 &&& Int32.toUInt32 31)).toInt32) &&& (1431655765 : Int32))) &&& (858993459 : Int32)) + ((((x7 - (((x7.toUInt32 >>> ((1 : Int32).toUInt32 &&& Int32.toUInt32 31)).toInt32) &&& (1431655765 : Int32))).toUInt32 >>> ((2 : Int32).toUInt32 &&& Int32.toUInt32 31)).toInt32) &&& (858993459 : Int32))) + (((((x7 - (((x7.toUInt32 >>> ((1 : Int32).toUInt32 &&& Int32.toUInt32 31)).toInt32) &&& (1431655765 : Int32))) &&& (858993459 : Int32)) + ((((x7 - (((x7.toUInt32 >>> ((1 : Int32).toUInt32 &&& Int32.toUInt32 31)).toInt32) &&& (1431655765 : Int32))).toUInt32 >>> ((2 : Int32).toUInt32 &&& Int32.toUInt32 31)).toInt32) &&& (858993459 : Int32))).toUInt32 >>> ((4 : Int32).toUInt32 &&& Int32.toUInt32 31)).toInt32)) &&& (252645135 : Int32)) + (((((((x7 - (((x7.toUInt32 >>> ((1 : Int32).toUInt32 &&& Int32.toUInt32 31)).toInt32) &&& (1431655765 : Int32))) &&& (858993459 : Int32)) + ((((x7 - (((x7.toUInt32 >>> ((1 : Int32).toUInt32 &&& Int32.toUInt32 31)).toInt32) &&& (1431655765 : Int32))).toUInt32 >>> ((2 : Int32).toUInt32 &&& Int32.toUInt32 31)).toInt32) &&& (858993459 : Int32))) + (((((x7 - (((x7.toUInt32 >>> ((1 : Int32).toUInt32 &&& Int32.toUInt32 31)).toInt32) &&& (1431655765 : Int32))) &&& (858993459 : Int32)) + ((((x7 - (((x7.toUInt32 >>> ((1 : Int32).toUInt32 &&& Int32.toUInt32 31)).toInt32) &&& (1431655765 : Int32))).toUInt32 >>> ((2 : Int32).toUInt32 &&& Int32.toUInt32 31)).toInt32) &&& (858993459 : Int32))).toUInt32 >>> ((4 : Int32).toUInt32 &&& Int32.toUInt32 31)).toInt32)) &&& (252645135 : Int32)).toUInt32 >>> ((8 : Int32).toUInt32 &&& Int32.toUInt32 31)).toInt32)).toUInt32 >>> ((16 : Int32).toUInt32 &&& Int32.toUInt32 31)).toInt32)) &&& (63 : Int32)), w, 0, 0))
set_option maxHeartbeats 4000000 in
set_option maxRecDepth 100000 in
theorem mOJ15_bitCount {l : Launch} {D : va_G} {dA : Nat → ClassId} {z : Nat}  {x7 : Int32} {w : va_W} {q : ((Int32) × va_W × Nat × Nat)} (hf : fOJ15_bitCount dA z x7 w = some q) : CtO l yJ15_bitCount cJ15_bitCount 1 (some .int) rOJ15_bitCount D dA [.int x7] w z (.inl (some (.int q.1))) q.2.1 q.2.2.1 q.2.2.2 := by
  refine e_O (by decide) (Nat.le_of_ble_eq_true rfl) ?_
  intro p e s m below meth c9 ls A FX hr hlk hnm hout hl hW
  have hx := FX.1; have hb := FX.2.1; have hown := FX.2.2.2.1; have hts := FX.2.2.2.2
  have hl : lv_has ls 1 [(0, .int x7)] := hl
  rw [fOJ15_bitCount] at hf
  refine lv_iload_n hx hb dJ15_bitCount_0 rfl (lv_at hl 0 rfl) ?_
  refine lv_iload_n hx hb dJ15_bitCount_1 rfl (lv_at hl 0 rfl) ?_
  refine lv_iconst (v := 1) hx hb dJ15_bitCount_2 (by decide) ?_
  refine lv_iushr (v := (x7.toUInt32 >>> ((1 : Int32).toUInt32 &&& Int32.toUInt32 31)).toInt32) hx hb dJ15_bitCount_3 rfl ?_
  refine lv_ldcw (v := 1431655765) hx hb hown (hts _ q1171) dJ15_bitCount_4 ?_
  refine lv_iand hx hb dJ15_bitCount_7 ?_
  refine lv_isub hx hb dJ15_bitCount_8 ?_
  refine lv_istore_n (lv' := [(0, .int (x7 - (((x7.toUInt32 >>> ((1 : Int32).toUInt32 &&& Int32.toUInt32 31)).toInt32) &&& (1431655765 : Int32))))]) hx hb dJ15_bitCount_9 rfl hl (by decide) rfl (fun ls hl => ?_)
  refine lv_iload_n hx hb dJ15_bitCount_10 rfl (lv_at hl 0 rfl) ?_
  refine lv_ldcw (v := 858993459) hx hb hown (hts _ q1172) dJ15_bitCount_11 ?_
  refine lv_iand hx hb dJ15_bitCount_14 ?_
  refine lv_iload_n hx hb dJ15_bitCount_15 rfl (lv_at hl 0 rfl) ?_
  refine lv_iconst (v := 2) hx hb dJ15_bitCount_16 (by decide) ?_
  refine lv_iushr (v := ((x7 - (((x7.toUInt32 >>> ((1 : Int32).toUInt32 &&& Int32.toUInt32 31)).toInt32) &&& (1431655765 : Int32))).toUInt32 >>> ((2 : Int32).toUInt32 &&& Int32.toUInt32 31)).toInt32) hx hb dJ15_bitCount_17 rfl ?_
  refine lv_ldcw (v := 858993459) hx hb hown (hts _ q1172) dJ15_bitCount_18 ?_
  refine lv_iand hx hb dJ15_bitCount_21 ?_
  refine lv_iadd hx hb dJ15_bitCount_22 ?_
  refine lv_istore_n (lv' := [(0, .int (((x7 - (((x7.toUInt32 >>> ((1 : Int32).toUInt32 &&& Int32.toUInt32 31)).toInt32) &&& (1431655765 : Int32))) &&& (858993459 : Int32)) + ((((x7 - (((x7.toUInt32 >>> ((1 : Int32).toUInt32 &&& Int32.toUInt32 31)).toInt32) &&& (1431655765 : Int32))).toUInt32 >>> ((2 : Int32).toUInt32 &&& Int32.toUInt32 31)).toInt32) &&& (858993459 : Int32))))]) hx hb dJ15_bitCount_23 rfl hl (by decide) rfl (fun ls hl => ?_)
  refine lv_iload_n hx hb dJ15_bitCount_24 rfl (lv_at hl 0 rfl) ?_
  refine lv_iload_n hx hb dJ15_bitCount_25 rfl (lv_at hl 0 rfl) ?_
  refine lv_iconst (v := 4) hx hb dJ15_bitCount_26 (by decide) ?_
  refine lv_iushr (v := ((((x7 - (((x7.toUInt32 >>> ((1 : Int32).toUInt32 &&& Int32.toUInt32 31)).toInt32) &&& (1431655765 : Int32))) &&& (858993459 : Int32)) + ((((x7 - (((x7.toUInt32 >>> ((1 : Int32).toUInt32 &&& Int32.toUInt32 31)).toInt32) &&& (1431655765 : Int32))).toUInt32 >>> ((2 : Int32).toUInt32 &&& Int32.toUInt32 31)).toInt32) &&& (858993459 : Int32))).toUInt32 >>> ((4 : Int32).toUInt32 &&& Int32.toUInt32 31)).toInt32) hx hb dJ15_bitCount_27 rfl ?_
  refine lv_iadd hx hb dJ15_bitCount_28 ?_
  refine lv_ldcw (v := 252645135) hx hb hown (hts _ q1173) dJ15_bitCount_29 ?_
  refine lv_iand hx hb dJ15_bitCount_32 ?_
  refine lv_istore_n (lv' := [(0, .int (((((x7 - (((x7.toUInt32 >>> ((1 : Int32).toUInt32 &&& Int32.toUInt32 31)).toInt32) &&& (1431655765 : Int32))) &&& (858993459 : Int32)) + ((((x7 - (((x7.toUInt32 >>> ((1 : Int32).toUInt32 &&& Int32.toUInt32 31)).toInt32) &&& (1431655765 : Int32))).toUInt32 >>> ((2 : Int32).toUInt32 &&& Int32.toUInt32 31)).toInt32) &&& (858993459 : Int32))) + (((((x7 - (((x7.toUInt32 >>> ((1 : Int32).toUInt32 &&& Int32.toUInt32 31)).toInt32) &&& (1431655765 : Int32))) &&& (858993459 : Int32)) + ((((x7 - (((x7.toUInt32 >>> ((1 : Int32).toUInt32 &&& Int32.toUInt32 31)).toInt32) &&& (1431655765 : Int32))).toUInt32 >>> ((2 : Int32).toUInt32 &&& Int32.toUInt32 31)).toInt32) &&& (858993459 : Int32))).toUInt32 >>> ((4 : Int32).toUInt32 &&& Int32.toUInt32 31)).toInt32)) &&& (252645135 : Int32)))]) hx hb dJ15_bitCount_33 rfl hl (by decide) rfl (fun ls hl => ?_)
  refine lv_iload_n hx hb dJ15_bitCount_34 rfl (lv_at hl 0 rfl) ?_
  refine lv_iload_n hx hb dJ15_bitCount_35 rfl (lv_at hl 0 rfl) ?_
  refine lv_bipush (v := 8) hx hb dJ15_bitCount_36 (by decide) ?_
  refine lv_iushr (v := ((((((x7 - (((x7.toUInt32 >>> ((1 : Int32).toUInt32 &&& Int32.toUInt32 31)).toInt32) &&& (1431655765 : Int32))) &&& (858993459 : Int32)) + ((((x7 - (((x7.toUInt32 >>> ((1 : Int32).toUInt32 &&& Int32.toUInt32 31)).toInt32) &&& (1431655765 : Int32))).toUInt32 >>> ((2 : Int32).toUInt32 &&& Int32.toUInt32 31)).toInt32) &&& (858993459 : Int32))) + (((((x7 - (((x7.toUInt32 >>> ((1 : Int32).toUInt32 &&& Int32.toUInt32 31)).toInt32) &&& (1431655765 : Int32))) &&& (858993459 : Int32)) + ((((x7 - (((x7.toUInt32 >>> ((1 : Int32).toUInt32 &&& Int32.toUInt32 31)).toInt32) &&& (1431655765 : Int32))).toUInt32 >>> ((2 : Int32).toUInt32 &&& Int32.toUInt32 31)).toInt32) &&& (858993459 : Int32))).toUInt32 >>> ((4 : Int32).toUInt32 &&& Int32.toUInt32 31)).toInt32)) &&& (252645135 : Int32)).toUInt32 >>> ((8 : Int32).toUInt32 &&& Int32.toUInt32 31)).toInt32) hx hb dJ15_bitCount_38 rfl ?_
  refine lv_iadd hx hb dJ15_bitCount_39 ?_
  refine lv_istore_n (lv' := [(0, .int ((((((x7 - (((x7.toUInt32 >>> ((1 : Int32).toUInt32 &&& Int32.toUInt32 31)).toInt32) &&& (1431655765 : Int32))) &&& (858993459 : Int32)) + ((((x7 - (((x7.toUInt32 >>> ((1 : Int32).toUInt32 &&& Int32.toUInt32 31)).toInt32) &&& (1431655765 : Int32))).toUInt32 >>> ((2 : Int32).toUInt32 &&& Int32.toUInt32 31)).toInt32) &&& (858993459 : Int32))) + (((((x7 - (((x7.toUInt32 >>> ((1 : Int32).toUInt32 &&& Int32.toUInt32 31)).toInt32) &&& (1431655765 : Int32))) &&& (858993459 : Int32)) + ((((x7 - (((x7.toUInt32 >>> ((1 : Int32).toUInt32 &&& Int32.toUInt32 31)).toInt32) &&& (1431655765 : Int32))).toUInt32 >>> ((2 : Int32).toUInt32 &&& Int32.toUInt32 31)).toInt32) &&& (858993459 : Int32))).toUInt32 >>> ((4 : Int32).toUInt32 &&& Int32.toUInt32 31)).toInt32)) &&& (252645135 : Int32)) + (((((((x7 - (((x7.toUInt32 >>> ((1 : Int32).toUInt32 &&& Int32.toUInt32 31)).toInt32) &&& (1431655765 : Int32))) &&& (858993459 : Int32)) + ((((x7 - (((x7.toUInt32 >>> ((1 : Int32).toUInt32 &&& Int32.toUInt32 31)).toInt32) &&& (1431655765 : Int32))).toUInt32 >>> ((2 : Int32).toUInt32 &&& Int32.toUInt32 31)).toInt32) &&& (858993459 : Int32))) + (((((x7 - (((x7.toUInt32 >>> ((1 : Int32).toUInt32 &&& Int32.toUInt32 31)).toInt32) &&& (1431655765 : Int32))) &&& (858993459 : Int32)) + ((((x7 - (((x7.toUInt32 >>> ((1 : Int32).toUInt32 &&& Int32.toUInt32 31)).toInt32) &&& (1431655765 : Int32))).toUInt32 >>> ((2 : Int32).toUInt32 &&& Int32.toUInt32 31)).toInt32) &&& (858993459 : Int32))).toUInt32 >>> ((4 : Int32).toUInt32 &&& Int32.toUInt32 31)).toInt32)) &&& (252645135 : Int32)).toUInt32 >>> ((8 : Int32).toUInt32 &&& Int32.toUInt32 31)).toInt32)))]) hx hb dJ15_bitCount_40 rfl hl (by decide) rfl (fun ls hl => ?_)
  refine lv_iload_n hx hb dJ15_bitCount_41 rfl (lv_at hl 0 rfl) ?_
  refine lv_iload_n hx hb dJ15_bitCount_42 rfl (lv_at hl 0 rfl) ?_
  refine lv_bipush (v := 16) hx hb dJ15_bitCount_43 (by decide) ?_
  refine lv_iushr (v := (((((((x7 - (((x7.toUInt32 >>> ((1 : Int32).toUInt32 &&& Int32.toUInt32 31)).toInt32) &&& (1431655765 : Int32))) &&& (858993459 : Int32)) + ((((x7 - (((x7.toUInt32 >>> ((1 : Int32).toUInt32 &&& Int32.toUInt32 31)).toInt32) &&& (1431655765 : Int32))).toUInt32 >>> ((2 : Int32).toUInt32 &&& Int32.toUInt32 31)).toInt32) &&& (858993459 : Int32))) + (((((x7 - (((x7.toUInt32 >>> ((1 : Int32).toUInt32 &&& Int32.toUInt32 31)).toInt32) &&& (1431655765 : Int32))) &&& (858993459 : Int32)) + ((((x7 - (((x7.toUInt32 >>> ((1 : Int32).toUInt32 &&& Int32.toUInt32 31)).toInt32) &&& (1431655765 : Int32))).toUInt32 >>> ((2 : Int32).toUInt32 &&& Int32.toUInt32 31)).toInt32) &&& (858993459 : Int32))).toUInt32 >>> ((4 : Int32).toUInt32 &&& Int32.toUInt32 31)).toInt32)) &&& (252645135 : Int32)) + (((((((x7 - (((x7.toUInt32 >>> ((1 : Int32).toUInt32 &&& Int32.toUInt32 31)).toInt32) &&& (1431655765 : Int32))) &&& (858993459 : Int32)) + ((((x7 - (((x7.toUInt32 >>> ((1 : Int32).toUInt32 &&& Int32.toUInt32 31)).toInt32) &&& (1431655765 : Int32))).toUInt32 >>> ((2 : Int32).toUInt32 &&& Int32.toUInt32 31)).toInt32) &&& (858993459 : Int32))) + (((((x7 - (((x7.toUInt32 >>> ((1 : Int32).toUInt32 &&& Int32.toUInt32 31)).toInt32) &&& (1431655765 : Int32))) &&& (858993459 : Int32)) + ((((x7 - (((x7.toUInt32 >>> ((1 : Int32).toUInt32 &&& Int32.toUInt32 31)).toInt32) &&& (1431655765 : Int32))).toUInt32 >>> ((2 : Int32).toUInt32 &&& Int32.toUInt32 31)).toInt32) &&& (858993459 : Int32))).toUInt32 >>> ((4 : Int32).toUInt32 &&& Int32.toUInt32 31)).toInt32)) &&& (252645135 : Int32)).toUInt32 >>> ((8 : Int32).toUInt32 &&& Int32.toUInt32 31)).toInt32)).toUInt32 >>> ((16 : Int32).toUInt32 &&& Int32.toUInt32 31)).toInt32) hx hb dJ15_bitCount_45 rfl ?_
  refine lv_iadd hx hb dJ15_bitCount_46 ?_
  refine lv_istore_n (lv' := [(0, .int (((((((x7 - (((x7.toUInt32 >>> ((1 : Int32).toUInt32 &&& Int32.toUInt32 31)).toInt32) &&& (1431655765 : Int32))) &&& (858993459 : Int32)) + ((((x7 - (((x7.toUInt32 >>> ((1 : Int32).toUInt32 &&& Int32.toUInt32 31)).toInt32) &&& (1431655765 : Int32))).toUInt32 >>> ((2 : Int32).toUInt32 &&& Int32.toUInt32 31)).toInt32) &&& (858993459 : Int32))) + (((((x7 - (((x7.toUInt32 >>> ((1 : Int32).toUInt32 &&& Int32.toUInt32 31)).toInt32) &&& (1431655765 : Int32))) &&& (858993459 : Int32)) + ((((x7 - (((x7.toUInt32 >>> ((1 : Int32).toUInt32 &&& Int32.toUInt32 31)).toInt32) &&& (1431655765 : Int32))).toUInt32 >>> ((2 : Int32).toUInt32 &&& Int32.toUInt32 31)).toInt32) &&& (858993459 : Int32))).toUInt32 >>> ((4 : Int32).toUInt32 &&& Int32.toUInt32 31)).toInt32)) &&& (252645135 : Int32)) + (((((((x7 - (((x7.toUInt32 >>> ((1 : Int32).toUInt32 &&& Int32.toUInt32 31)).toInt32) &&& (1431655765 : Int32))) &&& (858993459 : Int32)) + ((((x7 - (((x7.toUInt32 >>> ((1 : Int32).toUInt32 &&& Int32.toUInt32 31)).toInt32) &&& (1431655765 : Int32))).toUInt32 >>> ((2 : Int32).toUInt32 &&& Int32.toUInt32 31)).toInt32) &&& (858993459 : Int32))) + (((((x7 - (((x7.toUInt32 >>> ((1 : Int32).toUInt32 &&& Int32.toUInt32 31)).toInt32) &&& (1431655765 : Int32))) &&& (858993459 : Int32)) + ((((x7 - (((x7.toUInt32 >>> ((1 : Int32).toUInt32 &&& Int32.toUInt32 31)).toInt32) &&& (1431655765 : Int32))).toUInt32 >>> ((2 : Int32).toUInt32 &&& Int32.toUInt32 31)).toInt32) &&& (858993459 : Int32))).toUInt32 >>> ((4 : Int32).toUInt32 &&& Int32.toUInt32 31)).toInt32)) &&& (252645135 : Int32)).toUInt32 >>> ((8 : Int32).toUInt32 &&& Int32.toUInt32 31)).toInt32)) + ((((((((x7 - (((x7.toUInt32 >>> ((1 : Int32).toUInt32 &&& Int32.toUInt32 31)).toInt32) &&& (1431655765 : Int32))) &&& (858993459 : Int32)) + ((((x7 - (((x7.toUInt32 >>> ((1 : Int32).toUInt32 &&& Int32.toUInt32 31)).toInt32) &&& (1431655765 : Int32))).toUInt32 >>> ((2 : Int32).toUInt32 &&& Int32.toUInt32 31)).toInt32) &&& (858993459 : Int32))) + (((((x7 - (((x7.toUInt32 >>> ((1 : Int32).toUInt32 &&& Int32.toUInt32 31)).toInt32) &&& (1431655765 : Int32))) &&& (858993459 : Int32)) + ((((x7 - (((x7.toUInt32 >>> ((1 : Int32).toUInt32 &&& Int32.toUInt32 31)).toInt32) &&& (1431655765 : Int32))).toUInt32 >>> ((2 : Int32).toUInt32 &&& Int32.toUInt32 31)).toInt32) &&& (858993459 : Int32))).toUInt32 >>> ((4 : Int32).toUInt32 &&& Int32.toUInt32 31)).toInt32)) &&& (252645135 : Int32)) + (((((((x7 - (((x7.toUInt32 >>> ((1 : Int32).toUInt32 &&& Int32.toUInt32 31)).toInt32) &&& (1431655765 : Int32))) &&& (858993459 : Int32)) + ((((x7 - (((x7.toUInt32 >>> ((1 : Int32).toUInt32 &&& Int32.toUInt32 31)).toInt32) &&& (1431655765 : Int32))).toUInt32 >>> ((2 : Int32).toUInt32 &&& Int32.toUInt32 31)).toInt32) &&& (858993459 : Int32))) + (((((x7 - (((x7.toUInt32 >>> ((1 : Int32).toUInt32 &&& Int32.toUInt32 31)).toInt32) &&& (1431655765 : Int32))) &&& (858993459 : Int32)) + ((((x7 - (((x7.toUInt32 >>> ((1 : Int32).toUInt32 &&& Int32.toUInt32 31)).toInt32) &&& (1431655765 : Int32))).toUInt32 >>> ((2 : Int32).toUInt32 &&& Int32.toUInt32 31)).toInt32) &&& (858993459 : Int32))).toUInt32 >>> ((4 : Int32).toUInt32 &&& Int32.toUInt32 31)).toInt32)) &&& (252645135 : Int32)).toUInt32 >>> ((8 : Int32).toUInt32 &&& Int32.toUInt32 31)).toInt32)).toUInt32 >>> ((16 : Int32).toUInt32 &&& Int32.toUInt32 31)).toInt32)))]) hx hb dJ15_bitCount_47 rfl hl (by decide) rfl (fun ls hl => ?_)
  refine lv_iload_n hx hb dJ15_bitCount_48 rfl (lv_at hl 0 rfl) ?_
  refine lv_bipush (v := 63) hx hb dJ15_bitCount_49 (by decide) ?_
  refine lv_iand hx hb dJ15_bitCount_51 ?_
  obtain ⟨hg, hf⟩ := gck_some hf
  obtain rfl := Option.some.inj hf
  exact ro_i FX hr hlk hW hg dJ15_bitCount_52
/-! TrunkLitters.shared(II)I: kind O -/
abbrev rOX0_shared : Room := { frames := 1, cells := 0, slots := 0, locals := 20 }
def fOX0_shared (dA : Nat → Nat) (z : Nat) (a7 : Int32) (b7 : Int32) (w : va_W) : Option ((Int32) × va_W × Nat × Nat) := ocal rOX0_shared.cells rOX0_shared.slots 0 0 rOJ15_bitCount.cells rOJ15_bitCount.slots (fOJ15_bitCount dA (z + 0) (((a7 ^^^ b7) ^^^ (-1 : Int32)) &&& (63 : Int32)) w) fun r1 w2 c3 y4 => gck c3 y4 rOX0_shared.cells rOX0_shared.slots (some (r1, w2, c3, y4))
set_option maxHeartbeats 4000000 in
set_option maxRecDepth 100000 in
theorem mOX0_shared {l : Launch} {D : va_G} {dA : Nat → ClassId} {z : Nat}  {a7 : Int32} {b7 : Int32} {w : va_W} {q : ((Int32) × va_W × Nat × Nat)} (hf : fOX0_shared dA z a7 b7 w = some q) : CtO l yX0_shared cX0_shared 2 (some .int) rOX0_shared D dA [.int a7, .int b7] w z (.inl (some (.int q.1))) q.2.1 q.2.2.1 q.2.2.2 := by
  refine e_O (by decide) (Nat.le_of_ble_eq_true rfl) ?_
  intro p e s m below meth c9 ls A FX hr hlk hnm hout hl hW
  have hx := FX.1; have hb := FX.2.1; have hown := FX.2.2.2.1; have hts := FX.2.2.2.2
  have hl : lv_has ls 2 [(0, .int a7), (1, .int b7)] := hl
  rw [fOX0_shared] at hf
  refine lv_iload_n hx hb dX0_shared_0 rfl (lv_at hl 0 rfl) ?_
  refine lv_iload_n hx hb dX0_shared_1 rfl (lv_at hl 1 rfl) ?_
  refine lv_ixor hx hb dX0_shared_2 ?_
  refine lv_iconst (v := -1) hx hb dX0_shared_3 (by decide) ?_
  refine lv_ixor hx hb dX0_shared_4 ?_
  refine lv_bipush (v := 63) hx hb dX0_shared_5 (by decide) ?_
  refine lv_iand hx hb dX0_shared_7 ?_
  refine oc_i hW hf (fun r0 h0 hg => o_S (As := [.int (((a7 ^^^ b7) ^^^ (-1 : Int32)) &&& (63 : Int32))]) (rest := []) (n := 1) FX (mOJ15_bitCount h0) (va_cwS 1 FX.2.2.2.2 (lw_S q1168 q1169 q154 q1170) rfl rfl rfl (by decide +kernel) ⟨Nat.le_of_ble_eq_true rfl, Nat.le_of_ble_eq_true rfl⟩) rfl hl.1 rfl (Nat.le_of_ble_eq_true rfl) hg dX0_shared_8 hW) (fun r1 w2 c3 y4 H locs hW hf => ?_)
  obtain ⟨hg, hf⟩ := gck_some hf
  obtain rfl := Option.some.inj hf
  exact ro_i FX hr hlk hW hg dX0_shared_11
/-! TrunkLitters.isOther(I)Z: kind O -/
abbrev rOX0_isOther : Room := { frames := 1, cells := 0, slots := 0, locals := 22 }
def fOX0_isOther (dA : Nat → Nat) (z : Nat) (t7 : Nat) (k7 : Int32) (w : va_W) : Option ((Int32) × va_W × Nat × Nat) := pgR w t7 0 4 fun v1 => pgR w v1 1 1 fun v2 => pck w v2 13 (ocal rOX0_isOther.cells rOX0_isOther.slots 0 0 rJ2_sizeO.cells rJ2_sizeO.slots (fJ2_sizeO dA (z + 0) v2 w) fun r3 w4 c5 y6 => ocal rOX0_isOther.cells rOX0_isOther.slots c5 y6 rOX0_isIn.cells rOX0_isIn.slots (fOX0_isIn dA (z + c5) k7 (0 : Int32) (r3 - (2 : Int32)) w4) fun r7 w8 c9 y10 => nrw .boolean r7 (gck c9 y10 rOX0_isOther.cells rOX0_isOther.slots (some (r7, w8, c9, y10))))
set_option maxHeartbeats 4000000 in
set_option maxRecDepth 100000 in
theorem mOX0_isOther {l : Launch} {D : va_G} {dA : Nat → ClassId} {z : Nat}  {t7 : Nat} {k7 : Int32} {w : va_W} {q : ((Int32) × va_W × Nat × Nat)} (hf : fOX0_isOther dA z t7 k7 w = some q) : CtO l yX0_isOther cX0_isOther 2 (some .boolean) rOX0_isOther D dA [.ref t7, .int k7] w z (.inl (some (.int q.1))) q.2.1 q.2.2.1 q.2.2.2 := by
  refine e_O (by decide) (Nat.le_of_ble_eq_true rfl) ?_
  intro p e s m below meth c9 ls A FX hr hlk hnm hout hl hW
  have hx := FX.1; have hb := FX.2.1; have hown := FX.2.2.2.1; have hts := FX.2.2.2.2
  have hl : lv_has ls 2 [(0, .ref t7), (1, .int k7)] := hl
  rw [fOX0_isOther] at hf
  refine lv_iload_n hx hb dX0_isOther_0 rfl (lv_at hl 1 rfl) ?_
  refine lv_iconst (v := 0) hx hb dX0_isOther_1 (by decide) ?_
  refine lv_aload_n hx hb dX0_isOther_2 rfl (lv_at hl 0 rfl) ?_
  refine og_R (C := RX0) (T := TX0) (N := 26) (ci := 0) FX hW in_X0 rfl 4 (by decide) q370 (fun _ h => h) hf dX0_isOther_3 (fun v1 hf => ?_)
  refine og_R (C := RX1) (T := TX1) (N := 8) (ci := 1) FX hW in_X1 rfl 1 (by decide) q232 (fun _ h => h) hf dX0_isOther_6 (fun v2 hf => ?_)
  obtain ⟨hv9, hf⟩ := pck_some hf
  refine oc_i hW hf (fun r0 h0 hg => o_V (C := RJ2) (As := []) (rest := [.int (0 : Int32), .int k7]) (n := 0) FX (mJ2_sizeO h0) (cwV 0 FX.2.2.2.2 (lw_V q892 q333 q334 q127 q335) rfl rfl rfl (by decide +kernel) ⟨Nat.le_of_ble_eq_true rfl, Nat.le_of_ble_eq_true rfl⟩) (o_recv hW rfl hv9) rfl hl.1 rfl (Nat.le_of_ble_eq_true rfl) hg dX0_isOther_9 hW) (fun r3 w4 c5 y6 H locs hW hf => ?_)
  refine lv_iconst (v := 2) hx hb dX0_isOther_12 (by decide) ?_
  refine lv_isub hx hb dX0_isOther_13 ?_
  refine oc_i hW hf (fun r0 h0 hg => o_S (As := [.int k7, .int (0 : Int32), .int (r3 - (2 : Int32))]) (rest := []) (n := 3) FX (mOX0_isIn h0) (va_cwS 3 FX.2.2.2.2 (lw_S q1130 q1131 q123 q1132) rfl rfl rfl (by decide +kernel) ⟨Nat.le_of_ble_eq_true rfl, Nat.le_of_ble_eq_true rfl⟩) rfl hl.1 rfl (Nat.le_of_ble_eq_true rfl) hg dX0_isOther_14 hW) (fun r7 w8 c9 y10 H locs hW hf => ?_)
  obtain ⟨hnr, hft, hf⟩ := nrw_some hf
  obtain ⟨hg, hf⟩ := gck_some hf
  obtain rfl := Option.some.inj hf
  exact ro_z (v := r7) FX hr hlk hW hg hnr dX0_isOther_17
/-! TrunkLitters.sharedAsTold(II)I: kind O -/
abbrev rOX0_sharedAsTold : Room := { frames := 4, cells := 0, slots := 0, locals := 91 }
def fOX0_sharedAsTold (dA : Nat → Nat) (z : Nat) (t7 : Nat) (m7 : Int32) (k7 : Int32) (w : va_W) : Option ((Int32) × va_W × Nat × Nat) := pgR w t7 0 4 fun v1 => pgR w v1 1 1 fun v2 => pck w v2 13 (ocal rOX0_sharedAsTold.cells rOX0_sharedAsTold.slots 0 0 rJ2_getO.cells rJ2_getO.slots (fJ2_getO dA (z + 0) v2 k7 w) fun r3 w4 c5 y6 => pck w4 r3 8 (pgi w4 r3 8 3 fun v7 => ocal rOX0_sharedAsTold.cells rOX0_sharedAsTold.slots c5 y6 rOX0_shared.cells rOX0_shared.slots (fOX0_shared dA (z + c5) m7 v7 w4) fun r8 w9 c10 y11 => gck c10 y11 rOX0_sharedAsTold.cells rOX0_sharedAsTold.slots (some (r8, w9, c10, y11))))
set_option maxHeartbeats 4000000 in
set_option maxRecDepth 100000 in
theorem mOX0_sharedAsTold {l : Launch} {D : va_G} {dA : Nat → ClassId} {z : Nat}  {t7 : Nat} {m7 : Int32} {k7 : Int32} {w : va_W} {q : ((Int32) × va_W × Nat × Nat)} (hf : fOX0_sharedAsTold dA z t7 m7 k7 w = some q) : CtO l yX0_sharedAsTold cX0_sharedAsTold 3 (some .int) rOX0_sharedAsTold D dA [.ref t7, .int m7, .int k7] w z (.inl (some (.int q.1))) q.2.1 q.2.2.1 q.2.2.2 := by
  refine e_O (by decide) (Nat.le_of_ble_eq_true rfl) ?_
  intro p e s m below meth c9 ls A FX hr hlk hnm hout hl hW
  have hx := FX.1; have hb := FX.2.1; have hown := FX.2.2.2.1; have hts := FX.2.2.2.2
  have hl : lv_has ls 3 [(0, .ref t7), (1, .int m7), (2, .int k7)] := hl
  rw [fOX0_sharedAsTold] at hf
  refine lv_iload_n hx hb dX0_sharedAsTold_0 rfl (lv_at hl 1 rfl) ?_
  refine lv_aload_n hx hb dX0_sharedAsTold_1 rfl (lv_at hl 0 rfl) ?_
  refine og_R (C := RX0) (T := TX0) (N := 26) (ci := 0) FX hW in_X0 rfl 4 (by decide) q370 (fun _ h => h) hf dX0_sharedAsTold_2 (fun v1 hf => ?_)
  refine og_R (C := RX1) (T := TX1) (N := 8) (ci := 1) FX hW in_X1 rfl 1 (by decide) q232 (fun _ h => h) hf dX0_sharedAsTold_5 (fun v2 hf => ?_)
  refine lv_iload_n hx hb dX0_sharedAsTold_8 rfl (lv_at hl 2 rfl) ?_
  obtain ⟨hv9, hf⟩ := pck_some hf
  refine oc_R hW hf (fun r0 h0 hg => o_V (C := RJ2) (As := [.int k7]) (rest := [.int m7]) (n := 1) FX (mJ2_getO h0) (cwV 1 FX.2.2.2.2 (lw_V q893 q345 q346 q127 q347) rfl rfl rfl (by decide +kernel) ⟨Nat.le_of_ble_eq_true rfl, Nat.le_of_ble_eq_true rfl⟩) (o_recv hW rfl hv9) rfl hl.1 rfl (Nat.le_of_ble_eq_true rfl) hg dX0_sharedAsTold_9 hW) (fun r3 w4 c5 y6 H locs hW hf => ?_)
  obtain ⟨hv9, hf⟩ := pck_some hf
  refine o_castS (C := RX9) (T := TX9) (N := 5) (ci := 8) FX hW rfl q1518 hv9 dX0_sharedAsTold_12 ?_
  refine og_i (C := RX9) (T := TX9) (N := 5) (ci := 8) FX hW in_X9 rfl 3 (by decide) q1002 (fun _ h => h) hf dX0_sharedAsTold_15 (fun v7 hf => ?_)
  refine oc_i hW hf (fun r0 h0 hg => o_S (As := [.int m7, .int v7]) (rest := []) (n := 2) FX (mOX0_shared h0) (va_cwS 2 FX.2.2.2.2 (lw_S q1377 q1166 q123 q1167) rfl rfl rfl (by decide +kernel) ⟨Nat.le_of_ble_eq_true rfl, Nat.le_of_ble_eq_true rfl⟩) rfl hl.1 rfl (Nat.le_of_ble_eq_true rfl) hg dX0_sharedAsTold_18 hW) (fun r8 w9 c10 y11 H locs hW hf => ?_)
  obtain ⟨hg, hf⟩ := gck_some hf
  obtain rfl := Option.some.inj hf
  exact ro_i FX hr hlk hW hg dX0_sharedAsTold_21
/-! TrunkLitters.rooms()I: kind O -/
abbrev rOX0_rooms : Room := { frames := 1, cells := 0, slots := 0, locals := 20 }
def fOX0_rooms (dA : Nat → Nat) (z : Nat) (t7 : Nat) (w : va_W) : Option ((Int32) × va_W × Nat × Nat) := pgR w t7 0 4 fun v1 => pgR w v1 1 0 fun v2 => pck w v2 13 (ocal rOX0_rooms.cells rOX0_rooms.slots 0 0 rJ2_sizeO.cells rJ2_sizeO.slots (fJ2_sizeO dA (z + 0) v2 w) fun r3 w4 c5 y6 => gck c5 y6 rOX0_rooms.cells rOX0_rooms.slots (some (r3, w4, c5, y6)))
set_option maxHeartbeats 4000000 in
set_option maxRecDepth 100000 in
theorem mOX0_rooms {l : Launch} {D : va_G} {dA : Nat → ClassId} {z : Nat}  {t7 : Nat} {w : va_W} {q : ((Int32) × va_W × Nat × Nat)} (hf : fOX0_rooms dA z t7 w = some q) : CtO l yX0_rooms cX0_rooms 1 (some .int) rOX0_rooms D dA [.ref t7] w z (.inl (some (.int q.1))) q.2.1 q.2.2.1 q.2.2.2 := by
  refine e_O (by decide) (Nat.le_of_ble_eq_true rfl) ?_
  intro p e s m below meth c9 ls A FX hr hlk hnm hout hl hW
  have hx := FX.1; have hb := FX.2.1; have hown := FX.2.2.2.1; have hts := FX.2.2.2.2
  have hl : lv_has ls 1 [(0, .ref t7)] := hl
  rw [fOX0_rooms] at hf
  refine lv_aload_n hx hb dX0_rooms_0 rfl (lv_at hl 0 rfl) ?_
  refine og_R (C := RX0) (T := TX0) (N := 26) (ci := 0) FX hW in_X0 rfl 4 (by decide) q370 (fun _ h => h) hf dX0_rooms_1 (fun v1 hf => ?_)
  refine og_R (C := RX1) (T := TX1) (N := 8) (ci := 1) FX hW in_X1 rfl 0 (by decide) q228 (fun _ h => h) hf dX0_rooms_4 (fun v2 hf => ?_)
  obtain ⟨hv9, hf⟩ := pck_some hf
  refine oc_i hW hf (fun r0 h0 hg => o_V (C := RJ2) (As := []) (rest := []) (n := 0) FX (mJ2_sizeO h0) (cwV 0 FX.2.2.2.2 (lw_V q892 q333 q334 q127 q335) rfl rfl rfl (by decide +kernel) ⟨Nat.le_of_ble_eq_true rfl, Nat.le_of_ble_eq_true rfl⟩) (o_recv hW rfl hv9) rfl hl.1 rfl (Nat.le_of_ble_eq_true rfl) hg dX0_rooms_7 hW) (fun r3 w4 c5 y6 H locs hW hf => ?_)
  obtain ⟨hg, hf⟩ := gck_some hf
  obtain rfl := Option.some.inj hf
  exact ro_i FX hr hlk hW hg dX0_rooms_10
/-! TrunkLitters.feed(IIIII)I: kind O -/
abbrev rOX0_feed : Room := { frames := 0, cells := 1, slots := 5, locals := 0 }
def fOX0_feed_72 (dA : Nat → Nat) (z : Nat) (k54 : Nat → Nat → Int32 → Int32 → va_W → Nat → Nat → Option ((Int32) × va_W × Nat × Nat)) : Nat → Nat → Nat → Int32 → Int32 → Int32 → Int32 → va_W → Nat → Nat → Option ((Int32) × va_W × Nat × Nat)
  | 0, _, _, _, _, _, _, _, _, _ => none
  | n + 1, x0, x7, x8, x9, x10, x11, w, c, y => (if x11 < 0 then k54 x0 x7 x8 (x9 + (1 : Int32)) w c y else pgR w x0 0 0 fun v1 => pgi w x0 0 1 fun v2 => hast w (dA 1) v1 v2 (vp_nar .byte ((x10 >>> (x11 &&& 31)).toInt8.toInt32)) fun w3 => pgi w3 x0 0 1 fun v4 => ppt w3 x0 0 1 (.int (v4 + (1 : Int32))) fun w5 => fOX0_feed_72 dA z k54 n x0 x7 x8 x9 x10 (x11 + (-8 : Int32)) w5 c y)
def fOX0_feed_54 (dA : Nat → Nat) (z : Nat) : Nat → Nat → Nat → Int32 → Int32 → va_W → Nat → Nat → Option ((Int32) × va_W × Nat × Nat)
  | 0, _, _, _, _, _, _, _ => none
  | n + 1, x0, x7, x8, x9, w, c, y => (if x8 ≤ x9 then pgi w x0 0 1 fun v1 => gck c y rOX0_feed.cells rOX0_feed.slots (some (v1, w, c, y)) else hald w (dA 0) x7 x9 fun v2 => fOX0_feed_72 dA z (fOX0_feed_54 dA z n) FU x0 x7 x8 x9 v2 (24 : Int32) w c y)
def fOX0_feed (dA : Nat → Nat) (z : Nat) (t7 : Nat) (a7 : Int32) (b7 : Int32) (c7 : Int32) (d7 : Int32) (e7 : Int32) (w : va_W) : Option ((Int32) × va_W × Nat × Nat) := pgi w t7 0 1 fun v1 => (if (v1 + (20 : Int32)) ≤ (1600 : Int32) then gsz (5 : Int32) fun N => onew rOX0_feed.cells rOX0_feed.slots 0 0 N w (z + 0) (.inl (dA 0, N, .inl (fun _ => 0))) fun w2 c3 y4 => hast w2 (dA 0) (z + 0) (0 : Int32) a7 fun w5 => hast w5 (dA 0) (z + 0) (1 : Int32) b7 fun w6 => hast w6 (dA 0) (z + 0) (2 : Int32) c7 fun w7 => hast w7 (dA 0) (z + 0) (3 : Int32) d7 fun w8 => hast w8 (dA 0) (z + 0) (4 : Int32) e7 fun w9 => hlen w9 (dA 0) (z + 0) fun v10 => fOX0_feed_54 dA z FU t7 (z + 0) v10 (0 : Int32) w9 c3 y4 else gck 0 0 rOX0_feed.cells rOX0_feed.slots (some ((-1 : Int32), w, 0, 0)))
set_option maxHeartbeats 4000000 in
set_option maxRecDepth 100000 in
theorem wOX0_feed_72 {l : Launch} {D : va_G} {dA : Nat → ClassId} {z : Nat} {p : Program} {e : Env} {s : State} {m : MethodId} {args : Array Value} {below : List Frame} {meth : Method} {c9 : Code} {A : Nat → Prop} {q : ((Int32) × va_W × Nat × Nat)} (FX : CallFix p m c9 cX0_feed 12 s args lw_all RX0) (hr : meth.sig.returnType = (some .int)) (hlk : meth.locks = false) (hnm : meth.name = yX0_feed.name) (hout : ∀ x ∈ c9.exceptionTable.toList, False) {k54 : Nat → Nat → Int32 → Int32 → va_W → Nat → Nat → Option ((Int32) × va_W × Nat × Nat)} (hk54 : ∀ (x0 : Nat) (x7 : Nat) (x8 : Int32) (x9 : Int32) (w : va_W) (c : Nat) (y : Nat) (H : Heap) (locs : List Loc) (ls : Array Slot), lv_has ls 12 [(0, .ref x0), (7, .ref x7), (8, .int x8), (9, .int x9)] → Wo D dA A s w z c H locs → k54 x0 x7 x8 x9 w c y = some q → W p l e rOX0_feed s m args below meth c9 H locs c y (QO D dA A below args s rOX0_feed.cells rOX0_feed.slots (.inl (some (.int q.1))) q.2.1 (z + q.2.2.1) q.2.2.2) (F0 m 54 ls [])) : ∀ n : Nat, ∀ (x0 : Nat) (x7 : Nat) (x8 : Int32) (x9 : Int32) (x10 : Int32) (x11 : Int32) (w : va_W) (c : Nat) (y : Nat) (H : Heap) (locs : List Loc) (ls : Array Slot), lv_has ls 12 [(0, .ref x0), (7, .ref x7), (8, .int x8), (9, .int x9), (10, .int x10), (11, .int x11)] → Wo D dA A s w z c H locs → fOX0_feed_72 dA z k54 n x0 x7 x8 x9 x10 x11 w c y = some q → W p l e rOX0_feed s m args below meth c9 H locs c y (QO D dA A below args s rOX0_feed.cells rOX0_feed.slots (.inl (some (.int q.1))) q.2.1 (z + q.2.2.1) q.2.2.2) (F0 m 72 ls []) := by
  have hx := FX.1; have hb := FX.2.1; have hown := FX.2.2.2.1; have hts := FX.2.2.2.2
  intro n
  induction n with
  | zero =>
    intro x0 x7 x8 x9 x10 x11 w c y H locs ls hl hW hf
    cases (show (none : Option ((Int32) × va_W × Nat × Nat)) = some q from hf)
  | succ n ih =>
    intro x0 x7 x8 x9 x10 x11 w c y H locs ls hl hW hf
    rw [fOX0_feed_72] at hf
    refine lv_iload hx hb dX0_feed_72 (lv_at hl 5 rfl) ?_
    refine lv_if_lt (tgt := 108) hx hb dX0_feed_74 (by decide) (fun c74 => ?_) (fun c74 => ?_)
    · have hf := ifp c74 hf
      refine lv_iinc (v := (x9 + (1 : Int32))) (lv' := [(9, .int (x9 + (1 : Int32))), (0, .ref x0), (7, .ref x7), (8, .int x8), (10, .int x10), (11, .int x11)]) hx hb dX0_feed_108 hl (k := 3) rfl rfl (by decide) rfl (fun ls hl => ?_)
      refine lv_goto (tgt := 54) hx hb dX0_feed_111 (by decide) ?_
      exact hk54 x0 x7 x8 (x9 + (1 : Int32)) w c y _ _ _ (lv_sub hl [1, 2, 3, 0] rfl) hW hf
    · have hf := ifn c74 hf
      refine lv_aload_n hx hb dX0_feed_77 rfl (lv_at hl 0 rfl) ?_
      refine og_R (C := RX0) (T := TX0) (N := 26) (ci := 0) FX hW in_X0 rfl 0 (by decide) q365 (fun _ h => h) hf dX0_feed_78 (fun v1 hf => ?_)
      refine lv_aload_n hx hb dX0_feed_81 rfl (lv_at hl 0 rfl) ?_
      refine og_i (C := RX0) (T := TX0) (N := 26) (ci := 0) FX hW in_X0 rfl 1 (by decide) q367 (fun _ h => h) hf dX0_feed_82 (fun v2 hf => ?_)
      refine lv_iload hx hb dX0_feed_85 (lv_at hl 4 rfl) ?_
      refine lv_iload hx hb dX0_feed_87 (lv_at hl 5 rfl) ?_
      refine lv_ishr hx hb dX0_feed_89 ?_
      refine lv_i2b (v := ((x10 >>> (x11 &&& 31)).toInt8.toInt32)) hx hb dX0_feed_90 rfl ?_
      refine op_bast FX hW hf dX0_feed_91 (fun w3 H locs hW hf => ?_)
      refine lv_aload_n hx hb dX0_feed_92 rfl (lv_at hl 0 rfl) ?_
      refine lv_dup hx hb dX0_feed_93 rfl ?_
      refine og_i (C := RX0) (T := TX0) (N := 26) (ci := 0) FX hW in_X0 rfl 1 (by decide) q367 (fun _ h => h) hf dX0_feed_94 (fun v4 hf => ?_)
      refine lv_iconst (v := 1) hx hb dX0_feed_97 (by decide) ?_
      refine lv_iadd hx hb dX0_feed_98 ?_
      refine op_put (C := RX0) (T := TX0) (N := 26) (ci := 0) (ty := .int) FX hW in_X0 tyX0 tyX0_ok nmX0 rfl 1 (by decide) q367 (fun _ h => h) rfl (by decide +kernel) rfl rfl hf dX0_feed_99 (fun w5 H locs hW hf => ?_)
      refine lv_iinc (v := (x11 + (-8 : Int32))) (lv' := [(11, .int (x11 + (-8 : Int32))), (0, .ref x0), (7, .ref x7), (8, .int x8), (9, .int x9), (10, .int x10)]) hx hb dX0_feed_102 hl (k := 5) rfl rfl (by decide) rfl (fun ls hl => ?_)
      refine lv_goto (tgt := 72) hx hb dX0_feed_105 (by decide) ?_
      exact ih x0 x7 x8 x9 x10 (x11 + (-8 : Int32)) w5 c y _ _ _ (lv_sub hl [1, 2, 3, 4, 5, 0] rfl) hW hf
set_option maxHeartbeats 4000000 in
set_option maxRecDepth 100000 in
theorem wOX0_feed_54 {l : Launch} {D : va_G} {dA : Nat → ClassId} {z : Nat} {p : Program} {e : Env} {s : State} {m : MethodId} {args : Array Value} {below : List Frame} {meth : Method} {c9 : Code} {A : Nat → Prop} {q : ((Int32) × va_W × Nat × Nat)} (FX : CallFix p m c9 cX0_feed 12 s args lw_all RX0) (hr : meth.sig.returnType = (some .int)) (hlk : meth.locks = false) (hnm : meth.name = yX0_feed.name) (hout : ∀ x ∈ c9.exceptionTable.toList, False) : ∀ n : Nat, ∀ (x0 : Nat) (x7 : Nat) (x8 : Int32) (x9 : Int32) (w : va_W) (c : Nat) (y : Nat) (H : Heap) (locs : List Loc) (ls : Array Slot), lv_has ls 12 [(0, .ref x0), (7, .ref x7), (8, .int x8), (9, .int x9)] → Wo D dA A s w z c H locs → fOX0_feed_54 dA z n x0 x7 x8 x9 w c y = some q → W p l e rOX0_feed s m args below meth c9 H locs c y (QO D dA A below args s rOX0_feed.cells rOX0_feed.slots (.inl (some (.int q.1))) q.2.1 (z + q.2.2.1) q.2.2.2) (F0 m 54 ls []) := by
  have hx := FX.1; have hb := FX.2.1; have hown := FX.2.2.2.1; have hts := FX.2.2.2.2
  intro n
  induction n with
  | zero =>
    intro x0 x7 x8 x9 w c y H locs ls hl hW hf
    cases (show (none : Option ((Int32) × va_W × Nat × Nat)) = some q from hf)
  | succ n ih =>
    intro x0 x7 x8 x9 w c y H locs ls hl hW hf
    rw [fOX0_feed_54] at hf
    refine lv_iload hx hb dX0_feed_54 (lv_at hl 3 rfl) ?_
    refine lv_iload hx hb dX0_feed_56 (lv_at hl 2 rfl) ?_
    refine lv_icmp_ge (tgt := 114) hx hb dX0_feed_58 (by decide) (fun c58 => ?_) (fun c58 => ?_)
    · have hf := ifp c58 hf
      refine lv_aload_n hx hb dX0_feed_114 rfl (lv_at hl 0 rfl) ?_
      refine og_i (C := RX0) (T := TX0) (N := 26) (ci := 0) FX hW in_X0 rfl 1 (by decide) q367 (fun _ h => h) hf dX0_feed_115 (fun v1 hf => ?_)
      obtain ⟨hg, hf⟩ := gck_some hf
      obtain rfl := Option.some.inj hf
      exact ro_i FX hr hlk hW hg dX0_feed_118
    · have hf := ifn c58 hf
      refine lv_aload hx hb dX0_feed_61 (lv_at hl 1 rfl) ?_
      refine lv_iload hx hb dX0_feed_63 (lv_at hl 3 rfl) ?_
      refine o_iald FX hW.1 hf dX0_feed_65 (fun v2 hf => ?_)
      refine lv_istore (lv' := [(10, .int v2), (0, .ref x0), (7, .ref x7), (8, .int x8), (9, .int x9)]) hx hb dX0_feed_66 hl (by decide) rfl (fun ls hl => ?_)
      refine lv_bipush (v := 24) hx hb dX0_feed_68 (by decide) ?_
      refine lv_istore (lv' := [(11, .int (24 : Int32)), (10, .int v2), (0, .ref x0), (7, .ref x7), (8, .int x8), (9, .int x9)]) hx hb dX0_feed_70 hl (by decide) rfl (fun ls hl => ?_)
      exact wOX0_feed_72 FX hr hlk hnm hout (ih) _ x0 x7 x8 x9 v2 (24 : Int32) w c y _ _ _ (lv_sub hl [2, 3, 4, 5, 1, 0] rfl) hW hf
set_option maxHeartbeats 4000000 in
set_option maxRecDepth 100000 in
theorem mOX0_feed {l : Launch} {D : va_G} {dA : Nat → ClassId} {z : Nat}  {t7 : Nat} {a7 : Int32} {b7 : Int32} {c7 : Int32} {d7 : Int32} {e7 : Int32} {w : va_W} {q : ((Int32) × va_W × Nat × Nat)} (hf : fOX0_feed dA z t7 a7 b7 c7 d7 e7 w = some q) : CtO l yX0_feed cX0_feed 12 (some .int) rOX0_feed D dA [.ref t7, .int a7, .int b7, .int c7, .int d7, .int e7] w z (.inl (some (.int q.1))) q.2.1 q.2.2.1 q.2.2.2 := by
  refine e_O (by decide) (Nat.le_of_ble_eq_true rfl) ?_
  intro p e s m below meth c9 ls A FX hr hlk hnm hout hl hW
  have hx := FX.1; have hb := FX.2.1; have hown := FX.2.2.2.1; have hts := FX.2.2.2.2
  have hl : lv_has ls 12 [(0, .ref t7), (1, .int a7), (2, .int b7), (3, .int c7), (4, .int d7), (5, .int e7)] := hl
  rw [fOX0_feed] at hf
  refine lv_aload_n hx hb dX0_feed_0 rfl (lv_at hl 0 rfl) ?_
  refine og_i (C := RX0) (T := TX0) (N := 26) (ci := 0) FX hW in_X0 rfl 1 (by decide) q367 (fun _ h => h) hf dX0_feed_1 (fun v1 hf => ?_)
  refine lv_bipush (v := 20) hx hb dX0_feed_4 (by decide) ?_
  refine lv_iadd hx hb dX0_feed_6 ?_
  refine lv_sipush (v := 1600) hx hb dX0_feed_7 (by decide) ?_
  refine lv_icmp_le (tgt := 15) hx hb dX0_feed_10 (by decide) (fun c10 => ?_) (fun c10 => ?_)
  · have hf := ifp c10 hf
    refine lv_iconst (v := 5) hx hb dX0_feed_15 (by decide) ?_
    refine on_newi FX hW hf dX0_feed_16 (fun w2 c3 y4 H hW hf => ?_)
    refine lv_dup hx hb dX0_feed_18 rfl ?_
    refine lv_iconst (v := 0) hx hb dX0_feed_19 (by decide) ?_
    refine lv_iload_n hx hb dX0_feed_20 rfl (lv_at hl 1 rfl) ?_
    refine op_iast FX hW hf dX0_feed_21 (fun w5 H locs hW hf => ?_)
    refine lv_dup hx hb dX0_feed_22 rfl ?_
    refine lv_iconst (v := 1) hx hb dX0_feed_23 (by decide) ?_
    refine lv_iload_n hx hb dX0_feed_24 rfl (lv_at hl 2 rfl) ?_
    refine op_iast FX hW hf dX0_feed_25 (fun w6 H locs hW hf => ?_)
    refine lv_dup hx hb dX0_feed_26 rfl ?_
    refine lv_iconst (v := 2) hx hb dX0_feed_27 (by decide) ?_
    refine lv_iload_n hx hb dX0_feed_28 rfl (lv_at hl 3 rfl) ?_
    refine op_iast FX hW hf dX0_feed_29 (fun w7 H locs hW hf => ?_)
    refine lv_dup hx hb dX0_feed_30 rfl ?_
    refine lv_iconst (v := 3) hx hb dX0_feed_31 (by decide) ?_
    refine lv_iload hx hb dX0_feed_32 (lv_at hl 4 rfl) ?_
    refine op_iast FX hW hf dX0_feed_34 (fun w8 H locs hW hf => ?_)
    refine lv_dup hx hb dX0_feed_35 rfl ?_
    refine lv_iconst (v := 4) hx hb dX0_feed_36 (by decide) ?_
    refine lv_iload hx hb dX0_feed_37 (lv_at hl 5 rfl) ?_
    refine op_iast FX hW hf dX0_feed_39 (fun w9 H locs hW hf => ?_)
    refine lv_astore (lv' := [(6, .ref (z + 0)), (0, .ref t7), (1, .int a7), (2, .int b7), (3, .int c7), (4, .int d7), (5, .int e7)]) hx hb dX0_feed_40 hl (by decide) rfl (fun ls hl => ?_)
    refine lv_aload hx hb dX0_feed_42 (lv_at hl 0 rfl) ?_
    refine lv_astore (lv' := [(7, .ref (z + 0)), (6, .ref (z + 0)), (0, .ref t7), (1, .int a7), (2, .int b7), (3, .int c7), (4, .int d7), (5, .int e7)]) hx hb dX0_feed_44 hl (by decide) rfl (fun ls hl => ?_)
    refine lv_aload hx hb dX0_feed_46 (lv_at hl 0 rfl) ?_
    refine o_len FX hW.1 0 rfl hf dX0_feed_48 (fun v10 hf => ?_)
    refine lv_istore (lv' := [(8, .int v10), (7, .ref (z + 0)), (6, .ref (z + 0)), (0, .ref t7), (1, .int a7), (2, .int b7), (3, .int c7), (4, .int d7), (5, .int e7)]) hx hb dX0_feed_49 hl (by decide) rfl (fun ls hl => ?_)
    refine lv_iconst (v := 0) hx hb dX0_feed_51 (by decide) ?_
    refine lv_istore (lv' := [(9, .int (0 : Int32)), (8, .int v10), (7, .ref (z + 0)), (6, .ref (z + 0)), (0, .ref t7), (1, .int a7), (2, .int b7), (3, .int c7), (4, .int d7), (5, .int e7)]) hx hb dX0_feed_52 hl (by decide) rfl (fun ls hl => ?_)
    exact wOX0_feed_54 FX hr hlk hnm hout _ t7 (z + 0) v10 (0 : Int32) w9 c3 y4 _ _ _ (lv_sub hl [4, 2, 1, 0] rfl) hW hf
  · have hf := ifn c10 hf
    refine lv_iconst (v := -1) hx hb dX0_feed_13 (by decide) ?_
    obtain ⟨hg, hf⟩ := gck_some hf
    obtain rfl := Option.some.inj hf
    exact ro_i FX hr hlk hW hg dX0_feed_14
/-! TrunkLitters.held(IIZ)I: kind O -/
abbrev rOX0_held : Room := { frames := 7, cells := 2, slots := 120, locals := 191 }
def fOX0_held (dA : Nat → Nat) (z : Nat) (t7 : Nat) (k7 : Int32) (m7 : Int32) (b7 : Int32) (w : va_W) : Option ((Int32) × va_W × Nat × Nat) := pck w t7 0 (ocal rOX0_held.cells rOX0_held.slots 0 0 rOX0_isOther.cells rOX0_isOther.slots (fOX0_isOther dA (z + 0) t7 k7 w) fun r1 w2 c3 y4 => (if r1 = 0 then gck c3 y4 rOX0_held.cells rOX0_held.slots (some ((-1 : Int32), w2, c3, y4)) else ocal rOX0_held.cells rOX0_held.slots c3 y4 rOX0_isIn.cells rOX0_isIn.slots (fOX0_isIn dA (z + c3) m7 (0 : Int32) (6 : Int32) w2) fun r5 w6 c7 y8 => (if r5 = 0 then gck c7 y8 rOX0_held.cells rOX0_held.slots (some ((-1 : Int32), w6, c7, y8)) else pgR w6 t7 0 21 fun v9 => pck w6 v9 13 (ocal rOX0_held.cells rOX0_held.slots c7 y8 rJ2_sizeO.cells rJ2_sizeO.slots (fJ2_sizeO dA (z + c7) v9 w6) fun r10 w11 c12 y13 => (if r10 = (30 : Int32) then gck c12 y13 rOX0_held.cells rOX0_held.slots (some ((-1 : Int32), w11, c12, y13)) else pgR w11 t7 0 21 fun v14 => onew rOX0_held.cells rOX0_held.slots c12 y13 6 w11 (z + c12) (.inr (12, [.int 0, .int 0, .int 0, .int 0, .int 0, .null])) fun w15 c16 y17 => ocal rOX0_held.cells rOX0_held.slots c16 y17 rX13_init.cells rX13_init.slots (fX13_init dA (z + c16) (z + c12) t7 k7 m7 b7 w15) fun r18 w19 c20 y21 => pck w19 v14 13 (ocal rOX0_held.cells rOX0_held.slots c20 y21 rJ2_addl.cells rJ2_addl.slots (fJ2_addl dA (z + c20) v14 (z + c12) w19) fun r22 w23 c24 y25 => pgR w23 t7 0 21 fun v26 => pck w23 v26 13 (ocal rOX0_held.cells rOX0_held.slots c24 y25 rJ2_sizeO.cells rJ2_sizeO.slots (fJ2_sizeO dA (z + c24) v26 w23) fun r27 w28 c29 y30 => gck c29 y30 rOX0_held.cells rOX0_held.slots (some ((r27 - (1 : Int32)), w28, c29, y30)))))))))
set_option maxHeartbeats 4000000 in
set_option maxRecDepth 100000 in
theorem mOX0_held {l : Launch} {D : va_G} {dA : Nat → ClassId} {z : Nat}  {t7 : Nat} {k7 : Int32} {m7 : Int32} {b7 : Int32} {w : va_W} {q : ((Int32) × va_W × Nat × Nat)} (hf : fOX0_held dA z t7 k7 m7 b7 w = some q) : CtO l yX0_held cX0_held 4 (some .int) rOX0_held D dA [.ref t7, .int k7, .int m7, .int b7] w z (.inl (some (.int q.1))) q.2.1 q.2.2.1 q.2.2.2 := by
  refine e_O (by decide) (Nat.le_of_ble_eq_true rfl) ?_
  intro p e s m below meth c9 ls A FX hr hlk hnm hout hl hW
  have hx := FX.1; have hb := FX.2.1; have hown := FX.2.2.2.1; have hts := FX.2.2.2.2
  have hl : lv_has ls 4 [(0, .ref t7), (1, .int k7), (2, .int m7), (3, .int b7)] := hl
  rw [fOX0_held] at hf
  refine lv_aload_n hx hb dX0_held_0 rfl (lv_at hl 0 rfl) ?_
  refine lv_iload_n hx hb dX0_held_1 rfl (lv_at hl 1 rfl) ?_
  obtain ⟨hv9, hf⟩ := pck_some hf
  refine oc_i hW hf (fun r0 h0 hg => o_V (C := RX0) (As := [.int k7]) (rest := []) (n := 1) FX (mOX0_isOther h0) (cwV 1 FX.2.2.2.2 (lw_V q1459 q1461 qs49 q123 q1462) rfl rfl rfl (by decide +kernel) ⟨Nat.le_of_ble_eq_true rfl, Nat.le_of_ble_eq_true rfl⟩) (o_recv hW rfl hv9) rfl hl.1 rfl (Nat.le_of_ble_eq_true rfl) hg dX0_held_2 hW) (fun r1 w2 c3 y4 H locs hW hf => ?_)
  refine lv_if_eq (tgt := 30) hx hb dX0_held_5 (by decide) (fun c5 => ?_) (fun c5 => ?_)
  · have hf := ifp c5 hf
    refine lv_iconst (v := -1) hx hb dX0_held_30 (by decide) ?_
    obtain ⟨hg, hf⟩ := gck_some hf
    obtain rfl := Option.some.inj hf
    exact ro_i FX hr hlk hW hg dX0_held_31
  · have hf := ifn c5 hf
    refine lv_iload_n hx hb dX0_held_8 rfl (lv_at hl 2 rfl) ?_
    refine lv_iconst (v := 0) hx hb dX0_held_9 (by decide) ?_
    refine lv_bipush (v := 6) hx hb dX0_held_10 (by decide) ?_
    refine oc_i hW hf (fun r0 h0 hg => o_S (As := [.int m7, .int (0 : Int32), .int (6 : Int32)]) (rest := []) (n := 3) FX (mOX0_isIn h0) (va_cwS 3 FX.2.2.2.2 (lw_S q1130 q1131 q123 q1132) rfl rfl rfl (by decide +kernel) ⟨Nat.le_of_ble_eq_true rfl, Nat.le_of_ble_eq_true rfl⟩) rfl hl.1 rfl (Nat.le_of_ble_eq_true rfl) hg dX0_held_12 hW) (fun r5 w6 c7 y8 H locs hW hf => ?_)
    refine lv_if_eq (tgt := 30) hx hb dX0_held_15 (by decide) (fun c15 => ?_) (fun c15 => ?_)
    · have hf := ifp c15 hf
      refine lv_iconst (v := -1) hx hb dX0_held_30 (by decide) ?_
      obtain ⟨hg, hf⟩ := gck_some hf
      obtain rfl := Option.some.inj hf
      exact ro_i FX hr hlk hW hg dX0_held_31
    · have hf := ifn c15 hf
      refine lv_aload_n hx hb dX0_held_18 rfl (lv_at hl 0 rfl) ?_
      refine og_R (C := RX0) (T := TX0) (N := 26) (ci := 0) FX hW in_X0 rfl 21 (by decide) q388 (fun _ h => h) hf dX0_held_19 (fun v9 hf => ?_)
      obtain ⟨hv9, hf⟩ := pck_some hf
      refine oc_i hW hf (fun r0 h0 hg => o_V (C := RJ2) (As := []) (rest := []) (n := 0) FX (mJ2_sizeO h0) (cwV 0 FX.2.2.2.2 (lw_V q892 q333 q334 q127 q335) rfl rfl rfl (by decide +kernel) ⟨Nat.le_of_ble_eq_true rfl, Nat.le_of_ble_eq_true rfl⟩) (o_recv hW rfl hv9) rfl hl.1 rfl (Nat.le_of_ble_eq_true rfl) hg dX0_held_22 hW) (fun r10 w11 c12 y13 H locs hW hf => ?_)
      refine lv_bipush (v := 30) hx hb dX0_held_25 (by decide) ?_
      refine lv_icmp_ne (tgt := 32) hx hb dX0_held_27 (by decide) (fun c27 => ?_) (fun c27 => ?_)
      · have hf := ifn c27 hf
        refine lv_aload_n hx hb dX0_held_32 rfl (lv_at hl 0 rfl) ?_
        refine og_R (C := RX0) (T := TX0) (N := 26) (ci := 0) FX hW in_X0 rfl 21 (by decide) q388 (fun _ h => h) hf dX0_held_33 (fun v14 hf => ?_)
        refine on_new (C := RX13) (T := TX13) (N := 6) (ci := 12) (fs := [.int 0, .int 0, .int 0, .int 0, .int 0, .null]) FX hW in_X13 tyX13 tyX13_ok q1463 q1464 q155 rfl (by decide +kernel) hf dX0_held_36 (fun w15 c16 y17 H hW hf => ?_)
        refine lv_dup hx hb dX0_held_39 rfl ?_
        refine lv_aload_n hx hb dX0_held_40 rfl (lv_at hl 0 rfl) ?_
        refine lv_iload_n hx hb dX0_held_41 rfl (lv_at hl 1 rfl) ?_
        refine lv_iload_n hx hb dX0_held_42 rfl (lv_at hl 2 rfl) ?_
        refine lv_iload_n hx hb dX0_held_43 rfl (lv_at hl 3 rfl) ?_
        refine oc_v hW hf (fun r0 h0 hg => o_I (As := [.ref t7, .int k7, .int m7, .int b7]) (rest := [.ref (z + c12), .ref v14]) (n := 4) FX (mX13_init h0) (cwI 4 FX.2.2.2.2 (lw_meth q1467) rfl rfl rfl (FX.2.2.2.2 _ q155) (FX.2.2.2.2 _ q1465) (FX.2.2.2.2 _ q1466) rfl (by decide +kernel) ⟨Nat.le_of_ble_eq_true rfl, Nat.le_of_ble_eq_true rfl⟩) rfl hl.1 rfl (Nat.le_of_ble_eq_true rfl) hg dX0_held_44 hW) (fun w19 c20 y21 H locs hW hf => ?_)
        obtain ⟨hv9, hf⟩ := pck_some hf
        refine oc_i hW hf (fun r0 h0 hg => o_V (C := RJ2) (As := [.ref (z + c12)]) (rest := []) (n := 1) FX (mJ2_addl h0) (cwV 1 FX.2.2.2.2 (lw_V q1488 q933 q934 q127 q935) rfl rfl rfl (by decide +kernel) ⟨Nat.le_of_ble_eq_true rfl, Nat.le_of_ble_eq_true rfl⟩) (o_recv hW rfl hv9) rfl hl.1 rfl (Nat.le_of_ble_eq_true rfl) hg dX0_held_47 hW) (fun r22 w23 c24 y25 H locs hW hf => ?_)
        refine lv_pop hx hb dX0_held_50 rfl ?_
        refine lv_aload_n hx hb dX0_held_51 rfl (lv_at hl 0 rfl) ?_
        refine og_R (C := RX0) (T := TX0) (N := 26) (ci := 0) FX hW in_X0 rfl 21 (by decide) q388 (fun _ h => h) hf dX0_held_52 (fun v26 hf => ?_)
        obtain ⟨hv9, hf⟩ := pck_some hf
        refine oc_i hW hf (fun r0 h0 hg => o_V (C := RJ2) (As := []) (rest := []) (n := 0) FX (mJ2_sizeO h0) (cwV 0 FX.2.2.2.2 (lw_V q892 q333 q334 q127 q335) rfl rfl rfl (by decide +kernel) ⟨Nat.le_of_ble_eq_true rfl, Nat.le_of_ble_eq_true rfl⟩) (o_recv hW rfl hv9) rfl hl.1 rfl (Nat.le_of_ble_eq_true rfl) hg dX0_held_55 hW) (fun r27 w28 c29 y30 H locs hW hf => ?_)
        refine lv_iconst (v := 1) hx hb dX0_held_58 (by decide) ?_
        refine lv_isub hx hb dX0_held_59 ?_
        obtain ⟨hg, hf⟩ := gck_some hf
        obtain rfl := Option.some.inj hf
        exact ro_i FX hr hlk hW hg dX0_held_60
      · have hf := ifp c27 hf
        refine lv_iconst (v := -1) hx hb dX0_held_30 (by decide) ?_
        obtain ⟨hg, hf⟩ := gck_some hf
        obtain rfl := Option.some.inj hf
        exact ro_i FX hr hlk hW hg dX0_held_31
/-! TrunkLitters$Tale.allows(II)Z: kind O -/
abbrev rOX13_allows : Room := { frames := 5, cells := 0, slots := 0, locals := 113 }
def fOX13_allows_54 (dA : Nat → Nat) (z : Nat) (w : va_W) (c : Nat) (y : Nat) : Option ((Int32) × va_W × Nat × Nat) := gck c y rOX13_allows.cells rOX13_allows.slots (some ((1 : Int32), w, c, y))
def fOX13_allows_47 (dA : Nat → Nat) (z : Nat) (x0 : Nat) (y0 : Int32) (w : va_W) (c : Nat) (y : Nat) : Option ((Int32) × va_W × Nat × Nat) := pgi w x0 12 3 fun v1 => (if y0 = v1 then fOX13_allows_54 dA z w c y else gck c y rOX13_allows.cells rOX13_allows.slots (some ((0 : Int32), w, c, y)))
def fOX13_allows_23 (dA : Nat → Nat) (z : Nat) (x0 : Nat) (x1 : Int32) (w : va_W) (c : Nat) (y : Nat) : Option ((Int32) × va_W × Nat × Nat) := pgR w x0 12 5 fun v1 => pgi w x0 12 0 fun v2 => pck w v1 0 (ocal rOX13_allows.cells rOX13_allows.slots c y rOX0_sharedAsTold.cells rOX0_sharedAsTold.slots (fOX0_sharedAsTold dA (z + c) v1 x1 v2 w) fun r3 w4 c5 y6 => pgi w4 x0 12 1 fun v7 => (if r3 < v7 then fOX13_allows_47 dA z x0 (0 : Int32) w4 c5 y6 else fOX13_allows_47 dA z x0 (1 : Int32) w4 c5 y6))
def fOX13_allows (dA : Nat → Nat) (z : Nat) (t7 : Nat) (m7 : Int32) (k7 : Int32) (w : va_W) : Option ((Int32) × va_W × Nat × Nat) := pgi w t7 12 2 fun v1 => (if k7 < v1 then fOX13_allows_54 dA z w 0 0 else pgi w t7 12 4 fun v2 => (if v2 < 0 then fOX13_allows_23 dA z t7 m7 w 0 0 else pgi w t7 12 4 fun v3 => (if v3 ≤ k7 then fOX13_allows_54 dA z w 0 0 else fOX13_allows_23 dA z t7 m7 w 0 0)))
set_option maxHeartbeats 4000000 in
set_option maxRecDepth 100000 in
theorem wOX13_allows_54 {l : Launch} {D : va_G} {dA : Nat → ClassId} {z : Nat} {p : Program} {e : Env} {s : State} {m : MethodId} {args : Array Value} {below : List Frame} {meth : Method} {c9 : Code} {A : Nat → Prop} {q : ((Int32) × va_W × Nat × Nat)} (FX : CallFix p m c9 cX13_allows 3 s args lw_all RX13) (hr : meth.sig.returnType = (some .boolean)) (hlk : meth.locks = false) (hnm : meth.name = yX13_allows.name) (hout : ∀ x ∈ c9.exceptionTable.toList, False) : ∀ (w : va_W) (c : Nat) (y : Nat) (H : Heap) (locs : List Loc) (ls : Array Slot), lv_has ls 3 [] → Wo D dA A s w z c H locs → fOX13_allows_54 dA z w c y = some q → W p l e rOX13_allows s m args below meth c9 H locs c y (QO D dA A below args s rOX13_allows.cells rOX13_allows.slots (.inl (some (.int q.1))) q.2.1 (z + q.2.2.1) q.2.2.2) (F0 m 54 ls []) := by
  have hx := FX.1; have hb := FX.2.1; have hown := FX.2.2.2.1; have hts := FX.2.2.2.2
  intro w c y H locs ls hl hW hf
  rw [fOX13_allows_54] at hf
  refine lv_iconst (v := 1) hx hb dX13_allows_54 (by decide) ?_
  refine lv_goto (tgt := 59) hx hb dX13_allows_55 (by decide) ?_
  obtain ⟨hg, hf⟩ := gck_some hf
  obtain rfl := Option.some.inj hf
  exact ro_z (v := (1 : Int32)) FX hr hlk hW hg rfl dX13_allows_59
set_option maxHeartbeats 4000000 in
set_option maxRecDepth 100000 in
theorem wOX13_allows_47 {l : Launch} {D : va_G} {dA : Nat → ClassId} {z : Nat} {p : Program} {e : Env} {s : State} {m : MethodId} {args : Array Value} {below : List Frame} {meth : Method} {c9 : Code} {A : Nat → Prop} {q : ((Int32) × va_W × Nat × Nat)} (FX : CallFix p m c9 cX13_allows 3 s args lw_all RX13) (hr : meth.sig.returnType = (some .boolean)) (hlk : meth.locks = false) (hnm : meth.name = yX13_allows.name) (hout : ∀ x ∈ c9.exceptionTable.toList, False) : ∀ (x0 : Nat) (y0 : Int32) (w : va_W) (c : Nat) (y : Nat) (H : Heap) (locs : List Loc) (ls : Array Slot), lv_has ls 3 [(0, .ref x0)] → Wo D dA A s w z c H locs → fOX13_allows_47 dA z x0 y0 w c y = some q → W p l e rOX13_allows s m args below meth c9 H locs c y (QO D dA A below args s rOX13_allows.cells rOX13_allows.slots (.inl (some (.int q.1))) q.2.1 (z + q.2.2.1) q.2.2.2) (F0 m 47 ls [.int y0]) := by
  have hx := FX.1; have hb := FX.2.1; have hown := FX.2.2.2.1; have hts := FX.2.2.2.2
  intro x0 y0 w c y H locs ls hl hW hf
  rw [fOX13_allows_47] at hf
  refine lv_aload_n hx hb dX13_allows_47 rfl (lv_at hl 0 rfl) ?_
  refine og_i (C := RX13) (T := TX13) (N := 6) (ci := 12) FX hW in_X13 rfl 3 (by decide) q1472 (fun _ h => h) hf dX13_allows_48 (fun v1 hf => ?_)
  refine lv_icmp_ne (tgt := 58) hx hb dX13_allows_51 (by decide) (fun c51 => ?_) (fun c51 => ?_)
  · have hf := ifn c51 hf
    refine lv_iconst (v := 0) hx hb dX13_allows_58 (by decide) ?_
    obtain ⟨hg, hf⟩ := gck_some hf
    obtain rfl := Option.some.inj hf
    exact ro_z (v := (0 : Int32)) FX hr hlk hW hg rfl dX13_allows_59
  · have hf := ifp c51 hf
    exact wOX13_allows_54 FX hr hlk hnm hout w c y _ _ _ (lv_sub hl [] rfl) hW hf
set_option maxHeartbeats 4000000 in
set_option maxRecDepth 100000 in
theorem wOX13_allows_23 {l : Launch} {D : va_G} {dA : Nat → ClassId} {z : Nat} {p : Program} {e : Env} {s : State} {m : MethodId} {args : Array Value} {below : List Frame} {meth : Method} {c9 : Code} {A : Nat → Prop} {q : ((Int32) × va_W × Nat × Nat)} (FX : CallFix p m c9 cX13_allows 3 s args lw_all RX13) (hr : meth.sig.returnType = (some .boolean)) (hlk : meth.locks = false) (hnm : meth.name = yX13_allows.name) (hout : ∀ x ∈ c9.exceptionTable.toList, False) : ∀ (x0 : Nat) (x1 : Int32) (w : va_W) (c : Nat) (y : Nat) (H : Heap) (locs : List Loc) (ls : Array Slot), lv_has ls 3 [(0, .ref x0), (1, .int x1)] → Wo D dA A s w z c H locs → fOX13_allows_23 dA z x0 x1 w c y = some q → W p l e rOX13_allows s m args below meth c9 H locs c y (QO D dA A below args s rOX13_allows.cells rOX13_allows.slots (.inl (some (.int q.1))) q.2.1 (z + q.2.2.1) q.2.2.2) (F0 m 23 ls []) := by
  have hx := FX.1; have hb := FX.2.1; have hown := FX.2.2.2.1; have hts := FX.2.2.2.2
  intro x0 x1 w c y H locs ls hl hW hf
  rw [fOX13_allows_23] at hf
  refine lv_aload_n hx hb dX13_allows_23 rfl (lv_at hl 0 rfl) ?_
  refine og_R (C := RX13) (T := TX13) (N := 6) (ci := 12) FX hW in_X13 rfl 5 (by decide) q1474 (fun _ h => h) hf dX13_allows_24 (fun v1 hf => ?_)
  refine lv_iload_n hx hb dX13_allows_27 rfl (lv_at hl 1 rfl) ?_
  refine lv_aload_n hx hb dX13_allows_28 rfl (lv_at hl 0 rfl) ?_
  refine og_i (C := RX13) (T := TX13) (N := 6) (ci := 12) FX hW in_X13 rfl 0 (by decide) q1469 (fun _ h => h) hf dX13_allows_29 (fun v2 hf => ?_)
  obtain ⟨hv9, hf⟩ := pck_some hf
  refine oc_i hW hf (fun r0 h0 hg => o_VN (C := RX0) (As := [.int x1, .int v2]) (rest := []) (n := 2) FX (mOX0_sharedAsTold h0) ⟨va_cnB (host := "TrunkLitters") 2 FX.2.2.2.2 (lw_meth q1517) rfl rfl rfl (hW.gx.1 _ (List.mem_of_getElem? (i := 7) rfl)) (FX.2.2.2.2 _ q123) (by decide +kernel) ⟨Nat.le_of_ble_eq_true rfl, Nat.le_of_ble_eq_true rfl⟩, FX.2.2.2.2 _ q1516, FX.2.2.2.2 _ qs51⟩ (o_recv hW rfl hv9) rfl hl.1 rfl (Nat.le_of_ble_eq_true rfl) hg dX13_allows_32 hW) (fun r3 w4 c5 y6 H locs hW hf => ?_)
  refine lv_aload_n hx hb dX13_allows_35 rfl (lv_at hl 0 rfl) ?_
  refine og_i (C := RX13) (T := TX13) (N := 6) (ci := 12) FX hW in_X13 rfl 1 (by decide) q1470 (fun _ h => h) hf dX13_allows_36 (fun v7 hf => ?_)
  refine lv_icmp_lt (tgt := 46) hx hb dX13_allows_39 (by decide) (fun c39 => ?_) (fun c39 => ?_)
  · have hf := ifp c39 hf
    refine lv_iconst (v := 0) hx hb dX13_allows_46 (by decide) ?_
    exact wOX13_allows_47 FX hr hlk hnm hout x0 (0 : Int32) w4 c5 y6 _ _ _ (lv_sub hl [0] rfl) hW hf
  · have hf := ifn c39 hf
    refine lv_iconst (v := 1) hx hb dX13_allows_42 (by decide) ?_
    refine lv_goto (tgt := 47) hx hb dX13_allows_43 (by decide) ?_
    exact wOX13_allows_47 FX hr hlk hnm hout x0 (1 : Int32) w4 c5 y6 _ _ _ (lv_sub hl [0] rfl) hW hf
set_option maxHeartbeats 4000000 in
set_option maxRecDepth 100000 in
theorem mOX13_allows {l : Launch} {D : va_G} {dA : Nat → ClassId} {z : Nat}  {t7 : Nat} {m7 : Int32} {k7 : Int32} {w : va_W} {q : ((Int32) × va_W × Nat × Nat)} (hf : fOX13_allows dA z t7 m7 k7 w = some q) : CtO l yX13_allows cX13_allows 3 (some .boolean) rOX13_allows D dA [.ref t7, .int m7, .int k7] w z (.inl (some (.int q.1))) q.2.1 q.2.2.1 q.2.2.2 := by
  refine e_O (by decide) (Nat.le_of_ble_eq_true rfl) ?_
  intro p e s m below meth c9 ls A FX hr hlk hnm hout hl hW
  have hx := FX.1; have hb := FX.2.1; have hown := FX.2.2.2.1; have hts := FX.2.2.2.2
  have hl : lv_has ls 3 [(0, .ref t7), (1, .int m7), (2, .int k7)] := hl
  rw [fOX13_allows] at hf
  refine lv_aload_n hx hb dX13_allows_0 rfl (lv_at hl 0 rfl) ?_
  refine og_i (C := RX13) (T := TX13) (N := 6) (ci := 12) FX hW in_X13 rfl 2 (by decide) q1471 (fun _ h => h) hf dX13_allows_1 (fun v1 hf => ?_)
  refine lv_iload_n hx hb dX13_allows_4 rfl (lv_at hl 2 rfl) ?_
  refine lv_icmp_gt (tgt := 54) hx hb dX13_allows_5 (by decide) (fun c5 => ?_) (fun c5 => ?_)
  · have hf := ifp c5 hf
    exact wOX13_allows_54 FX hr hlk hnm hout w 0 0 _ _ _ (lv_sub hl [] rfl) hW hf
  · have hf := ifn c5 hf
    refine lv_aload_n hx hb dX13_allows_8 rfl (lv_at hl 0 rfl) ?_
    refine og_i (C := RX13) (T := TX13) (N := 6) (ci := 12) FX hW in_X13 rfl 4 (by decide) q1473 (fun _ h => h) hf dX13_allows_9 (fun v2 hf => ?_)
    refine lv_if_lt (tgt := 23) hx hb dX13_allows_12 (by decide) (fun c12 => ?_) (fun c12 => ?_)
    · have hf := ifp c12 hf
      exact wOX13_allows_23 FX hr hlk hnm hout t7 m7 w 0 0 _ _ _ (lv_sub hl [0, 1] rfl) hW hf
    · have hf := ifn c12 hf
      refine lv_aload_n hx hb dX13_allows_15 rfl (lv_at hl 0 rfl) ?_
      refine og_i (C := RX13) (T := TX13) (N := 6) (ci := 12) FX hW in_X13 rfl 4 (by decide) q1473 (fun _ h => h) hf dX13_allows_16 (fun v3 hf => ?_)
      refine lv_iload_n hx hb dX13_allows_19 rfl (lv_at hl 2 rfl) ?_
      refine lv_icmp_le (tgt := 54) hx hb dX13_allows_20 (by decide) (fun c20 => ?_) (fun c20 => ?_)
      · have hf := ifp c20 hf
        exact wOX13_allows_54 FX hr hlk hnm hout w 0 0 _ _ _ (lv_sub hl [] rfl) hW hf
      · have hf := ifn c20 hf
        exact wOX13_allows_23 FX hr hlk hnm hout t7 m7 w 0 0 _ _ _ (lv_sub hl [0, 1] rfl) hW hf
/-! TrunkLitters.untell(I)Z: kind O -/
abbrev rOX0_untell : Room := { frames := 4, cells := 0, slots := 0, locals := 91 }
def fOX0_untell (dA : Nat → Nat) (z : Nat) (t7 : Nat) (h7 : Int32) (w : va_W) : Option ((Int32) × va_W × Nat × Nat) := pgR w t7 0 21 fun v1 => pck w v1 13 (ocal rOX0_untell.cells rOX0_untell.slots 0 0 rJ2_sizeO.cells rJ2_sizeO.slots (fJ2_sizeO dA (z + 0) v1 w) fun r2 w3 c4 y5 => ocal rOX0_untell.cells rOX0_untell.slots c4 y5 rOX0_isIn.cells rOX0_isIn.slots (fOX0_isIn dA (z + c4) h7 (0 : Int32) (r2 - (1 : Int32)) w3) fun r6 w7 c8 y9 => (if r6 = 0 then gck c8 y9 rOX0_untell.cells rOX0_untell.slots (some ((0 : Int32), w7, c8, y9)) else pgR w7 t7 0 21 fun v10 => pck w7 v10 13 (ocal rOX0_untell.cells rOX0_untell.slots c8 y9 rJ2_getO.cells rJ2_getO.slots (fJ2_getO dA (z + c8) v10 h7 w7) fun r11 w12 c13 y14 => pck w12 r11 12 (pck w12 r11 12 (ocal rOX0_untell.cells rOX0_untell.slots c13 y14 rX13_ends.cells rX13_ends.slots (fX13_ends dA (z + c13) r11 w12) fun r15 w16 c17 y18 => (if r15 = 0 then gck c17 y18 rOX0_untell.cells rOX0_untell.slots (some ((0 : Int32), w16, c17, y18)) else gck c17 y18 rOX0_untell.cells rOX0_untell.slots (some ((1 : Int32), w16, c17, y18))))))))
set_option maxHeartbeats 4000000 in
set_option maxRecDepth 100000 in
theorem mOX0_untell {l : Launch} {D : va_G} {dA : Nat → ClassId} {z : Nat}  {t7 : Nat} {h7 : Int32} {w : va_W} {q : ((Int32) × va_W × Nat × Nat)} (hf : fOX0_untell dA z t7 h7 w = some q) : CtO l yX0_untell cX0_untell 2 (some .boolean) rOX0_untell D dA [.ref t7, .int h7] w z (.inl (some (.int q.1))) q.2.1 q.2.2.1 q.2.2.2 := by
  refine e_O (by decide) (Nat.le_of_ble_eq_true rfl) ?_
  intro p e s m below meth c9 ls A FX hr hlk hnm hout hl hW
  have hx := FX.1; have hb := FX.2.1; have hown := FX.2.2.2.1; have hts := FX.2.2.2.2
  have hl : lv_has ls 2 [(0, .ref t7), (1, .int h7)] := hl
  rw [fOX0_untell] at hf
  refine lv_iload_n hx hb dX0_untell_0 rfl (lv_at hl 1 rfl) ?_
  refine lv_iconst (v := 0) hx hb dX0_untell_1 (by decide) ?_
  refine lv_aload_n hx hb dX0_untell_2 rfl (lv_at hl 0 rfl) ?_
  refine og_R (C := RX0) (T := TX0) (N := 26) (ci := 0) FX hW in_X0 rfl 21 (by decide) q388 (fun _ h => h) hf dX0_untell_3 (fun v1 hf => ?_)
  obtain ⟨hv9, hf⟩ := pck_some hf
  refine oc_i hW hf (fun r0 h0 hg => o_V (C := RJ2) (As := []) (rest := [.int (0 : Int32), .int h7]) (n := 0) FX (mJ2_sizeO h0) (cwV 0 FX.2.2.2.2 (lw_V q892 q333 q334 q127 q335) rfl rfl rfl (by decide +kernel) ⟨Nat.le_of_ble_eq_true rfl, Nat.le_of_ble_eq_true rfl⟩) (o_recv hW rfl hv9) rfl hl.1 rfl (Nat.le_of_ble_eq_true rfl) hg dX0_untell_6 hW) (fun r2 w3 c4 y5 H locs hW hf => ?_)
  refine lv_iconst (v := 1) hx hb dX0_untell_9 (by decide) ?_
  refine lv_isub hx hb dX0_untell_10 ?_
  refine oc_i hW hf (fun r0 h0 hg => o_S (As := [.int h7, .int (0 : Int32), .int (r2 - (1 : Int32))]) (rest := []) (n := 3) FX (mOX0_isIn h0) (va_cwS 3 FX.2.2.2.2 (lw_S q1130 q1131 q123 q1132) rfl rfl rfl (by decide +kernel) ⟨Nat.le_of_ble_eq_true rfl, Nat.le_of_ble_eq_true rfl⟩) rfl hl.1 rfl (Nat.le_of_ble_eq_true rfl) hg dX0_untell_11 hW) (fun r6 w7 c8 y9 H locs hW hf => ?_)
  refine lv_if_eq (tgt := 38) hx hb dX0_untell_14 (by decide) (fun c14 => ?_) (fun c14 => ?_)
  · have hf := ifp c14 hf
    refine lv_iconst (v := 0) hx hb dX0_untell_38 (by decide) ?_
    obtain ⟨hg, hf⟩ := gck_some hf
    obtain rfl := Option.some.inj hf
    exact ro_z (v := (0 : Int32)) FX hr hlk hW hg rfl dX0_untell_39
  · have hf := ifn c14 hf
    refine lv_aload_n hx hb dX0_untell_17 rfl (lv_at hl 0 rfl) ?_
    refine og_R (C := RX0) (T := TX0) (N := 26) (ci := 0) FX hW in_X0 rfl 21 (by decide) q388 (fun _ h => h) hf dX0_untell_18 (fun v10 hf => ?_)
    refine lv_iload_n hx hb dX0_untell_21 rfl (lv_at hl 1 rfl) ?_
    obtain ⟨hv9, hf⟩ := pck_some hf
    refine oc_R hW hf (fun r0 h0 hg => o_V (C := RJ2) (As := [.int h7]) (rest := []) (n := 1) FX (mJ2_getO h0) (cwV 1 FX.2.2.2.2 (lw_V q893 q345 q346 q127 q347) rfl rfl rfl (by decide +kernel) ⟨Nat.le_of_ble_eq_true rfl, Nat.le_of_ble_eq_true rfl⟩) (o_recv hW rfl hv9) rfl hl.1 rfl (Nat.le_of_ble_eq_true rfl) hg dX0_untell_22 hW) (fun r11 w12 c13 y14 H locs hW hf => ?_)
    obtain ⟨hv9, hf⟩ := pck_some hf
    refine o_castS (C := RX13) (T := TX13) (N := 6) (ci := 12) FX hW rfl q1463 hv9 dX0_untell_25 ?_
    obtain ⟨hv9, hf⟩ := pck_some hf
    refine oc_i hW hf (fun r0 h0 hg => o_V (C := RX13) (As := []) (rest := []) (n := 0) FX (mX13_ends h0) (cwV 0 FX.2.2.2.2 (lw_V q1493 q1494 q1495 q155 q1496) rfl rfl rfl (by decide +kernel) ⟨Nat.le_of_ble_eq_true rfl, Nat.le_of_ble_eq_true rfl⟩) (o_recv hW rfl hv9) rfl hl.1 rfl (Nat.le_of_ble_eq_true rfl) hg dX0_untell_28 hW) (fun r15 w16 c17 y18 H locs hW hf => ?_)
    refine lv_if_eq (tgt := 38) hx hb dX0_untell_31 (by decide) (fun c31 => ?_) (fun c31 => ?_)
    · have hf := ifp c31 hf
      refine lv_iconst (v := 0) hx hb dX0_untell_38 (by decide) ?_
      obtain ⟨hg, hf⟩ := gck_some hf
      obtain rfl := Option.some.inj hf
      exact ro_z (v := (0 : Int32)) FX hr hlk hW hg rfl dX0_untell_39
    · have hf := ifn c31 hf
      refine lv_iconst (v := 1) hx hb dX0_untell_34 (by decide) ?_
      refine lv_goto (tgt := 39) hx hb dX0_untell_35 (by decide) ?_
      obtain ⟨hg, hf⟩ := gck_some hf
      obtain rfl := Option.some.inj hf
      exact ro_z (v := (1 : Int32)) FX hr hlk hW hg rfl dX0_untell_39
/-! TrunkLitters.layFits(I)I: kind O -/
abbrev rOX0_layFits : Room := { frames := 6, cells := 0, slots := 0, locals := 135 }
def fOX0_layFits_83 (dA : Nat → Nat) (z : Nat) (k4 : Nat → Int32 → Int32 → Int32 → va_W → Nat → Nat → Option ((Int32) × va_W × Nat × Nat)) (x0 : Nat) (x1 : Int32) (x2 : Int32) (x3 : Int32) (w : va_W) (c : Nat) (y : Nat) : Option ((Int32) × va_W × Nat × Nat) := pgR w x0 0 22 fun v1 => hald w (dA 2) v1 x3 fun v2 => (if v2 = 0 then k4 x0 x1 (x2 + (0 : Int32)) (x3 + (1 : Int32)) w c y else k4 x0 x1 (x2 + (1 : Int32)) (x3 + (1 : Int32)) w c y)
def fOX0_layFits_33 (dA : Nat → Nat) (z : Nat) (k4 : Nat → Int32 → Int32 → Int32 → va_W → Nat → Nat → Option ((Int32) × va_W × Nat × Nat)) : Nat → Nat → Int32 → Int32 → Int32 → Int32 → va_W → Nat → Nat → Option ((Int32) × va_W × Nat × Nat)
  | 0, _, _, _, _, _, _, _, _ => none
  | n + 1, x0, x1, x2, x3, x4, w, c, y => pgR w x0 0 21 fun v1 => pck w v1 13 (ocal rOX0_layFits.cells rOX0_layFits.slots c y rJ2_sizeO.cells rJ2_sizeO.slots (fJ2_sizeO dA (z + c) v1 w) fun r2 w3 c4 y5 => (if r2 ≤ x4 then fOX0_layFits_83 dA z k4 x0 x1 x2 x3 w3 c4 y5 else pgR w3 x0 0 22 fun v6 => hald w3 (dA 2) v6 x3 fun v7 => (if v7 = 0 then fOX0_layFits_83 dA z k4 x0 x1 x2 x3 w3 c4 y5 else pgR w3 x0 0 22 fun v8 => pgR w3 x0 0 21 fun v9 => pck w3 v9 13 (ocal rOX0_layFits.cells rOX0_layFits.slots c4 y5 rJ2_getO.cells rJ2_getO.slots (fJ2_getO dA (z + c4) v9 x4 w3) fun r10 w11 c12 y13 => pck w11 r10 12 (pck w11 r10 12 (ocal rOX0_layFits.cells rOX0_layFits.slots c12 y13 rOX13_allows.cells rOX13_allows.slots (fOX13_allows dA (z + c12) r10 x3 x1 w11) fun r14 w15 c16 y17 => hast w15 (dA 2) v8 x3 (vp_nar .boolean r14) fun w18 => fOX0_layFits_33 dA z k4 n x0 x1 x2 x3 (x4 + (1 : Int32)) w18 c16 y17))))))
def fOX0_layFits_4 (dA : Nat → Nat) (z : Nat) : Nat → Nat → Int32 → Int32 → Int32 → va_W → Nat → Nat → Option ((Int32) × va_W × Nat × Nat)
  | 0, _, _, _, _, _, _, _ => none
  | n + 1, x0, x1, x2, x3, w, c, y => (if (63 : Int32) < x3 then gck c y rOX0_layFits.cells rOX0_layFits.slots (some (x2, w, c, y)) else pgR w x0 0 4 fun v1 => pgR w v1 1 1 fun v2 => pck w v2 13 (ocal rOX0_layFits.cells rOX0_layFits.slots c y rJ2_sizeO.cells rJ2_sizeO.slots (fJ2_sizeO dA (z + c) v2 w) fun r3 w4 c5 y6 => (if r3 ≤ 0 then gck c5 y6 rOX0_layFits.cells rOX0_layFits.slots (some (x2, w4, c5, y6)) else pgR w4 x0 0 22 fun v7 => hast w4 (dA 2) v7 x3 (vp_nar .boolean (1 : Int32)) fun w8 => fOX0_layFits_33 dA z (fOX0_layFits_4 dA z n) FU x0 x1 x2 x3 (0 : Int32) w8 c5 y6)))
def fOX0_layFits (dA : Nat → Nat) (z : Nat) (t7 : Nat) (k7 : Int32) (w : va_W) : Option ((Int32) × va_W × Nat × Nat) := fOX0_layFits_4 dA z FU t7 k7 (0 : Int32) (0 : Int32) w 0 0
set_option maxHeartbeats 4000000 in
set_option maxRecDepth 100000 in
theorem wOX0_layFits_83 {l : Launch} {D : va_G} {dA : Nat → ClassId} {z : Nat} {p : Program} {e : Env} {s : State} {m : MethodId} {args : Array Value} {below : List Frame} {meth : Method} {c9 : Code} {A : Nat → Prop} {q : ((Int32) × va_W × Nat × Nat)} (FX : CallFix p m c9 cX0_layFits 5 s args lw_all RX0) (hr : meth.sig.returnType = (some .int)) (hlk : meth.locks = false) (hnm : meth.name = yX0_layFits.name) (hout : ∀ x ∈ c9.exceptionTable.toList, False) {k4 : Nat → Int32 → Int32 → Int32 → va_W → Nat → Nat → Option ((Int32) × va_W × Nat × Nat)} (hk4 : ∀ (x0 : Nat) (x1 : Int32) (x2 : Int32) (x3 : Int32) (w : va_W) (c : Nat) (y : Nat) (H : Heap) (locs : List Loc) (ls : Array Slot), lv_has ls 5 [(0, .ref x0), (1, .int x1), (2, .int x2), (3, .int x3)] → Wo D dA A s w z c H locs → k4 x0 x1 x2 x3 w c y = some q → W p l e rOX0_layFits s m args below meth c9 H locs c y (QO D dA A below args s rOX0_layFits.cells rOX0_layFits.slots (.inl (some (.int q.1))) q.2.1 (z + q.2.2.1) q.2.2.2) (F0 m 4 ls [])) : ∀ (x0 : Nat) (x1 : Int32) (x2 : Int32) (x3 : Int32) (w : va_W) (c : Nat) (y : Nat) (H : Heap) (locs : List Loc) (ls : Array Slot), lv_has ls 5 [(0, .ref x0), (1, .int x1), (2, .int x2), (3, .int x3)] → Wo D dA A s w z c H locs → fOX0_layFits_83 dA z k4 x0 x1 x2 x3 w c y = some q → W p l e rOX0_layFits s m args below meth c9 H locs c y (QO D dA A below args s rOX0_layFits.cells rOX0_layFits.slots (.inl (some (.int q.1))) q.2.1 (z + q.2.2.1) q.2.2.2) (F0 m 83 ls []) := by
  have hx := FX.1; have hb := FX.2.1; have hown := FX.2.2.2.1; have hts := FX.2.2.2.2
  intro x0 x1 x2 x3 w c y H locs ls hl hW hf
  rw [fOX0_layFits_83] at hf
  refine lv_iload_n hx hb dX0_layFits_83 rfl (lv_at hl 2 rfl) ?_
  refine lv_aload_n hx hb dX0_layFits_84 rfl (lv_at hl 0 rfl) ?_
  refine og_R (C := RX0) (T := TX0) (N := 26) (ci := 0) FX hW in_X0 rfl 22 (by decide) q389 (fun _ h => h) hf dX0_layFits_85 (fun v1 hf => ?_)
  refine lv_iload_n hx hb dX0_layFits_88 rfl (lv_at hl 3 rfl) ?_
  refine o_zald FX hW hf dX0_layFits_89 (fun v2 hf => ?_)
  refine lv_if_eq (tgt := 97) hx hb dX0_layFits_90 (by decide) (fun c90 => ?_) (fun c90 => ?_)
  · have hf := ifp c90 hf
    refine lv_iconst (v := 0) hx hb dX0_layFits_97 (by decide) ?_
    refine lv_iadd hx hb dX0_layFits_98 ?_
    refine lv_istore_n (lv' := [(2, .int (x2 + (0 : Int32))), (0, .ref x0), (1, .int x1), (3, .int x3)]) hx hb dX0_layFits_99 rfl hl (by decide) rfl (fun ls hl => ?_)
    refine lv_iinc (v := (x3 + (1 : Int32))) (lv' := [(3, .int (x3 + (1 : Int32))), (2, .int (x2 + (0 : Int32))), (0, .ref x0), (1, .int x1)]) hx hb dX0_layFits_100 hl (k := 3) rfl rfl (by decide) rfl (fun ls hl => ?_)
    refine lv_goto (tgt := 4) hx hb dX0_layFits_103 (by decide) ?_
    exact hk4 x0 x1 (x2 + (0 : Int32)) (x3 + (1 : Int32)) w c y _ _ _ (lv_sub hl [2, 3, 1, 0] rfl) hW hf
  · have hf := ifn c90 hf
    refine lv_iconst (v := 1) hx hb dX0_layFits_93 (by decide) ?_
    refine lv_goto (tgt := 98) hx hb dX0_layFits_94 (by decide) ?_
    refine lv_iadd hx hb dX0_layFits_98 ?_
    refine lv_istore_n (lv' := [(2, .int (x2 + (1 : Int32))), (0, .ref x0), (1, .int x1), (3, .int x3)]) hx hb dX0_layFits_99 rfl hl (by decide) rfl (fun ls hl => ?_)
    refine lv_iinc (v := (x3 + (1 : Int32))) (lv' := [(3, .int (x3 + (1 : Int32))), (2, .int (x2 + (1 : Int32))), (0, .ref x0), (1, .int x1)]) hx hb dX0_layFits_100 hl (k := 3) rfl rfl (by decide) rfl (fun ls hl => ?_)
    refine lv_goto (tgt := 4) hx hb dX0_layFits_103 (by decide) ?_
    exact hk4 x0 x1 (x2 + (1 : Int32)) (x3 + (1 : Int32)) w c y _ _ _ (lv_sub hl [2, 3, 1, 0] rfl) hW hf
set_option maxHeartbeats 4000000 in
set_option maxRecDepth 100000 in
theorem wOX0_layFits_33 {l : Launch} {D : va_G} {dA : Nat → ClassId} {z : Nat} {p : Program} {e : Env} {s : State} {m : MethodId} {args : Array Value} {below : List Frame} {meth : Method} {c9 : Code} {A : Nat → Prop} {q : ((Int32) × va_W × Nat × Nat)} (FX : CallFix p m c9 cX0_layFits 5 s args lw_all RX0) (hr : meth.sig.returnType = (some .int)) (hlk : meth.locks = false) (hnm : meth.name = yX0_layFits.name) (hout : ∀ x ∈ c9.exceptionTable.toList, False) {k4 : Nat → Int32 → Int32 → Int32 → va_W → Nat → Nat → Option ((Int32) × va_W × Nat × Nat)} (hk4 : ∀ (x0 : Nat) (x1 : Int32) (x2 : Int32) (x3 : Int32) (w : va_W) (c : Nat) (y : Nat) (H : Heap) (locs : List Loc) (ls : Array Slot), lv_has ls 5 [(0, .ref x0), (1, .int x1), (2, .int x2), (3, .int x3)] → Wo D dA A s w z c H locs → k4 x0 x1 x2 x3 w c y = some q → W p l e rOX0_layFits s m args below meth c9 H locs c y (QO D dA A below args s rOX0_layFits.cells rOX0_layFits.slots (.inl (some (.int q.1))) q.2.1 (z + q.2.2.1) q.2.2.2) (F0 m 4 ls [])) : ∀ n : Nat, ∀ (x0 : Nat) (x1 : Int32) (x2 : Int32) (x3 : Int32) (x4 : Int32) (w : va_W) (c : Nat) (y : Nat) (H : Heap) (locs : List Loc) (ls : Array Slot), lv_has ls 5 [(0, .ref x0), (1, .int x1), (2, .int x2), (3, .int x3), (4, .int x4)] → Wo D dA A s w z c H locs → fOX0_layFits_33 dA z k4 n x0 x1 x2 x3 x4 w c y = some q → W p l e rOX0_layFits s m args below meth c9 H locs c y (QO D dA A below args s rOX0_layFits.cells rOX0_layFits.slots (.inl (some (.int q.1))) q.2.1 (z + q.2.2.1) q.2.2.2) (F0 m 33 ls []) := by
  have hx := FX.1; have hb := FX.2.1; have hown := FX.2.2.2.1; have hts := FX.2.2.2.2
  intro n
  induction n with
  | zero =>
    intro x0 x1 x2 x3 x4 w c y H locs ls hl hW hf
    cases (show (none : Option ((Int32) × va_W × Nat × Nat)) = some q from hf)
  | succ n ih =>
    intro x0 x1 x2 x3 x4 w c y H locs ls hl hW hf
    rw [fOX0_layFits_33] at hf
    refine lv_iload hx hb dX0_layFits_33 (lv_at hl 4 rfl) ?_
    refine lv_aload_n hx hb dX0_layFits_35 rfl (lv_at hl 0 rfl) ?_
    refine og_R (C := RX0) (T := TX0) (N := 26) (ci := 0) FX hW in_X0 rfl 21 (by decide) q388 (fun _ h => h) hf dX0_layFits_36 (fun v1 hf => ?_)
    obtain ⟨hv9, hf⟩ := pck_some hf
    refine oc_i hW hf (fun r0 h0 hg => o_V (C := RJ2) (As := []) (rest := [.int x4]) (n := 0) FX (mJ2_sizeO h0) (cwV 0 FX.2.2.2.2 (lw_V q892 q333 q334 q127 q335) rfl rfl rfl (by decide +kernel) ⟨Nat.le_of_ble_eq_true rfl, Nat.le_of_ble_eq_true rfl⟩) (o_recv hW rfl hv9) rfl hl.1 rfl (Nat.le_of_ble_eq_true rfl) hg dX0_layFits_39 hW) (fun r2 w3 c4 y5 H locs hW hf => ?_)
    refine lv_icmp_ge (tgt := 83) hx hb dX0_layFits_42 (by decide) (fun c42 => ?_) (fun c42 => ?_)
    · have hf := ifp c42 hf
      exact wOX0_layFits_83 FX hr hlk hnm hout hk4 x0 x1 x2 x3 w3 c4 y5 _ _ _ (lv_sub hl [0, 1, 2, 3] rfl) hW hf
    · have hf := ifn c42 hf
      refine lv_aload_n hx hb dX0_layFits_45 rfl (lv_at hl 0 rfl) ?_
      refine og_R (C := RX0) (T := TX0) (N := 26) (ci := 0) FX hW in_X0 rfl 22 (by decide) q389 (fun _ h => h) hf dX0_layFits_46 (fun v6 hf => ?_)
      refine lv_iload_n hx hb dX0_layFits_49 rfl (lv_at hl 3 rfl) ?_
      refine o_zald FX hW hf dX0_layFits_50 (fun v7 hf => ?_)
      refine lv_if_eq (tgt := 83) hx hb dX0_layFits_51 (by decide) (fun c51 => ?_) (fun c51 => ?_)
      · have hf := ifp c51 hf
        exact wOX0_layFits_83 FX hr hlk hnm hout hk4 x0 x1 x2 x3 w3 c4 y5 _ _ _ (lv_sub hl [0, 1, 2, 3] rfl) hW hf
      · have hf := ifn c51 hf
        refine lv_aload_n hx hb dX0_layFits_54 rfl (lv_at hl 0 rfl) ?_
        refine og_R (C := RX0) (T := TX0) (N := 26) (ci := 0) FX hW in_X0 rfl 22 (by decide) q389 (fun _ h => h) hf dX0_layFits_55 (fun v8 hf => ?_)
        refine lv_iload_n hx hb dX0_layFits_58 rfl (lv_at hl 3 rfl) ?_
        refine lv_aload_n hx hb dX0_layFits_59 rfl (lv_at hl 0 rfl) ?_
        refine og_R (C := RX0) (T := TX0) (N := 26) (ci := 0) FX hW in_X0 rfl 21 (by decide) q388 (fun _ h => h) hf dX0_layFits_60 (fun v9 hf => ?_)
        refine lv_iload hx hb dX0_layFits_63 (lv_at hl 4 rfl) ?_
        obtain ⟨hv9, hf⟩ := pck_some hf
        refine oc_R hW hf (fun r0 h0 hg => o_V (C := RJ2) (As := [.int x4]) (rest := [.int x3, .ref v8]) (n := 1) FX (mJ2_getO h0) (cwV 1 FX.2.2.2.2 (lw_V q893 q345 q346 q127 q347) rfl rfl rfl (by decide +kernel) ⟨Nat.le_of_ble_eq_true rfl, Nat.le_of_ble_eq_true rfl⟩) (o_recv hW rfl hv9) rfl hl.1 rfl (Nat.le_of_ble_eq_true rfl) hg dX0_layFits_65 hW) (fun r10 w11 c12 y13 H locs hW hf => ?_)
        obtain ⟨hv9, hf⟩ := pck_some hf
        refine o_castS (C := RX13) (T := TX13) (N := 6) (ci := 12) FX hW rfl q1463 hv9 dX0_layFits_68 ?_
        refine lv_iload_n hx hb dX0_layFits_71 rfl (lv_at hl 3 rfl) ?_
        refine lv_iload_n hx hb dX0_layFits_72 rfl (lv_at hl 1 rfl) ?_
        obtain ⟨hv9, hf⟩ := pck_some hf
        refine oc_i hW hf (fun r0 h0 hg => o_V (C := RX13) (As := [.int x3, .int x1]) (rest := [.int x3, .ref v8]) (n := 2) FX (mOX13_allows h0) (cwV 2 FX.2.2.2.2 (lw_V q1510 q1511 q1512 q155 q1513) rfl rfl rfl (by decide +kernel) ⟨Nat.le_of_ble_eq_true rfl, Nat.le_of_ble_eq_true rfl⟩) (o_recv hW rfl hv9) rfl hl.1 rfl (Nat.le_of_ble_eq_true rfl) hg dX0_layFits_73 hW) (fun r14 w15 c16 y17 H locs hW hf => ?_)
        refine op_zast FX hW hf dX0_layFits_76 (fun w18 H locs hW hf => ?_)
        refine lv_iinc (v := (x4 + (1 : Int32))) (lv' := [(4, .int (x4 + (1 : Int32))), (0, .ref x0), (1, .int x1), (2, .int x2), (3, .int x3)]) hx hb dX0_layFits_77 hl (k := 4) rfl rfl (by decide) rfl (fun ls hl => ?_)
        refine lv_goto (tgt := 33) hx hb dX0_layFits_80 (by decide) ?_
        exact ih x0 x1 x2 x3 (x4 + (1 : Int32)) w18 c16 y17 _ _ _ (lv_sub hl [1, 2, 3, 4, 0] rfl) hW hf
set_option maxHeartbeats 4000000 in
set_option maxRecDepth 100000 in
theorem wOX0_layFits_4 {l : Launch} {D : va_G} {dA : Nat → ClassId} {z : Nat} {p : Program} {e : Env} {s : State} {m : MethodId} {args : Array Value} {below : List Frame} {meth : Method} {c9 : Code} {A : Nat → Prop} {q : ((Int32) × va_W × Nat × Nat)} (FX : CallFix p m c9 cX0_layFits 5 s args lw_all RX0) (hr : meth.sig.returnType = (some .int)) (hlk : meth.locks = false) (hnm : meth.name = yX0_layFits.name) (hout : ∀ x ∈ c9.exceptionTable.toList, False) : ∀ n : Nat, ∀ (x0 : Nat) (x1 : Int32) (x2 : Int32) (x3 : Int32) (w : va_W) (c : Nat) (y : Nat) (H : Heap) (locs : List Loc) (ls : Array Slot), lv_has ls 5 [(0, .ref x0), (1, .int x1), (2, .int x2), (3, .int x3)] → Wo D dA A s w z c H locs → fOX0_layFits_4 dA z n x0 x1 x2 x3 w c y = some q → W p l e rOX0_layFits s m args below meth c9 H locs c y (QO D dA A below args s rOX0_layFits.cells rOX0_layFits.slots (.inl (some (.int q.1))) q.2.1 (z + q.2.2.1) q.2.2.2) (F0 m 4 ls []) := by
  have hx := FX.1; have hb := FX.2.1; have hown := FX.2.2.2.1; have hts := FX.2.2.2.2
  intro n
  induction n with
  | zero =>
    intro x0 x1 x2 x3 w c y H locs ls hl hW hf
    cases (show (none : Option ((Int32) × va_W × Nat × Nat)) = some q from hf)
  | succ n ih =>
    intro x0 x1 x2 x3 w c y H locs ls hl hW hf
    rw [fOX0_layFits_4] at hf
    refine lv_iload_n hx hb dX0_layFits_4 rfl (lv_at hl 3 rfl) ?_
    refine lv_bipush (v := 63) hx hb dX0_layFits_5 (by decide) ?_
    refine lv_icmp_gt (tgt := 106) hx hb dX0_layFits_7 (by decide) (fun c7 => ?_) (fun c7 => ?_)
    · have hf := ifp c7 hf
      refine lv_iload_n hx hb dX0_layFits_106 rfl (lv_at hl 2 rfl) ?_
      obtain ⟨hg, hf⟩ := gck_some hf
      obtain rfl := Option.some.inj hf
      exact ro_i FX hr hlk hW hg dX0_layFits_107
    · have hf := ifn c7 hf
      refine lv_aload_n hx hb dX0_layFits_10 rfl (lv_at hl 0 rfl) ?_
      refine og_R (C := RX0) (T := TX0) (N := 26) (ci := 0) FX hW in_X0 rfl 4 (by decide) q370 (fun _ h => h) hf dX0_layFits_11 (fun v1 hf => ?_)
      refine og_R (C := RX1) (T := TX1) (N := 8) (ci := 1) FX hW in_X1 rfl 1 (by decide) q232 (fun _ h => h) hf dX0_layFits_14 (fun v2 hf => ?_)
      obtain ⟨hv9, hf⟩ := pck_some hf
      refine oc_i hW hf (fun r0 h0 hg => o_V (C := RJ2) (As := []) (rest := []) (n := 0) FX (mJ2_sizeO h0) (cwV 0 FX.2.2.2.2 (lw_V q892 q333 q334 q127 q335) rfl rfl rfl (by decide +kernel) ⟨Nat.le_of_ble_eq_true rfl, Nat.le_of_ble_eq_true rfl⟩) (o_recv hW rfl hv9) rfl hl.1 rfl (Nat.le_of_ble_eq_true rfl) hg dX0_layFits_17 hW) (fun r3 w4 c5 y6 H locs hW hf => ?_)
      refine lv_if_le (tgt := 106) hx hb dX0_layFits_20 (by decide) (fun c20 => ?_) (fun c20 => ?_)
      · have hf := ifp c20 hf
        refine lv_iload_n hx hb dX0_layFits_106 rfl (lv_at hl 2 rfl) ?_
        obtain ⟨hg, hf⟩ := gck_some hf
        obtain rfl := Option.some.inj hf
        exact ro_i FX hr hlk hW hg dX0_layFits_107
      · have hf := ifn c20 hf
        refine lv_aload_n hx hb dX0_layFits_23 rfl (lv_at hl 0 rfl) ?_
        refine og_R (C := RX0) (T := TX0) (N := 26) (ci := 0) FX hW in_X0 rfl 22 (by decide) q389 (fun _ h => h) hf dX0_layFits_24 (fun v7 hf => ?_)
        refine lv_iload_n hx hb dX0_layFits_27 rfl (lv_at hl 3 rfl) ?_
        refine lv_iconst (v := 1) hx hb dX0_layFits_28 (by decide) ?_
        refine op_zast FX hW hf dX0_layFits_29 (fun w8 H locs hW hf => ?_)
        refine lv_iconst (v := 0) hx hb dX0_layFits_30 (by decide) ?_
        refine lv_istore (lv' := [(4, .int (0 : Int32)), (0, .ref x0), (1, .int x1), (2, .int x2), (3, .int x3)]) hx hb dX0_layFits_31 hl (by decide) rfl (fun ls hl => ?_)
        exact wOX0_layFits_33 FX hr hlk hnm hout (ih) _ x0 x1 x2 x3 (0 : Int32) w8 c5 y6 _ _ _ (lv_sub hl [1, 2, 3, 4, 0] rfl) hW hf
set_option maxHeartbeats 4000000 in
set_option maxRecDepth 100000 in
theorem mOX0_layFits {l : Launch} {D : va_G} {dA : Nat → ClassId} {z : Nat}  {t7 : Nat} {k7 : Int32} {w : va_W} {q : ((Int32) × va_W × Nat × Nat)} (hf : fOX0_layFits dA z t7 k7 w = some q) : CtO l yX0_layFits cX0_layFits 5 (some .int) rOX0_layFits D dA [.ref t7, .int k7] w z (.inl (some (.int q.1))) q.2.1 q.2.2.1 q.2.2.2 := by
  refine e_O (by decide) (Nat.le_of_ble_eq_true rfl) ?_
  intro p e s m below meth c9 ls A FX hr hlk hnm hout hl hW
  have hx := FX.1; have hb := FX.2.1; have hown := FX.2.2.2.1; have hts := FX.2.2.2.2
  have hl : lv_has ls 5 [(0, .ref t7), (1, .int k7)] := hl
  rw [fOX0_layFits] at hf
  refine lv_iconst (v := 0) hx hb dX0_layFits_0 (by decide) ?_
  refine lv_istore_n (lv' := [(2, .int (0 : Int32)), (0, .ref t7), (1, .int k7)]) hx hb dX0_layFits_1 rfl hl (by decide) rfl (fun ls hl => ?_)
  refine lv_iconst (v := 0) hx hb dX0_layFits_2 (by decide) ?_
  refine lv_istore_n (lv' := [(3, .int (0 : Int32)), (2, .int (0 : Int32)), (0, .ref t7), (1, .int k7)]) hx hb dX0_layFits_3 rfl hl (by decide) rfl (fun ls hl => ?_)
  exact wOX0_layFits_4 FX hr hlk hnm hout _ t7 k7 (0 : Int32) (0 : Int32) w 0 0 _ _ _ (lv_sub hl [2, 3, 1, 0] rfl) hW hf
/-! TrunkLitters.fits(I)I: kind O -/
abbrev rOX0_fits : Room := { frames := 7, cells := 0, slots := 0, locals := 159 }
def fOX0_fits (dA : Nat → Nat) (z : Nat) (t7 : Nat) (k7 : Int32) (w : va_W) : Option ((Int32) × va_W × Nat × Nat) := pck w t7 0 (ocal rOX0_fits.cells rOX0_fits.slots 0 0 rOX0_layFits.cells rOX0_layFits.slots (fOX0_layFits dA (z + 0) t7 k7 w) fun r1 w2 c3 y4 => gck c3 y4 rOX0_fits.cells rOX0_fits.slots (some (r1, w2, c3, y4)))
set_option maxHeartbeats 4000000 in
set_option maxRecDepth 100000 in
theorem mOX0_fits {l : Launch} {D : va_G} {dA : Nat → ClassId} {z : Nat}  {t7 : Nat} {k7 : Int32} {w : va_W} {q : ((Int32) × va_W × Nat × Nat)} (hf : fOX0_fits dA z t7 k7 w = some q) : CtO l yX0_fits cX0_fits 2 (some .int) rOX0_fits D dA [.ref t7, .int k7] w z (.inl (some (.int q.1))) q.2.1 q.2.2.1 q.2.2.2 := by
  refine e_O (by decide) (Nat.le_of_ble_eq_true rfl) ?_
  intro p e s m below meth c9 ls A FX hr hlk hnm hout hl hW
  have hx := FX.1; have hb := FX.2.1; have hown := FX.2.2.2.1; have hts := FX.2.2.2.2
  have hl : lv_has ls 2 [(0, .ref t7), (1, .int k7)] := hl
  rw [fOX0_fits] at hf
  refine lv_aload_n hx hb dX0_fits_0 rfl (lv_at hl 0 rfl) ?_
  refine lv_iload_n hx hb dX0_fits_1 rfl (lv_at hl 1 rfl) ?_
  obtain ⟨hv9, hf⟩ := pck_some hf
  refine oc_i hW hf (fun r0 h0 hg => o_V (C := RX0) (As := [.int k7]) (rest := []) (n := 1) FX (mOX0_layFits h0) (cwV 1 FX.2.2.2.2 (lw_V q1506 q1508 qs50 q123 q1509) rfl rfl rfl (by decide +kernel) ⟨Nat.le_of_ble_eq_true rfl, Nat.le_of_ble_eq_true rfl⟩) (o_recv hW rfl hv9) rfl hl.1 rfl (Nat.le_of_ble_eq_true rfl) hg dX0_fits_2 hW) (fun r1 w2 c3 y4 H locs hW hf => ?_)
  obtain ⟨hg, hf⟩ := gck_some hf
  obtain rfl := Option.some.inj hf
  exact ro_i FX hr hlk hW hg dX0_fits_5
/-! TrunkLitters.sure(II)I: kind O -/
abbrev rOX0_sure : Room := { frames := 7, cells := 0, slots := 0, locals := 159 }
def fOX0_sure_65 (dA : Nat → Nat) (z : Nat) (x3 : Int32) (x4 : Int32) (w : va_W) (c : Nat) (y : Nat) : Option ((Int32) × va_W × Nat × Nat) := (if x3 = 0 then gck c y rOX0_sure.cells rOX0_sure.slots (some ((-1 : Int32), w, c, y)) else (if x4 = x3 then gck c y rOX0_sure.cells rOX0_sure.slots (some ((1 : Int32), w, c, y)) else (if x4 = 0 then gck c y rOX0_sure.cells rOX0_sure.slots (some ((0 : Int32), w, c, y)) else gck c y rOX0_sure.cells rOX0_sure.slots (some ((-2 : Int32), w, c, y)))))
def fOX0_sure_23 (dA : Nat → Nat) (z : Nat) : Nat → Nat → Int32 → Int32 → Int32 → Int32 → va_W → Nat → Nat → Option ((Int32) × va_W × Nat × Nat)
  | 0, _, _, _, _, _, _, _, _ => none
  | n + 1, x0, x1, x3, x4, x5, w, c, y => (if (63 : Int32) < x5 then fOX0_sure_65 dA z x3 x4 w c y else (if x3 ≤ 0 then fOX0_sure_65 dA z x3 x4 w c y else pgR w x0 0 22 fun v1 => hald w (dA 2) v1 x5 fun v2 => (if v2 = 0 then fOX0_sure_23 dA z n x0 x1 x3 (x4 + (0 : Int32)) (x5 + (1 : Int32)) w c y else fOX0_sure_23 dA z n x0 x1 x3 (x4 + ((x5 >>> (x1 &&& 31)) &&& (1 : Int32))) (x5 + (1 : Int32)) w c y)))
def fOX0_sure (dA : Nat → Nat) (z : Nat) (t7 : Nat) (m7 : Int32) (k7 : Int32) (w : va_W) : Option ((Int32) × va_W × Nat × Nat) := ocal rOX0_sure.cells rOX0_sure.slots 0 0 rOX0_isIn.cells rOX0_isIn.slots (fOX0_isIn dA (z + 0) m7 (0 : Int32) (5 : Int32) w) fun r1 w2 c3 y4 => (if r1 = 0 then gck c3 y4 rOX0_sure.cells rOX0_sure.slots (some ((-1 : Int32), w2, c3, y4)) else pck w2 t7 0 (ocal rOX0_sure.cells rOX0_sure.slots c3 y4 rOX0_layFits.cells rOX0_layFits.slots (fOX0_layFits dA (z + c3) t7 k7 w2) fun r5 w6 c7 y8 => fOX0_sure_23 dA z FU t7 m7 r5 (0 : Int32) (0 : Int32) w6 c7 y8))
set_option maxHeartbeats 4000000 in
set_option maxRecDepth 100000 in
theorem wOX0_sure_65 {l : Launch} {D : va_G} {dA : Nat → ClassId} {z : Nat} {p : Program} {e : Env} {s : State} {m : MethodId} {args : Array Value} {below : List Frame} {meth : Method} {c9 : Code} {A : Nat → Prop} {q : ((Int32) × va_W × Nat × Nat)} (FX : CallFix p m c9 cX0_sure 6 s args lw_all RX0) (hr : meth.sig.returnType = (some .int)) (hlk : meth.locks = false) (hnm : meth.name = yX0_sure.name) (hout : ∀ x ∈ c9.exceptionTable.toList, False) : ∀ (x3 : Int32) (x4 : Int32) (w : va_W) (c : Nat) (y : Nat) (H : Heap) (locs : List Loc) (ls : Array Slot), lv_has ls 6 [(3, .int x3), (4, .int x4)] → Wo D dA A s w z c H locs → fOX0_sure_65 dA z x3 x4 w c y = some q → W p l e rOX0_sure s m args below meth c9 H locs c y (QO D dA A below args s rOX0_sure.cells rOX0_sure.slots (.inl (some (.int q.1))) q.2.1 (z + q.2.2.1) q.2.2.2) (F0 m 65 ls []) := by
  have hx := FX.1; have hb := FX.2.1; have hown := FX.2.2.2.1; have hts := FX.2.2.2.2
  intro x3 x4 w c y H locs ls hl hW hf
  rw [fOX0_sure_65] at hf
  refine lv_iload_n hx hb dX0_sure_65 rfl (lv_at hl 0 rfl) ?_
  refine lv_if_ne (tgt := 73) hx hb dX0_sure_66 (by decide) (fun c66 => ?_) (fun c66 => ?_)
  · have hf := ifn c66 hf
    refine lv_iload hx hb dX0_sure_73 (lv_at hl 1 rfl) ?_
    refine lv_iload_n hx hb dX0_sure_75 rfl (lv_at hl 0 rfl) ?_
    refine lv_icmp_ne (tgt := 83) hx hb dX0_sure_76 (by decide) (fun c76 => ?_) (fun c76 => ?_)
    · have hf := ifn c76 hf
      refine lv_iload hx hb dX0_sure_83 (lv_at hl 1 rfl) ?_
      refine lv_if_ne (tgt := 92) hx hb dX0_sure_85 (by decide) (fun c85 => ?_) (fun c85 => ?_)
      · have hf := ifn c85 hf
        refine lv_bipush (v := -2) hx hb dX0_sure_92 (by decide) ?_
        obtain ⟨hg, hf⟩ := gck_some hf
        obtain rfl := Option.some.inj hf
        exact ro_i FX hr hlk hW hg dX0_sure_94
      · have hf := ifp c85 hf
        refine lv_iconst (v := 0) hx hb dX0_sure_88 (by decide) ?_
        refine lv_goto (tgt := 94) hx hb dX0_sure_89 (by decide) ?_
        obtain ⟨hg, hf⟩ := gck_some hf
        obtain rfl := Option.some.inj hf
        exact ro_i FX hr hlk hW hg dX0_sure_94
    · have hf := ifp c76 hf
      refine lv_iconst (v := 1) hx hb dX0_sure_79 (by decide) ?_
      refine lv_goto (tgt := 94) hx hb dX0_sure_80 (by decide) ?_
      obtain ⟨hg, hf⟩ := gck_some hf
      obtain rfl := Option.some.inj hf
      exact ro_i FX hr hlk hW hg dX0_sure_94
  · have hf := ifp c66 hf
    refine lv_iconst (v := -1) hx hb dX0_sure_69 (by decide) ?_
    refine lv_goto (tgt := 94) hx hb dX0_sure_70 (by decide) ?_
    obtain ⟨hg, hf⟩ := gck_some hf
    obtain rfl := Option.some.inj hf
    exact ro_i FX hr hlk hW hg dX0_sure_94
set_option maxHeartbeats 4000000 in
set_option maxRecDepth 100000 in
theorem wOX0_sure_23 {l : Launch} {D : va_G} {dA : Nat → ClassId} {z : Nat} {p : Program} {e : Env} {s : State} {m : MethodId} {args : Array Value} {below : List Frame} {meth : Method} {c9 : Code} {A : Nat → Prop} {q : ((Int32) × va_W × Nat × Nat)} (FX : CallFix p m c9 cX0_sure 6 s args lw_all RX0) (hr : meth.sig.returnType = (some .int)) (hlk : meth.locks = false) (hnm : meth.name = yX0_sure.name) (hout : ∀ x ∈ c9.exceptionTable.toList, False) : ∀ n : Nat, ∀ (x0 : Nat) (x1 : Int32) (x3 : Int32) (x4 : Int32) (x5 : Int32) (w : va_W) (c : Nat) (y : Nat) (H : Heap) (locs : List Loc) (ls : Array Slot), lv_has ls 6 [(0, .ref x0), (1, .int x1), (3, .int x3), (4, .int x4), (5, .int x5)] → Wo D dA A s w z c H locs → fOX0_sure_23 dA z n x0 x1 x3 x4 x5 w c y = some q → W p l e rOX0_sure s m args below meth c9 H locs c y (QO D dA A below args s rOX0_sure.cells rOX0_sure.slots (.inl (some (.int q.1))) q.2.1 (z + q.2.2.1) q.2.2.2) (F0 m 23 ls []) := by
  have hx := FX.1; have hb := FX.2.1; have hown := FX.2.2.2.1; have hts := FX.2.2.2.2
  intro n
  induction n with
  | zero =>
    intro x0 x1 x3 x4 x5 w c y H locs ls hl hW hf
    cases (show (none : Option ((Int32) × va_W × Nat × Nat)) = some q from hf)
  | succ n ih =>
    intro x0 x1 x3 x4 x5 w c y H locs ls hl hW hf
    rw [fOX0_sure_23] at hf
    refine lv_iload hx hb dX0_sure_23 (lv_at hl 4 rfl) ?_
    refine lv_bipush (v := 63) hx hb dX0_sure_25 (by decide) ?_
    refine lv_icmp_gt (tgt := 65) hx hb dX0_sure_27 (by decide) (fun c27 => ?_) (fun c27 => ?_)
    · have hf := ifp c27 hf
      exact wOX0_sure_65 FX hr hlk hnm hout x3 x4 w c y _ _ _ (lv_sub hl [2, 3] rfl) hW hf
    · have hf := ifn c27 hf
      refine lv_iload_n hx hb dX0_sure_30 rfl (lv_at hl 2 rfl) ?_
      refine lv_if_le (tgt := 65) hx hb dX0_sure_31 (by decide) (fun c31 => ?_) (fun c31 => ?_)
      · have hf := ifp c31 hf
        exact wOX0_sure_65 FX hr hlk hnm hout x3 x4 w c y _ _ _ (lv_sub hl [2, 3] rfl) hW hf
      · have hf := ifn c31 hf
        refine lv_iload hx hb dX0_sure_34 (lv_at hl 3 rfl) ?_
        refine lv_aload_n hx hb dX0_sure_36 rfl (lv_at hl 0 rfl) ?_
        refine og_R (C := RX0) (T := TX0) (N := 26) (ci := 0) FX hW in_X0 rfl 22 (by decide) q389 (fun _ h => h) hf dX0_sure_37 (fun v1 hf => ?_)
        refine lv_iload hx hb dX0_sure_40 (lv_at hl 4 rfl) ?_
        refine o_zald FX hW hf dX0_sure_42 (fun v2 hf => ?_)
        refine lv_if_eq (tgt := 55) hx hb dX0_sure_43 (by decide) (fun c43 => ?_) (fun c43 => ?_)
        · have hf := ifp c43 hf
          refine lv_iconst (v := 0) hx hb dX0_sure_55 (by decide) ?_
          refine lv_iadd hx hb dX0_sure_56 ?_
          refine lv_istore (lv' := [(4, .int (x4 + (0 : Int32))), (0, .ref x0), (1, .int x1), (3, .int x3), (5, .int x5)]) hx hb dX0_sure_57 hl (by decide) rfl (fun ls hl => ?_)
          refine lv_iinc (v := (x5 + (1 : Int32))) (lv' := [(5, .int (x5 + (1 : Int32))), (4, .int (x4 + (0 : Int32))), (0, .ref x0), (1, .int x1), (3, .int x3)]) hx hb dX0_sure_59 hl (k := 4) rfl rfl (by decide) rfl (fun ls hl => ?_)
          refine lv_goto (tgt := 23) hx hb dX0_sure_62 (by decide) ?_
          exact ih x0 x1 x3 (x4 + (0 : Int32)) (x5 + (1 : Int32)) w c y _ _ _ (lv_sub hl [2, 3, 4, 1, 0] rfl) hW hf
        · have hf := ifn c43 hf
          refine lv_iload hx hb dX0_sure_46 (lv_at hl 4 rfl) ?_
          refine lv_iload_n hx hb dX0_sure_48 rfl (lv_at hl 1 rfl) ?_
          refine lv_ishr hx hb dX0_sure_49 ?_
          refine lv_iconst (v := 1) hx hb dX0_sure_50 (by decide) ?_
          refine lv_iand hx hb dX0_sure_51 ?_
          refine lv_goto (tgt := 56) hx hb dX0_sure_52 (by decide) ?_
          refine lv_iadd hx hb dX0_sure_56 ?_
          refine lv_istore (lv' := [(4, .int (x4 + ((x5 >>> (x1 &&& 31)) &&& (1 : Int32)))), (0, .ref x0), (1, .int x1), (3, .int x3), (5, .int x5)]) hx hb dX0_sure_57 hl (by decide) rfl (fun ls hl => ?_)
          refine lv_iinc (v := (x5 + (1 : Int32))) (lv' := [(5, .int (x5 + (1 : Int32))), (4, .int (x4 + ((x5 >>> (x1 &&& 31)) &&& (1 : Int32)))), (0, .ref x0), (1, .int x1), (3, .int x3)]) hx hb dX0_sure_59 hl (k := 4) rfl rfl (by decide) rfl (fun ls hl => ?_)
          refine lv_goto (tgt := 23) hx hb dX0_sure_62 (by decide) ?_
          exact ih x0 x1 x3 (x4 + ((x5 >>> (x1 &&& 31)) &&& (1 : Int32))) (x5 + (1 : Int32)) w c y _ _ _ (lv_sub hl [2, 3, 4, 1, 0] rfl) hW hf
set_option maxHeartbeats 4000000 in
set_option maxRecDepth 100000 in
theorem mOX0_sure {l : Launch} {D : va_G} {dA : Nat → ClassId} {z : Nat}  {t7 : Nat} {m7 : Int32} {k7 : Int32} {w : va_W} {q : ((Int32) × va_W × Nat × Nat)} (hf : fOX0_sure dA z t7 m7 k7 w = some q) : CtO l yX0_sure cX0_sure 6 (some .int) rOX0_sure D dA [.ref t7, .int m7, .int k7] w z (.inl (some (.int q.1))) q.2.1 q.2.2.1 q.2.2.2 := by
  refine e_O (by decide) (Nat.le_of_ble_eq_true rfl) ?_
  intro p e s m below meth c9 ls A FX hr hlk hnm hout hl hW
  have hx := FX.1; have hb := FX.2.1; have hown := FX.2.2.2.1; have hts := FX.2.2.2.2
  have hl : lv_has ls 6 [(0, .ref t7), (1, .int m7), (2, .int k7)] := hl
  rw [fOX0_sure] at hf
  refine lv_iload_n hx hb dX0_sure_0 rfl (lv_at hl 1 rfl) ?_
  refine lv_iconst (v := 0) hx hb dX0_sure_1 (by decide) ?_
  refine lv_iconst (v := 5) hx hb dX0_sure_2 (by decide) ?_
  refine oc_i hW hf (fun r0 h0 hg => o_S (As := [.int m7, .int (0 : Int32), .int (5 : Int32)]) (rest := []) (n := 3) FX (mOX0_isIn h0) (va_cwS 3 FX.2.2.2.2 (lw_S q1130 q1131 q123 q1132) rfl rfl rfl (by decide +kernel) ⟨Nat.le_of_ble_eq_true rfl, Nat.le_of_ble_eq_true rfl⟩) rfl hl.1 rfl (Nat.le_of_ble_eq_true rfl) hg dX0_sure_3 hW) (fun r1 w2 c3 y4 H locs hW hf => ?_)
  refine lv_if_ne (tgt := 11) hx hb dX0_sure_6 (by decide) (fun c6 => ?_) (fun c6 => ?_)
  · have hf := ifn c6 hf
    refine lv_aload_n hx hb dX0_sure_11 rfl (lv_at hl 0 rfl) ?_
    refine lv_iload_n hx hb dX0_sure_12 rfl (lv_at hl 2 rfl) ?_
    obtain ⟨hv9, hf⟩ := pck_some hf
    refine oc_i hW hf (fun r0 h0 hg => o_V (C := RX0) (As := [.int k7]) (rest := []) (n := 1) FX (mOX0_layFits h0) (cwV 1 FX.2.2.2.2 (lw_V q1506 q1508 qs50 q123 q1509) rfl rfl rfl (by decide +kernel) ⟨Nat.le_of_ble_eq_true rfl, Nat.le_of_ble_eq_true rfl⟩) (o_recv hW rfl hv9) rfl hl.1 rfl (Nat.le_of_ble_eq_true rfl) hg dX0_sure_13 hW) (fun r5 w6 c7 y8 H locs hW hf => ?_)
    refine lv_istore_n (lv' := [(3, .int r5), (0, .ref t7), (1, .int m7), (2, .int k7)]) hx hb dX0_sure_16 rfl hl (by decide) rfl (fun ls hl => ?_)
    refine lv_iconst (v := 0) hx hb dX0_sure_17 (by decide) ?_
    refine lv_istore (lv' := [(4, .int (0 : Int32)), (3, .int r5), (0, .ref t7), (1, .int m7), (2, .int k7)]) hx hb dX0_sure_18 hl (by decide) rfl (fun ls hl => ?_)
    refine lv_iconst (v := 0) hx hb dX0_sure_20 (by decide) ?_
    refine lv_istore (lv' := [(5, .int (0 : Int32)), (4, .int (0 : Int32)), (3, .int r5), (0, .ref t7), (1, .int m7), (2, .int k7)]) hx hb dX0_sure_21 hl (by decide) rfl (fun ls hl => ?_)
    exact wOX0_sure_23 FX hr hlk hnm hout _ t7 m7 r5 (0 : Int32) (0 : Int32) w6 c7 y8 _ _ _ (lv_sub hl [3, 4, 2, 1, 0] rfl) hW hf
  · have hf := ifp c6 hf
    refine lv_iconst (v := -1) hx hb dX0_sure_9 (by decide) ?_
    obtain ⟨hg, hf⟩ := gck_some hf
    obtain rfl := Option.some.inj hf
    exact ro_i FX hr hlk hW hg dX0_sure_10
/-! TrunkLitters.leftBy(I)I: kind O -/
abbrev rOX0_leftBy : Room := { frames := 5, cells := 0, slots := 0, locals := 113 }
def fOX0_leftBy_25 (dA : Nat → Nat) (z : Nat) : Nat → Nat → Int32 → Int32 → Int32 → va_W → Nat → Nat → Option ((Int32) × va_W × Nat × Nat)
  | 0, _, _, _, _, _, _, _ => none
  | n + 1, x0, x1, x2, x3, w, c, y => (if (63 : Int32) < x3 then gck c y rOX0_leftBy.cells rOX0_leftBy.slots (some (x2, w, c, y)) else pgR w x0 0 22 fun v1 => hald w (dA 2) v1 x3 fun v2 => (if v2 = 0 then fOX0_leftBy_25 dA z n x0 x1 x2 (x3 + (1 : Int32)) w c y else pck w x0 0 (ocal rOX0_leftBy.cells rOX0_leftBy.slots c y rOX0_sharedAsTold.cells rOX0_sharedAsTold.slots (fOX0_sharedAsTold dA (z + c) x0 x3 x1 w) fun r3 w4 c5 y6 => pgR w4 x0 0 23 fun v7 => hald w4 (dA 0) v7 r3 fun v8 => hast w4 (dA 0) v7 r3 (v8 + (1 : Int32)) fun w9 => pgR w9 x0 0 23 fun v10 => hald w9 (dA 0) v10 r3 fun v11 => gck c5 y6 rOX0_leftBy.cells rOX0_leftBy.slots (fOX0_leftBy_25 dA z n x0 x1 (if x2 < v11 then v11 else x2) (x3 + (1 : Int32)) w9 c5 y6))))
def fOX0_leftBy_2 (dA : Nat → Nat) (z : Nat) : Nat → Nat → Int32 → Int32 → va_W → Nat → Nat → Option ((Int32) × va_W × Nat × Nat)
  | 0, _, _, _, _, _, _ => none
  | n + 1, x0, x1, x2, w, c, y => (if (6 : Int32) < x2 then fOX0_leftBy_25 dA z FU x0 x1 (0 : Int32) (0 : Int32) w c y else pgR w x0 0 23 fun v1 => hast w (dA 0) v1 x2 (0 : Int32) fun w2 => fOX0_leftBy_2 dA z n x0 x1 (x2 + (1 : Int32)) w2 c y)
def fOX0_leftBy (dA : Nat → Nat) (z : Nat) (t7 : Nat) (k7 : Int32) (w : va_W) : Option ((Int32) × va_W × Nat × Nat) := fOX0_leftBy_2 dA z FU t7 k7 (0 : Int32) w 0 0
set_option maxHeartbeats 4000000 in
set_option maxRecDepth 100000 in
theorem wOX0_leftBy_25 {l : Launch} {D : va_G} {dA : Nat → ClassId} {z : Nat} {p : Program} {e : Env} {s : State} {m : MethodId} {args : Array Value} {below : List Frame} {meth : Method} {c9 : Code} {A : Nat → Prop} {q : ((Int32) × va_W × Nat × Nat)} (FX : CallFix p m c9 cX0_leftBy 5 s args lw_all RX0) (hr : meth.sig.returnType = (some .int)) (hlk : meth.locks = false) (hnm : meth.name = yX0_leftBy.name) (hout : ∀ x ∈ c9.exceptionTable.toList, False) : ∀ n : Nat, ∀ (x0 : Nat) (x1 : Int32) (x2 : Int32) (x3 : Int32) (w : va_W) (c : Nat) (y : Nat) (H : Heap) (locs : List Loc) (ls : Array Slot), lv_has ls 5 [(0, .ref x0), (1, .int x1), (2, .int x2), (3, .int x3)] → Wo D dA A s w z c H locs → fOX0_leftBy_25 dA z n x0 x1 x2 x3 w c y = some q → W p l e rOX0_leftBy s m args below meth c9 H locs c y (QO D dA A below args s rOX0_leftBy.cells rOX0_leftBy.slots (.inl (some (.int q.1))) q.2.1 (z + q.2.2.1) q.2.2.2) (F0 m 25 ls []) := by
  have hx := FX.1; have hb := FX.2.1; have hown := FX.2.2.2.1; have hts := FX.2.2.2.2
  intro n
  induction n with
  | zero =>
    intro x0 x1 x2 x3 w c y H locs ls hl hW hf
    cases (show (none : Option ((Int32) × va_W × Nat × Nat)) = some q from hf)
  | succ n ih =>
    intro x0 x1 x2 x3 w c y H locs ls hl hW hf
    rw [fOX0_leftBy_25] at hf
    refine lv_iload_n hx hb dX0_leftBy_25 rfl (lv_at hl 3 rfl) ?_
    refine lv_bipush (v := 63) hx hb dX0_leftBy_26 (by decide) ?_
    refine lv_icmp_gt (tgt := 80) hx hb dX0_leftBy_28 (by decide) (fun c28 => ?_) (fun c28 => ?_)
    · have hf := ifp c28 hf
      refine lv_iload_n hx hb dX0_leftBy_80 rfl (lv_at hl 2 rfl) ?_
      obtain ⟨hg, hf⟩ := gck_some hf
      obtain rfl := Option.some.inj hf
      exact ro_i FX hr hlk hW hg dX0_leftBy_81
    · have hf := ifn c28 hf
      refine lv_aload_n hx hb dX0_leftBy_31 rfl (lv_at hl 0 rfl) ?_
      refine og_R (C := RX0) (T := TX0) (N := 26) (ci := 0) FX hW in_X0 rfl 22 (by decide) q389 (fun _ h => h) hf dX0_leftBy_32 (fun v1 hf => ?_)
      refine lv_iload_n hx hb dX0_leftBy_35 rfl (lv_at hl 3 rfl) ?_
      refine o_zald FX hW hf dX0_leftBy_36 (fun v2 hf => ?_)
      refine lv_if_ne (tgt := 43) hx hb dX0_leftBy_37 (by decide) (fun c37 => ?_) (fun c37 => ?_)
      · have hf := ifn c37 hf
        refine lv_aload_n hx hb dX0_leftBy_43 rfl (lv_at hl 0 rfl) ?_
        refine lv_iload_n hx hb dX0_leftBy_44 rfl (lv_at hl 3 rfl) ?_
        refine lv_iload_n hx hb dX0_leftBy_45 rfl (lv_at hl 1 rfl) ?_
        obtain ⟨hv9, hf⟩ := pck_some hf
        refine oc_i hW hf (fun r0 h0 hg => o_V (C := RX0) (As := [.int x3, .int x1]) (rest := []) (n := 2) FX (mOX0_sharedAsTold h0) (cwV 2 FX.2.2.2.2 (lw_V q1531 q1516 qs51 q123 q1517) rfl rfl rfl (by decide +kernel) ⟨Nat.le_of_ble_eq_true rfl, Nat.le_of_ble_eq_true rfl⟩) (o_recv hW rfl hv9) rfl hl.1 rfl (Nat.le_of_ble_eq_true rfl) hg dX0_leftBy_46 hW) (fun r3 w4 c5 y6 H locs hW hf => ?_)
        refine lv_istore (lv' := [(4, .int r3), (0, .ref x0), (1, .int x1), (2, .int x2), (3, .int x3)]) hx hb dX0_leftBy_49 hl (by decide) rfl (fun ls hl => ?_)
        refine lv_aload_n hx hb dX0_leftBy_51 rfl (lv_at hl 1 rfl) ?_
        refine og_R (C := RX0) (T := TX0) (N := 26) (ci := 0) FX hW in_X0 rfl 23 (by decide) q390 (fun _ h => h) hf dX0_leftBy_52 (fun v7 hf => ?_)
        refine lv_iload hx hb dX0_leftBy_55 (lv_at hl 0 rfl) ?_
        refine lv_dup2_11 hx hb dX0_leftBy_57 rfl rfl ?_
        refine o_iald FX hW.1 hf dX0_leftBy_58 (fun v8 hf => ?_)
        refine lv_iconst (v := 1) hx hb dX0_leftBy_59 (by decide) ?_
        refine lv_iadd hx hb dX0_leftBy_60 ?_
        refine op_iast FX hW hf dX0_leftBy_61 (fun w9 H locs hW hf => ?_)
        refine lv_iload_n hx hb dX0_leftBy_62 rfl (lv_at hl 3 rfl) ?_
        refine lv_aload_n hx hb dX0_leftBy_63 rfl (lv_at hl 1 rfl) ?_
        refine og_R (C := RX0) (T := TX0) (N := 26) (ci := 0) FX hW in_X0 rfl 23 (by decide) q390 (fun _ h => h) hf dX0_leftBy_64 (fun v10 hf => ?_)
        refine lv_iload hx hb dX0_leftBy_67 (lv_at hl 0 rfl) ?_
        refine o_iald FX hW.1 hf dX0_leftBy_69 (fun v11 hf => ?_)
        obtain ⟨hg9, hf⟩ := gck_some hf
        refine va_mmax hx hb (FX.2.2.1.trans hl.1.symm) hown (hts _ q1355) (hts _ q572) (hts _ q139) (hts _ q573) (Nat.le_of_ble_eq_true rfl) (Nat.le_of_ble_eq_true rfl) hg9.1 hg9.2 dX0_leftBy_70 ?_
        refine lv_istore_n (lv' := [(2, .int (if x2 < v11 then v11 else x2)), (4, .int r3), (0, .ref x0), (1, .int x1), (3, .int x3)]) hx hb dX0_leftBy_73 rfl hl (by decide) rfl (fun ls hl => ?_)
        refine lv_iinc (v := (x3 + (1 : Int32))) (lv' := [(3, .int (x3 + (1 : Int32))), (2, .int (if x2 < v11 then v11 else x2)), (4, .int r3), (0, .ref x0), (1, .int x1)]) hx hb dX0_leftBy_74 hl (k := 4) rfl rfl (by decide) rfl (fun ls hl => ?_)
        refine lv_goto (tgt := 25) hx hb dX0_leftBy_77 (by decide) ?_
        exact ih x0 x1 (if x2 < v11 then v11 else x2) (x3 + (1 : Int32)) w9 c5 y6 _ _ _ (lv_sub hl [3, 4, 1, 0] rfl) hW hf
      · have hf := ifp c37 hf
        refine lv_goto (tgt := 74) hx hb dX0_leftBy_40 (by decide) ?_
        refine lv_iinc (v := (x3 + (1 : Int32))) (lv' := [(3, .int (x3 + (1 : Int32))), (0, .ref x0), (1, .int x1), (2, .int x2)]) hx hb dX0_leftBy_74 hl (k := 3) rfl rfl (by decide) rfl (fun ls hl => ?_)
        refine lv_goto (tgt := 25) hx hb dX0_leftBy_77 (by decide) ?_
        exact ih x0 x1 x2 (x3 + (1 : Int32)) w c y _ _ _ (lv_sub hl [1, 2, 3, 0] rfl) hW hf
set_option maxHeartbeats 4000000 in
set_option maxRecDepth 100000 in
theorem wOX0_leftBy_2 {l : Launch} {D : va_G} {dA : Nat → ClassId} {z : Nat} {p : Program} {e : Env} {s : State} {m : MethodId} {args : Array Value} {below : List Frame} {meth : Method} {c9 : Code} {A : Nat → Prop} {q : ((Int32) × va_W × Nat × Nat)} (FX : CallFix p m c9 cX0_leftBy 5 s args lw_all RX0) (hr : meth.sig.returnType = (some .int)) (hlk : meth.locks = false) (hnm : meth.name = yX0_leftBy.name) (hout : ∀ x ∈ c9.exceptionTable.toList, False) : ∀ n : Nat, ∀ (x0 : Nat) (x1 : Int32) (x2 : Int32) (w : va_W) (c : Nat) (y : Nat) (H : Heap) (locs : List Loc) (ls : Array Slot), lv_has ls 5 [(0, .ref x0), (1, .int x1), (2, .int x2)] → Wo D dA A s w z c H locs → fOX0_leftBy_2 dA z n x0 x1 x2 w c y = some q → W p l e rOX0_leftBy s m args below meth c9 H locs c y (QO D dA A below args s rOX0_leftBy.cells rOX0_leftBy.slots (.inl (some (.int q.1))) q.2.1 (z + q.2.2.1) q.2.2.2) (F0 m 2 ls []) := by
  have hx := FX.1; have hb := FX.2.1; have hown := FX.2.2.2.1; have hts := FX.2.2.2.2
  intro n
  induction n with
  | zero =>
    intro x0 x1 x2 w c y H locs ls hl hW hf
    cases (show (none : Option ((Int32) × va_W × Nat × Nat)) = some q from hf)
  | succ n ih =>
    intro x0 x1 x2 w c y H locs ls hl hW hf
    rw [fOX0_leftBy_2] at hf
    refine lv_iload_n hx hb dX0_leftBy_2 rfl (lv_at hl 2 rfl) ?_
    refine lv_bipush (v := 6) hx hb dX0_leftBy_3 (by decide) ?_
    refine lv_icmp_gt (tgt := 21) hx hb dX0_leftBy_5 (by decide) (fun c5 => ?_) (fun c5 => ?_)
    · have hf := ifp c5 hf
      refine lv_iconst (v := 0) hx hb dX0_leftBy_21 (by decide) ?_
      refine lv_istore_n (lv' := [(2, .int (0 : Int32)), (0, .ref x0), (1, .int x1)]) hx hb dX0_leftBy_22 rfl hl (by decide) rfl (fun ls hl => ?_)
      refine lv_iconst (v := 0) hx hb dX0_leftBy_23 (by decide) ?_
      refine lv_istore_n (lv' := [(3, .int (0 : Int32)), (2, .int (0 : Int32)), (0, .ref x0), (1, .int x1)]) hx hb dX0_leftBy_24 rfl hl (by decide) rfl (fun ls hl => ?_)
      exact wOX0_leftBy_25 FX hr hlk hnm hout _ x0 x1 (0 : Int32) (0 : Int32) w c y _ _ _ (lv_sub hl [2, 3, 1, 0] rfl) hW hf
    · have hf := ifn c5 hf
      refine lv_aload_n hx hb dX0_leftBy_8 rfl (lv_at hl 0 rfl) ?_
      refine og_R (C := RX0) (T := TX0) (N := 26) (ci := 0) FX hW in_X0 rfl 23 (by decide) q390 (fun _ h => h) hf dX0_leftBy_9 (fun v1 hf => ?_)
      refine lv_iload_n hx hb dX0_leftBy_12 rfl (lv_at hl 2 rfl) ?_
      refine lv_iconst (v := 0) hx hb dX0_leftBy_13 (by decide) ?_
      refine op_iast FX hW hf dX0_leftBy_14 (fun w2 H locs hW hf => ?_)
      refine lv_iinc (v := (x2 + (1 : Int32))) (lv' := [(2, .int (x2 + (1 : Int32))), (0, .ref x0), (1, .int x1)]) hx hb dX0_leftBy_15 hl (k := 2) rfl rfl (by decide) rfl (fun ls hl => ?_)
      refine lv_goto (tgt := 2) hx hb dX0_leftBy_18 (by decide) ?_
      exact ih x0 x1 (x2 + (1 : Int32)) w2 c y _ _ _ (lv_sub hl [1, 2, 0] rfl) hW hf
set_option maxHeartbeats 4000000 in
set_option maxRecDepth 100000 in
theorem mOX0_leftBy {l : Launch} {D : va_G} {dA : Nat → ClassId} {z : Nat}  {t7 : Nat} {k7 : Int32} {w : va_W} {q : ((Int32) × va_W × Nat × Nat)} (hf : fOX0_leftBy dA z t7 k7 w = some q) : CtO l yX0_leftBy cX0_leftBy 5 (some .int) rOX0_leftBy D dA [.ref t7, .int k7] w z (.inl (some (.int q.1))) q.2.1 q.2.2.1 q.2.2.2 := by
  refine e_O (by decide) (Nat.le_of_ble_eq_true rfl) ?_
  intro p e s m below meth c9 ls A FX hr hlk hnm hout hl hW
  have hx := FX.1; have hb := FX.2.1; have hown := FX.2.2.2.1; have hts := FX.2.2.2.2
  have hl : lv_has ls 5 [(0, .ref t7), (1, .int k7)] := hl
  rw [fOX0_leftBy] at hf
  refine lv_iconst (v := 0) hx hb dX0_leftBy_0 (by decide) ?_
  refine lv_istore_n (lv' := [(2, .int (0 : Int32)), (0, .ref t7), (1, .int k7)]) hx hb dX0_leftBy_1 rfl hl (by decide) rfl (fun ls hl => ?_)
  exact wOX0_leftBy_2 FX hr hlk hnm hout _ t7 k7 (0 : Int32) w 0 0 _ _ _ (lv_sub hl [1, 2, 0] rfl) hW hf
/-! TrunkLitters.ask(II)I: kind O -/
abbrev rOX0_ask : Room := { frames := 7, cells := 0, slots := 0, locals := 159 }
def fOX0_ask_32 (dA : Nat → Nat) (z : Nat) : Nat → Nat → Int32 → Int32 → Int32 → va_W → Nat → Nat → Option ((Int32) × va_W × Nat × Nat)
  | 0, _, _, _, _, _, _, _ => none
  | n + 1, x0, x1, x3, x4, w, c, y => pck w x0 0 (ocal rOX0_ask.cells rOX0_ask.slots c y rOX0_isOther.cells rOX0_isOther.slots (fOX0_isOther dA (z + c) x0 x4 w) fun r1 w2 c3 y4 => (if r1 = 0 then (if x1 = 0 then gck c3 y4 rOX0_ask.cells rOX0_ask.slots (some (x3, w2, c3, y4)) else pck w2 x0 0 (ocal rOX0_ask.cells rOX0_ask.slots c3 y4 rOX0_leftBy.cells rOX0_leftBy.slots (fOX0_leftBy dA (z + c3) x0 x3 w2) fun r5 w6 c7 y8 => gck c7 y8 rOX0_ask.cells rOX0_ask.slots (some (r5, w6, c7, y8)))) else pck w2 x0 0 (ocal rOX0_ask.cells rOX0_ask.slots c3 y4 rOX0_leftBy.cells rOX0_leftBy.slots (fOX0_leftBy dA (z + c3) x0 x4 w2) fun r9 w10 c11 y12 => pck w10 x0 0 (ocal rOX0_ask.cells rOX0_ask.slots c11 y12 rOX0_leftBy.cells rOX0_leftBy.slots (fOX0_leftBy dA (z + c11) x0 x3 w10) fun r13 w14 c15 y16 => (if r13 ≤ r9 then fOX0_ask_32 dA z n x0 x1 x3 (x4 + (1 : Int32)) w14 c15 y16 else fOX0_ask_32 dA z n x0 x1 x4 (x4 + (1 : Int32)) w14 c15 y16)))))
def fOX0_ask (dA : Nat → Nat) (z : Nat) (t7 : Nat) (w7 : Int32) (k7 : Int32) (w : va_W) : Option ((Int32) × va_W × Nat × Nat) := ocal rOX0_ask.cells rOX0_ask.slots 0 0 rOX0_isIn.cells rOX0_isIn.slots (fOX0_isIn dA (z + 0) w7 (0 : Int32) (1 : Int32) w) fun r1 w2 c3 y4 => (if r1 = 0 then gck c3 y4 rOX0_ask.cells rOX0_ask.slots (some ((-1 : Int32), w2, c3, y4)) else pck w2 t7 0 (ocal rOX0_ask.cells rOX0_ask.slots c3 y4 rOX0_isOther.cells rOX0_isOther.slots (fOX0_isOther dA (z + c3) t7 (0 : Int32) w2) fun r5 w6 c7 y8 => (if r5 = 0 then gck c7 y8 rOX0_ask.cells rOX0_ask.slots (some ((-1 : Int32), w6, c7, y8)) else pck w6 t7 0 (ocal rOX0_ask.cells rOX0_ask.slots c7 y8 rOX0_layFits.cells rOX0_layFits.slots (fOX0_layFits dA (z + c7) t7 k7 w6) fun r9 w10 c11 y12 => (if r9 = 0 then gck c11 y12 rOX0_ask.cells rOX0_ask.slots (some ((-1 : Int32), w10, c11, y12)) else fOX0_ask_32 dA z FU t7 w7 (0 : Int32) (1 : Int32) w10 c11 y12)))))
set_option maxHeartbeats 4000000 in
set_option maxRecDepth 100000 in
theorem wOX0_ask_32 {l : Launch} {D : va_G} {dA : Nat → ClassId} {z : Nat} {p : Program} {e : Env} {s : State} {m : MethodId} {args : Array Value} {below : List Frame} {meth : Method} {c9 : Code} {A : Nat → Prop} {q : ((Int32) × va_W × Nat × Nat)} (FX : CallFix p m c9 cX0_ask 5 s args lw_all RX0) (hr : meth.sig.returnType = (some .int)) (hlk : meth.locks = false) (hnm : meth.name = yX0_ask.name) (hout : ∀ x ∈ c9.exceptionTable.toList, False) : ∀ n : Nat, ∀ (x0 : Nat) (x1 : Int32) (x3 : Int32) (x4 : Int32) (w : va_W) (c : Nat) (y : Nat) (H : Heap) (locs : List Loc) (ls : Array Slot), lv_has ls 5 [(0, .ref x0), (1, .int x1), (3, .int x3), (4, .int x4)] → Wo D dA A s w z c H locs → fOX0_ask_32 dA z n x0 x1 x3 x4 w c y = some q → W p l e rOX0_ask s m args below meth c9 H locs c y (QO D dA A below args s rOX0_ask.cells rOX0_ask.slots (.inl (some (.int q.1))) q.2.1 (z + q.2.2.1) q.2.2.2) (F0 m 32 ls []) := by
  have hx := FX.1; have hb := FX.2.1; have hown := FX.2.2.2.1; have hts := FX.2.2.2.2
  intro n
  induction n with
  | zero =>
    intro x0 x1 x3 x4 w c y H locs ls hl hW hf
    cases (show (none : Option ((Int32) × va_W × Nat × Nat)) = some q from hf)
  | succ n ih =>
    intro x0 x1 x3 x4 w c y H locs ls hl hW hf
    rw [fOX0_ask_32] at hf
    refine lv_aload_n hx hb dX0_ask_32 rfl (lv_at hl 0 rfl) ?_
    refine lv_iload hx hb dX0_ask_33 (lv_at hl 3 rfl) ?_
    obtain ⟨hv9, hf⟩ := pck_some hf
    refine oc_i hW hf (fun r0 h0 hg => o_V (C := RX0) (As := [.int x4]) (rest := []) (n := 1) FX (mOX0_isOther h0) (cwV 1 FX.2.2.2.2 (lw_V q1459 q1461 qs49 q123 q1462) rfl rfl rfl (by decide +kernel) ⟨Nat.le_of_ble_eq_true rfl, Nat.le_of_ble_eq_true rfl⟩) (o_recv hW rfl hv9) rfl hl.1 rfl (Nat.le_of_ble_eq_true rfl) hg dX0_ask_35 hW) (fun r1 w2 c3 y4 H locs hW hf => ?_)
    refine lv_if_eq (tgt := 68) hx hb dX0_ask_38 (by decide) (fun c38 => ?_) (fun c38 => ?_)
    · have hf := ifp c38 hf
      refine lv_iload_n hx hb dX0_ask_68 rfl (lv_at hl 1 rfl) ?_
      refine lv_if_ne (tgt := 76) hx hb dX0_ask_69 (by decide) (fun c69 => ?_) (fun c69 => ?_)
      · have hf := ifn c69 hf
        refine lv_aload_n hx hb dX0_ask_76 rfl (lv_at hl 0 rfl) ?_
        refine lv_iload_n hx hb dX0_ask_77 rfl (lv_at hl 2 rfl) ?_
        obtain ⟨hv9, hf⟩ := pck_some hf
        refine oc_i hW hf (fun r0 h0 hg => o_V (C := RX0) (As := [.int x3]) (rest := []) (n := 1) FX (mOX0_leftBy h0) (cwV 1 FX.2.2.2.2 (lw_V q1527 q1529 qs52 q123 q1530) rfl rfl rfl (by decide +kernel) ⟨Nat.le_of_ble_eq_true rfl, Nat.le_of_ble_eq_true rfl⟩) (o_recv hW rfl hv9) rfl hl.1 rfl (Nat.le_of_ble_eq_true rfl) hg dX0_ask_78 hW) (fun r5 w6 c7 y8 H locs hW hf => ?_)
        obtain ⟨hg, hf⟩ := gck_some hf
        obtain rfl := Option.some.inj hf
        exact ro_i FX hr hlk hW hg dX0_ask_81
      · have hf := ifp c69 hf
        refine lv_iload_n hx hb dX0_ask_72 rfl (lv_at hl 2 rfl) ?_
        refine lv_goto (tgt := 81) hx hb dX0_ask_73 (by decide) ?_
        obtain ⟨hg, hf⟩ := gck_some hf
        obtain rfl := Option.some.inj hf
        exact ro_i FX hr hlk hW hg dX0_ask_81
    · have hf := ifn c38 hf
      refine lv_aload_n hx hb dX0_ask_41 rfl (lv_at hl 0 rfl) ?_
      refine lv_iload hx hb dX0_ask_42 (lv_at hl 3 rfl) ?_
      obtain ⟨hv9, hf⟩ := pck_some hf
      refine oc_i hW hf (fun r0 h0 hg => o_V (C := RX0) (As := [.int x4]) (rest := []) (n := 1) FX (mOX0_leftBy h0) (cwV 1 FX.2.2.2.2 (lw_V q1527 q1529 qs52 q123 q1530) rfl rfl rfl (by decide +kernel) ⟨Nat.le_of_ble_eq_true rfl, Nat.le_of_ble_eq_true rfl⟩) (o_recv hW rfl hv9) rfl hl.1 rfl (Nat.le_of_ble_eq_true rfl) hg dX0_ask_44 hW) (fun r9 w10 c11 y12 H locs hW hf => ?_)
      refine lv_aload_n hx hb dX0_ask_47 rfl (lv_at hl 0 rfl) ?_
      refine lv_iload_n hx hb dX0_ask_48 rfl (lv_at hl 2 rfl) ?_
      obtain ⟨hv9, hf⟩ := pck_some hf
      refine oc_i hW hf (fun r0 h0 hg => o_V (C := RX0) (As := [.int x3]) (rest := [.int r9]) (n := 1) FX (mOX0_leftBy h0) (cwV 1 FX.2.2.2.2 (lw_V q1527 q1529 qs52 q123 q1530) rfl rfl rfl (by decide +kernel) ⟨Nat.le_of_ble_eq_true rfl, Nat.le_of_ble_eq_true rfl⟩) (o_recv hW rfl hv9) rfl hl.1 rfl (Nat.le_of_ble_eq_true rfl) hg dX0_ask_49 hW) (fun r13 w14 c15 y16 H locs hW hf => ?_)
      refine lv_icmp_ge (tgt := 60) hx hb dX0_ask_52 (by decide) (fun c52 => ?_) (fun c52 => ?_)
      · have hf := ifp c52 hf
        refine lv_iload_n hx hb dX0_ask_60 rfl (lv_at hl 2 rfl) ?_
        refine lv_istore_n (lv' := [(3, .int x3), (0, .ref x0), (1, .int x1), (4, .int x4)]) hx hb dX0_ask_61 rfl hl (by decide) rfl (fun ls hl => ?_)
        refine lv_iinc (v := (x4 + (1 : Int32))) (lv' := [(4, .int (x4 + (1 : Int32))), (3, .int x3), (0, .ref x0), (1, .int x1)]) hx hb dX0_ask_62 hl (k := 3) rfl rfl (by decide) rfl (fun ls hl => ?_)
        refine lv_goto (tgt := 32) hx hb dX0_ask_65 (by decide) ?_
        exact ih x0 x1 x3 (x4 + (1 : Int32)) w14 c15 y16 _ _ _ (lv_sub hl [2, 3, 1, 0] rfl) hW hf
      · have hf := ifn c52 hf
        refine lv_iload hx hb dX0_ask_55 (lv_at hl 3 rfl) ?_
        refine lv_goto (tgt := 61) hx hb dX0_ask_57 (by decide) ?_
        refine lv_istore_n (lv' := [(3, .int x4), (0, .ref x0), (1, .int x1), (4, .int x4)]) hx hb dX0_ask_61 rfl hl (by decide) rfl (fun ls hl => ?_)
        refine lv_iinc (v := (x4 + (1 : Int32))) (lv' := [(4, .int (x4 + (1 : Int32))), (3, .int x4), (0, .ref x0), (1, .int x1)]) hx hb dX0_ask_62 hl (k := 3) rfl rfl (by decide) rfl (fun ls hl => ?_)
        refine lv_goto (tgt := 32) hx hb dX0_ask_65 (by decide) ?_
        exact ih x0 x1 x4 (x4 + (1 : Int32)) w14 c15 y16 _ _ _ (lv_sub hl [2, 3, 1, 0] rfl) hW hf
set_option maxHeartbeats 4000000 in
set_option maxRecDepth 100000 in
theorem mOX0_ask {l : Launch} {D : va_G} {dA : Nat → ClassId} {z : Nat}  {t7 : Nat} {w7 : Int32} {k7 : Int32} {w : va_W} {q : ((Int32) × va_W × Nat × Nat)} (hf : fOX0_ask dA z t7 w7 k7 w = some q) : CtO l yX0_ask cX0_ask 5 (some .int) rOX0_ask D dA [.ref t7, .int w7, .int k7] w z (.inl (some (.int q.1))) q.2.1 q.2.2.1 q.2.2.2 := by
  refine e_O (by decide) (Nat.le_of_ble_eq_true rfl) ?_
  intro p e s m below meth c9 ls A FX hr hlk hnm hout hl hW
  have hx := FX.1; have hb := FX.2.1; have hown := FX.2.2.2.1; have hts := FX.2.2.2.2
  have hl : lv_has ls 5 [(0, .ref t7), (1, .int w7), (2, .int k7)] := hl
  rw [fOX0_ask] at hf
  refine lv_iload_n hx hb dX0_ask_0 rfl (lv_at hl 1 rfl) ?_
  refine lv_iconst (v := 0) hx hb dX0_ask_1 (by decide) ?_
  refine lv_iconst (v := 1) hx hb dX0_ask_2 (by decide) ?_
  refine oc_i hW hf (fun r0 h0 hg => o_S (As := [.int w7, .int (0 : Int32), .int (1 : Int32)]) (rest := []) (n := 3) FX (mOX0_isIn h0) (va_cwS 3 FX.2.2.2.2 (lw_S q1130 q1131 q123 q1132) rfl rfl rfl (by decide +kernel) ⟨Nat.le_of_ble_eq_true rfl, Nat.le_of_ble_eq_true rfl⟩) rfl hl.1 rfl (Nat.le_of_ble_eq_true rfl) hg dX0_ask_3 hW) (fun r1 w2 c3 y4 H locs hW hf => ?_)
  refine lv_if_eq (tgt := 25) hx hb dX0_ask_6 (by decide) (fun c6 => ?_) (fun c6 => ?_)
  · have hf := ifp c6 hf
    refine lv_iconst (v := -1) hx hb dX0_ask_25 (by decide) ?_
    obtain ⟨hg, hf⟩ := gck_some hf
    obtain rfl := Option.some.inj hf
    exact ro_i FX hr hlk hW hg dX0_ask_26
  · have hf := ifn c6 hf
    refine lv_aload_n hx hb dX0_ask_9 rfl (lv_at hl 0 rfl) ?_
    refine lv_iconst (v := 0) hx hb dX0_ask_10 (by decide) ?_
    obtain ⟨hv9, hf⟩ := pck_some hf
    refine oc_i hW hf (fun r0 h0 hg => o_V (C := RX0) (As := [.int (0 : Int32)]) (rest := []) (n := 1) FX (mOX0_isOther h0) (cwV 1 FX.2.2.2.2 (lw_V q1459 q1461 qs49 q123 q1462) rfl rfl rfl (by decide +kernel) ⟨Nat.le_of_ble_eq_true rfl, Nat.le_of_ble_eq_true rfl⟩) (o_recv hW rfl hv9) rfl hl.1 rfl (Nat.le_of_ble_eq_true rfl) hg dX0_ask_11 hW) (fun r5 w6 c7 y8 H locs hW hf => ?_)
    refine lv_if_eq (tgt := 25) hx hb dX0_ask_14 (by decide) (fun c14 => ?_) (fun c14 => ?_)
    · have hf := ifp c14 hf
      refine lv_iconst (v := -1) hx hb dX0_ask_25 (by decide) ?_
      obtain ⟨hg, hf⟩ := gck_some hf
      obtain rfl := Option.some.inj hf
      exact ro_i FX hr hlk hW hg dX0_ask_26
    · have hf := ifn c14 hf
      refine lv_aload_n hx hb dX0_ask_17 rfl (lv_at hl 0 rfl) ?_
      refine lv_iload_n hx hb dX0_ask_18 rfl (lv_at hl 2 rfl) ?_
      obtain ⟨hv9, hf⟩ := pck_some hf
      refine oc_i hW hf (fun r0 h0 hg => o_V (C := RX0) (As := [.int k7]) (rest := []) (n := 1) FX (mOX0_layFits h0) (cwV 1 FX.2.2.2.2 (lw_V q1506 q1508 qs50 q123 q1509) rfl rfl rfl (by decide +kernel) ⟨Nat.le_of_ble_eq_true rfl, Nat.le_of_ble_eq_true rfl⟩) (o_recv hW rfl hv9) rfl hl.1 rfl (Nat.le_of_ble_eq_true rfl) hg dX0_ask_19 hW) (fun r9 w10 c11 y12 H locs hW hf => ?_)
      refine lv_if_ne (tgt := 27) hx hb dX0_ask_22 (by decide) (fun c22 => ?_) (fun c22 => ?_)
      · have hf := ifn c22 hf
        refine lv_iconst (v := 0) hx hb dX0_ask_27 (by decide) ?_
        refine lv_istore_n (lv' := [(3, .int (0 : Int32)), (0, .ref t7), (1, .int w7), (2, .int k7)]) hx hb dX0_ask_28 rfl hl (by decide) rfl (fun ls hl => ?_)
        refine lv_iconst (v := 1) hx hb dX0_ask_29 (by decide) ?_
        refine lv_istore (lv' := [(4, .int (1 : Int32)), (3, .int (0 : Int32)), (0, .ref t7), (1, .int w7), (2, .int k7)]) hx hb dX0_ask_30 hl (by decide) rfl (fun ls hl => ?_)
        exact wOX0_ask_32 FX hr hlk hnm hout _ t7 w7 (0 : Int32) (1 : Int32) w10 c11 y12 _ _ _ (lv_sub hl [2, 3, 1, 0] rfl) hW hf
      · have hf := ifp c22 hf
        refine lv_iconst (v := -1) hx hb dX0_ask_25 (by decide) ?_
        obtain ⟨hg, hf⟩ := gck_some hf
        obtain rfl := Option.some.inj hf
        exact ro_i FX hr hlk hW hg dX0_ask_26
/-! TrunkLitters.about(I)I: kind O -/
abbrev rOX0_about : Room := { frames := 2, cells := 0, slots := 0, locals := 40 }
def fOX0_about (dA : Nat → Nat) (z : Nat) (t7 : Nat) (w7 : Int32) (w : va_W) : Option ((Int32) × va_W × Nat × Nat) := (if w7 = (0 : Int32) then pgR w t7 0 5 fun v1 => pgi w v1 3 8 fun v2 => ocal rOX0_about.cells rOX0_about.slots 0 0 rOJ15_bitCount.cells rOJ15_bitCount.slots (fOJ15_bitCount dA (z + 0) v2 w) fun r3 w4 c5 y6 => gck c5 y6 rOX0_about.cells rOX0_about.slots (some (r3, w4, c5, y6)) else (if w7 = (1 : Int32) then pck w t7 0 (ocal rOX0_about.cells rOX0_about.slots 0 0 rOX0_rooms.cells rOX0_rooms.slots (fOX0_rooms dA (z + 0) t7 w) fun r7 w8 c9 y10 => gck c9 y10 rOX0_about.cells rOX0_about.slots (some (r7, w8, c9, y10))) else (if w7 = (2 : Int32) then pgR w t7 0 5 fun v11 => pgi w v11 3 8 fun v12 => gck 0 0 rOX0_about.cells rOX0_about.slots (some (v12, w, 0, 0)) else (if w7 = (3 : Int32) then pgR w t7 0 5 fun v13 => pgi w v13 3 9 fun v14 => gck 0 0 rOX0_about.cells rOX0_about.slots (some (v14, w, 0, 0)) else (if w7 = (4 : Int32) then pgR w t7 0 5 fun v15 => pgi w v15 3 10 fun v16 => gck 0 0 rOX0_about.cells rOX0_about.slots (some (v16, w, 0, 0)) else (if w7 = (5 : Int32) then pgR w t7 0 5 fun v17 => pgi w v17 3 11 fun v18 => gck 0 0 rOX0_about.cells rOX0_about.slots (some (v18, w, 0, 0)) else (if w7 = (6 : Int32) then pgi w t7 0 10 fun v19 => gck 0 0 rOX0_about.cells rOX0_about.slots (some (v19, w, 0, 0)) else (if w7 = (7 : Int32) then pgi w t7 0 11 fun v20 => gck 0 0 rOX0_about.cells rOX0_about.slots (some (v20, w, 0, 0)) else (if w7 = (8 : Int32) then pgR w t7 0 21 fun v21 => pck w v21 13 (ocal rOX0_about.cells rOX0_about.slots 0 0 rJ2_sizeO.cells rJ2_sizeO.slots (fJ2_sizeO dA (z + 0) v21 w) fun r22 w23 c24 y25 => gck c24 y25 rOX0_about.cells rOX0_about.slots (some (r22, w23, c24, y25))) else (if w7 = (9 : Int32) then pgi w t7 0 8 fun v26 => gck 0 0 rOX0_about.cells rOX0_about.slots (some (v26, w, 0, 0)) else (if w7 = (10 : Int32) then pgi w t7 0 1 fun v27 => gck 0 0 rOX0_about.cells rOX0_about.slots (some (v27, w, 0, 0)) else (if w7 = (11 : Int32) then pgR w t7 0 4 fun v28 => pgi w v28 1 7 fun v29 => gck 0 0 rOX0_about.cells rOX0_about.slots (some (v29, w, 0, 0)) else (if w7 = (12 : Int32) then pgi w t7 0 15 fun v30 => gck 0 0 rOX0_about.cells rOX0_about.slots (some (v30, w, 0, 0)) else (if w7 = (13 : Int32) then pgR w t7 0 4 fun v31 => pgi w v31 1 4 fun v32 => gck 0 0 rOX0_about.cells rOX0_about.slots (some (v32, w, 0, 0)) else (if w7 = (14 : Int32) then pgR w t7 0 4 fun v33 => pgR w v33 1 1 fun v34 => pck w v34 13 (ocal rOX0_about.cells rOX0_about.slots 0 0 rJ2_sizeO.cells rJ2_sizeO.slots (fJ2_sizeO dA (z + 0) v34 w) fun r35 w36 c37 y38 => gck c37 y38 rOX0_about.cells rOX0_about.slots (some (r35, w36, c37, y38))) else gck 0 0 rOX0_about.cells rOX0_about.slots (some ((-1 : Int32), w, 0, 0)))))))))))))))))
set_option maxHeartbeats 4000000 in
set_option maxRecDepth 100000 in
theorem mOX0_about {l : Launch} {D : va_G} {dA : Nat → ClassId} {z : Nat}  {t7 : Nat} {w7 : Int32} {w : va_W} {q : ((Int32) × va_W × Nat × Nat)} (hf : fOX0_about dA z t7 w7 w = some q) : CtO l yX0_about cX0_about 2 (some .int) rOX0_about D dA [.ref t7, .int w7] w z (.inl (some (.int q.1))) q.2.1 q.2.2.1 q.2.2.2 := by
  refine e_O (by decide) (Nat.le_of_ble_eq_true rfl) ?_
  intro p e s m below meth c9 ls A FX hr hlk hnm hout hl hW
  have hx := FX.1; have hb := FX.2.1; have hown := FX.2.2.2.1; have hts := FX.2.2.2.2
  have hl : lv_has ls 2 [(0, .ref t7), (1, .int w7)] := hl
  rw [fOX0_about] at hf
  refine lv_iload_n hx hb dX0_about_0 rfl (lv_at hl 1 rfl) ?_
  by_cases c1_0 : w7 = (0 : Int32)
  · have hf := ifp c1_0 hf
    refine g_tabC (tgt := 76) FX (0 : Int32) c1_0 (by decide) (by decide) rfl (by decide) dX0_about_1 ?_
    refine lv_aload_n hx hb dX0_about_76 rfl (lv_at hl 0 rfl) ?_
    refine og_R (C := RX0) (T := TX0) (N := 26) (ci := 0) FX hW in_X0 rfl 5 (by decide) q371 (fun _ h => h) hf dX0_about_77 (fun v1 hf => ?_)
    refine og_i (C := RX3) (T := TX3) (N := 14) (ci := 3) FX hW in_X3 rfl 8 (by decide) q288 (fun _ h => h) hf dX0_about_80 (fun v2 hf => ?_)
    refine oc_i hW hf (fun r0 h0 hg => o_S (As := [.int v2]) (rest := []) (n := 1) FX (mOJ15_bitCount h0) (va_cwS 1 FX.2.2.2.2 (lw_S q1168 q1169 q154 q1170) rfl rfl rfl (by decide +kernel) ⟨Nat.le_of_ble_eq_true rfl, Nat.le_of_ble_eq_true rfl⟩) rfl hl.1 rfl (Nat.le_of_ble_eq_true rfl) hg dX0_about_83 hW) (fun r3 w4 c5 y6 H locs hW hf => ?_)
    obtain ⟨hg, hf⟩ := gck_some hf
    obtain rfl := Option.some.inj hf
    exact ro_i FX hr hlk hW hg dX0_about_86
  have hf := ifn c1_0 hf
  by_cases c1_1 : w7 = (1 : Int32)
  · have hf := ifp c1_1 hf
    refine g_tabC (tgt := 87) FX (1 : Int32) c1_1 (by decide) (by decide) rfl (by decide) dX0_about_1 ?_
    refine lv_aload_n hx hb dX0_about_87 rfl (lv_at hl 0 rfl) ?_
    obtain ⟨hv9, hf⟩ := pck_some hf
    refine oc_i hW hf (fun r0 h0 hg => o_V (C := RX0) (As := []) (rest := []) (n := 0) FX (mOX0_rooms h0) (cwV 0 FX.2.2.2.2 (lw_V q1126 q1128 qs33 q123 q1129) rfl rfl rfl (by decide +kernel) ⟨Nat.le_of_ble_eq_true rfl, Nat.le_of_ble_eq_true rfl⟩) (o_recv hW rfl hv9) rfl hl.1 rfl (Nat.le_of_ble_eq_true rfl) hg dX0_about_88 hW) (fun r7 w8 c9 y10 H locs hW hf => ?_)
    obtain ⟨hg, hf⟩ := gck_some hf
    obtain rfl := Option.some.inj hf
    exact ro_i FX hr hlk hW hg dX0_about_91
  have hf := ifn c1_1 hf
  by_cases c1_2 : w7 = (2 : Int32)
  · have hf := ifp c1_2 hf
    refine g_tabC (tgt := 92) FX (2 : Int32) c1_2 (by decide) (by decide) rfl (by decide) dX0_about_1 ?_
    refine lv_aload_n hx hb dX0_about_92 rfl (lv_at hl 0 rfl) ?_
    refine og_R (C := RX0) (T := TX0) (N := 26) (ci := 0) FX hW in_X0 rfl 5 (by decide) q371 (fun _ h => h) hf dX0_about_93 (fun v11 hf => ?_)
    refine og_i (C := RX3) (T := TX3) (N := 14) (ci := 3) FX hW in_X3 rfl 8 (by decide) q288 (fun _ h => h) hf dX0_about_96 (fun v12 hf => ?_)
    obtain ⟨hg, hf⟩ := gck_some hf
    obtain rfl := Option.some.inj hf
    exact ro_i FX hr hlk hW hg dX0_about_99
  have hf := ifn c1_2 hf
  by_cases c1_3 : w7 = (3 : Int32)
  · have hf := ifp c1_3 hf
    refine g_tabC (tgt := 100) FX (3 : Int32) c1_3 (by decide) (by decide) rfl (by decide) dX0_about_1 ?_
    refine lv_aload_n hx hb dX0_about_100 rfl (lv_at hl 0 rfl) ?_
    refine og_R (C := RX0) (T := TX0) (N := 26) (ci := 0) FX hW in_X0 rfl 5 (by decide) q371 (fun _ h => h) hf dX0_about_101 (fun v13 hf => ?_)
    refine og_i (C := RX3) (T := TX3) (N := 14) (ci := 3) FX hW in_X3 rfl 9 (by decide) q290 (fun _ h => h) hf dX0_about_104 (fun v14 hf => ?_)
    obtain ⟨hg, hf⟩ := gck_some hf
    obtain rfl := Option.some.inj hf
    exact ro_i FX hr hlk hW hg dX0_about_107
  have hf := ifn c1_3 hf
  by_cases c1_4 : w7 = (4 : Int32)
  · have hf := ifp c1_4 hf
    refine g_tabC (tgt := 108) FX (4 : Int32) c1_4 (by decide) (by decide) rfl (by decide) dX0_about_1 ?_
    refine lv_aload_n hx hb dX0_about_108 rfl (lv_at hl 0 rfl) ?_
    refine og_R (C := RX0) (T := TX0) (N := 26) (ci := 0) FX hW in_X0 rfl 5 (by decide) q371 (fun _ h => h) hf dX0_about_109 (fun v15 hf => ?_)
    refine og_i (C := RX3) (T := TX3) (N := 14) (ci := 3) FX hW in_X3 rfl 10 (by decide) q292 (fun _ h => h) hf dX0_about_112 (fun v16 hf => ?_)
    obtain ⟨hg, hf⟩ := gck_some hf
    obtain rfl := Option.some.inj hf
    exact ro_i FX hr hlk hW hg dX0_about_115
  have hf := ifn c1_4 hf
  by_cases c1_5 : w7 = (5 : Int32)
  · have hf := ifp c1_5 hf
    refine g_tabC (tgt := 116) FX (5 : Int32) c1_5 (by decide) (by decide) rfl (by decide) dX0_about_1 ?_
    refine lv_aload_n hx hb dX0_about_116 rfl (lv_at hl 0 rfl) ?_
    refine og_R (C := RX0) (T := TX0) (N := 26) (ci := 0) FX hW in_X0 rfl 5 (by decide) q371 (fun _ h => h) hf dX0_about_117 (fun v17 hf => ?_)
    refine og_i (C := RX3) (T := TX3) (N := 14) (ci := 3) FX hW in_X3 rfl 11 (by decide) q294 (fun _ h => h) hf dX0_about_120 (fun v18 hf => ?_)
    obtain ⟨hg, hf⟩ := gck_some hf
    obtain rfl := Option.some.inj hf
    exact ro_i FX hr hlk hW hg dX0_about_123
  have hf := ifn c1_5 hf
  by_cases c1_6 : w7 = (6 : Int32)
  · have hf := ifp c1_6 hf
    refine g_tabC (tgt := 124) FX (6 : Int32) c1_6 (by decide) (by decide) rfl (by decide) dX0_about_1 ?_
    refine lv_aload_n hx hb dX0_about_124 rfl (lv_at hl 0 rfl) ?_
    refine og_i (C := RX0) (T := TX0) (N := 26) (ci := 0) FX hW in_X0 rfl 10 (by decide) q377 (fun _ h => h) hf dX0_about_125 (fun v19 hf => ?_)
    obtain ⟨hg, hf⟩ := gck_some hf
    obtain rfl := Option.some.inj hf
    exact ro_i FX hr hlk hW hg dX0_about_128
  have hf := ifn c1_6 hf
  by_cases c1_7 : w7 = (7 : Int32)
  · have hf := ifp c1_7 hf
    refine g_tabC (tgt := 129) FX (7 : Int32) c1_7 (by decide) (by decide) rfl (by decide) dX0_about_1 ?_
    refine lv_aload_n hx hb dX0_about_129 rfl (lv_at hl 0 rfl) ?_
    refine og_i (C := RX0) (T := TX0) (N := 26) (ci := 0) FX hW in_X0 rfl 11 (by decide) q378 (fun _ h => h) hf dX0_about_130 (fun v20 hf => ?_)
    obtain ⟨hg, hf⟩ := gck_some hf
    obtain rfl := Option.some.inj hf
    exact ro_i FX hr hlk hW hg dX0_about_133
  have hf := ifn c1_7 hf
  by_cases c1_8 : w7 = (8 : Int32)
  · have hf := ifp c1_8 hf
    refine g_tabC (tgt := 134) FX (8 : Int32) c1_8 (by decide) (by decide) rfl (by decide) dX0_about_1 ?_
    refine lv_aload_n hx hb dX0_about_134 rfl (lv_at hl 0 rfl) ?_
    refine og_R (C := RX0) (T := TX0) (N := 26) (ci := 0) FX hW in_X0 rfl 21 (by decide) q388 (fun _ h => h) hf dX0_about_135 (fun v21 hf => ?_)
    obtain ⟨hv9, hf⟩ := pck_some hf
    refine oc_i hW hf (fun r0 h0 hg => o_V (C := RJ2) (As := []) (rest := []) (n := 0) FX (mJ2_sizeO h0) (cwV 0 FX.2.2.2.2 (lw_V q892 q333 q334 q127 q335) rfl rfl rfl (by decide +kernel) ⟨Nat.le_of_ble_eq_true rfl, Nat.le_of_ble_eq_true rfl⟩) (o_recv hW rfl hv9) rfl hl.1 rfl (Nat.le_of_ble_eq_true rfl) hg dX0_about_138 hW) (fun r22 w23 c24 y25 H locs hW hf => ?_)
    obtain ⟨hg, hf⟩ := gck_some hf
    obtain rfl := Option.some.inj hf
    exact ro_i FX hr hlk hW hg dX0_about_141
  have hf := ifn c1_8 hf
  by_cases c1_9 : w7 = (9 : Int32)
  · have hf := ifp c1_9 hf
    refine g_tabC (tgt := 142) FX (9 : Int32) c1_9 (by decide) (by decide) rfl (by decide) dX0_about_1 ?_
    refine lv_aload_n hx hb dX0_about_142 rfl (lv_at hl 0 rfl) ?_
    refine og_i (C := RX0) (T := TX0) (N := 26) (ci := 0) FX hW in_X0 rfl 8 (by decide) q375 (fun _ h => h) hf dX0_about_143 (fun v26 hf => ?_)
    obtain ⟨hg, hf⟩ := gck_some hf
    obtain rfl := Option.some.inj hf
    exact ro_i FX hr hlk hW hg dX0_about_146
  have hf := ifn c1_9 hf
  by_cases c1_10 : w7 = (10 : Int32)
  · have hf := ifp c1_10 hf
    refine g_tabC (tgt := 147) FX (10 : Int32) c1_10 (by decide) (by decide) rfl (by decide) dX0_about_1 ?_
    refine lv_aload_n hx hb dX0_about_147 rfl (lv_at hl 0 rfl) ?_
    refine og_i (C := RX0) (T := TX0) (N := 26) (ci := 0) FX hW in_X0 rfl 1 (by decide) q367 (fun _ h => h) hf dX0_about_148 (fun v27 hf => ?_)
    obtain ⟨hg, hf⟩ := gck_some hf
    obtain rfl := Option.some.inj hf
    exact ro_i FX hr hlk hW hg dX0_about_151
  have hf := ifn c1_10 hf
  by_cases c1_11 : w7 = (11 : Int32)
  · have hf := ifp c1_11 hf
    refine g_tabC (tgt := 152) FX (11 : Int32) c1_11 (by decide) (by decide) rfl (by decide) dX0_about_1 ?_
    refine lv_aload_n hx hb dX0_about_152 rfl (lv_at hl 0 rfl) ?_
    refine og_R (C := RX0) (T := TX0) (N := 26) (ci := 0) FX hW in_X0 rfl 4 (by decide) q370 (fun _ h => h) hf dX0_about_153 (fun v28 hf => ?_)
    refine og_i (C := RX1) (T := TX1) (N := 8) (ci := 1) FX hW in_X1 rfl 7 (by decide) q247 (fun _ h => h) hf dX0_about_156 (fun v29 hf => ?_)
    obtain ⟨hg, hf⟩ := gck_some hf
    obtain rfl := Option.some.inj hf
    exact ro_i FX hr hlk hW hg dX0_about_159
  have hf := ifn c1_11 hf
  by_cases c1_12 : w7 = (12 : Int32)
  · have hf := ifp c1_12 hf
    refine g_tabC (tgt := 160) FX (12 : Int32) c1_12 (by decide) (by decide) rfl (by decide) dX0_about_1 ?_
    refine lv_aload_n hx hb dX0_about_160 rfl (lv_at hl 0 rfl) ?_
    refine og_i (C := RX0) (T := TX0) (N := 26) (ci := 0) FX hW in_X0 rfl 15 (by decide) q382 (fun _ h => h) hf dX0_about_161 (fun v30 hf => ?_)
    obtain ⟨hg, hf⟩ := gck_some hf
    obtain rfl := Option.some.inj hf
    exact ro_i FX hr hlk hW hg dX0_about_164
  have hf := ifn c1_12 hf
  by_cases c1_13 : w7 = (13 : Int32)
  · have hf := ifp c1_13 hf
    refine g_tabC (tgt := 165) FX (13 : Int32) c1_13 (by decide) (by decide) rfl (by decide) dX0_about_1 ?_
    refine lv_aload_n hx hb dX0_about_165 rfl (lv_at hl 0 rfl) ?_
    refine og_R (C := RX0) (T := TX0) (N := 26) (ci := 0) FX hW in_X0 rfl 4 (by decide) q370 (fun _ h => h) hf dX0_about_166 (fun v31 hf => ?_)
    refine og_i (C := RX1) (T := TX1) (N := 8) (ci := 1) FX hW in_X1 rfl 4 (by decide) q241 (fun _ h => h) hf dX0_about_169 (fun v32 hf => ?_)
    obtain ⟨hg, hf⟩ := gck_some hf
    obtain rfl := Option.some.inj hf
    exact ro_i FX hr hlk hW hg dX0_about_172
  have hf := ifn c1_13 hf
  by_cases c1_14 : w7 = (14 : Int32)
  · have hf := ifp c1_14 hf
    refine g_tabC (tgt := 173) FX (14 : Int32) c1_14 (by decide) (by decide) rfl (by decide) dX0_about_1 ?_
    refine lv_aload_n hx hb dX0_about_173 rfl (lv_at hl 0 rfl) ?_
    refine og_R (C := RX0) (T := TX0) (N := 26) (ci := 0) FX hW in_X0 rfl 4 (by decide) q370 (fun _ h => h) hf dX0_about_174 (fun v33 hf => ?_)
    refine og_R (C := RX1) (T := TX1) (N := 8) (ci := 1) FX hW in_X1 rfl 1 (by decide) q232 (fun _ h => h) hf dX0_about_177 (fun v34 hf => ?_)
    obtain ⟨hv9, hf⟩ := pck_some hf
    refine oc_i hW hf (fun r0 h0 hg => o_V (C := RJ2) (As := []) (rest := []) (n := 0) FX (mJ2_sizeO h0) (cwV 0 FX.2.2.2.2 (lw_V q892 q333 q334 q127 q335) rfl rfl rfl (by decide +kernel) ⟨Nat.le_of_ble_eq_true rfl, Nat.le_of_ble_eq_true rfl⟩) (o_recv hW rfl hv9) rfl hl.1 rfl (Nat.le_of_ble_eq_true rfl) hg dX0_about_180 hW) (fun r35 w36 c37 y38 H locs hW hf => ?_)
    obtain ⟨hg, hf⟩ := gck_some hf
    obtain rfl := Option.some.inj hf
    exact ro_i FX hr hlk hW hg dX0_about_183
  have hf := ifn c1_14 hf
  have n1_0 := lv_neT (a := 0) c1_0 (by decide)
  have n1_1 := lv_neT (a := 1) c1_1 (by decide)
  have n1_2 := lv_neT (a := 2) c1_2 (by decide)
  have n1_3 := lv_neT (a := 3) c1_3 (by decide)
  have n1_4 := lv_neT (a := 4) c1_4 (by decide)
  have n1_5 := lv_neT (a := 5) c1_5 (by decide)
  have n1_6 := lv_neT (a := 6) c1_6 (by decide)
  have n1_7 := lv_neT (a := 7) c1_7 (by decide)
  have n1_8 := lv_neT (a := 8) c1_8 (by decide)
  have n1_9 := lv_neT (a := 9) c1_9 (by decide)
  have n1_10 := lv_neT (a := 10) c1_10 (by decide)
  have n1_11 := lv_neT (a := 11) c1_11 (by decide)
  have n1_12 := lv_neT (a := 12) c1_12 (by decide)
  have n1_13 := lv_neT (a := 13) c1_13 (by decide)
  have n1_14 := lv_neT (a := 14) c1_14 (by decide)
  refine lv_tableOut (tgt := 184) hx hb dX0_about_1 (by omega) (by decide) ?_
  refine lv_iconst (v := -1) hx hb dX0_about_184 (by decide) ?_
  obtain ⟨hg, hf⟩ := gck_some hf
  obtain rfl := Option.some.inj hf
  exact ro_i FX hr hlk hW hg dX0_about_185
