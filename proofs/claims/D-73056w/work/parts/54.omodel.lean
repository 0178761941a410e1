/-! TrunkLittersModel.clearBank()V: kind O -/
abbrev rOX4_clearBank : Room := { frames := 0, cells := 0, slots := 0, locals := 0 }
def fOX4_clearBank (dA : Nat → Nat) (z : Nat) (t7 : Nat) (w : va_W) : Option ((Unit) × va_W × Nat × Nat) := pgR w t7 4 11 fun v1 => pgi w t7 4 33 fun v2 => hast w (dA 0) v1 v2 (0 : Int32) fun w3 => pgR w3 t7 4 12 fun v4 => pgi w3 t7 4 33 fun v5 => hast w3 (dA 0) v4 v5 (0 : Int32) fun w6 => pgR w6 t7 4 13 fun v7 => pgi w6 t7 4 33 fun v8 => hast w6 (dA 0) v7 v8 (0 : Int32) fun w9 => pgR w9 t7 4 14 fun v10 => pgi w9 t7 4 33 fun v11 => hast w9 (dA 0) v10 v11 (3 : Int32) fun w12 => pgR w12 t7 4 15 fun v13 => pgi w12 t7 4 33 fun v14 => hast w12 (dA 0) v13 v14 (0 : Int32) fun w15 => pgR w15 t7 4 16 fun v16 => pgi w15 t7 4 33 fun v17 => hast w15 (dA 0) v16 v17 (0 : Int32) fun w18 => pgR w18 t7 4 17 fun v19 => pgi w18 t7 4 33 fun v20 => hast w18 (dA 0) v19 v20 (0 : Int32) fun w21 => pgi w21 t7 4 33 fun v22 => ppt w21 t7 4 34 (.int ((560 : Int32) * v22)) fun w23 => gck 0 0 rOX4_clearBank.cells rOX4_clearBank.slots (some ((), w23, 0, 0))
set_option maxHeartbeats 4000000 in
set_option maxRecDepth 100000 in
theorem mOX4_clearBank {l : Launch} {D : va_G} {dA : Nat → ClassId} {z : Nat}  {t7 : Nat} {w : va_W} {q : ((Unit) × va_W × Nat × Nat)} (hf : fOX4_clearBank dA z t7 w = some q) : CtO l yX4_clearBank cX4_clearBank 1 none rOX4_clearBank D dA [.ref t7] w z (.inl none) q.2.1 q.2.2.1 q.2.2.2 := by
  refine e_O (by decide) (Nat.le_of_ble_eq_true rfl) ?_
  intro p e s m below meth c9 ls A FX hr hlk hnm hout hl hW
  have hx := FX.1; have hb := FX.2.1; have hown := FX.2.2.2.1; have hts := FX.2.2.2.2
  have hl : lv_has ls 1 [(0, .ref t7)] := hl
  rw [fOX4_clearBank] at hf
  refine lv_aload_n hx hb dX4_clearBank_0 rfl (lv_at hl 0 rfl) ?_
  refine og_R (C := RX4) (T := TX4) (N := 60) (ci := 4) FX hW in_X4 rfl 11 (by decide) q1576 (fun _ h => h) hf dX4_clearBank_1 (fun v1 hf => ?_)
  refine lv_aload_n hx hb dX4_clearBank_4 rfl (lv_at hl 0 rfl) ?_
  refine og_i (C := RX4) (T := TX4) (N := 60) (ci := 4) FX hW in_X4 rfl 33 (by decide) q1598 (fun _ h => h) hf dX4_clearBank_5 (fun v2 hf => ?_)
  refine lv_iconst (v := 0) hx hb dX4_clearBank_8 (by decide) ?_
  refine op_iast FX hW hf dX4_clearBank_9 (fun w3 H locs hW hf => ?_)
  refine lv_aload_n hx hb dX4_clearBank_10 rfl (lv_at hl 0 rfl) ?_
  refine og_R (C := RX4) (T := TX4) (N := 60) (ci := 4) FX hW in_X4 rfl 12 (by decide) q1577 (fun _ h => h) hf dX4_clearBank_11 (fun v4 hf => ?_)
  refine lv_aload_n hx hb dX4_clearBank_14 rfl (lv_at hl 0 rfl) ?_
  refine og_i (C := RX4) (T := TX4) (N := 60) (ci := 4) FX hW in_X4 rfl 33 (by decide) q1598 (fun _ h => h) hf dX4_clearBank_15 (fun v5 hf => ?_)
  refine lv_iconst (v := 0) hx hb dX4_clearBank_18 (by decide) ?_
  refine op_iast FX hW hf dX4_clearBank_19 (fun w6 H locs hW hf => ?_)
  refine lv_aload_n hx hb dX4_clearBank_20 rfl (lv_at hl 0 rfl) ?_
  refine og_R (C := RX4) (T := TX4) (N := 60) (ci := 4) FX hW in_X4 rfl 13 (by decide) q1578 (fun _ h => h) hf dX4_clearBank_21 (fun v7 hf => ?_)
  refine lv_aload_n hx hb dX4_clearBank_24 rfl (lv_at hl 0 rfl) ?_
  refine og_i (C := RX4) (T := TX4) (N := 60) (ci := 4) FX hW in_X4 rfl 33 (by decide) q1598 (fun _ h => h) hf dX4_clearBank_25 (fun v8 hf => ?_)
  refine lv_iconst (v := 0) hx hb dX4_clearBank_28 (by decide) ?_
  refine op_iast FX hW hf dX4_clearBank_29 (fun w9 H locs hW hf => ?_)
  refine lv_aload_n hx hb dX4_clearBank_30 rfl (lv_at hl 0 rfl) ?_
  refine og_R (C := RX4) (T := TX4) (N := 60) (ci := 4) FX hW in_X4 rfl 14 (by decide) q1579 (fun _ h => h) hf dX4_clearBank_31 (fun v10 hf => ?_)
  refine lv_aload_n hx hb dX4_clearBank_34 rfl (lv_at hl 0 rfl) ?_
  refine og_i (C := RX4) (T := TX4) (N := 60) (ci := 4) FX hW in_X4 rfl 33 (by decide) q1598 (fun _ h => h) hf dX4_clearBank_35 (fun v11 hf => ?_)
  refine lv_iconst (v := 3) hx hb dX4_clearBank_38 (by decide) ?_
  refine op_iast FX hW hf dX4_clearBank_39 (fun w12 H locs hW hf => ?_)
  refine lv_aload_n hx hb dX4_clearBank_40 rfl (lv_at hl 0 rfl) ?_
  refine og_R (C := RX4) (T := TX4) (N := 60) (ci := 4) FX hW in_X4 rfl 15 (by decide) q1580 (fun _ h => h) hf dX4_clearBank_41 (fun v13 hf => ?_)
  refine lv_aload_n hx hb dX4_clearBank_44 rfl (lv_at hl 0 rfl) ?_
  refine og_i (C := RX4) (T := TX4) (N := 60) (ci := 4) FX hW in_X4 rfl 33 (by decide) q1598 (fun _ h => h) hf dX4_clearBank_45 (fun v14 hf => ?_)
  refine lv_iconst (v := 0) hx hb dX4_clearBank_48 (by decide) ?_
  refine op_iast FX hW hf dX4_clearBank_49 (fun w15 H locs hW hf => ?_)
  refine lv_aload_n hx hb dX4_clearBank_50 rfl (lv_at hl 0 rfl) ?_
  refine og_R (C := RX4) (T := TX4) (N := 60) (ci := 4) FX hW in_X4 rfl 16 (by decide) q1581 (fun _ h => h) hf dX4_clearBank_51 (fun v16 hf => ?_)
  refine lv_aload_n hx hb dX4_clearBank_54 rfl (lv_at hl 0 rfl) ?_
  refine og_i (C := RX4) (T := TX4) (N := 60) (ci := 4) FX hW in_X4 rfl 33 (by decide) q1598 (fun _ h => h) hf dX4_clearBank_55 (fun v17 hf => ?_)
  refine lv_iconst (v := 0) hx hb dX4_clearBank_58 (by decide) ?_
  refine op_iast FX hW hf dX4_clearBank_59 (fun w18 H locs hW hf => ?_)
  refine lv_aload_n hx hb dX4_clearBank_60 rfl (lv_at hl 0 rfl) ?_
  refine og_R (C := RX4) (T := TX4) (N := 60) (ci := 4) FX hW in_X4 rfl 17 (by decide) q1582 (fun _ h => h) hf dX4_clearBank_61 (fun v19 hf => ?_)
  refine lv_aload_n hx hb dX4_clearBank_64 rfl (lv_at hl 0 rfl) ?_
  refine og_i (C := RX4) (T := TX4) (N := 60) (ci := 4) FX hW in_X4 rfl 33 (by decide) q1598 (fun _ h => h) hf dX4_clearBank_65 (fun v20 hf => ?_)
  refine lv_iconst (v := 0) hx hb dX4_clearBank_68 (by decide) ?_
  refine op_iast FX hW hf dX4_clearBank_69 (fun w21 H locs hW hf => ?_)
  refine lv_aload_n hx hb dX4_clearBank_70 rfl (lv_at hl 0 rfl) ?_
  refine lv_sipush (v := 560) hx hb dX4_clearBank_71 (by decide) ?_
  refine lv_aload_n hx hb dX4_clearBank_74 rfl (lv_at hl 0 rfl) ?_
  refine og_i (C := RX4) (T := TX4) (N := 60) (ci := 4) FX hW in_X4 rfl 33 (by decide) q1598 (fun _ h => h) hf dX4_clearBank_75 (fun v22 hf => ?_)
  refine lv_imul hx hb dX4_clearBank_78 ?_
  refine op_put (C := RX4) (T := TX4) (N := 60) (ci := 4) (ty := .int) FX hW in_X4 tyX4 tyX4_ok nmX4 rfl 34 (by decide) q1599 (fun _ h => h) rfl (by decide +kernel) rfl rfl hf dX4_clearBank_79 (fun w23 H locs hW hf => ?_)
  obtain ⟨hg, hf⟩ := gck_some hf
  obtain rfl := Option.some.inj hf
  exact ro_v FX hr hlk hW hg dX4_clearBank_82
/-! TrunkLittersModel.clearPlace(I)V: kind O -/
abbrev rOX4_clearPlace : Room := { frames := 0, cells := 0, slots := 0, locals := 0 }
def fOX4_clearPlace (dA : Nat → Nat) (z : Nat) (t7 : Nat) (k7 : Int32) (w : va_W) : Option ((Unit) × va_W × Nat × Nat) := pgR w t7 4 40 fun v1 => hast w (dA 0) v1 ((0 : Int32) + k7) (0 : Int32) fun w2 => pgR w2 t7 4 40 fun v3 => hast w2 (dA 0) v3 ((8 : Int32) + k7) (0 : Int32) fun w4 => pgR w4 t7 4 40 fun v5 => hast w4 (dA 0) v5 ((16 : Int32) + k7) (0 : Int32) fun w6 => pgR w6 t7 4 40 fun v7 => hast w6 (dA 0) v7 ((24 : Int32) + k7) (0 : Int32) fun w8 => pgR w8 t7 4 40 fun v9 => hast w8 (dA 0) v9 ((32 : Int32) + k7) (0 : Int32) fun w10 => pgR w10 t7 4 40 fun v11 => hast w10 (dA 0) v11 ((40 : Int32) + k7) (-1 : Int32) fun w12 => pgR w12 t7 4 40 fun v13 => hast w12 (dA 0) v13 ((48 : Int32) + k7) (-1 : Int32) fun w14 => gck 0 0 rOX4_clearPlace.cells rOX4_clearPlace.slots (some ((), w14, 0, 0))
set_option maxHeartbeats 4000000 in
set_option maxRecDepth 100000 in
theorem mOX4_clearPlace {l : Launch} {D : va_G} {dA : Nat → ClassId} {z : Nat}  {t7 : Nat} {k7 : Int32} {w : va_W} {q : ((Unit) × va_W × Nat × Nat)} (hf : fOX4_clearPlace dA z t7 k7 w = some q) : CtO l yX4_clearPlace cX4_clearPlace 2 none rOX4_clearPlace D dA [.ref t7, .int k7] w z (.inl none) q.2.1 q.2.2.1 q.2.2.2 := by
  refine e_O (by decide) (Nat.le_of_ble_eq_true rfl) ?_
  intro p e s m below meth c9 ls A FX hr hlk hnm hout hl hW
  have hx := FX.1; have hb := FX.2.1; have hown := FX.2.2.2.1; have hts := FX.2.2.2.2
  have hl : lv_has ls 2 [(0, .ref t7), (1, .int k7)] := hl
  rw [fOX4_clearPlace] at hf
  refine lv_aload_n hx hb dX4_clearPlace_0 rfl (lv_at hl 0 rfl) ?_
  refine og_R (C := RX4) (T := TX4) (N := 60) (ci := 4) FX hW in_X4 rfl 40 (by decide) q1605 (fun _ h => h) hf dX4_clearPlace_1 (fun v1 hf => ?_)
  refine lv_iconst (v := 0) hx hb dX4_clearPlace_4 (by decide) ?_
  refine lv_iload_n hx hb dX4_clearPlace_5 rfl (lv_at hl 1 rfl) ?_
  refine lv_iadd hx hb dX4_clearPlace_6 ?_
  refine lv_iconst (v := 0) hx hb dX4_clearPlace_7 (by decide) ?_
  refine op_iast FX hW hf dX4_clearPlace_8 (fun w2 H locs hW hf => ?_)
  refine lv_aload_n hx hb dX4_clearPlace_9 rfl (lv_at hl 0 rfl) ?_
  refine og_R (C := RX4) (T := TX4) (N := 60) (ci := 4) FX hW in_X4 rfl 40 (by decide) q1605 (fun _ h => h) hf dX4_clearPlace_10 (fun v3 hf => ?_)
  refine lv_bipush (v := 8) hx hb dX4_clearPlace_13 (by decide) ?_
  refine lv_iload_n hx hb dX4_clearPlace_15 rfl (lv_at hl 1 rfl) ?_
  refine lv_iadd hx hb dX4_clearPlace_16 ?_
  refine lv_iconst (v := 0) hx hb dX4_clearPlace_17 (by decide) ?_
  refine op_iast FX hW hf dX4_clearPlace_18 (fun w4 H locs hW hf => ?_)
  refine lv_aload_n hx hb dX4_clearPlace_19 rfl (lv_at hl 0 rfl) ?_
  refine og_R (C := RX4) (T := TX4) (N := 60) (ci := 4) FX hW in_X4 rfl 40 (by decide) q1605 (fun _ h => h) hf dX4_clearPlace_20 (fun v5 hf => ?_)
  refine lv_bipush (v := 16) hx hb dX4_clearPlace_23 (by decide) ?_
  refine lv_iload_n hx hb dX4_clearPlace_25 rfl (lv_at hl 1 rfl) ?_
  refine lv_iadd hx hb dX4_clearPlace_26 ?_
  refine lv_iconst (v := 0) hx hb dX4_clearPlace_27 (by decide) ?_
  refine op_iast FX hW hf dX4_clearPlace_28 (fun w6 H locs hW hf => ?_)
  refine lv_aload_n hx hb dX4_clearPlace_29 rfl (lv_at hl 0 rfl) ?_
  refine og_R (C := RX4) (T := TX4) (N := 60) (ci := 4) FX hW in_X4 rfl 40 (by decide) q1605 (fun _ h => h) hf dX4_clearPlace_30 (fun v7 hf => ?_)
  refine lv_bipush (v := 24) hx hb dX4_clearPlace_33 (by decide) ?_
  refine lv_iload_n hx hb dX4_clearPlace_35 rfl (lv_at hl 1 rfl) ?_
  refine lv_iadd hx hb dX4_clearPlace_36 ?_
  refine lv_iconst (v := 0) hx hb dX4_clearPlace_37 (by decide) ?_
  refine op_iast FX hW hf dX4_clearPlace_38 (fun w8 H locs hW hf => ?_)
  refine lv_aload_n hx hb dX4_clearPlace_39 rfl (lv_at hl 0 rfl) ?_
  refine og_R (C := RX4) (T := TX4) (N := 60) (ci := 4) FX hW in_X4 rfl 40 (by decide) q1605 (fun _ h => h) hf dX4_clearPlace_40 (fun v9 hf => ?_)
  refine lv_bipush (v := 32) hx hb dX4_clearPlace_43 (by decide) ?_
  refine lv_iload_n hx hb dX4_clearPlace_45 rfl (lv_at hl 1 rfl) ?_
  refine lv_iadd hx hb dX4_clearPlace_46 ?_
  refine lv_iconst (v := 0) hx hb dX4_clearPlace_47 (by decide) ?_
  refine op_iast FX hW hf dX4_clearPlace_48 (fun w10 H locs hW hf => ?_)
  refine lv_aload_n hx hb dX4_clearPlace_49 rfl (lv_at hl 0 rfl) ?_
  refine og_R (C := RX4) (T := TX4) (N := 60) (ci := 4) FX hW in_X4 rfl 40 (by decide) q1605 (fun _ h => h) hf dX4_clearPlace_50 (fun v11 hf => ?_)
  refine lv_bipush (v := 40) hx hb dX4_clearPlace_53 (by decide) ?_
  refine lv_iload_n hx hb dX4_clearPlace_55 rfl (lv_at hl 1 rfl) ?_
  refine lv_iadd hx hb dX4_clearPlace_56 ?_
  refine lv_iconst (v := -1) hx hb dX4_clearPlace_57 (by decide) ?_
  refine op_iast FX hW hf dX4_clearPlace_58 (fun w12 H locs hW hf => ?_)
  refine lv_aload_n hx hb dX4_clearPlace_59 rfl (lv_at hl 0 rfl) ?_
  refine og_R (C := RX4) (T := TX4) (N := 60) (ci := 4) FX hW in_X4 rfl 40 (by decide) q1605 (fun _ h => h) hf dX4_clearPlace_60 (fun v13 hf => ?_)
  refine lv_bipush (v := 48) hx hb dX4_clearPlace_63 (by decide) ?_
  refine lv_iload_n hx hb dX4_clearPlace_65 rfl (lv_at hl 1 rfl) ?_
  refine lv_iadd hx hb dX4_clearPlace_66 ?_
  refine lv_iconst (v := -1) hx hb dX4_clearPlace_67 (by decide) ?_
  refine op_iast FX hW hf dX4_clearPlace_68 (fun w14 H locs hW hf => ?_)
  obtain ⟨hg, hf⟩ := gck_some hf
  obtain rfl := Option.some.inj hf
  exact ro_v FX hr hlk hW hg dX4_clearPlace_69
/-! TrunkLittersModel.startAnew()V: kind O -/
abbrev rOX4_startAnew : Room := { frames := 1, cells := 0, slots := 0, locals := 21 }
def fOX4_startAnew_184 (dA : Nat → Nat) (z : Nat) : Nat → Nat → Int32 → va_W → Nat → Nat → Option ((Unit) × va_W × Nat × Nat)
  | 0, _, _, _, _, _ => none
  | n + 1, x0, x1, w, c, y => (if (3 : Int32) ≤ x1 then gck c y rOX4_startAnew.cells rOX4_startAnew.slots (some ((), w, c, y)) else pgR w x0 4 59 fun v1 => hast w (dA 2) v1 x1 (vp_nar .boolean (0 : Int32)) fun w2 => fOX4_startAnew_184 dA z n x0 (x1 + (1 : Int32)) w2 c y)
def fOX4_startAnew_42 (dA : Nat → Nat) (z : Nat) : Nat → Nat → Int32 → va_W → Nat → Nat → Option ((Unit) × va_W × Nat × Nat)
  | 0, _, _, _, _, _ => none
  | n + 1, x0, x1, w, c, y => pgR w x0 4 12 fun v1 => pgi w x0 4 32 fun v2 => hald w (dA 0) v1 v2 fun v3 => (if v3 ≤ x1 then pgR w x0 4 40 fun v4 => pgR w x0 4 15 fun v5 => pgi w x0 4 32 fun v6 => hald w (dA 0) v5 v6 fun v7 => hast w (dA 0) v4 (56 : Int32) v7 fun w8 => pgR w8 x0 4 40 fun v9 => pgR w8 x0 4 16 fun v10 => pgi w8 x0 4 32 fun v11 => hald w8 (dA 0) v10 v11 fun v12 => hast w8 (dA 0) v9 (58 : Int32) v12 fun w13 => ppt w13 x0 4 44 (.int (0 : Int32)) fun w14 => ppt w14 x0 4 45 (.int (0 : Int32)) fun w15 => ppt w15 x0 4 55 (.int (0 : Int32)) fun w16 => ppt w16 x0 4 47 (.int (0 : Int32)) fun w17 => fOX4_startAnew_184 dA z FU x0 (0 : Int32) w17 c y else pgi w x0 4 32 fun v18 => pgR w x0 4 40 fun v19 => pgR w x0 4 19 fun v20 => hald w (dA 0) v20 (((6 : Int32) * v18) + x1) fun v21 => hast w (dA 0) v19 ((0 : Int32) + x1) v21 fun w22 => pgR w22 x0 4 40 fun v23 => pgR w22 x0 4 20 fun v24 => hald w22 (dA 0) v24 (((6 : Int32) * v18) + x1) fun v25 => hast w22 (dA 0) v23 ((8 : Int32) + x1) v25 fun w26 => pgR w26 x0 4 40 fun v27 => pgR w26 x0 4 21 fun v28 => hald w26 (dA 0) v28 (((6 : Int32) * v18) + x1) fun v29 => hast w26 (dA 0) v27 ((16 : Int32) + x1) v29 fun w30 => pgR w30 x0 4 40 fun v31 => pgR w30 x0 4 22 fun v32 => hald w30 (dA 0) v32 (((6 : Int32) * v18) + x1) fun v33 => hast w30 (dA 0) v31 ((24 : Int32) + x1) v33 fun w34 => fOX4_startAnew_42 dA z n x0 (x1 + (1 : Int32)) w34 c y)
def fOX4_startAnew_23 (dA : Nat → Nat) (z : Nat) : Nat → Nat → Int32 → va_W → Nat → Nat → Option ((Unit) × va_W × Nat × Nat)
  | 0, _, _, _, _, _ => none
  | n + 1, x0, x1, w, c, y => (if (8 : Int32) ≤ x1 then fOX4_startAnew_42 dA z FU x0 (0 : Int32) w c y else pck w x0 4 (ocal rOX4_startAnew.cells rOX4_startAnew.slots c y rOX4_clearPlace.cells rOX4_clearPlace.slots (fOX4_clearPlace dA (z + c) x0 x1 w) fun r1 w2 c3 y4 => fOX4_startAnew_23 dA z n x0 (x1 + (1 : Int32)) w2 c3 y4))
def fOX4_startAnew_2 (dA : Nat → Nat) (z : Nat) : Nat → Nat → Int32 → va_W → Nat → Nat → Option ((Unit) × va_W × Nat × Nat)
  | 0, _, _, _, _, _ => none
  | n + 1, x0, x1, w, c, y => (if (59 : Int32) ≤ x1 then fOX4_startAnew_23 dA z FU x0 (0 : Int32) w c y else pgR w x0 4 40 fun v1 => hast w (dA 0) v1 x1 (0 : Int32) fun w2 => fOX4_startAnew_2 dA z n x0 (x1 + (1 : Int32)) w2 c y)
def fOX4_startAnew (dA : Nat → Nat) (z : Nat) (t7 : Nat) (w : va_W) : Option ((Unit) × va_W × Nat × Nat) := fOX4_startAnew_2 dA z FU t7 (0 : Int32) w 0 0
set_option maxHeartbeats 4000000 in
set_option maxRecDepth 100000 in
theorem wOX4_startAnew_184 {l : Launch} {D : va_G} {dA : Nat → ClassId} {z : Nat} {p : Program} {e : Env} {s : State} {m : MethodId} {args : Array Value} {below : List Frame} {meth : Method} {c9 : Code} {A : Nat → Prop} {q : ((Unit) × va_W × Nat × Nat)} (FX : CallFix p m c9 cX4_startAnew 3 s args lw_all RX4) (hr : meth.sig.returnType = none) (hlk : meth.locks = false) (hnm : meth.name = yX4_startAnew.name) (hout : ∀ x ∈ c9.exceptionTable.toList, False) : ∀ n : Nat, ∀ (x0 : Nat) (x1 : Int32) (w : va_W) (c : Nat) (y : Nat) (H : Heap) (locs : List Loc) (ls : Array Slot), lv_has ls 3 [(0, .ref x0), (1, .int x1)] → Wo D dA A s w z c H locs → fOX4_startAnew_184 dA z n x0 x1 w c y = some q → W p l e rOX4_startAnew s m args below meth c9 H locs c y (QO D dA A below args s rOX4_startAnew.cells rOX4_startAnew.slots (.inl none) q.2.1 (z + q.2.2.1) q.2.2.2) (F0 m 184 ls []) := by
  have hx := FX.1; have hb := FX.2.1; have hown := FX.2.2.2.1; have hts := FX.2.2.2.2
  intro n
  induction n with
  | zero =>
    intro x0 x1 w c y H locs ls hl hW hf
    cases (show (none : Option ((Unit) × va_W × Nat × Nat)) = some q from hf)
  | succ n ih =>
    intro x0 x1 w c y H locs ls hl hW hf
    rw [fOX4_startAnew_184] at hf
    refine lv_iload_n hx hb dX4_startAnew_184 rfl (lv_at hl 1 rfl) ?_
    refine lv_iconst (v := 3) hx hb dX4_startAnew_185 (by decide) ?_
    refine lv_icmp_ge (tgt := 202) hx hb dX4_startAnew_186 (by decide) (fun c186 => ?_) (fun c186 => ?_)
    · have hf := ifp c186 hf
      obtain ⟨hg, hf⟩ := gck_some hf
      obtain rfl := Option.some.inj hf
      exact ro_v FX hr hlk hW hg dX4_startAnew_202
    · have hf := ifn c186 hf
      refine lv_aload_n hx hb dX4_startAnew_189 rfl (lv_at hl 0 rfl) ?_
      refine og_R (C := RX4) (T := TX4) (N := 60) (ci := 4) FX hW in_X4 rfl 59 (by decide) q1624 (fun _ h => h) hf dX4_startAnew_190 (fun v1 hf => ?_)
      refine lv_iload_n hx hb dX4_startAnew_193 rfl (lv_at hl 1 rfl) ?_
      refine lv_iconst (v := 0) hx hb dX4_startAnew_194 (by decide) ?_
      refine op_zast FX hW hf dX4_startAnew_195 (fun w2 H locs hW hf => ?_)
      refine lv_iinc (v := (x1 + (1 : Int32))) (lv' := [(1, .int (x1 + (1 : Int32))), (0, .ref x0)]) hx hb dX4_startAnew_196 hl (k := 1) rfl rfl (by decide) rfl (fun ls hl => ?_)
      refine lv_goto (tgt := 184) hx hb dX4_startAnew_199 (by decide) ?_
      exact ih x0 (x1 + (1 : Int32)) w2 c y _ _ _ (lv_sub hl [1, 0] rfl) hW hf
set_option maxHeartbeats 4000000 in
set_option maxRecDepth 100000 in
theorem wOX4_startAnew_42 {l : Launch} {D : va_G} {dA : Nat → ClassId} {z : Nat} {p : Program} {e : Env} {s : State} {m : MethodId} {args : Array Value} {below : List Frame} {meth : Method} {c9 : Code} {A : Nat → Prop} {q : ((Unit) × va_W × Nat × Nat)} (FX : CallFix p m c9 cX4_startAnew 3 s args lw_all RX4) (hr : meth.sig.returnType = none) (hlk : meth.locks = false) (hnm : meth.name = yX4_startAnew.name) (hout : ∀ x ∈ c9.exceptionTable.toList, False) : ∀ n : Nat, ∀ (x0 : Nat) (x1 : Int32) (w : va_W) (c : Nat) (y : Nat) (H : Heap) (locs : List Loc) (ls : Array Slot), lv_has ls 3 [(0, .ref x0), (1, .int x1)] → Wo D dA A s w z c H locs → fOX4_startAnew_42 dA z n x0 x1 w c y = some q → W p l e rOX4_startAnew s m args below meth c9 H locs c y (QO D dA A below args s rOX4_startAnew.cells rOX4_startAnew.slots (.inl none) q.2.1 (z + q.2.2.1) q.2.2.2) (F0 m 42 ls []) := by
  have hx := FX.1; have hb := FX.2.1; have hown := FX.2.2.2.1; have hts := FX.2.2.2.2
  intro n
  induction n with
  | zero =>
    intro x0 x1 w c y H locs ls hl hW hf
    cases (show (none : Option ((Unit) × va_W × Nat × Nat)) = some q from hf)
  | succ n ih =>
    intro x0 x1 w c y H locs ls hl hW hf
    rw [fOX4_startAnew_42] at hf
    refine lv_iload_n hx hb dX4_startAnew_42 rfl (lv_at hl 1 rfl) ?_
    refine lv_aload_n hx hb dX4_startAnew_43 rfl (lv_at hl 0 rfl) ?_
    refine og_R (C := RX4) (T := TX4) (N := 60) (ci := 4) FX hW in_X4 rfl 12 (by decide) q1577 (fun _ h => h) hf dX4_startAnew_44 (fun v1 hf => ?_)
    refine lv_aload_n hx hb dX4_startAnew_47 rfl (lv_at hl 0 rfl) ?_
    refine og_i (C := RX4) (T := TX4) (N := 60) (ci := 4) FX hW in_X4 rfl 32 (by decide) q1597 (fun _ h => h) hf dX4_startAnew_48 (fun v2 hf => ?_)
    refine o_iald FX hW.1 hf dX4_startAnew_51 (fun v3 hf => ?_)
    refine lv_icmp_ge (tgt := 130) hx hb dX4_startAnew_52 (by decide) (fun c52 => ?_) (fun c52 => ?_)
    · have hf := ifp c52 hf
      refine lv_aload_n hx hb dX4_startAnew_130 rfl (lv_at hl 0 rfl) ?_
      refine og_R (C := RX4) (T := TX4) (N := 60) (ci := 4) FX hW in_X4 rfl 40 (by decide) q1605 (fun _ h => h) hf dX4_startAnew_131 (fun v4 hf => ?_)
      refine lv_bipush (v := 56) hx hb dX4_startAnew_134 (by decide) ?_
      refine lv_aload_n hx hb dX4_startAnew_136 rfl (lv_at hl 0 rfl) ?_
      refine og_R (C := RX4) (T := TX4) (N := 60) (ci := 4) FX hW in_X4 rfl 15 (by decide) q1580 (fun _ h => h) hf dX4_startAnew_137 (fun v5 hf => ?_)
      refine lv_aload_n hx hb dX4_startAnew_140 rfl (lv_at hl 0 rfl) ?_
      refine og_i (C := RX4) (T := TX4) (N := 60) (ci := 4) FX hW in_X4 rfl 32 (by decide) q1597 (fun _ h => h) hf dX4_startAnew_141 (fun v6 hf => ?_)
      refine o_iald FX hW.1 hf dX4_startAnew_144 (fun v7 hf => ?_)
      refine op_iast FX hW hf dX4_startAnew_145 (fun w8 H locs hW hf => ?_)
      refine lv_aload_n hx hb dX4_startAnew_146 rfl (lv_at hl 0 rfl) ?_
      refine og_R (C := RX4) (T := TX4) (N := 60) (ci := 4) FX hW in_X4 rfl 40 (by decide) q1605 (fun _ h => h) hf dX4_startAnew_147 (fun v9 hf => ?_)
      refine lv_bipush (v := 58) hx hb dX4_startAnew_150 (by decide) ?_
      refine lv_aload_n hx hb dX4_startAnew_152 rfl (lv_at hl 0 rfl) ?_
      refine og_R (C := RX4) (T := TX4) (N := 60) (ci := 4) FX hW in_X4 rfl 16 (by decide) q1581 (fun _ h => h) hf dX4_startAnew_153 (fun v10 hf => ?_)
      refine lv_aload_n hx hb dX4_startAnew_156 rfl (lv_at hl 0 rfl) ?_
      refine og_i (C := RX4) (T := TX4) (N := 60) (ci := 4) FX hW in_X4 rfl 32 (by decide) q1597 (fun _ h => h) hf dX4_startAnew_157 (fun v11 hf => ?_)
      refine o_iald FX hW.1 hf dX4_startAnew_160 (fun v12 hf => ?_)
      refine op_iast FX hW hf dX4_startAnew_161 (fun w13 H locs hW hf => ?_)
      refine lv_aload_n hx hb dX4_startAnew_162 rfl (lv_at hl 0 rfl) ?_
      refine lv_iconst (v := 0) hx hb dX4_startAnew_163 (by decide) ?_
      refine op_put (C := RX4) (T := TX4) (N := 60) (ci := 4) (ty := .int) FX hW in_X4 tyX4 tyX4_ok nmX4 rfl 44 (by decide) q1609 (fun _ h => h) rfl (by decide +kernel) rfl rfl hf dX4_startAnew_164 (fun w14 H locs hW hf => ?_)
      refine lv_aload_n hx hb dX4_startAnew_167 rfl (lv_at hl 0 rfl) ?_
      refine lv_iconst (v := 0) hx hb dX4_startAnew_168 (by decide) ?_
      refine op_put (C := RX4) (T := TX4) (N := 60) (ci := 4) (ty := .int) FX hW in_X4 tyX4 tyX4_ok nmX4 rfl 45 (by decide) q1610 (fun _ h => h) rfl (by decide +kernel) rfl rfl hf dX4_startAnew_169 (fun w15 H locs hW hf => ?_)
      refine lv_aload_n hx hb dX4_startAnew_172 rfl (lv_at hl 0 rfl) ?_
      refine lv_iconst (v := 0) hx hb dX4_startAnew_173 (by decide) ?_
      refine op_put (C := RX4) (T := TX4) (N := 60) (ci := 4) (ty := .int) FX hW in_X4 tyX4 tyX4_ok nmX4 rfl 55 (by decide) q1620 (fun _ h => h) rfl (by decide +kernel) rfl rfl hf dX4_startAnew_174 (fun w16 H locs hW hf => ?_)
      refine lv_aload_n hx hb dX4_startAnew_177 rfl (lv_at hl 0 rfl) ?_
      refine lv_iconst (v := 0) hx hb dX4_startAnew_178 (by decide) ?_
      refine op_put (C := RX4) (T := TX4) (N := 60) (ci := 4) (ty := .int) FX hW in_X4 tyX4 tyX4_ok nmX4 rfl 47 (by decide) q1612 (fun _ h => h) rfl (by decide +kernel) rfl rfl hf dX4_startAnew_179 (fun w17 H locs hW hf => ?_)
      refine lv_iconst (v := 0) hx hb dX4_startAnew_182 (by decide) ?_
      refine lv_istore_n (lv' := [(1, .int (0 : Int32)), (0, .ref x0)]) hx hb dX4_startAnew_183 rfl hl (by decide) rfl (fun ls hl => ?_)
      exact wOX4_startAnew_184 FX hr hlk hnm hout _ x0 (0 : Int32) w17 c y _ _ _ (lv_sub hl [1, 0] rfl) hW hf
    · have hf := ifn c52 hf
      refine lv_bipush (v := 6) hx hb dX4_startAnew_55 (by decide) ?_
      refine lv_aload_n hx hb dX4_startAnew_57 rfl (lv_at hl 0 rfl) ?_
      refine og_i (C := RX4) (T := TX4) (N := 60) (ci := 4) FX hW in_X4 rfl 32 (by decide) q1597 (fun _ h => h) hf dX4_startAnew_58 (fun v18 hf => ?_)
      refine lv_imul hx hb dX4_startAnew_61 ?_
      refine lv_iload_n hx hb dX4_startAnew_62 rfl (lv_at hl 1 rfl) ?_
      refine lv_iadd hx hb dX4_startAnew_63 ?_
      refine lv_istore_n (lv' := [(2, .int (((6 : Int32) * v18) + x1)), (0, .ref x0), (1, .int x1)]) hx hb dX4_startAnew_64 rfl hl (by decide) rfl (fun ls hl => ?_)
      refine lv_aload_n hx hb dX4_startAnew_65 rfl (lv_at hl 1 rfl) ?_
      refine og_R (C := RX4) (T := TX4) (N := 60) (ci := 4) FX hW in_X4 rfl 40 (by decide) q1605 (fun _ h => h) hf dX4_startAnew_66 (fun v19 hf => ?_)
      refine lv_iconst (v := 0) hx hb dX4_startAnew_69 (by decide) ?_
      refine lv_iload_n hx hb dX4_startAnew_70 rfl (lv_at hl 2 rfl) ?_
      refine lv_iadd hx hb dX4_startAnew_71 ?_
      refine lv_aload_n hx hb dX4_startAnew_72 rfl (lv_at hl 1 rfl) ?_
      refine og_R (C := RX4) (T := TX4) (N := 60) (ci := 4) FX hW in_X4 rfl 19 (by decide) q1584 (fun _ h => h) hf dX4_startAnew_73 (fun v20 hf => ?_)
      refine lv_iload_n hx hb dX4_startAnew_76 rfl (lv_at hl 0 rfl) ?_
      refine o_iald FX hW.1 hf dX4_startAnew_77 (fun v21 hf => ?_)
      refine op_iast FX hW hf dX4_startAnew_78 (fun w22 H locs hW hf => ?_)
      refine lv_aload_n hx hb dX4_startAnew_79 rfl (lv_at hl 1 rfl) ?_
      refine og_R (C := RX4) (T := TX4) (N := 60) (ci := 4) FX hW in_X4 rfl 40 (by decide) q1605 (fun _ h => h) hf dX4_startAnew_80 (fun v23 hf => ?_)
      refine lv_bipush (v := 8) hx hb dX4_startAnew_83 (by decide) ?_
      refine lv_iload_n hx hb dX4_startAnew_85 rfl (lv_at hl 2 rfl) ?_
      refine lv_iadd hx hb dX4_startAnew_86 ?_
      refine lv_aload_n hx hb dX4_startAnew_87 rfl (lv_at hl 1 rfl) ?_
      refine og_R (C := RX4) (T := TX4) (N := 60) (ci := 4) FX hW in_X4 rfl 20 (by decide) q1585 (fun _ h => h) hf dX4_startAnew_88 (fun v24 hf => ?_)
      refine lv_iload_n hx hb dX4_startAnew_91 rfl (lv_at hl 0 rfl) ?_
      refine o_iald FX hW.1 hf dX4_startAnew_92 (fun v25 hf => ?_)
      refine op_iast FX hW hf dX4_startAnew_93 (fun w26 H locs hW hf => ?_)
      refine lv_aload_n hx hb dX4_startAnew_94 rfl (lv_at hl 1 rfl) ?_
      refine og_R (C := RX4) (T := TX4) (N := 60) (ci := 4) FX hW in_X4 rfl 40 (by decide) q1605 (fun _ h => h) hf dX4_startAnew_95 (fun v27 hf => ?_)
      refine lv_bipush (v := 16) hx hb dX4_startAnew_98 (by decide) ?_
      refine lv_iload_n hx hb dX4_startAnew_100 rfl (lv_at hl 2 rfl) ?_
      refine lv_iadd hx hb dX4_startAnew_101 ?_
      refine lv_aload_n hx hb dX4_startAnew_102 rfl (lv_at hl 1 rfl) ?_
      refine og_R (C := RX4) (T := TX4) (N := 60) (ci := 4) FX hW in_X4 rfl 21 (by decide) q1586 (fun _ h => h) hf dX4_startAnew_103 (fun v28 hf => ?_)
      refine lv_iload_n hx hb dX4_startAnew_106 rfl (lv_at hl 0 rfl) ?_
      refine o_iald FX hW.1 hf dX4_startAnew_107 (fun v29 hf => ?_)
      refine op_iast FX hW hf dX4_startAnew_108 (fun w30 H locs hW hf => ?_)
      refine lv_aload_n hx hb dX4_startAnew_109 rfl (lv_at hl 1 rfl) ?_
      refine og_R (C := RX4) (T := TX4) (N := 60) (ci := 4) FX hW in_X4 rfl 40 (by decide) q1605 (fun _ h => h) hf dX4_startAnew_110 (fun v31 hf => ?_)
      refine lv_bipush (v := 24) hx hb dX4_startAnew_113 (by decide) ?_
      refine lv_iload_n hx hb dX4_startAnew_115 rfl (lv_at hl 2 rfl) ?_
      refine lv_iadd hx hb dX4_startAnew_116 ?_
      refine lv_aload_n hx hb dX4_startAnew_117 rfl (lv_at hl 1 rfl) ?_
      refine og_R (C := RX4) (T := TX4) (N := 60) (ci := 4) FX hW in_X4 rfl 22 (by decide) q1587 (fun _ h => h) hf dX4_startAnew_118 (fun v32 hf => ?_)
      refine lv_iload_n hx hb dX4_startAnew_121 rfl (lv_at hl 0 rfl) ?_
      refine o_iald FX hW.1 hf dX4_startAnew_122 (fun v33 hf => ?_)
      refine op_iast FX hW hf dX4_startAnew_123 (fun w34 H locs hW hf => ?_)
      refine lv_iinc (v := (x1 + (1 : Int32))) (lv' := [(1, .int (x1 + (1 : Int32))), (2, .int (((6 : Int32) * v18) + x1)), (0, .ref x0)]) hx hb dX4_startAnew_124 hl (k := 2) rfl rfl (by decide) rfl (fun ls hl => ?_)
      refine lv_goto (tgt := 42) hx hb dX4_startAnew_127 (by decide) ?_
      exact ih x0 (x1 + (1 : Int32)) w34 c y _ _ _ (lv_sub hl [2, 0] rfl) hW hf
set_option maxHeartbeats 4000000 in
set_option maxRecDepth 100000 in
theorem wOX4_startAnew_23 {l : Launch} {D : va_G} {dA : Nat → ClassId} {z : Nat} {p : Program} {e : Env} {s : State} {m : MethodId} {args : Array Value} {below : List Frame} {meth : Method} {c9 : Code} {A : Nat → Prop} {q : ((Unit) × va_W × Nat × Nat)} (FX : CallFix p m c9 cX4_startAnew 3 s args lw_all RX4) (hr : meth.sig.returnType = none) (hlk : meth.locks = false) (hnm : meth.name = yX4_startAnew.name) (hout : ∀ x ∈ c9.exceptionTable.toList, False) : ∀ n : Nat, ∀ (x0 : Nat) (x1 : Int32) (w : va_W) (c : Nat) (y : Nat) (H : Heap) (locs : List Loc) (ls : Array Slot), lv_has ls 3 [(0, .ref x0), (1, .int x1)] → Wo D dA A s w z c H locs → fOX4_startAnew_23 dA z n x0 x1 w c y = some q → W p l e rOX4_startAnew s m args below meth c9 H locs c y (QO D dA A below args s rOX4_startAnew.cells rOX4_startAnew.slots (.inl none) q.2.1 (z + q.2.2.1) q.2.2.2) (F0 m 23 ls []) := by
  have hx := FX.1; have hb := FX.2.1; have hown := FX.2.2.2.1; have hts := FX.2.2.2.2
  intro n
  induction n with
  | zero =>
    intro x0 x1 w c y H locs ls hl hW hf
    cases (show (none : Option ((Unit) × va_W × Nat × Nat)) = some q from hf)
  | succ n ih =>
    intro x0 x1 w c y H locs ls hl hW hf
    rw [fOX4_startAnew_23] at hf
    refine lv_iload_n hx hb dX4_startAnew_23 rfl (lv_at hl 1 rfl) ?_
    refine lv_bipush (v := 8) hx hb dX4_startAnew_24 (by decide) ?_
    refine lv_icmp_ge (tgt := 40) hx hb dX4_startAnew_26 (by decide) (fun c26 => ?_) (fun c26 => ?_)
    · have hf := ifp c26 hf
      refine lv_iconst (v := 0) hx hb dX4_startAnew_40 (by decide) ?_
      refine lv_istore_n (lv' := [(1, .int (0 : Int32)), (0, .ref x0)]) hx hb dX4_startAnew_41 rfl hl (by decide) rfl (fun ls hl => ?_)
      exact wOX4_startAnew_42 FX hr hlk hnm hout _ x0 (0 : Int32) w c y _ _ _ (lv_sub hl [1, 0] rfl) hW hf
    · have hf := ifn c26 hf
      refine lv_aload_n hx hb dX4_startAnew_29 rfl (lv_at hl 0 rfl) ?_
      refine lv_iload_n hx hb dX4_startAnew_30 rfl (lv_at hl 1 rfl) ?_
      obtain ⟨hv9, hf⟩ := pck_some hf
      refine oc_v hW hf (fun r0 h0 hg => o_V (C := RX4) (As := [.int x1]) (rest := []) (n := 1) FX (mOX4_clearPlace h0) (cwV 1 FX.2.2.2.2 (lw_V q1561 q1563 qs55 q132 q1564) rfl rfl rfl (by decide +kernel) ⟨Nat.le_of_ble_eq_true rfl, Nat.le_of_ble_eq_true rfl⟩) (o_recv hW rfl hv9) rfl hl.1 rfl (Nat.le_of_ble_eq_true rfl) hg dX4_startAnew_31 hW) (fun w2 c3 y4 H locs hW hf => ?_)
      refine lv_iinc (v := (x1 + (1 : Int32))) (lv' := [(1, .int (x1 + (1 : Int32))), (0, .ref x0)]) hx hb dX4_startAnew_34 hl (k := 1) rfl rfl (by decide) rfl (fun ls hl => ?_)
      refine lv_goto (tgt := 23) hx hb dX4_startAnew_37 (by decide) ?_
      exact ih x0 (x1 + (1 : Int32)) w2 c3 y4 _ _ _ (lv_sub hl [1, 0] rfl) hW hf
set_option maxHeartbeats 4000000 in
set_option maxRecDepth 100000 in
theorem wOX4_startAnew_2 {l : Launch} {D : va_G} {dA : Nat → ClassId} {z : Nat} {p : Program} {e : Env} {s : State} {m : MethodId} {args : Array Value} {below : List Frame} {meth : Method} {c9 : Code} {A : Nat → Prop} {q : ((Unit) × va_W × Nat × Nat)} (FX : CallFix p m c9 cX4_startAnew 3 s args lw_all RX4) (hr : meth.sig.returnType = none) (hlk : meth.locks = false) (hnm : meth.name = yX4_startAnew.name) (hout : ∀ x ∈ c9.exceptionTable.toList, False) : ∀ n : Nat, ∀ (x0 : Nat) (x1 : Int32) (w : va_W) (c : Nat) (y : Nat) (H : Heap) (locs : List Loc) (ls : Array Slot), lv_has ls 3 [(0, .ref x0), (1, .int x1)] → Wo D dA A s w z c H locs → fOX4_startAnew_2 dA z n x0 x1 w c y = some q → W p l e rOX4_startAnew s m args below meth c9 H locs c y (QO D dA A below args s rOX4_startAnew.cells rOX4_startAnew.slots (.inl none) q.2.1 (z + q.2.2.1) q.2.2.2) (F0 m 2 ls []) := by
  have hx := FX.1; have hb := FX.2.1; have hown := FX.2.2.2.1; have hts := FX.2.2.2.2
  intro n
  induction n with
  | zero =>
    intro x0 x1 w c y H locs ls hl hW hf
    cases (show (none : Option ((Unit) × va_W × Nat × Nat)) = some q from hf)
  | succ n ih =>
    intro x0 x1 w c y H locs ls hl hW hf
    rw [fOX4_startAnew_2] at hf
    refine lv_iload_n hx hb dX4_startAnew_2 rfl (lv_at hl 1 rfl) ?_
    refine lv_bipush (v := 59) hx hb dX4_startAnew_3 (by decide) ?_
    refine lv_icmp_ge (tgt := 21) hx hb dX4_startAnew_5 (by decide) (fun c5 => ?_) (fun c5 => ?_)
    · have hf := ifp c5 hf
      refine lv_iconst (v := 0) hx hb dX4_startAnew_21 (by decide) ?_
      refine lv_istore_n (lv' := [(1, .int (0 : Int32)), (0, .ref x0)]) hx hb dX4_startAnew_22 rfl hl (by decide) rfl (fun ls hl => ?_)
      exact wOX4_startAnew_23 FX hr hlk hnm hout _ x0 (0 : Int32) w c y _ _ _ (lv_sub hl [1, 0] rfl) hW hf
    · have hf := ifn c5 hf
      refine lv_aload_n hx hb dX4_startAnew_8 rfl (lv_at hl 0 rfl) ?_
      refine og_R (C := RX4) (T := TX4) (N := 60) (ci := 4) FX hW in_X4 rfl 40 (by decide) q1605 (fun _ h => h) hf dX4_startAnew_9 (fun v1 hf => ?_)
      refine lv_iload_n hx hb dX4_startAnew_12 rfl (lv_at hl 1 rfl) ?_
      refine lv_iconst (v := 0) hx hb dX4_startAnew_13 (by decide) ?_
      refine op_iast FX hW hf dX4_startAnew_14 (fun w2 H locs hW hf => ?_)
      refine lv_iinc (v := (x1 + (1 : Int32))) (lv' := [(1, .int (x1 + (1 : Int32))), (0, .ref x0)]) hx hb dX4_startAnew_15 hl (k := 1) rfl rfl (by decide) rfl (fun ls hl => ?_)
      refine lv_goto (tgt := 2) hx hb dX4_startAnew_18 (by decide) ?_
      exact ih x0 (x1 + (1 : Int32)) w2 c y _ _ _ (lv_sub hl [1, 0] rfl) hW hf
set_option maxHeartbeats 4000000 in
set_option maxRecDepth 100000 in
theorem mOX4_startAnew {l : Launch} {D : va_G} {dA : Nat → ClassId} {z : Nat}  {t7 : Nat} {w : va_W} {q : ((Unit) × va_W × Nat × Nat)} (hf : fOX4_startAnew dA z t7 w = some q) : CtO l yX4_startAnew cX4_startAnew 3 none rOX4_startAnew D dA [.ref t7] w z (.inl none) q.2.1 q.2.2.1 q.2.2.2 := by
  refine e_O (by decide) (Nat.le_of_ble_eq_true rfl) ?_
  intro p e s m below meth c9 ls A FX hr hlk hnm hout hl hW
  have hx := FX.1; have hb := FX.2.1; have hown := FX.2.2.2.1; have hts := FX.2.2.2.2
  have hl : lv_has ls 3 [(0, .ref t7)] := hl
  rw [fOX4_startAnew] at hf
  refine lv_iconst (v := 0) hx hb dX4_startAnew_0 (by decide) ?_
  refine lv_istore_n (lv' := [(1, .int (0 : Int32)), (0, .ref t7)]) hx hb dX4_startAnew_1 rfl hl (by decide) rfl (fun ls hl => ?_)
  exact wOX4_startAnew_2 FX hr hlk hnm hout _ t7 (0 : Int32) w 0 0 _ _ _ (lv_sub hl [1, 0] rfl) hW hf
/-! TrunkLittersModel.<init>()V: kind O -/
abbrev rOX4_init : Room := { frames := 2, cells := 100, slots := 14000, locals := 43 }
def fOX4_init (dA : Nat → Nat) (z : Nat) (t7 : Nat) (w : va_W) : Option ((Unit) × va_W × Nat × Nat) := gsz (1620 : Int32) fun N => onew rOX4_init.cells rOX4_init.slots 0 0 N w (z + 0) (.inl (dA 1, N, .inl (fun _ => 0))) fun w1 c2 y3 => ppt w1 t7 4 0 (.ref (z + 0)) fun w4 => gsz (1600 : Int32) fun N => onew rOX4_init.cells rOX4_init.slots c2 y3 N w4 (z + c2) (.inl (dA 1, N, .inl (fun _ => 0))) fun w5 c6 y7 => ppt w5 t7 4 1 (.ref (z + c2)) fun w8 => ppt w8 t7 4 5 (.int (-1 : Int32)) fun w9 => gsz (2 : Int32) fun N => onew rOX4_init.cells rOX4_init.slots c6 y7 N w9 (z + c6) (.inl (dA 0, N, .inl (fun _ => 0))) fun w10 c11 y12 => ppt w10 t7 4 11 (.ref (z + c6)) fun w13 => gsz (2 : Int32) fun N => onew rOX4_init.cells rOX4_init.slots c11 y12 N w13 (z + c11) (.inl (dA 0, N, .inl (fun _ => 0))) fun w14 c15 y16 => ppt w14 t7 4 12 (.ref (z + c11)) fun w17 => gsz (2 : Int32) fun N => onew rOX4_init.cells rOX4_init.slots c15 y16 N w17 (z + c15) (.inl (dA 0, N, .inl (fun _ => 0))) fun w18 c19 y20 => ppt w18 t7 4 13 (.ref (z + c15)) fun w21 => gsz (2 : Int32) fun N => onew rOX4_init.cells rOX4_init.slots c19 y20 N w21 (z + c19) (.inl (dA 0, N, .inl (fun _ => 0))) fun w22 c23 y24 => ppt w22 t7 4 14 (.ref (z + c19)) fun w25 => gsz (2 : Int32) fun N => onew rOX4_init.cells rOX4_init.slots c23 y24 N w25 (z + c23) (.inl (dA 0, N, .inl (fun _ => 0))) fun w26 c27 y28 => ppt w26 t7 4 15 (.ref (z + c23)) fun w29 => gsz (2 : Int32) fun N => onew rOX4_init.cells rOX4_init.slots c27 y28 N w29 (z + c27) (.inl (dA 0, N, .inl (fun _ => 0))) fun w30 c31 y32 => ppt w30 t7 4 16 (.ref (z + c27)) fun w33 => gsz (2 : Int32) fun N => onew rOX4_init.cells rOX4_init.slots c31 y32 N w33 (z + c31) (.inl (dA 0, N, .inl (fun _ => 0))) fun w34 c35 y36 => ppt w34 t7 4 17 (.ref (z + c31)) fun w37 => gsz (8 : Int32) fun N => onew rOX4_init.cells rOX4_init.slots c35 y36 N w37 (z + c35) (.inl (dA 0, N, .inl (fun _ => 0))) fun w38 c39 y40 => ppt w38 t7 4 18 (.ref (z + c35)) fun w41 => gsz (12 : Int32) fun N => onew rOX4_init.cells rOX4_init.slots c39 y40 N w41 (z + c39) (.inl (dA 0, N, .inl (fun _ => 0))) fun w42 c43 y44 => ppt w42 t7 4 19 (.ref (z + c39)) fun w45 => gsz (12 : Int32) fun N => onew rOX4_init.cells rOX4_init.slots c43 y44 N w45 (z + c43) (.inl (dA 0, N, .inl (fun _ => 0))) fun w46 c47 y48 => ppt w46 t7 4 20 (.ref (z + c43)) fun w49 => gsz (12 : Int32) fun N => onew rOX4_init.cells rOX4_init.slots c47 y48 N w49 (z + c47) (.inl (dA 0, N, .inl (fun _ => 0))) fun w50 c51 y52 => ppt w50 t7 4 21 (.ref (z + c47)) fun w53 => gsz (12 : Int32) fun N => onew rOX4_init.cells rOX4_init.slots c51 y52 N w53 (z + c51) (.inl (dA 0, N, .inl (fun _ => 0))) fun w54 c55 y56 => ppt w54 t7 4 22 (.ref (z + c51)) fun w57 => gsz (2 : Int32) fun N => onew rOX4_init.cells rOX4_init.slots c55 y56 N w57 (z + c55) (.inl (dA 0, N, .inl (fun _ => 0))) fun w58 c59 y60 => ppt w58 t7 4 23 (.ref (z + c55)) fun w61 => gsz (2 : Int32) fun N => onew rOX4_init.cells rOX4_init.slots c59 y60 N w61 (z + c59) (.inl (dA 0, N, .inl (fun _ => 0))) fun w62 c63 y64 => ppt w62 t7 4 24 (.ref (z + c59)) fun w65 => gsz (8 : Int32) fun N => onew rOX4_init.cells rOX4_init.slots c63 y64 N w65 (z + c63) (.inl (dA 3, N, .inr (.inl (fun _ => 0)))) fun w66 c67 y68 => ppt w66 t7 4 25 (.ref (z + c63)) fun w69 => gsz (12 : Int32) fun N => onew rOX4_init.cells rOX4_init.slots c67 y68 N w69 (z + c67) (.inl (dA 3, N, .inr (.inl (fun _ => 0)))) fun w70 c71 y72 => ppt w70 t7 4 26 (.ref (z + c67)) fun w73 => gsz (1120 : Int32) fun N => onew rOX4_init.cells rOX4_init.slots c71 y72 N w73 (z + c71) (.inl (dA 0, N, .inl (fun _ => 0))) fun w74 c75 y76 => ppt w74 t7 4 27 (.ref (z + c71)) fun w77 => gsz (1120 : Int32) fun N => onew rOX4_init.cells rOX4_init.slots c75 y76 N w77 (z + c75) (.inl (dA 0, N, .inl (fun _ => 0))) fun w78 c79 y80 => ppt w78 t7 4 28 (.ref (z + c75)) fun w81 => gsz (90 : Int32) fun N => onew rOX4_init.cells rOX4_init.slots c79 y80 N w81 (z + c79) (.inl (dA 0, N, .inl (fun _ => 0))) fun w82 c83 y84 => ppt w82 t7 4 29 (.ref (z + c79)) fun w85 => gsz (90 : Int32) fun N => onew rOX4_init.cells rOX4_init.slots c83 y84 N w85 (z + c83) (.inl (dA 0, N, .inl (fun _ => 0))) fun w86 c87 y88 => ppt w86 t7 4 30 (.ref (z + c83)) fun w89 => gsz (60 : Int32) fun N => onew rOX4_init.cells rOX4_init.slots c87 y88 N w89 (z + c87) (.inl (dA 0, N, .inl (fun _ => 0))) fun w90 c91 y92 => ppt w90 t7 4 31 (.ref (z + c87)) fun w93 => gsz (59 : Int32) fun N => onew rOX4_init.cells rOX4_init.slots c91 y92 N w93 (z + c91) (.inl (dA 0, N, .inl (fun _ => 0))) fun w94 c95 y96 => ppt w94 t7 4 40 (.ref (z + c91)) fun w97 => gsz (59 : Int32) fun N => onew rOX4_init.cells rOX4_init.slots c95 y96 N w97 (z + c95) (.inl (dA 0, N, .inl (fun _ => 0))) fun w98 c99 y100 => ppt w98 t7 4 41 (.ref (z + c95)) fun w101 => ppt w101 t7 4 42 (.int (-1 : Int32)) fun w102 => gsz (2419 : Int32) fun N => onew rOX4_init.cells rOX4_init.slots c99 y100 N w102 (z + c99) (.inl (dA 0, N, .inl (fun _ => 0))) fun w103 c104 y105 => ppt w103 t7 4 43 (.ref (z + c99)) fun w106 => gsz (8 : Int32) fun N => onew rOX4_init.cells rOX4_init.slots c104 y105 N w106 (z + c104) (.inl (dA 0, N, .inl (fun _ => 0))) fun w107 c108 y109 => ppt w107 t7 4 46 (.ref (z + c104)) fun w110 => gsz (30 : Int32) fun N => onew rOX4_init.cells rOX4_init.slots c108 y109 N w110 (z + c108) (.inl (dA 0, N, .inl (fun _ => 0))) fun w111 c112 y113 => ppt w111 t7 4 48 (.ref (z + c108)) fun w114 => gsz (30 : Int32) fun N => onew rOX4_init.cells rOX4_init.slots c112 y113 N w114 (z + c112) (.inl (dA 0, N, .inl (fun _ => 0))) fun w115 c116 y117 => ppt w115 t7 4 49 (.ref (z + c112)) fun w118 => gsz (30 : Int32) fun N => onew rOX4_init.cells rOX4_init.slots c116 y117 N w118 (z + c116) (.inl (dA 0, N, .inl (fun _ => 0))) fun w119 c120 y121 => ppt w119 t7 4 50 (.ref (z + c116)) fun w122 => gsz (30 : Int32) fun N => onew rOX4_init.cells rOX4_init.slots c120 y121 N w122 (z + c120) (.inl (dA 0, N, .inl (fun _ => 0))) fun w123 c124 y125 => ppt w123 t7 4 51 (.ref (z + c120)) fun w126 => gsz (30 : Int32) fun N => onew rOX4_init.cells rOX4_init.slots c124 y125 N w126 (z + c124) (.inl (dA 0, N, .inl (fun _ => 0))) fun w127 c128 y129 => ppt w127 t7 4 52 (.ref (z + c124)) fun w130 => gsz (7 : Int32) fun N => onew rOX4_init.cells rOX4_init.slots c128 y129 N w130 (z + c128) (.inl (dA 0, N, .inl (fun _ => 0))) fun w131 c132 y133 => ppt w131 t7 4 53 (.ref (z + c128)) fun w134 => gsz (64 : Int32) fun N => onew rOX4_init.cells rOX4_init.slots c132 y133 N w134 (z + c132) (.inl (dA 2, N, .inl (fun _ => 0))) fun w135 c136 y137 => ppt w135 t7 4 54 (.ref (z + c132)) fun w138 => gsz (177 : Int32) fun N => onew rOX4_init.cells rOX4_init.slots c136 y137 N w138 (z + c136) (.inl (dA 0, N, .inl (fun _ => 0))) fun w139 c140 y141 => ppt w139 t7 4 58 (.ref (z + c136)) fun w142 => gsz (3 : Int32) fun N => onew rOX4_init.cells rOX4_init.slots c140 y141 N w142 (z + c140) (.inl (dA 2, N, .inl (fun _ => 0))) fun w143 c144 y145 => ppt w143 t7 4 59 (.ref (z + c140)) fun w146 => pck w146 t7 4 (ocal rOX4_init.cells rOX4_init.slots c144 y145 rOX4_clearBank.cells rOX4_clearBank.slots (fOX4_clearBank dA (z + c144) t7 w146) fun r147 w148 c149 y150 => pck w148 t7 4 (ocal rOX4_init.cells rOX4_init.slots c149 y150 rOX4_startAnew.cells rOX4_startAnew.slots (fOX4_startAnew dA (z + c149) t7 w148) fun r151 w152 c153 y154 => gck c153 y154 rOX4_init.cells rOX4_init.slots (some ((), w152, c153, y154))))
set_option maxHeartbeats 4000000 in
set_option maxRecDepth 100000 in
theorem mOX4_init {l : Launch} {D : va_G} {dA : Nat → ClassId} {z : Nat}  {t7 : Nat} {w : va_W} {q : ((Unit) × va_W × Nat × Nat)} (hf : fOX4_init dA z t7 w = some q) : CtO l yX4_init cX4_init 1 none rOX4_init D dA [.ref t7] w z (.inl none) q.2.1 q.2.2.1 q.2.2.2 := by
  refine e_O (by decide) (Nat.le_of_ble_eq_true rfl) ?_
  intro p e s m below meth c9 ls A FX hr hlk hnm hout hl hW
  have hx := FX.1; have hb := FX.2.1; have hown := FX.2.2.2.1; have hts := FX.2.2.2.2
  have hl : lv_has ls 1 [(0, .ref t7)] := hl
  rw [fOX4_init] at hf
  refine lv_aload_n hx hb dX4_init_0 rfl (lv_at hl 0 rfl) ?_
  refine o_obj FX q1552 hl.1 dX4_init_1 (Nat.le_of_ble_eq_true rfl) (Nat.le_of_ble_eq_true rfl) ?_
  refine lv_aload_n hx hb dX4_init_4 rfl (lv_at hl 0 rfl) ?_
  refine lv_sipush (v := 1620) hx hb dX4_init_5 (by decide) ?_
  refine on_newb FX hW hf dX4_init_8 (fun w1 c2 y3 H hW hf => ?_)
  refine op_putF (C := RX4) (T := TX4) (N := 60) (ci := 4) (ty := (.array .byte)) FX hW in_X4 tyX4 tyX4_ok nmX4 rfl 0 (by decide) q1565 (fun _ h => h) rfl hnm rfl (by decide +kernel) rfl rfl hf dX4_init_10 (fun w4 H locs hW hf => ?_)
  refine lv_aload_n hx hb dX4_init_13 rfl (lv_at hl 0 rfl) ?_
  refine lv_sipush (v := 1600) hx hb dX4_init_14 (by decide) ?_
  refine on_newb FX hW hf dX4_init_17 (fun w5 c6 y7 H hW hf => ?_)
  refine op_putF (C := RX4) (T := TX4) (N := 60) (ci := 4) (ty := (.array .byte)) FX hW in_X4 tyX4 tyX4_ok nmX4 rfl 1 (by decide) q1566 (fun _ h => h) rfl hnm rfl (by decide +kernel) rfl rfl hf dX4_init_19 (fun w8 H locs hW hf => ?_)
  refine lv_aload_n hx hb dX4_init_22 rfl (lv_at hl 0 rfl) ?_
  refine lv_iconst (v := -1) hx hb dX4_init_23 (by decide) ?_
  refine op_put (C := RX4) (T := TX4) (N := 60) (ci := 4) (ty := .int) FX hW in_X4 tyX4 tyX4_ok nmX4 rfl 5 (by decide) q1570 (fun _ h => h) rfl (by decide +kernel) rfl rfl hf dX4_init_24 (fun w9 H locs hW hf => ?_)
  refine lv_aload_n hx hb dX4_init_27 rfl (lv_at hl 0 rfl) ?_
  refine lv_iconst (v := 2) hx hb dX4_init_28 (by decide) ?_
  refine on_newi FX hW hf dX4_init_29 (fun w10 c11 y12 H hW hf => ?_)
  refine op_putF (C := RX4) (T := TX4) (N := 60) (ci := 4) (ty := (.array .int)) FX hW in_X4 tyX4 tyX4_ok nmX4 rfl 11 (by decide) q1576 (fun _ h => h) rfl hnm rfl (by decide +kernel) rfl rfl hf dX4_init_31 (fun w13 H locs hW hf => ?_)
  refine lv_aload_n hx hb dX4_init_34 rfl (lv_at hl 0 rfl) ?_
  refine lv_iconst (v := 2) hx hb dX4_init_35 (by decide) ?_
  refine on_newi FX hW hf dX4_init_36 (fun w14 c15 y16 H hW hf => ?_)
  refine op_putF (C := RX4) (T := TX4) (N := 60) (ci := 4) (ty := (.array .int)) FX hW in_X4 tyX4 tyX4_ok nmX4 rfl 12 (by decide) q1577 (fun _ h => h) rfl hnm rfl (by decide +kernel) rfl rfl hf dX4_init_38 (fun w17 H locs hW hf => ?_)
  refine lv_aload_n hx hb dX4_init_41 rfl (lv_at hl 0 rfl) ?_
  refine lv_iconst (v := 2) hx hb dX4_init_42 (by decide) ?_
  refine on_newi FX hW hf dX4_init_43 (fun w18 c19 y20 H hW hf => ?_)
  refine op_putF (C := RX4) (T := TX4) (N := 60) (ci := 4) (ty := (.array .int)) FX hW in_X4 tyX4 tyX4_ok nmX4 rfl 13 (by decide) q1578 (fun _ h => h) rfl hnm rfl (by decide +kernel) rfl rfl hf dX4_init_45 (fun w21 H locs hW hf => ?_)
  refine lv_aload_n hx hb dX4_init_48 rfl (lv_at hl 0 rfl) ?_
  refine lv_iconst (v := 2) hx hb dX4_init_49 (by decide) ?_
  refine on_newi FX hW hf dX4_init_50 (fun w22 c23 y24 H hW hf => ?_)
  refine op_putF (C := RX4) (T := TX4) (N := 60) (ci := 4) (ty := (.array .int)) FX hW in_X4 tyX4 tyX4_ok nmX4 rfl 14 (by decide) q1579 (fun _ h => h) rfl hnm rfl (by decide +kernel) rfl rfl hf dX4_init_52 (fun w25 H locs hW hf => ?_)
  refine lv_aload_n hx hb dX4_init_55 rfl (lv_at hl 0 rfl) ?_
  refine lv_iconst (v := 2) hx hb dX4_init_56 (by decide) ?_
  refine on_newi FX hW hf dX4_init_57 (fun w26 c27 y28 H hW hf => ?_)
  refine op_putF (C := RX4) (T := TX4) (N := 60) (ci := 4) (ty := (.array .int)) FX hW in_X4 tyX4 tyX4_ok nmX4 rfl 15 (by decide) q1580 (fun _ h => h) rfl hnm rfl (by decide +kernel) rfl rfl hf dX4_init_59 (fun w29 H locs hW hf => ?_)
  refine lv_aload_n hx hb dX4_init_62 rfl (lv_at hl 0 rfl) ?_
  refine lv_iconst (v := 2) hx hb dX4_init_63 (by decide) ?_
  refine on_newi FX hW hf dX4_init_64 (fun w30 c31 y32 H hW hf => ?_)
  refine op_putF (C := RX4) (T := TX4) (N := 60) (ci := 4) (ty := (.array .int)) FX hW in_X4 tyX4 tyX4_ok nmX4 rfl 16 (by decide) q1581 (fun _ h => h) rfl hnm rfl (by decide +kernel) rfl rfl hf dX4_init_66 (fun w33 H locs hW hf => ?_)
  refine lv_aload_n hx hb dX4_init_69 rfl (lv_at hl 0 rfl) ?_
  refine lv_iconst (v := 2) hx hb dX4_init_70 (by decide) ?_
  refine on_newi FX hW hf dX4_init_71 (fun w34 c35 y36 H hW hf => ?_)
  refine op_putF (C := RX4) (T := TX4) (N := 60) (ci := 4) (ty := (.array .int)) FX hW in_X4 tyX4 tyX4_ok nmX4 rfl 17 (by decide) q1582 (fun _ h => h) rfl hnm rfl (by decide +kernel) rfl rfl hf dX4_init_73 (fun w37 H locs hW hf => ?_)
  refine lv_aload_n hx hb dX4_init_76 rfl (lv_at hl 0 rfl) ?_
  refine lv_bipush (v := 8) hx hb dX4_init_77 (by decide) ?_
  refine on_newi FX hW hf dX4_init_79 (fun w38 c39 y40 H hW hf => ?_)
  refine op_putF (C := RX4) (T := TX4) (N := 60) (ci := 4) (ty := (.array .int)) FX hW in_X4 tyX4 tyX4_ok nmX4 rfl 18 (by decide) q1583 (fun _ h => h) rfl hnm rfl (by decide +kernel) rfl rfl hf dX4_init_81 (fun w41 H locs hW hf => ?_)
  refine lv_aload_n hx hb dX4_init_84 rfl (lv_at hl 0 rfl) ?_
  refine lv_bipush (v := 12) hx hb dX4_init_85 (by decide) ?_
  refine on_newi FX hW hf dX4_init_87 (fun w42 c43 y44 H hW hf => ?_)
  refine op_putF (C := RX4) (T := TX4) (N := 60) (ci := 4) (ty := (.array .int)) FX hW in_X4 tyX4 tyX4_ok nmX4 rfl 19 (by decide) q1584 (fun _ h => h) rfl hnm rfl (by decide +kernel) rfl rfl hf dX4_init_89 (fun w45 H locs hW hf => ?_)
  refine lv_aload_n hx hb dX4_init_92 rfl (lv_at hl 0 rfl) ?_
  refine lv_bipush (v := 12) hx hb dX4_init_93 (by decide) ?_
  refine on_newi FX hW hf dX4_init_95 (fun w46 c47 y48 H hW hf => ?_)
  refine op_putF (C := RX4) (T := TX4) (N := 60) (ci := 4) (ty := (.array .int)) FX hW in_X4 tyX4 tyX4_ok nmX4 rfl 20 (by decide) q1585 (fun _ h => h) rfl hnm rfl (by decide +kernel) rfl rfl hf dX4_init_97 (fun w49 H locs hW hf => ?_)
  refine lv_aload_n hx hb dX4_init_100 rfl (lv_at hl 0 rfl) ?_
  refine lv_bipush (v := 12) hx hb dX4_init_101 (by decide) ?_
  refine on_newi FX hW hf dX4_init_103 (fun w50 c51 y52 H hW hf => ?_)
  refine op_putF (C := RX4) (T := TX4) (N := 60) (ci := 4) (ty := (.array .int)) FX hW in_X4 tyX4 tyX4_ok nmX4 rfl 21 (by decide) q1586 (fun _ h => h) rfl hnm rfl (by decide +kernel) rfl rfl hf dX4_init_105 (fun w53 H locs hW hf => ?_)
  refine lv_aload_n hx hb dX4_init_108 rfl (lv_at hl 0 rfl) ?_
  refine lv_bipush (v := 12) hx hb dX4_init_109 (by decide) ?_
  refine on_newi FX hW hf dX4_init_111 (fun w54 c55 y56 H hW hf => ?_)
  refine op_putF (C := RX4) (T := TX4) (N := 60) (ci := 4) (ty := (.array .int)) FX hW in_X4 tyX4 tyX4_ok nmX4 rfl 22 (by decide) q1587 (fun _ h => h) rfl hnm rfl (by decide +kernel) rfl rfl hf dX4_init_113 (fun w57 H locs hW hf => ?_)
  refine lv_aload_n hx hb dX4_init_116 rfl (lv_at hl 0 rfl) ?_
  refine lv_iconst (v := 2) hx hb dX4_init_117 (by decide) ?_
  refine on_newi FX hW hf dX4_init_118 (fun w58 c59 y60 H hW hf => ?_)
  refine op_putF (C := RX4) (T := TX4) (N := 60) (ci := 4) (ty := (.array .int)) FX hW in_X4 tyX4 tyX4_ok nmX4 rfl 23 (by decide) q1588 (fun _ h => h) rfl hnm rfl (by decide +kernel) rfl rfl hf dX4_init_120 (fun w61 H locs hW hf => ?_)
  refine lv_aload_n hx hb dX4_init_123 rfl (lv_at hl 0 rfl) ?_
  refine lv_iconst (v := 2) hx hb dX4_init_124 (by decide) ?_
  refine on_newi FX hW hf dX4_init_125 (fun w62 c63 y64 H hW hf => ?_)
  refine op_putF (C := RX4) (T := TX4) (N := 60) (ci := 4) (ty := (.array .int)) FX hW in_X4 tyX4 tyX4_ok nmX4 rfl 24 (by decide) q1589 (fun _ h => h) rfl hnm rfl (by decide +kernel) rfl rfl hf dX4_init_127 (fun w65 H locs hW hf => ?_)
  refine lv_aload_n hx hb dX4_init_130 rfl (lv_at hl 0 rfl) ?_
  refine lv_bipush (v := 8) hx hb dX4_init_131 (by decide) ?_
  refine on_newl FX hW hf dX4_init_133 (fun w66 c67 y68 H hW hf => ?_)
  refine op_putF (C := RX4) (T := TX4) (N := 60) (ci := 4) (ty := (.array .long)) FX hW in_X4 tyX4 tyX4_ok nmX4 rfl 25 (by decide) q1590 (fun _ h => h) rfl hnm rfl (by decide +kernel) rfl rfl hf dX4_init_135 (fun w69 H locs hW hf => ?_)
  refine lv_aload_n hx hb dX4_init_138 rfl (lv_at hl 0 rfl) ?_
  refine lv_bipush (v := 12) hx hb dX4_init_139 (by decide) ?_
  refine on_newl FX hW hf dX4_init_141 (fun w70 c71 y72 H hW hf => ?_)
  refine op_putF (C := RX4) (T := TX4) (N := 60) (ci := 4) (ty := (.array .long)) FX hW in_X4 tyX4 tyX4_ok nmX4 rfl 26 (by decide) q1591 (fun _ h => h) rfl hnm rfl (by decide +kernel) rfl rfl hf dX4_init_143 (fun w73 H locs hW hf => ?_)
  refine lv_aload_n hx hb dX4_init_146 rfl (lv_at hl 0 rfl) ?_
  refine lv_sipush (v := 1120) hx hb dX4_init_147 (by decide) ?_
  refine on_newi FX hW hf dX4_init_150 (fun w74 c75 y76 H hW hf => ?_)
  refine op_putF (C := RX4) (T := TX4) (N := 60) (ci := 4) (ty := (.array .int)) FX hW in_X4 tyX4 tyX4_ok nmX4 rfl 27 (by decide) q1592 (fun _ h => h) rfl hnm rfl (by decide +kernel) rfl rfl hf dX4_init_152 (fun w77 H locs hW hf => ?_)
  refine lv_aload_n hx hb dX4_init_155 rfl (lv_at hl 0 rfl) ?_
  refine lv_sipush (v := 1120) hx hb dX4_init_156 (by decide) ?_
  refine on_newi FX hW hf dX4_init_159 (fun w78 c79 y80 H hW hf => ?_)
  refine op_putF (C := RX4) (T := TX4) (N := 60) (ci := 4) (ty := (.array .int)) FX hW in_X4 tyX4 tyX4_ok nmX4 rfl 28 (by decide) q1593 (fun _ h => h) rfl hnm rfl (by decide +kernel) rfl rfl hf dX4_init_161 (fun w81 H locs hW hf => ?_)
  refine lv_aload_n hx hb dX4_init_164 rfl (lv_at hl 0 rfl) ?_
  refine lv_bipush (v := 90) hx hb dX4_init_165 (by decide) ?_
  refine on_newi FX hW hf dX4_init_167 (fun w82 c83 y84 H hW hf => ?_)
  refine op_putF (C := RX4) (T := TX4) (N := 60) (ci := 4) (ty := (.array .int)) FX hW in_X4 tyX4 tyX4_ok nmX4 rfl 29 (by decide) q1594 (fun _ h => h) rfl hnm rfl (by decide +kernel) rfl rfl hf dX4_init_169 (fun w85 H locs hW hf => ?_)
  refine lv_aload_n hx hb dX4_init_172 rfl (lv_at hl 0 rfl) ?_
  refine lv_bipush (v := 90) hx hb dX4_init_173 (by decide) ?_
  refine on_newi FX hW hf dX4_init_175 (fun w86 c87 y88 H hW hf => ?_)
  refine op_putF (C := RX4) (T := TX4) (N := 60) (ci := 4) (ty := (.array .int)) FX hW in_X4 tyX4 tyX4_ok nmX4 rfl 30 (by decide) q1595 (fun _ h => h) rfl hnm rfl (by decide +kernel) rfl rfl hf dX4_init_177 (fun w89 H locs hW hf => ?_)
  refine lv_aload_n hx hb dX4_init_180 rfl (lv_at hl 0 rfl) ?_
  refine lv_bipush (v := 60) hx hb dX4_init_181 (by decide) ?_
  refine on_newi FX hW hf dX4_init_183 (fun w90 c91 y92 H hW hf => ?_)
  refine op_putF (C := RX4) (T := TX4) (N := 60) (ci := 4) (ty := (.array .int)) FX hW in_X4 tyX4 tyX4_ok nmX4 rfl 31 (by decide) q1596 (fun _ h => h) rfl hnm rfl (by decide +kernel) rfl rfl hf dX4_init_185 (fun w93 H locs hW hf => ?_)
  refine lv_aload_n hx hb dX4_init_188 rfl (lv_at hl 0 rfl) ?_
  refine lv_bipush (v := 59) hx hb dX4_init_189 (by decide) ?_
  refine on_newi FX hW hf dX4_init_191 (fun w94 c95 y96 H hW hf => ?_)
  refine op_putF (C := RX4) (T := TX4) (N := 60) (ci := 4) (ty := (.array .int)) FX hW in_X4 tyX4 tyX4_ok nmX4 rfl 40 (by decide) q1605 (fun _ h => h) rfl hnm rfl (by decide +kernel) rfl rfl hf dX4_init_193 (fun w97 H locs hW hf => ?_)
  refine lv_aload_n hx hb dX4_init_196 rfl (lv_at hl 0 rfl) ?_
  refine lv_bipush (v := 59) hx hb dX4_init_197 (by decide) ?_
  refine on_newi FX hW hf dX4_init_199 (fun w98 c99 y100 H hW hf => ?_)
  refine op_putF (C := RX4) (T := TX4) (N := 60) (ci := 4) (ty := (.array .int)) FX hW in_X4 tyX4 tyX4_ok nmX4 rfl 41 (by decide) q1606 (fun _ h => h) rfl hnm rfl (by decide +kernel) rfl rfl hf dX4_init_201 (fun w101 H locs hW hf => ?_)
  refine lv_aload_n hx hb dX4_init_204 rfl (lv_at hl 0 rfl) ?_
  refine lv_iconst (v := -1) hx hb dX4_init_205 (by decide) ?_
  refine op_put (C := RX4) (T := TX4) (N := 60) (ci := 4) (ty := .int) FX hW in_X4 tyX4 tyX4_ok nmX4 rfl 42 (by decide) q1607 (fun _ h => h) rfl (by decide +kernel) rfl rfl hf dX4_init_206 (fun w102 H locs hW hf => ?_)
  refine lv_aload_n hx hb dX4_init_209 rfl (lv_at hl 0 rfl) ?_
  refine lv_sipush (v := 2419) hx hb dX4_init_210 (by decide) ?_
  refine on_newi FX hW hf dX4_init_213 (fun w103 c104 y105 H hW hf => ?_)
  refine op_putF (C := RX4) (T := TX4) (N := 60) (ci := 4) (ty := (.array .int)) FX hW in_X4 tyX4 tyX4_ok nmX4 rfl 43 (by decide) q1608 (fun _ h => h) rfl hnm rfl (by decide +kernel) rfl rfl hf dX4_init_215 (fun w106 H locs hW hf => ?_)
  refine lv_aload_n hx hb dX4_init_218 rfl (lv_at hl 0 rfl) ?_
  refine lv_bipush (v := 8) hx hb dX4_init_219 (by decide) ?_
  refine on_newi FX hW hf dX4_init_221 (fun w107 c108 y109 H hW hf => ?_)
  refine op_putF (C := RX4) (T := TX4) (N := 60) (ci := 4) (ty := (.array .int)) FX hW in_X4 tyX4 tyX4_ok nmX4 rfl 46 (by decide) q1611 (fun _ h => h) rfl hnm rfl (by decide +kernel) rfl rfl hf dX4_init_223 (fun w110 H locs hW hf => ?_)
  refine lv_aload_n hx hb dX4_init_226 rfl (lv_at hl 0 rfl) ?_
  refine lv_bipush (v := 30) hx hb dX4_init_227 (by decide) ?_
  refine on_newi FX hW hf dX4_init_229 (fun w111 c112 y113 H hW hf => ?_)
  refine op_putF (C := RX4) (T := TX4) (N := 60) (ci := 4) (ty := (.array .int)) FX hW in_X4 tyX4 tyX4_ok nmX4 rfl 48 (by decide) q1613 (fun _ h => h) rfl hnm rfl (by decide +kernel) rfl rfl hf dX4_init_231 (fun w114 H locs hW hf => ?_)
  refine lv_aload_n hx hb dX4_init_234 rfl (lv_at hl 0 rfl) ?_
  refine lv_bipush (v := 30) hx hb dX4_init_235 (by decide) ?_
  refine on_newi FX hW hf dX4_init_237 (fun w115 c116 y117 H hW hf => ?_)
  refine op_putF (C := RX4) (T := TX4) (N := 60) (ci := 4) (ty := (.array .int)) FX hW in_X4 tyX4 tyX4_ok nmX4 rfl 49 (by decide) q1614 (fun _ h => h) rfl hnm rfl (by decide +kernel) rfl rfl hf dX4_init_239 (fun w118 H locs hW hf => ?_)
  refine lv_aload_n hx hb dX4_init_242 rfl (lv_at hl 0 rfl) ?_
  refine lv_bipush (v := 30) hx hb dX4_init_243 (by decide) ?_
  refine on_newi FX hW hf dX4_init_245 (fun w119 c120 y121 H hW hf => ?_)
  refine op_putF (C := RX4) (T := TX4) (N := 60) (ci := 4) (ty := (.array .int)) FX hW in_X4 tyX4 tyX4_ok nmX4 rfl 50 (by decide) q1615 (fun _ h => h) rfl hnm rfl (by decide +kernel) rfl rfl hf dX4_init_247 (fun w122 H locs hW hf => ?_)
  refine lv_aload_n hx hb dX4_init_250 rfl (lv_at hl 0 rfl) ?_
  refine lv_bipush (v := 30) hx hb dX4_init_251 (by decide) ?_
  refine on_newi FX hW hf dX4_init_253 (fun w123 c124 y125 H hW hf => ?_)
  refine op_putF (C := RX4) (T := TX4) (N := 60) (ci := 4) (ty := (.array .int)) FX hW in_X4 tyX4 tyX4_ok nmX4 rfl 51 (by decide) q1616 (fun _ h => h) rfl hnm rfl (by decide +kernel) rfl rfl hf dX4_init_255 (fun w126 H locs hW hf => ?_)
  refine lv_aload_n hx hb dX4_init_258 rfl (lv_at hl 0 rfl) ?_
  refine lv_bipush (v := 30) hx hb dX4_init_259 (by decide) ?_
  refine on_newi FX hW hf dX4_init_261 (fun w127 c128 y129 H hW hf => ?_)
  refine op_putF (C := RX4) (T := TX4) (N := 60) (ci := 4) (ty := (.array .int)) FX hW in_X4 tyX4 tyX4_ok nmX4 rfl 52 (by decide) q1617 (fun _ h => h) rfl hnm rfl (by decide +kernel) rfl rfl hf dX4_init_263 (fun w130 H locs hW hf => ?_)
  refine lv_aload_n hx hb dX4_init_266 rfl (lv_at hl 0 rfl) ?_
  refine lv_bipush (v := 7) hx hb dX4_init_267 (by decide) ?_
  refine on_newi FX hW hf dX4_init_269 (fun w131 c132 y133 H hW hf => ?_)
  refine op_putF (C := RX4) (T := TX4) (N := 60) (ci := 4) (ty := (.array .int)) FX hW in_X4 tyX4 tyX4_ok nmX4 rfl 53 (by decide) q1618 (fun _ h => h) rfl hnm rfl (by decide +kernel) rfl rfl hf dX4_init_271 (fun w134 H locs hW hf => ?_)
  refine lv_aload_n hx hb dX4_init_274 rfl (lv_at hl 0 rfl) ?_
  refine lv_bipush (v := 64) hx hb dX4_init_275 (by decide) ?_
  refine on_newz FX hW hf dX4_init_277 (fun w135 c136 y137 H hW hf => ?_)
  refine op_putF (C := RX4) (T := TX4) (N := 60) (ci := 4) (ty := (.array .boolean)) FX hW in_X4 tyX4 tyX4_ok nmX4 rfl 54 (by decide) q1619 (fun _ h => h) rfl hnm rfl (by decide +kernel) rfl rfl hf dX4_init_279 (fun w138 H locs hW hf => ?_)
  refine lv_aload_n hx hb dX4_init_282 rfl (lv_at hl 0 rfl) ?_
  refine lv_sipush (v := 177) hx hb dX4_init_283 (by decide) ?_
  refine on_newi FX hW hf dX4_init_286 (fun w139 c140 y141 H hW hf => ?_)
  refine op_putF (C := RX4) (T := TX4) (N := 60) (ci := 4) (ty := (.array .int)) FX hW in_X4 tyX4 tyX4_ok nmX4 rfl 58 (by decide) q1623 (fun _ h => h) rfl hnm rfl (by decide +kernel) rfl rfl hf dX4_init_288 (fun w142 H locs hW hf => ?_)
  refine lv_aload_n hx hb dX4_init_291 rfl (lv_at hl 0 rfl) ?_
  refine lv_iconst (v := 3) hx hb dX4_init_292 (by decide) ?_
  refine on_newz FX hW hf dX4_init_293 (fun w143 c144 y145 H hW hf => ?_)
  refine op_putF (C := RX4) (T := TX4) (N := 60) (ci := 4) (ty := (.array .boolean)) FX hW in_X4 tyX4 tyX4_ok nmX4 rfl 59 (by decide) q1624 (fun _ h => h) rfl hnm rfl (by decide +kernel) rfl rfl hf dX4_init_295 (fun w146 H locs hW hf => ?_)
  refine lv_aload_n hx hb dX4_init_298 rfl (lv_at hl 0 rfl) ?_
  obtain ⟨hv9, hf⟩ := pck_some hf
  refine oc_v hW hf (fun r0 h0 hg => o_V (C := RX4) (As := []) (rest := []) (n := 0) FX (mOX4_clearBank h0) (cwV 0 FX.2.2.2.2 (lw_V q1553 q1555 qs53 q132 q1556) rfl rfl rfl (by decide +kernel) ⟨Nat.le_of_ble_eq_true rfl, Nat.le_of_ble_eq_true rfl⟩) (o_recv hW rfl hv9) rfl hl.1 rfl (Nat.le_of_ble_eq_true rfl) hg dX4_init_299 hW) (fun w148 c149 y150 H locs hW hf => ?_)
  refine lv_aload_n hx hb dX4_init_302 rfl (lv_at hl 0 rfl) ?_
  obtain ⟨hv9, hf⟩ := pck_some hf
  refine oc_v hW hf (fun r0 h0 hg => o_V (C := RX4) (As := []) (rest := []) (n := 0) FX (mOX4_startAnew h0) (cwV 0 FX.2.2.2.2 (lw_V q1557 q1559 qs54 q132 q1560) rfl rfl rfl (by decide +kernel) ⟨Nat.le_of_ble_eq_true rfl, Nat.le_of_ble_eq_true rfl⟩) (o_recv hW rfl hv9) rfl hl.1 rfl (Nat.le_of_ble_eq_true rfl) hg dX4_init_303 hW) (fun w152 c153 y154 H locs hW hf => ?_)
  obtain ⟨hg, hf⟩ := gck_some hf
  obtain rfl := Option.some.inj hf
  exact ro_v FX hr hlk hW hg dX4_init_306
