/-! TrunkLitters.house()I: kind O -/
abbrev rOX0_house : Room := { frames := 65, cells := 352000, slots := 3030000, locals := 2421 }
def fOX0_house_106 (dA : Nat → Nat) (z : Nat) (x0 : Nat) (x1 : Option Nat) (y0 : Nat) (y1 : Int32) (w : va_W) (c : Nat) (y : Nat) : Option ((Int32) × va_W × Nat × Nat) := ppt w y0 0 3 (.int y1) fun w1 => ppt w1 x0 0 1 (.int (0 : Int32)) fun w2 => nlc x1 (pgR w2 x0 0 4 fun v4 => pgR w2 v4 1 1 fun v5 => pck w2 v5 13 (ocal rOX0_house.cells rOX0_house.slots c y rJ2_sizeO.cells rJ2_sizeO.slots (fJ2_sizeO dA (z + c) v5 w2) fun r6 w7 c8 y9 => gck c8 y9 rOX0_house.cells rOX0_house.slots (some (r6, w7, c8, y9)))) fun _ => gck c y rOX0_house.cells rOX0_house.slots (some ((-1 : Int32), w2, c, y))
def fOX0_house_90 (dA : Nat → Nat) (z : Nat) (x0 : Nat) (x1 : Option Nat) (y0 : Nat) (y1 : Int32) (w : va_W) (c : Nat) (y : Nat) : Option ((Int32) × va_W × Nat × Nat) := ppt w y0 0 2 (.int y1) fun w1 => nlc x1 (fOX0_house_106 dA z x0 x1 x0 (-1 : Int32) w1 c y) fun _ => nn x1 fun u4 => pgi w1 u4 7 7 fun v3 => fOX0_house_106 dA z x0 x1 x0 v3 w1 c y
def fOX0_house_77 (dA : Nat → Nat) (z : Nat) (x0 : Nat) (x1 : Option Nat) (w : va_W) (c : Nat) (y : Nat) : Option ((Int32) × va_W × Nat × Nat) := nlc x1 (fOX0_house_90 dA z x0 x1 x0 (0 : Int32) w c y) fun _ => nn x1 fun u3 => pgi w u3 7 6 fun v2 => fOX0_house_90 dA z x0 x1 x0 v2 w c y
def fOX0_house_53 (dA : Nat → Nat) (z : Nat) : Nat → Nat → Int32 → va_W → Nat → Nat → Option ((Int32) × va_W × Nat × Nat)
  | 0, _, _, _, _, _ => none
  | n + 1, x0, x2, w, c, y => (if (3 : Int32) ≤ x2 then fOX0_house_77 dA z x0 none w c y else pgR w x0 0 25 fun v1 => hast w (dA 2) v1 x2 (vp_nar .boolean (0 : Int32)) fun w2 => fOX0_house_53 dA z n x0 (x2 + (1 : Int32)) w2 c y)
def fOX0_house (dA : Nat → Nat) (z : Nat) (t7 : Nat) (w : va_W) : Option ((Int32) × va_W × Nat × Nat) := onew rOX0_house.cells rOX0_house.slots 0 0 12 w (z + 0) (.inr (5, [.int 0, .int 0, .int 0, .int 0, .int 0, .int 0, .int 0, .int 0, .int 0, .null, .null, .null])) fun w1 c2 y3 => ocal rOX0_house.cells rOX0_house.slots c2 y3 rX5_init.cells rX5_init.slots (fX5_init dA (z + c2) (z + 0) t7 w1) fun r4 w5 c6 y7 => pck w5 (z + 0) 5 (ocal rOX0_house.cells rOX0_house.slots c6 y7 rX5_text.cells rX5_text.slots (fX5_text dA (z + c6) (z + 0) w5) fun r8 w9 c10 y11 => othr r8 (fun v12 => ppt w9 t7 0 4 (.ref v12) fun w13 => pgR w13 t7 0 5 fun v14 => pgR w13 t7 0 4 fun v15 => pck w13 v14 3 (ocal rOX0_house.cells rOX0_house.slots c10 y11 rOX3_begin.cells rOX3_begin.slots (fOX3_begin dA (z + c10) v14 v15 w13) fun r16 w17 c18 y19 => ppt w17 t7 0 10 (.int (0 : Int32)) fun w20 => ppt w20 t7 0 11 (.int (0 : Int32)) fun w21 => ppt w21 t7 0 15 (.int (0 : Int32)) fun w22 => pgR w22 t7 0 21 fun v23 => pck w22 v23 13 (ocal rOX0_house.cells rOX0_house.slots c18 y19 rJ2_clear.cells rJ2_clear.slots (fJ2_clear dA (z + c18) v23 w22) fun r24 w25 c26 y27 => fOX0_house_53 dA z FU t7 (0 : Int32) w25 c26 y27))) fun t9 => fOX0_house_77 dA z t7 (some t9) w9 c10 y11)
set_option maxHeartbeats 4000000 in
set_option maxRecDepth 100000 in
theorem wOX0_house_106 {l : Launch} {D : va_G} {dA : Nat → ClassId} {z : Nat} {p : Program} {e : Env} {s : State} {m : MethodId} {args : Array Value} {below : List Frame} {meth : Method} {c9 : Code} {A : Nat → Prop} {q : ((Int32) × va_W × Nat × Nat)} (FX : CallFix p m c9 cX0_house 3 s args lw_all RX0) (hr : meth.sig.returnType = (some .int)) (hlk : meth.locks = false) (hnm : meth.name = yX0_house.name) (hout : c9.exceptionTable.toList = tableOf [(2, 71, 74, 135)]) : ∀ (x0 : Nat) (x1 : Option Nat) (y0 : Nat) (y1 : Int32) (w : va_W) (c : Nat) (y : Nat) (H : Heap) (locs : List Loc) (ls : Array Slot), lv_has ls 3 [(0, .ref x0), (1, va_rf x1)] → Wo D dA A s w z c H locs → fOX0_house_106 dA z x0 x1 y0 y1 w c y = some q → W p l e rOX0_house s m args below meth c9 H locs c y (QO D dA A below args s rOX0_house.cells rOX0_house.slots (.inl (some (.int q.1))) q.2.1 (z + q.2.2.1) q.2.2.2) (F0 m 106 ls [.int y1, .ref y0]) := by
  have hx := FX.1; have hb := FX.2.1; have hown := FX.2.2.2.1; have hts := FX.2.2.2.2
  intro x0 x1 y0 y1 w c y H locs ls hl hW hf
  rw [fOX0_house_106] at hf
  refine op_put (C := RX0) (T := TX0) (N := 26) (ci := 0) (ty := .int) FX hW in_X0 tyX0 tyX0_ok nmX0 rfl 3 (by decide) q369 (fun _ h => h) rfl (by decide +kernel) rfl rfl hf dX0_house_106 (fun w1 H locs hW hf => ?_)
  refine lv_aload_n hx hb dX0_house_109 rfl (lv_at hl 0 rfl) ?_
  refine lv_iconst (v := 0) hx hb dX0_house_110 (by decide) ?_
  refine op_put (C := RX0) (T := TX0) (N := 26) (ci := 0) (ty := .int) FX hW in_X0 tyX0 tyX0_ok nmX0 rfl 1 (by decide) q367 (fun _ h => h) rfl (by decide +kernel) rfl rfl hf dX0_house_111 (fun w2 H locs hW hf => ?_)
  refine lv_aload_nQ hx hb dX0_house_114 rfl (lv_at hl 1 rfl) ?_
  refine g_ifnonnull (tgt := 131) FX hf dX0_house_115 (by decide) (fun hf => ?_) (fun u3 eu3 hf => ?_)
  · skip
    refine lv_aload_n hx hb dX0_house_118 rfl (lv_at hl 0 rfl) ?_
    refine og_R (C := RX0) (T := TX0) (N := 26) (ci := 0) FX hW in_X0 rfl 4 (by decide) q370 (fun _ h => h) hf dX0_house_119 (fun v4 hf => ?_)
    refine og_R (C := RX1) (T := TX1) (N := 8) (ci := 1) FX hW in_X1 rfl 1 (by decide) q232 (fun _ h => h) hf dX0_house_122 (fun v5 hf => ?_)
    obtain ⟨hv9, hf⟩ := pck_some hf
    refine oc_i hW hf (fun r0 h0 hg => o_V (C := RJ2) (As := []) (rest := []) (n := 0) FX (mJ2_sizeO h0) (cwV 0 FX.2.2.2.2 (lw_V q892 q333 q334 q127 q335) rfl rfl rfl (by decide +kernel) ⟨Nat.le_of_ble_eq_true rfl, Nat.le_of_ble_eq_true rfl⟩) (o_recv hW rfl hv9) rfl hl.1 rfl (Nat.le_of_ble_eq_true rfl) hg dX0_house_125 hW) (fun r6 w7 c8 y9 H locs hW hf => ?_)
    refine lv_goto (tgt := 132) hx hb dX0_house_128 (by decide) ?_
    obtain ⟨hg, hf⟩ := gck_some hf
    obtain rfl := Option.some.inj hf
    exact ro_i FX hr hlk hW hg dX0_house_132
  · skip
    refine lv_iconst (v := -1) hx hb dX0_house_131 (by decide) ?_
    obtain ⟨hg, hf⟩ := gck_some hf
    obtain rfl := Option.some.inj hf
    exact ro_i FX hr hlk hW hg dX0_house_132
set_option maxHeartbeats 4000000 in
set_option maxRecDepth 100000 in
theorem wOX0_house_90 {l : Launch} {D : va_G} {dA : Nat → ClassId} {z : Nat} {p : Program} {e : Env} {s : State} {m : MethodId} {args : Array Value} {below : List Frame} {meth : Method} {c9 : Code} {A : Nat → Prop} {q : ((Int32) × va_W × Nat × Nat)} (FX : CallFix p m c9 cX0_house 3 s args lw_all RX0) (hr : meth.sig.returnType = (some .int)) (hlk : meth.locks = false) (hnm : meth.name = yX0_house.name) (hout : c9.exceptionTable.toList = tableOf [(2, 71, 74, 135)]) : ∀ (x0 : Nat) (x1 : Option Nat) (y0 : Nat) (y1 : Int32) (w : va_W) (c : Nat) (y : Nat) (H : Heap) (locs : List Loc) (ls : Array Slot), lv_has ls 3 [(0, .ref x0), (1, va_rf x1)] → Wo D dA A s w z c H locs → fOX0_house_90 dA z x0 x1 y0 y1 w c y = some q → W p l e rOX0_house s m args below meth c9 H locs c y (QO D dA A below args s rOX0_house.cells rOX0_house.slots (.inl (some (.int q.1))) q.2.1 (z + q.2.2.1) q.2.2.2) (F0 m 90 ls [.int y1, .ref y0]) := by
  have hx := FX.1; have hb := FX.2.1; have hown := FX.2.2.2.1; have hts := FX.2.2.2.2
  intro x0 x1 y0 y1 w c y H locs ls hl hW hf
  rw [fOX0_house_90] at hf
  refine op_put (C := RX0) (T := TX0) (N := 26) (ci := 0) (ty := .int) FX hW in_X0 tyX0 tyX0_ok nmX0 rfl 2 (by decide) q368 (fun _ h => h) rfl (by decide +kernel) rfl rfl hf dX0_house_90 (fun w1 H locs hW hf => ?_)
  refine lv_aload_n hx hb dX0_house_93 rfl (lv_at hl 0 rfl) ?_
  refine lv_aload_nQ hx hb dX0_house_94 rfl (lv_at hl 1 rfl) ?_
  refine g_ifnonnull (tgt := 102) FX hf dX0_house_95 (by decide) (fun hf => ?_) (fun u2 eu2 hf => ?_)
  · skip
    refine lv_iconst (v := -1) hx hb dX0_house_98 (by decide) ?_
    refine lv_goto (tgt := 106) hx hb dX0_house_99 (by decide) ?_
    exact wOX0_house_106 FX hr hlk hnm hout x0 x1 x0 (-1 : Int32) w1 c y _ _ _ (lv_sub hl [0, 1] rfl) hW hf
  · skip
    refine lv_aload_nQ hx hb dX0_house_102 rfl (lv_at hl 1 rfl) ?_
    obtain ⟨u4, en, hf⟩ := nn_some hf
    rw [en]
    refine og_i (C := RX8) (T := TX8) (N := 8) (ci := 7) FX hW in_X8 rfl 7 (by decide) q871 (fun _ h => h) hf dX0_house_103 (fun v3 hf => ?_)
    exact wOX0_house_106 FX hr hlk hnm hout x0 x1 x0 v3 w1 c y _ _ _ (lv_sub hl [0, 1] rfl) hW hf
set_option maxHeartbeats 4000000 in
set_option maxRecDepth 100000 in
theorem wOX0_house_77 {l : Launch} {D : va_G} {dA : Nat → ClassId} {z : Nat} {p : Program} {e : Env} {s : State} {m : MethodId} {args : Array Value} {below : List Frame} {meth : Method} {c9 : Code} {A : Nat → Prop} {q : ((Int32) × va_W × Nat × Nat)} (FX : CallFix p m c9 cX0_house 3 s args lw_all RX0) (hr : meth.sig.returnType = (some .int)) (hlk : meth.locks = false) (hnm : meth.name = yX0_house.name) (hout : c9.exceptionTable.toList = tableOf [(2, 71, 74, 135)]) : ∀ (x0 : Nat) (x1 : Option Nat) (w : va_W) (c : Nat) (y : Nat) (H : Heap) (locs : List Loc) (ls : Array Slot), lv_has ls 3 [(0, .ref x0), (1, va_rf x1)] → Wo D dA A s w z c H locs → fOX0_house_77 dA z x0 x1 w c y = some q → W p l e rOX0_house s m args below meth c9 H locs c y (QO D dA A below args s rOX0_house.cells rOX0_house.slots (.inl (some (.int q.1))) q.2.1 (z + q.2.2.1) q.2.2.2) (F0 m 77 ls []) := by
  have hx := FX.1; have hb := FX.2.1; have hown := FX.2.2.2.1; have hts := FX.2.2.2.2
  intro x0 x1 w c y H locs ls hl hW hf
  rw [fOX0_house_77] at hf
  refine lv_aload_n hx hb dX0_house_77 rfl (lv_at hl 0 rfl) ?_
  refine lv_aload_nQ hx hb dX0_house_78 rfl (lv_at hl 1 rfl) ?_
  refine g_ifnonnull (tgt := 86) FX hf dX0_house_79 (by decide) (fun hf => ?_) (fun u1 eu1 hf => ?_)
  · skip
    refine lv_iconst (v := 0) hx hb dX0_house_82 (by decide) ?_
    refine lv_goto (tgt := 90) hx hb dX0_house_83 (by decide) ?_
    exact wOX0_house_90 FX hr hlk hnm hout x0 x1 x0 (0 : Int32) w c y _ _ _ (lv_sub hl [0, 1] rfl) hW hf
  · skip
    refine lv_aload_nQ hx hb dX0_house_86 rfl (lv_at hl 1 rfl) ?_
    obtain ⟨u3, en, hf⟩ := nn_some hf
    rw [en]
    refine og_i (C := RX8) (T := TX8) (N := 8) (ci := 7) FX hW in_X8 rfl 6 (by decide) q869 (fun _ h => h) hf dX0_house_87 (fun v2 hf => ?_)
    exact wOX0_house_90 FX hr hlk hnm hout x0 x1 x0 v2 w c y _ _ _ (lv_sub hl [0, 1] rfl) hW hf
set_option maxHeartbeats 4000000 in
set_option maxRecDepth 100000 in
theorem wOX0_house_53 {l : Launch} {D : va_G} {dA : Nat → ClassId} {z : Nat} {p : Program} {e : Env} {s : State} {m : MethodId} {args : Array Value} {below : List Frame} {meth : Method} {c9 : Code} {A : Nat → Prop} {q : ((Int32) × va_W × Nat × Nat)} (FX : CallFix p m c9 cX0_house 3 s args lw_all RX0) (hr : meth.sig.returnType = (some .int)) (hlk : meth.locks = false) (hnm : meth.name = yX0_house.name) (hout : c9.exceptionTable.toList = tableOf [(2, 71, 74, 135)]) : ∀ n : Nat, ∀ (x0 : Nat) (x2 : Int32) (w : va_W) (c : Nat) (y : Nat) (H : Heap) (locs : List Loc) (ls : Array Slot), lv_has ls 3 [(0, .ref x0), (1, .null), (2, .int x2)] → Wo D dA A s w z c H locs → fOX0_house_53 dA z n x0 x2 w c y = some q → W p l e rOX0_house s m args below meth c9 H locs c y (QO D dA A below args s rOX0_house.cells rOX0_house.slots (.inl (some (.int q.1))) q.2.1 (z + q.2.2.1) q.2.2.2) (F0 m 53 ls []) := by
  have hx := FX.1; have hb := FX.2.1; have hown := FX.2.2.2.1; have hts := FX.2.2.2.2
  intro n
  induction n with
  | zero =>
    intro x0 x2 w c y H locs ls hl hW hf
    cases (show (none : Option ((Int32) × va_W × Nat × Nat)) = some q from hf)
  | succ n ih =>
    intro x0 x2 w c y H locs ls hl hW hf
    rw [fOX0_house_53] at hf
    refine lv_iload_n hx hb dX0_house_53 rfl (lv_at hl 2 rfl) ?_
    refine lv_iconst (v := 3) hx hb dX0_house_54 (by decide) ?_
    refine lv_icmp_ge (tgt := 71) hx hb dX0_house_55 (by decide) (fun c55 => ?_) (fun c55 => ?_)
    · have hf := ifp c55 hf
      refine lv_goto (tgt := 77) hx hb dX0_house_71 (by decide) ?_
      exact wOX0_house_77 FX hr hlk hnm hout x0 none w c y _ _ _ (lv_sub hl [0, 1] rfl) hW hf
    · have hf := ifn c55 hf
      refine lv_aload_n hx hb dX0_house_58 rfl (lv_at hl 0 rfl) ?_
      refine og_R (C := RX0) (T := TX0) (N := 26) (ci := 0) FX hW in_X0 rfl 25 (by decide) q392 (fun _ h => h) hf dX0_house_59 (fun v1 hf => ?_)
      refine lv_iload_n hx hb dX0_house_62 rfl (lv_at hl 2 rfl) ?_
      refine lv_iconst (v := 0) hx hb dX0_house_63 (by decide) ?_
      refine op_zast FX hW hf dX0_house_64 (fun w2 H locs hW hf => ?_)
      refine lv_iinc (v := (x2 + (1 : Int32))) (lv' := [(2, .int (x2 + (1 : Int32))), (0, .ref x0), (1, .null)]) hx hb dX0_house_65 hl (k := 2) rfl rfl (by decide) rfl (fun ls hl => ?_)
      refine lv_goto (tgt := 53) hx hb dX0_house_68 (by decide) ?_
      exact ih x0 (x2 + (1 : Int32)) w2 c y _ _ _ (lv_sub hl [1, 2, 0] rfl) hW hf
set_option maxHeartbeats 4000000 in
set_option maxRecDepth 100000 in
theorem mOX0_house {l : Launch} {D : va_G} {dA : Nat → ClassId} {z : Nat}  {t7 : Nat} {w : va_W} {q : ((Int32) × va_W × Nat × Nat)} (hf : fOX0_house dA z t7 w = some q) : CtOW l yX0_house cX0_house 3 (some .int) [(2, 71, 74, 135)] rOX0_house D dA [.ref t7] w z (.inl (some (.int q.1))) q.2.1 q.2.2.1 q.2.2.2 := by
  refine e_OW (by decide) (Nat.le_of_ble_eq_true rfl) ?_
  intro p e s m below meth c9 ls A FX hr hlk hnm hout hl hW
  have hx := FX.1; have hb := FX.2.1; have hown := FX.2.2.2.1; have hts := FX.2.2.2.2
  have hl : lv_has ls 3 [(0, .ref t7)] := hl
  rw [fOX0_house] at hf
  refine lv_null hx hb dX0_house_0 ?_
  refine lv_astore_nN (lv' := [(1, .null), (0, .ref t7)]) hx hb dX0_house_1 rfl hl (by decide) rfl (fun ls hl => ?_)
  refine lv_aload_n hx hb dX0_house_2 rfl (lv_at hl 1 rfl) ?_
  refine on_new (C := RX5) (T := TX5) (N := 12) (ci := 5) (fs := [.int 0, .int 0, .int 0, .int 0, .int 0, .int 0, .int 0, .int 0, .int 0, .null, .null, .null]) FX hW in_X5 tyX5 tyX5_ok q460 q461 q133 rfl (by decide +kernel) hf dX0_house_3 (fun w1 c2 y3 H hW hf => ?_)
  refine lv_dup hx hb dX0_house_6 rfl ?_
  refine lv_aload_n hx hb dX0_house_7 rfl (lv_at hl 1 rfl) ?_
  refine oc_v hW hf (fun r0 h0 hg => o_IN (As := [.ref t7]) (rest := [.ref (z + 0), .ref t7]) (n := 1) FX (mX5_init h0) ⟨va_cnB (host := "TrunkLitters") 1 FX.2.2.2.2 (lw_meth q464) rfl rfl rfl (hW.gx.1 _ (List.mem_of_getElem? (i := 5) rfl)) (FX.2.2.2.2 _ q133) (by decide +kernel) ⟨Nat.le_of_ble_eq_true rfl, Nat.le_of_ble_eq_true rfl⟩, rfl, FX.2.2.2.2 _ q463⟩ rfl hl.1 rfl (Nat.le_of_ble_eq_true rfl) hg dX0_house_8 hW) (fun w5 c6 y7 H locs hW hf => ?_)
  obtain ⟨hv9, hf⟩ := pck_some hf
  refine oc_X (fun r => some (.ref r)) hW hf (fun r0 h0 hg => o_V (C := RX5) (As := []) (rest := [.ref t7]) (n := 0) FX (mX5_text h0) (cwV 0 FX.2.2.2.2 (lw_V q506 q507 q508 q133 q509) rfl rfl rfl (by decide +kernel) ⟨Nat.le_of_ble_eq_true rfl, Nat.le_of_ble_eq_true rfl⟩) (o_recv hW rfl hv9) rfl hl.1 rfl (Nat.le_of_ble_eq_true rfl) hg dX0_house_11 hW) (fun t9 w9 c10 y11 H locs ce9 hW e1 e2 e3 hf => ?_) (fun v12 w9 c10 y11 H locs hW hf => ?_)
  · rw [othr_inr] at hf
    refine vy_catch (E := "TrunkLitters$Wrong") hown [] ⟨2, 71, 74, 135⟩ [] hout (fun z hz => by cases hz) (by decide) (by decide) (hts _ q459) (va_Nw.use rfl (hW.gx.1 _ (show Cond.castable "TrunkLitters$Wrong" "TrunkLitters$Wrong" ∈ nwL from List.mem_of_getElem? (i := 13) rfl))) e1 e2 e3 ?_
    refine lv_astore_n (lv' := [(2, .ref t9), (1, .null), (0, .ref t7)]) hx hb dX0_house_74 rfl hl (by decide) rfl (fun ls hl => ?_)
    refine lv_aload_n hx hb dX0_house_75 rfl (lv_at hl 0 rfl) ?_
    refine lv_astore_n (lv' := [(1, .ref t9), (2, .ref t9), (0, .ref t7)]) hx hb dX0_house_76 rfl hl (by decide) rfl (fun ls hl => ?_)
    exact wOX0_house_77 FX hr hlk hnm hout t7 (some t9) w9 c10 y11 _ _ _ (lv_sub hl [2, 0] rfl) hW hf
  rw [othr_inl] at hf
  refine op_put (C := RX0) (T := TX0) (N := 26) (ci := 0) (ty := (.object "TrunkLitters$Book")) FX hW in_X0 tyX0 tyX0_ok nmX0 rfl 4 (by decide) q370 (fun _ h => h) rfl (by decide +kernel) rfl rfl hf dX0_house_14 (fun w13 H locs hW hf => ?_)
  refine lv_aload_n hx hb dX0_house_17 rfl (lv_at hl 1 rfl) ?_
  refine og_R (C := RX0) (T := TX0) (N := 26) (ci := 0) FX hW in_X0 rfl 5 (by decide) q371 (fun _ h => h) hf dX0_house_18 (fun v14 hf => ?_)
  refine lv_aload_n hx hb dX0_house_21 rfl (lv_at hl 1 rfl) ?_
  refine og_R (C := RX0) (T := TX0) (N := 26) (ci := 0) FX hW in_X0 rfl 4 (by decide) q370 (fun _ h => h) hf dX0_house_22 (fun v15 hf => ?_)
  obtain ⟨hv9, hf⟩ := pck_some hf
  refine oc_R hW hf (fun r0 h0 hg => o_V (C := RX3) (As := [.ref v15]) (rest := []) (n := 1) FX (mOX3_begin h0) (cwV 1 FX.2.2.2.2 (lw_V q328 q329 q330 q129 q331) rfl rfl rfl (by decide +kernel) ⟨Nat.le_of_ble_eq_true rfl, Nat.le_of_ble_eq_true rfl⟩) (o_recv hW rfl hv9) rfl hl.1 rfl (Nat.le_of_ble_eq_true rfl) hg dX0_house_25 hW) (fun r16 w17 c18 y19 H locs hW hf => ?_)
  refine lv_pop hx hb dX0_house_28 rfl ?_
  refine lv_aload_n hx hb dX0_house_29 rfl (lv_at hl 1 rfl) ?_
  refine lv_iconst (v := 0) hx hb dX0_house_30 (by decide) ?_
  refine op_put (C := RX0) (T := TX0) (N := 26) (ci := 0) (ty := .int) FX hW in_X0 tyX0 tyX0_ok nmX0 rfl 10 (by decide) q377 (fun _ h => h) rfl (by decide +kernel) rfl rfl hf dX0_house_31 (fun w20 H locs hW hf => ?_)
  refine lv_aload_n hx hb dX0_house_34 rfl (lv_at hl 1 rfl) ?_
  refine lv_iconst (v := 0) hx hb dX0_house_35 (by decide) ?_
  refine op_put (C := RX0) (T := TX0) (N := 26) (ci := 0) (ty := .int) FX hW in_X0 tyX0 tyX0_ok nmX0 rfl 11 (by decide) q378 (fun _ h => h) rfl (by decide +kernel) rfl rfl hf dX0_house_36 (fun w21 H locs hW hf => ?_)
  refine lv_aload_n hx hb dX0_house_39 rfl (lv_at hl 1 rfl) ?_
  refine lv_iconst (v := 0) hx hb dX0_house_40 (by decide) ?_
  refine op_put (C := RX0) (T := TX0) (N := 26) (ci := 0) (ty := .int) FX hW in_X0 tyX0 tyX0_ok nmX0 rfl 15 (by decide) q382 (fun _ h => h) rfl (by decide +kernel) rfl rfl hf dX0_house_41 (fun w22 H locs hW hf => ?_)
  refine lv_aload_n hx hb dX0_house_44 rfl (lv_at hl 1 rfl) ?_
  refine og_R (C := RX0) (T := TX0) (N := 26) (ci := 0) FX hW in_X0 rfl 21 (by decide) q388 (fun _ h => h) hf dX0_house_45 (fun v23 hf => ?_)
  obtain ⟨hv9, hf⟩ := pck_some hf
  refine oc_v hW hf (fun r0 h0 hg => o_V (C := RJ2) (As := []) (rest := []) (n := 0) FX (mJ2_clear h0) (cwV 0 FX.2.2.2.2 (lw_V q1110 q1111 q1112 q127 q1113) rfl rfl rfl (by decide +kernel) ⟨Nat.le_of_ble_eq_true rfl, Nat.le_of_ble_eq_true rfl⟩) (o_recv hW rfl hv9) rfl hl.1 rfl (Nat.le_of_ble_eq_true rfl) hg dX0_house_48 hW) (fun w25 c26 y27 H locs hW hf => ?_)
  refine lv_iconst (v := 0) hx hb dX0_house_51 (by decide) ?_
  refine lv_istore_n (lv' := [(2, .int (0 : Int32)), (1, .null), (0, .ref t7)]) hx hb dX0_house_52 rfl hl (by decide) rfl (fun ls hl => ?_)
  exact wOX0_house_53 FX hr hlk hnm hout _ t7 (0 : Int32) w25 c26 y27 _ _ _ (lv_sub hl [2, 1, 0] rfl) hW hf
