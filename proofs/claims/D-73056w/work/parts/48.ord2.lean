/-! TrunkLitters$Reader.newName(Ljava/util/ArrayList;)Ljava/lang/String;: kind O -/
abbrev rX5_newNamer : Room := { frames := 7, cells := 10, slots := 320, locals := 194 }
def fX5_newNamer (dA : Nat → Nat) (z : Nat) (t7 : Nat) (l97 : Nat) (w : va_W) : Option ((Nat ⊕ Nat) × va_W × Nat × Nat) := pck w t7 5 (ocal rX5_newNamer.cells rX5_newNamer.slots 0 0 rX5_go.cells rX5_go.slots (fX5_go dA (z + 0) t7 w) fun r1 w2 c3 y4 => pck w2 t7 5 (ocal rX5_newNamer.cells rX5_newNamer.slots c3 y4 rX5_isName.cells rX5_isName.slots (fX5_isName dA (z + c3) t7 w2) fun r5 w6 c7 y8 => (if r5 = 0 then pck w6 t7 5 (ocal rX5_newNamer.cells rX5_newNamer.slots c7 y8 rX5_wrong.cells rX5_wrong.slots (fX5_wrong dA (z + c7) t7 w6) fun r27 w28 c29 y30 => gck c29 y30 rX5_newNamer.cells rX5_newNamer.slots (pck w28 r27 7 (some (.inr r27, w28, c29, y30)))) else pgR w6 t7 5 9 fun v9 => ocal rX5_newNamer.cells rX5_newNamer.slots c7 y8 rX0_findr.cells rX0_findr.slots (fX0_findr dA (z + c7) l97 v9 w6) fun r10 w11 c12 y13 => (if r10 < 0 then pgR w11 t7 5 9 fun v14 => pck w11 t7 5 (ocal rX5_newNamer.cells rX5_newNamer.slots c12 y13 rX5_go.cells rX5_go.slots (fX5_go dA (z + c12) t7 w11) fun r15 w16 c17 y18 => gck c17 y18 rX5_newNamer.cells rX5_newNamer.slots (some ((.inl v14), w16, c17, y18))) else onew rX5_newNamer.cells rX5_newNamer.slots c12 y13 8 w11 (z + c12) (.inr (7, [.null, .null, .null, .null, .null, .int 0, .int 0, .int 0])) fun w19 c20 y21 => pgi w19 t7 5 2 fun v22 => ocal rX5_newNamer.cells rX5_newNamer.slots c20 y21 rX8_init.cells rX8_init.slots (fX8_init dA (z + c20) (z + c12) (3 : Int32) v22 w19) fun r23 w24 c25 y26 => gck c25 y26 rX5_newNamer.cells rX5_newNamer.slots (pck w24 (z + c12) 7 (some (.inr (z + c12), w24, c25, y26)))))))
set_option maxHeartbeats 4000000 in
set_option maxRecDepth 100000 in
theorem mX5_newNamer {l : Launch} {D : va_G} {dA : Nat → ClassId} {z : Nat}  {t7 : Nat} {l97 : Nat} {w : va_W} {q : ((Nat ⊕ Nat) × va_W × Nat × Nat)} (hf : fX5_newNamer dA z t7 l97 w = some q) : CtO l yX5_newName cX5_newName 3 (some (Jvm.ClassFile.FieldType.object "java/lang/String")) rX5_newNamer D dA [.ref t7, .ref l97] w z (Sum.map (fun r => some (.ref r)) id q.1) q.2.1 q.2.2.1 q.2.2.2 := by
  refine e_O (by decide) (Nat.le_of_ble_eq_true rfl) ?_
  intro p e s m below meth c9 ls A FX hr hlk hnm hout hl hW
  have hx := FX.1; have hb := FX.2.1; have hown := FX.2.2.2.1; have hts := FX.2.2.2.2
  have hl : lv_has ls 3 [(0, .ref t7), (1, .ref l97)] := hl
  rw [fX5_newNamer] at hf
  refine lv_aload_n hx hb dX5_newName_0 rfl (lv_at hl 0 rfl) ?_
  obtain ⟨hv9, hf⟩ := pck_some hf
  refine oc_v hW hf (fun r0 h0 hg => o_V (C := RX5) (As := []) (rest := []) (n := 0) FX (mX5_go h0) (cwV 0 FX.2.2.2.2 (lw_V q510 q512 qs1 q133 q513) rfl rfl rfl (by decide +kernel) ⟨Nat.le_of_ble_eq_true rfl, Nat.le_of_ble_eq_true rfl⟩) (o_recv hW rfl hv9) rfl hl.1 rfl (Nat.le_of_ble_eq_true rfl) hg dX5_newName_1 hW) (fun w2 c3 y4 H locs hW hf => ?_)
  refine lv_aload_n hx hb dX5_newName_4 rfl (lv_at hl 0 rfl) ?_
  obtain ⟨hv9, hf⟩ := pck_some hf
  refine oc_i hW hf (fun r0 h0 hg => o_V (C := RX5) (As := []) (rest := []) (n := 0) FX (mX5_isName h0) (cwV 0 FX.2.2.2.2 (lw_V q744 q746 qs9 q133 q747) rfl rfl rfl (by decide +kernel) ⟨Nat.le_of_ble_eq_true rfl, Nat.le_of_ble_eq_true rfl⟩) (o_recv hW rfl hv9) rfl hl.1 rfl (Nat.le_of_ble_eq_true rfl) hg dX5_newName_5 hW) (fun r5 w6 c7 y8 H locs hW hf => ?_)
  refine lv_if_ne (tgt := 16) hx hb dX5_newName_8 (by decide) (fun c8 => ?_) (fun c8 => ?_)
  · have hf := ifn c8 hf
    refine lv_aload_n hx hb dX5_newName_16 rfl (lv_at hl 1 rfl) ?_
    refine lv_aload_n hx hb dX5_newName_17 rfl (lv_at hl 0 rfl) ?_
    refine og_R (C := RX5) (T := TX5) (N := 12) (ci := 5) FX hW in_X5 rfl 9 (by decide) q478 (fun _ h => h) hf dX5_newName_18 (fun v9 hf => ?_)
    refine oc_i hW hf (fun r0 h0 hg => o_SN (As := [.ref l97, .ref v9]) (rest := []) (n := 2) FX (mX0_findr h0) ⟨va_cnB (host := "TrunkLitters") 2 FX.2.2.2.2 (lw_meth q891) rfl rfl rfl (hW.gx.1 _ (List.mem_of_getElem? (i := 10) rfl)) (FX.2.2.2.2 _ q123) (by decide +kernel) ⟨Nat.le_of_ble_eq_true rfl, Nat.le_of_ble_eq_true rfl⟩, FX.2.2.2.2 _ q890, trivial⟩ rfl hl.1 rfl (Nat.le_of_ble_eq_true rfl) hg dX5_newName_21 hW) (fun r10 w11 c12 y13 H locs hW hf => ?_)
    refine lv_if_lt (tgt := 40) hx hb dX5_newName_24 (by decide) (fun c24 => ?_) (fun c24 => ?_)
    · have hf := ifp c24 hf
      refine lv_aload_n hx hb dX5_newName_40 rfl (lv_at hl 0 rfl) ?_
      refine og_R (C := RX5) (T := TX5) (N := 12) (ci := 5) FX hW in_X5 rfl 9 (by decide) q478 (fun _ h => h) hf dX5_newName_41 (fun v14 hf => ?_)
      refine lv_astore_n (lv' := [(2, .ref v14), (0, .ref t7), (1, .ref l97)]) hx hb dX5_newName_44 rfl hl (by decide) rfl (fun ls hl => ?_)
      refine lv_aload_n hx hb dX5_newName_45 rfl (lv_at hl 1 rfl) ?_
      obtain ⟨hv9, hf⟩ := pck_some hf
      refine oc_v hW hf (fun r0 h0 hg => o_V (C := RX5) (As := []) (rest := []) (n := 0) FX (mX5_go h0) (cwV 0 FX.2.2.2.2 (lw_V q510 q512 qs1 q133 q513) rfl rfl rfl (by decide +kernel) ⟨Nat.le_of_ble_eq_true rfl, Nat.le_of_ble_eq_true rfl⟩) (o_recv hW rfl hv9) rfl hl.1 rfl (Nat.le_of_ble_eq_true rfl) hg dX5_newName_46 hW) (fun w16 c17 y18 H locs hW hf => ?_)
      refine lv_aload_n hx hb dX5_newName_49 rfl (lv_at hl 0 rfl) ?_
      obtain ⟨hg, hf⟩ := gck_some hf
      obtain rfl := Option.some.inj hf
      exact ro_a (v := some v14) FX hr (Or.inl ⟨_, rfl⟩) hlk hW hg dX5_newName_50
    · have hf := ifn c24 hf
      refine on_new (C := RX8) (T := TX8) (N := 8) (ci := 7) (fs := [.null, .null, .null, .null, .null, .int 0, .int 0, .int 0]) FX hW in_X8 tyX8 tyX8_ok q822 q823 q147 rfl (by decide +kernel) hf dX5_newName_27 (fun w19 c20 y21 H hW hf => ?_)
      refine lv_dup hx hb dX5_newName_30 rfl ?_
      refine lv_iconst (v := 3) hx hb dX5_newName_31 (by decide) ?_
      refine lv_aload_n hx hb dX5_newName_32 rfl (lv_at hl 0 rfl) ?_
      refine og_i (C := RX5) (T := TX5) (N := 12) (ci := 5) FX hW in_X5 rfl 2 (by decide) q471 (fun _ h => h) hf dX5_newName_33 (fun v22 hf => ?_)
      refine oc_v hW hf (fun r0 h0 hg => o_I (As := [.int (3 : Int32), .int v22]) (rest := [.ref (z + c12)]) (n := 2) FX (mX8_init h0) (cwI 2 FX.2.2.2.2 (lw_meth q861) rfl rfl rfl (FX.2.2.2.2 _ q147) (FX.2.2.2.2 _ q859) (FX.2.2.2.2 _ q860) rfl (by decide +kernel) ⟨Nat.le_of_ble_eq_true rfl, Nat.le_of_ble_eq_true rfl⟩) rfl hl.1 rfl (Nat.le_of_ble_eq_true rfl) hg dX5_newName_36 hW) (fun w24 c25 y26 H locs hW hf => ?_)
      obtain ⟨hg, hf⟩ := gck_some hf
      obtain ⟨⟨fs9, hv9⟩, hf⟩ := pck_some hf
      obtain rfl := Option.some.inj hf
      exact o_athrow FX hW hv9 dX5_newName_39 (fun ce e1 e2 e3 => ro_x hout hlk hW hg e1 e2 e3)
  · have hf := ifp c8 hf
    refine lv_aload_n hx hb dX5_newName_11 rfl (lv_at hl 0 rfl) ?_
    obtain ⟨hv9, hf⟩ := pck_some hf
    refine oc_R hW hf (fun r0 h0 hg => o_V (C := RX5) (As := []) (rest := []) (n := 0) FX (mX5_wrong h0) (cwV 0 FX.2.2.2.2 (lw_V q818 q820 qs10 q133 q821) rfl rfl rfl (by decide +kernel) ⟨Nat.le_of_ble_eq_true rfl, Nat.le_of_ble_eq_true rfl⟩) (o_recv hW rfl hv9) rfl hl.1 rfl (Nat.le_of_ble_eq_true rfl) hg dX5_newName_12 hW) (fun r27 w28 c29 y30 H locs hW hf => ?_)
    obtain ⟨hg, hf⟩ := gck_some hf
    obtain ⟨⟨fs9, hv9⟩, hf⟩ := pck_some hf
    obtain rfl := Option.some.inj hf
    exact o_athrow FX hW hv9 dX5_newName_15 (fun ce e1 e2 e3 => ro_x hout hlk hW hg e1 e2 e3)
/-! TrunkLitters$Reader.newName(Ljava/util/ArrayList;)Ljava/lang/String;: kind O -/
abbrev rX5_newNamet : Room := { frames := 7, cells := 10, slots := 320, locals := 194 }
def fX5_newNamet (dA : Nat → Nat) (z : Nat) (t7 : Nat) (l97 : Nat) (w : va_W) : Option ((Nat ⊕ Nat) × va_W × Nat × Nat) := pck w t7 5 (ocal rX5_newNamet.cells rX5_newNamet.slots 0 0 rX5_go.cells rX5_go.slots (fX5_go dA (z + 0) t7 w) fun r1 w2 c3 y4 => pck w2 t7 5 (ocal rX5_newNamet.cells rX5_newNamet.slots c3 y4 rX5_isName.cells rX5_isName.slots (fX5_isName dA (z + c3) t7 w2) fun r5 w6 c7 y8 => (if r5 = 0 then pck w6 t7 5 (ocal rX5_newNamet.cells rX5_newNamet.slots c7 y8 rX5_wrong.cells rX5_wrong.slots (fX5_wrong dA (z + c7) t7 w6) fun r27 w28 c29 y30 => gck c29 y30 rX5_newNamet.cells rX5_newNamet.slots (pck w28 r27 7 (some (.inr r27, w28, c29, y30)))) else pgR w6 t7 5 9 fun v9 => ocal rX5_newNamet.cells rX5_newNamet.slots c7 y8 rX0_findt.cells rX0_findt.slots (fX0_findt dA (z + c7) l97 v9 w6) fun r10 w11 c12 y13 => (if r10 < 0 then pgR w11 t7 5 9 fun v14 => pck w11 t7 5 (ocal rX5_newNamet.cells rX5_newNamet.slots c12 y13 rX5_go.cells rX5_go.slots (fX5_go dA (z + c12) t7 w11) fun r15 w16 c17 y18 => gck c17 y18 rX5_newNamet.cells rX5_newNamet.slots (some ((.inl v14), w16, c17, y18))) else onew rX5_newNamet.cells rX5_newNamet.slots c12 y13 8 w11 (z + c12) (.inr (7, [.null, .null, .null, .null, .null, .int 0, .int 0, .int 0])) fun w19 c20 y21 => pgi w19 t7 5 2 fun v22 => ocal rX5_newNamet.cells rX5_newNamet.slots c20 y21 rX8_init.cells rX8_init.slots (fX8_init dA (z + c20) (z + c12) (3 : Int32) v22 w19) fun r23 w24 c25 y26 => gck c25 y26 rX5_newNamet.cells rX5_newNamet.slots (pck w24 (z + c12) 7 (some (.inr (z + c12), w24, c25, y26)))))))
set_option maxHeartbeats 4000000 in
set_option maxRecDepth 100000 in
theorem mX5_newNamet {l : Launch} {D : va_G} {dA : Nat → ClassId} {z : Nat}  {t7 : Nat} {l97 : Nat} {w : va_W} {q : ((Nat ⊕ Nat) × va_W × Nat × Nat)} (hf : fX5_newNamet dA z t7 l97 w = some q) : CtO l yX5_newName cX5_newName 3 (some (Jvm.ClassFile.FieldType.object "java/lang/String")) rX5_newNamet D dA [.ref t7, .ref l97] w z (Sum.map (fun r => some (.ref r)) id q.1) q.2.1 q.2.2.1 q.2.2.2 := by
  refine e_O (by decide) (Nat.le_of_ble_eq_true rfl) ?_
  intro p e s m below meth c9 ls A FX hr hlk hnm hout hl hW
  have hx := FX.1; have hb := FX.2.1; have hown := FX.2.2.2.1; have hts := FX.2.2.2.2
  have hl : lv_has ls 3 [(0, .ref t7), (1, .ref l97)] := hl
  rw [fX5_newNamet] at hf
  refine lv_aload_n hx hb dX5_newName_0 rfl (lv_at hl 0 rfl) ?_
  obtain ⟨hv9, hf⟩ := pck_some hf
  refine oc_v hW hf (fun r0 h0 hg => o_V (C := RX5) (As := []) (rest := []) (n := 0) FX (mX5_go h0) (cwV 0 FX.2.2.2.2 (lw_V q510 q512 qs1 q133 q513) rfl rfl rfl (by decide +kernel) ⟨Nat.le_of_ble_eq_true rfl, Nat.le_of_ble_eq_true rfl⟩) (o_recv hW rfl hv9) rfl hl.1 rfl (Nat.le_of_ble_eq_true rfl) hg dX5_newName_1 hW) (fun w2 c3 y4 H locs hW hf => ?_)
  refine lv_aload_n hx hb dX5_newName_4 rfl (lv_at hl 0 rfl) ?_
  obtain ⟨hv9, hf⟩ := pck_some hf
  refine oc_i hW hf (fun r0 h0 hg => o_V (C := RX5) (As := []) (rest := []) (n := 0) FX (mX5_isName h0) (cwV 0 FX.2.2.2.2 (lw_V q744 q746 qs9 q133 q747) rfl rfl rfl (by decide +kernel) ⟨Nat.le_of_ble_eq_true rfl, Nat.le_of_ble_eq_true rfl⟩) (o_recv hW rfl hv9) rfl hl.1 rfl (Nat.le_of_ble_eq_true rfl) hg dX5_newName_5 hW) (fun r5 w6 c7 y8 H locs hW hf => ?_)
  refine lv_if_ne (tgt := 16) hx hb dX5_newName_8 (by decide) (fun c8 => ?_) (fun c8 => ?_)
  · have hf := ifn c8 hf
    refine lv_aload_n hx hb dX5_newName_16 rfl (lv_at hl 1 rfl) ?_
    refine lv_aload_n hx hb dX5_newName_17 rfl (lv_at hl 0 rfl) ?_
    refine og_R (C := RX5) (T := TX5) (N := 12) (ci := 5) FX hW in_X5 rfl 9 (by decide) q478 (fun _ h => h) hf dX5_newName_18 (fun v9 hf => ?_)
    refine oc_i hW hf (fun r0 h0 hg => o_SN (As := [.ref l97, .ref v9]) (rest := []) (n := 2) FX (mX0_findt h0) ⟨va_cnB (host := "TrunkLitters") 2 FX.2.2.2.2 (lw_meth q891) rfl rfl rfl (hW.gx.1 _ (List.mem_of_getElem? (i := 10) rfl)) (FX.2.2.2.2 _ q123) (by decide +kernel) ⟨Nat.le_of_ble_eq_true rfl, Nat.le_of_ble_eq_true rfl⟩, FX.2.2.2.2 _ q890, trivial⟩ rfl hl.1 rfl (Nat.le_of_ble_eq_true rfl) hg dX5_newName_21 hW) (fun r10 w11 c12 y13 H locs hW hf => ?_)
    refine lv_if_lt (tgt := 40) hx hb dX5_newName_24 (by decide) (fun c24 => ?_) (fun c24 => ?_)
    · have hf := ifp c24 hf
      refine lv_aload_n hx hb dX5_newName_40 rfl (lv_at hl 0 rfl) ?_
      refine og_R (C := RX5) (T := TX5) (N := 12) (ci := 5) FX hW in_X5 rfl 9 (by decide) q478 (fun _ h => h) hf dX5_newName_41 (fun v14 hf => ?_)
      refine lv_astore_n (lv' := [(2, .ref v14), (0, .ref t7), (1, .ref l97)]) hx hb dX5_newName_44 rfl hl (by decide) rfl (fun ls hl => ?_)
      refine lv_aload_n hx hb dX5_newName_45 rfl (lv_at hl 1 rfl) ?_
      obtain ⟨hv9, hf⟩ := pck_some hf
      refine oc_v hW hf (fun r0 h0 hg => o_V (C := RX5) (As := []) (rest := []) (n := 0) FX (mX5_go h0) (cwV 0 FX.2.2.2.2 (lw_V q510 q512 qs1 q133 q513) rfl rfl rfl (by decide +kernel) ⟨Nat.le_of_ble_eq_true rfl, Nat.le_of_ble_eq_true rfl⟩) (o_recv hW rfl hv9) rfl hl.1 rfl (Nat.le_of_ble_eq_true rfl) hg dX5_newName_46 hW) (fun w16 c17 y18 H locs hW hf => ?_)
      refine lv_aload_n hx hb dX5_newName_49 rfl (lv_at hl 0 rfl) ?_
      obtain ⟨hg, hf⟩ := gck_some hf
      obtain rfl := Option.some.inj hf
      exact ro_a (v := some v14) FX hr (Or.inl ⟨_, rfl⟩) hlk hW hg dX5_newName_50
    · have hf := ifn c24 hf
      refine on_new (C := RX8) (T := TX8) (N := 8) (ci := 7) (fs := [.null, .null, .null, .null, .null, .int 0, .int 0, .int 0]) FX hW in_X8 tyX8 tyX8_ok q822 q823 q147 rfl (by decide +kernel) hf dX5_newName_27 (fun w19 c20 y21 H hW hf => ?_)
      refine lv_dup hx hb dX5_newName_30 rfl ?_
      refine lv_iconst (v := 3) hx hb dX5_newName_31 (by decide) ?_
      refine lv_aload_n hx hb dX5_newName_32 rfl (lv_at hl 0 rfl) ?_
      refine og_i (C := RX5) (T := TX5) (N := 12) (ci := 5) FX hW in_X5 rfl 2 (by decide) q471 (fun _ h => h) hf dX5_newName_33 (fun v22 hf => ?_)
      refine oc_v hW hf (fun r0 h0 hg => o_I (As := [.int (3 : Int32), .int v22]) (rest := [.ref (z + c12)]) (n := 2) FX (mX8_init h0) (cwI 2 FX.2.2.2.2 (lw_meth q861) rfl rfl rfl (FX.2.2.2.2 _ q147) (FX.2.2.2.2 _ q859) (FX.2.2.2.2 _ q860) rfl (by decide +kernel) ⟨Nat.le_of_ble_eq_true rfl, Nat.le_of_ble_eq_true rfl⟩) rfl hl.1 rfl (Nat.le_of_ble_eq_true rfl) hg dX5_newName_36 hW) (fun w24 c25 y26 H locs hW hf => ?_)
      obtain ⟨hg, hf⟩ := gck_some hf
      obtain ⟨⟨fs9, hv9⟩, hf⟩ := pck_some hf
      obtain rfl := Option.some.inj hf
      exact o_athrow FX hW hv9 dX5_newName_39 (fun ce e1 e2 e3 => ro_x hout hlk hW hg e1 e2 e3)
  · have hf := ifp c8 hf
    refine lv_aload_n hx hb dX5_newName_11 rfl (lv_at hl 0 rfl) ?_
    obtain ⟨hv9, hf⟩ := pck_some hf
    refine oc_R hW hf (fun r0 h0 hg => o_V (C := RX5) (As := []) (rest := []) (n := 0) FX (mX5_wrong h0) (cwV 0 FX.2.2.2.2 (lw_V q818 q820 qs10 q133 q821) rfl rfl rfl (by decide +kernel) ⟨Nat.le_of_ble_eq_true rfl, Nat.le_of_ble_eq_true rfl⟩) (o_recv hW rfl hv9) rfl hl.1 rfl (Nat.le_of_ble_eq_true rfl) hg dX5_newName_12 hW) (fun r27 w28 c29 y30 H locs hW hf => ?_)
    obtain ⟨hg, hf⟩ := gck_some hf
    obtain ⟨⟨fs9, hv9⟩, hf⟩ := pck_some hf
    obtain rfl := Option.some.inj hf
    exact o_athrow FX hW hv9 dX5_newName_15 (fun ce e1 e2 e3 => ro_x hout hlk hW hg e1 e2 e3)
/-! TrunkLitters$Reader.readRoom()V: kind O -/
abbrev rX5_readRoom : Room := { frames := 10, cells := 40, slots := 1200, locals := 260 }
def fX5_readRoom (dA : Nat → Nat) (z : Nat) (t7 : Nat) (w : va_W) : Option ((Unit ⊕ Nat) × va_W × Nat × Nat) := onew rX5_readRoom.cells rX5_readRoom.slots 0 0 3 w (z + 0) (.inr (6, [.null, .int 0, .int 0])) fun w1 c2 y3 => pgR w1 t7 5 10 fun v4 => pgR w1 v4 1 0 fun v5 => pck w1 t7 5 (ocal rX5_readRoom.cells rX5_readRoom.slots c2 y3 rX5_newNamer.cells rX5_newNamer.slots (fX5_newNamer dA (z + c2) t7 v5 w1) fun r6 w7 c8 y9 => othr r6 (fun v10 => ocal rX5_readRoom.cells rX5_readRoom.slots c8 y9 rX7_init.cells rX7_init.slots (fX7_init dA (z + c8) (z + 0) v10 w7) fun r11 w12 c13 y14 => pck w12 t7 5 (ocal rX5_readRoom.cells rX5_readRoom.slots c13 y14 rX5_numberBy.cells rX5_numberBy.slots (fX5_numberBy dA (z + c13) t7 (dA 202) (0 : Int32) (99 : Int32) w12) fun r15 w16 c17 y18 => othr r15 (fun v19 => ppt w16 (z + 0) 6 1 (.int v19) fun w20 => pgR w20 t7 5 10 fun v21 => pgR w20 v21 1 0 fun v22 => pck w20 v22 13 (ocal rX5_readRoom.cells rX5_readRoom.slots c17 y18 rJ2_addr.cells rJ2_addr.slots (fJ2_addr dA (z + c17) v22 (z + 0) w20) fun r23 w24 c25 y26 => gck c25 y26 rX5_readRoom.cells rX5_readRoom.slots (some ((.inl ()), w24, c25, y26)))) fun t => gck c17 y18 rX5_readRoom.cells rX5_readRoom.slots (some (.inr t, w16, c17, y18)))) fun t => gck c8 y9 rX5_readRoom.cells rX5_readRoom.slots (some (.inr t, w7, c8, y9)))
set_option maxHeartbeats 4000000 in
set_option maxRecDepth 100000 in
theorem mX5_readRoom {l : Launch} {D : va_G} {dA : Nat → ClassId} {z : Nat}  {t7 : Nat} {w : va_W} {q : ((Unit ⊕ Nat) × va_W × Nat × Nat)} (hf : fX5_readRoom dA z t7 w = some q) : CtO l yX5_readRoom cX5_readRoom 2 none rX5_readRoom D dA [.ref t7] w z (Sum.map (fun _ => none) id q.1) q.2.1 q.2.2.1 q.2.2.2 := by
  refine e_O (by decide) (Nat.le_of_ble_eq_true rfl) ?_
  intro p e s m below meth c9 ls A FX hr hlk hnm hout hl hW
  have hx := FX.1; have hb := FX.2.1; have hown := FX.2.2.2.1; have hts := FX.2.2.2.2
  have hl : lv_has ls 2 [(0, .ref t7)] := hl
  rw [fX5_readRoom] at hf
  refine on_new (C := RX7) (T := TX7) (N := 3) (ci := 6) (fs := [.null, .int 0, .int 0]) FX hW in_X7 tyX7 tyX7_ok q738 q739 q144 rfl (by decide +kernel) hf dX5_readRoom_0 (fun w1 c2 y3 H hW hf => ?_)
  refine lv_dup hx hb dX5_readRoom_3 rfl ?_
  refine lv_aload_n hx hb dX5_readRoom_4 rfl (lv_at hl 0 rfl) ?_
  refine lv_aload_n hx hb dX5_readRoom_5 rfl (lv_at hl 0 rfl) ?_
  refine og_R (C := RX5) (T := TX5) (N := 12) (ci := 5) FX hW in_X5 rfl 10 (by decide) q479 (fun _ h => h) hf dX5_readRoom_6 (fun v4 hf => ?_)
  refine og_R (C := RX1) (T := TX1) (N := 8) (ci := 1) FX hW in_X1 rfl 0 (by decide) q229 (fun _ h => h) hf dX5_readRoom_9 (fun v5 hf => ?_)
  obtain ⟨hv9, hf⟩ := pck_some hf
  refine oc_X (fun r => some (.ref r)) hW hf (fun r0 h0 hg => o_V (C := RX5) (As := [.ref v5]) (rest := [.ref (z + 0), .ref (z + 0)]) (n := 1) FX (mX5_newNamer h0) (cwV 1 FX.2.2.2.2 (lw_V q740 q742 qs8 q133 q743) rfl rfl rfl (by decide +kernel) ⟨Nat.le_of_ble_eq_true rfl, Nat.le_of_ble_eq_true rfl⟩) (o_recv hW rfl hv9) rfl hl.1 rfl (Nat.le_of_ble_eq_true rfl) hg dX5_readRoom_12 hW) (fun t9 w7 c8 y9 H locs ce9 hW e1 e2 e3 hf => ?_) (fun v10 w7 c8 y9 H locs hW hf => ?_)
  · rw [othr_inr] at hf
    obtain ⟨hg, hf⟩ := gck_some hf
    obtain rfl := Option.some.inj hf
    exact ro_x hout hlk hW hg e1 e2 e3
  rw [othr_inl] at hf
  refine oc_v hW hf (fun r0 h0 hg => o_I (As := [.ref v10]) (rest := [.ref (z + 0)]) (n := 1) FX (mX7_init h0) (cwI 1 FX.2.2.2.2 (lw_meth q898) rfl rfl rfl (FX.2.2.2.2 _ q144) (FX.2.2.2.2 _ q896) (FX.2.2.2.2 _ q897) rfl (by decide +kernel) ⟨Nat.le_of_ble_eq_true rfl, Nat.le_of_ble_eq_true rfl⟩) rfl hl.1 rfl (Nat.le_of_ble_eq_true rfl) hg dX5_readRoom_15 hW) (fun w12 c13 y14 H locs hW hf => ?_)
  refine lv_astore_n (lv' := [(1, .ref (z + 0)), (0, .ref t7)]) hx hb dX5_readRoom_18 rfl hl (by decide) rfl (fun ls hl => ?_)
  refine lv_aload_n hx hb dX5_readRoom_19 rfl (lv_at hl 0 rfl) ?_
  refine lv_aload_n hx hb dX5_readRoom_20 rfl (lv_at hl 1 rfl) ?_
  refine o_text FX rfl hW 2 (by decide) rfl dX5_readRoom_21 ?_
  refine lv_iconst (v := 0) hx hb dX5_readRoom_23 (by decide) ?_
  refine lv_bipush (v := 99) hx hb dX5_readRoom_24 (by decide) ?_
  obtain ⟨hv9, hf⟩ := pck_some hf
  refine oc_X (fun r => some (.int r)) hW hf (fun r0 h0 hg => o_V (C := RX5) (As := [.ref (dA 202), .int (0 : Int32), .int (99 : Int32)]) (rest := [.ref (z + 0)]) (n := 3) FX (mX5_numberBy h0) (cwV 3 FX.2.2.2.2 (lw_V q916 q918 qs12 q133 q919) rfl rfl rfl (by decide +kernel) ⟨Nat.le_of_ble_eq_true rfl, Nat.le_of_ble_eq_true rfl⟩) (o_recv hW rfl hv9) rfl hl.1 rfl (Nat.le_of_ble_eq_true rfl) hg dX5_readRoom_26 hW) (fun t9 w16 c17 y18 H locs ce9 hW e1 e2 e3 hf => ?_) (fun v19 w16 c17 y18 H locs hW hf => ?_)
  · rw [othr_inr] at hf
    obtain ⟨hg, hf⟩ := gck_some hf
    obtain rfl := Option.some.inj hf
    exact ro_x hout hlk hW hg e1 e2 e3
  rw [othr_inl] at hf
  refine op_put (C := RX7) (T := TX7) (N := 3) (ci := 6) (ty := .int) FX hW in_X7 tyX7 tyX7_ok nmX7 rfl 1 (by decide) q905 (fun _ h => h) rfl (by decide +kernel) rfl rfl hf dX5_readRoom_29 (fun w20 H locs hW hf => ?_)
  refine lv_aload_n hx hb dX5_readRoom_32 rfl (lv_at hl 1 rfl) ?_
  refine og_R (C := RX5) (T := TX5) (N := 12) (ci := 5) FX hW in_X5 rfl 10 (by decide) q479 (fun _ h => h) hf dX5_readRoom_33 (fun v21 hf => ?_)
  refine og_R (C := RX1) (T := TX1) (N := 8) (ci := 1) FX hW in_X1 rfl 0 (by decide) q229 (fun _ h => h) hf dX5_readRoom_36 (fun v22 hf => ?_)
  refine lv_aload_n hx hb dX5_readRoom_39 rfl (lv_at hl 0 rfl) ?_
  obtain ⟨hv9, hf⟩ := pck_some hf
  refine oc_i hW hf (fun r0 h0 hg => o_V (C := RJ2) (As := [.ref (z + 0)]) (rest := []) (n := 1) FX (mJ2_addr h0) (cwV 1 FX.2.2.2.2 (lw_V q932 q933 q934 q127 q935) rfl rfl rfl (by decide +kernel) ⟨Nat.le_of_ble_eq_true rfl, Nat.le_of_ble_eq_true rfl⟩) (o_recv hW rfl hv9) rfl hl.1 rfl (Nat.le_of_ble_eq_true rfl) hg dX5_readRoom_40 hW) (fun r23 w24 c25 y26 H locs hW hf => ?_)
  refine lv_pop hx hb dX5_readRoom_43 rfl ?_
  obtain ⟨hg, hf⟩ := gck_some hf
  obtain rfl := Option.some.inj hf
  exact ro_v FX hr hlk hW hg dX5_readRoom_44
/-! TrunkLitters$Reader.readTrunk()V: kind O -/
abbrev rX5_readTrunk : Room := { frames := 10, cells := 60, slots := 2000, locals := 260 }
def fX5_readTrunk_185 (dA : Nat → Nat) (z : Nat) (x0 : Nat) (x1 : Nat) (w : va_W) (c : Nat) (y : Nat) : Option ((Unit ⊕ Nat) × va_W × Nat × Nat) := pgR w x0 5 10 fun v1 => pgR w v1 1 1 fun v2 => pck w v2 13 (ocal rX5_readTrunk.cells rX5_readTrunk.slots c y rJ2_addt.cells rJ2_addt.slots (fJ2_addt dA (z + c) v2 x1 w) fun r3 w4 c5 y6 => gck c5 y6 rX5_readTrunk.cells rX5_readTrunk.slots (some ((.inl ()), w4, c5, y6)))
def fX5_readTrunk (dA : Nat → Nat) (z : Nat) (t7 : Nat) (w : va_W) : Option ((Unit ⊕ Nat) × va_W × Nat × Nat) := onew rX5_readTrunk.cells rX5_readTrunk.slots 0 0 5 w (z + 0) (.inr (8, [.null, .int 0, .int 0, .int 0, .int 0])) fun w1 c2 y3 => pgR w1 t7 5 10 fun v4 => pgR w1 v4 1 1 fun v5 => pck w1 t7 5 (ocal rX5_readTrunk.cells rX5_readTrunk.slots c2 y3 rX5_newNamet.cells rX5_newNamet.slots (fX5_newNamet dA (z + c2) t7 v5 w1) fun r6 w7 c8 y9 => othr r6 (fun v10 => ocal rX5_readTrunk.cells rX5_readTrunk.slots c8 y9 rX9_init.cells rX9_init.slots (fX9_init dA (z + c8) (z + 0) v10 w7) fun r11 w12 c13 y14 => pck w12 t7 5 (ocal rX5_readTrunk.cells rX5_readTrunk.slots c13 y14 rX5_numberBy.cells rX5_numberBy.slots (fX5_numberBy dA (z + c13) t7 (dA 204) (1 : Int32) (20 : Int32) w12) fun r15 w16 c17 y18 => othr r15 (fun v19 => ppt w16 (z + 0) 8 1 (.int v19) fun w20 => pck w20 t7 5 (ocal rX5_readTrunk.cells rX5_readTrunk.slots c17 y18 rX5_key.cells rX5_key.slots (fX5_key dA (z + c17) t7 (dA 205) w20) fun r21 w22 c23 y24 => othr r21 (fun v25 => pck w22 t7 5 (ocal rX5_readTrunk.cells rX5_readTrunk.slots c23 y24 rX5_isName.cells rX5_isName.slots (fX5_isName dA (z + c23) t7 w22) fun r26 w27 c28 y29 => (if r26 = 0 then pck w27 t7 5 (ocal rX5_readTrunk.cells rX5_readTrunk.slots c28 y29 rX5_wrong.cells rX5_wrong.slots (fX5_wrong dA (z + c28) t7 w27) fun r88 w89 c90 y91 => gck c90 y91 rX5_readTrunk.cells rX5_readTrunk.slots (pck w89 r88 7 (some (.inr r88, w89, c90, y91)))) else pgR w27 t7 5 10 fun v30 => pgR w27 v30 1 0 fun v31 => pgR w27 t7 5 9 fun v32 => ocal rX5_readTrunk.cells rX5_readTrunk.slots c28 y29 rX0_findr.cells rX0_findr.slots (fX0_findr dA (z + c28) v31 v32 w27) fun r33 w34 c35 y36 => ppt w34 (z + 0) 8 2 (.int r33) fun w37 => pgi w37 (z + 0) 8 2 fun v38 => (if 0 ≤ v38 then pgR w37 t7 5 10 fun v39 => pgR w37 v39 1 0 fun v40 => pgi w37 (z + 0) 8 2 fun v41 => pck w37 v40 13 (ocal rX5_readTrunk.cells rX5_readTrunk.slots c35 y36 rJ2_getO.cells rJ2_getO.slots (fJ2_getO dA (z + c35) v40 v41 w37) fun r42 w43 c44 y45 => pck w43 r42 6 (pgi w43 r42 6 2 fun v46 => pgi w43 (z + 0) 8 1 fun v47 => pgi w43 r42 6 1 fun v48 => (if (v46 + v47) ≤ v48 then pgi w43 r42 6 2 fun v49 => pgi w43 (z + 0) 8 1 fun v50 => ppt w43 r42 6 2 (.int (v49 + v50)) fun w51 => pck w51 t7 5 (ocal rX5_readTrunk.cells rX5_readTrunk.slots c44 y45 rX5_go.cells rX5_go.slots (fX5_go dA (z + c44) t7 w51) fun r52 w53 c54 y55 => pck w53 t7 5 (ocal rX5_readTrunk.cells rX5_readTrunk.slots c54 y55 rX5_numberBy.cells rX5_numberBy.slots (fX5_numberBy dA (z + c54) t7 (dA 206) (0 : Int32) (63 : Int32) w53) fun r56 w57 c58 y59 => othr r56 (fun v60 => ppt w57 (z + 0) 8 3 (.int v60) fun w61 => pck w61 t7 5 (ocal rX5_readTrunk.cells rX5_readTrunk.slots c58 y59 rX5_takes.cells rX5_takes.slots (fX5_takes dA (z + c58) t7 (dA 207) w61) fun r62 w63 c64 y65 => (if r62 = 0 then fX5_readTrunk_185 dA z t7 (z + 0) w63 c64 y65 else pck w63 t7 5 (ocal rX5_readTrunk.cells rX5_readTrunk.slots c64 y65 rX5_number.cells rX5_number.slots (fX5_number dA (z + c64) t7 (0 : Int32) (9 : Int32) w63) fun r66 w67 c68 y69 => othr r66 (fun v70 => ppt w67 (z + 0) 8 4 (.int v70) fun w71 => fX5_readTrunk_185 dA z t7 (z + 0) w71 c68 y69) fun t => gck c68 y69 rX5_readTrunk.cells rX5_readTrunk.slots (some (.inr t, w67, c68, y69)))))) fun t => gck c58 y59 rX5_readTrunk.cells rX5_readTrunk.slots (some (.inr t, w57, c58, y59)))) else onew rX5_readTrunk.cells rX5_readTrunk.slots c44 y45 8 w43 (z + c44) (.inr (7, [.null, .null, .null, .null, .null, .int 0, .int 0, .int 0])) fun w72 c73 y74 => pgi w72 t7 5 2 fun v75 => ocal rX5_readTrunk.cells rX5_readTrunk.slots c73 y74 rX8_init.cells rX8_init.slots (fX8_init dA (z + c73) (z + c44) (3 : Int32) v75 w72) fun r76 w77 c78 y79 => gck c78 y79 rX5_readTrunk.cells rX5_readTrunk.slots (pck w77 (z + c44) 7 (some (.inr (z + c44), w77, c78, y79)))))) else onew rX5_readTrunk.cells rX5_readTrunk.slots c35 y36 8 w37 (z + c35) (.inr (7, [.null, .null, .null, .null, .null, .int 0, .int 0, .int 0])) fun w80 c81 y82 => pgi w80 t7 5 2 fun v83 => ocal rX5_readTrunk.cells rX5_readTrunk.slots c81 y82 rX8_init.cells rX8_init.slots (fX8_init dA (z + c81) (z + c35) (5 : Int32) v83 w80) fun r84 w85 c86 y87 => gck c86 y87 rX5_readTrunk.cells rX5_readTrunk.slots (pck w85 (z + c35) 7 (some (.inr (z + c35), w85, c86, y87))))))) fun t => gck c23 y24 rX5_readTrunk.cells rX5_readTrunk.slots (some (.inr t, w22, c23, y24)))) fun t => gck c17 y18 rX5_readTrunk.cells rX5_readTrunk.slots (some (.inr t, w16, c17, y18)))) fun t => gck c8 y9 rX5_readTrunk.cells rX5_readTrunk.slots (some (.inr t, w7, c8, y9)))
set_option maxHeartbeats 4000000 in
set_option maxRecDepth 100000 in
theorem wX5_readTrunk_185 {l : Launch} {D : va_G} {dA : Nat → ClassId} {z : Nat} {p : Program} {e : Env} {s : State} {m : MethodId} {args : Array Value} {below : List Frame} {meth : Method} {c9 : Code} {A : Nat → Prop} {q : ((Unit ⊕ Nat) × va_W × Nat × Nat)} (FX : CallFix p m c9 cX5_readTrunk 3 s args lw_all RX5) (hr : meth.sig.returnType = none) (hlk : meth.locks = false) (hnm : meth.name = yX5_readTrunk.name) (hout : ∀ x ∈ c9.exceptionTable.toList, False) : ∀ (x0 : Nat) (x1 : Nat) (w : va_W) (c : Nat) (y : Nat) (H : Heap) (locs : List Loc) (ls : Array Slot), lv_has ls 3 [(0, .ref x0), (1, .ref x1)] → Wo D dA A s w z c H locs → fX5_readTrunk_185 dA z x0 x1 w c y = some q → W p l e rX5_readTrunk s m args below meth c9 H locs c y (QO D dA A below args s rX5_readTrunk.cells rX5_readTrunk.slots (Sum.map (fun _ => none) id q.1) q.2.1 (z + q.2.2.1) q.2.2.2) (F0 m 185 ls []) := by
  have hx := FX.1; have hb := FX.2.1; have hown := FX.2.2.2.1; have hts := FX.2.2.2.2
  intro x0 x1 w c y H locs ls hl hW hf
  rw [fX5_readTrunk_185] at hf
  refine lv_aload_n hx hb dX5_readTrunk_185 rfl (lv_at hl 0 rfl) ?_
  refine og_R (C := RX5) (T := TX5) (N := 12) (ci := 5) FX hW in_X5 rfl 10 (by decide) q479 (fun _ h => h) hf dX5_readTrunk_186 (fun v1 hf => ?_)
  refine og_R (C := RX1) (T := TX1) (N := 8) (ci := 1) FX hW in_X1 rfl 1 (by decide) q233 (fun _ h => h) hf dX5_readTrunk_189 (fun v2 hf => ?_)
  refine lv_aload_n hx hb dX5_readTrunk_192 rfl (lv_at hl 1 rfl) ?_
  obtain ⟨hv9, hf⟩ := pck_some hf
  refine oc_i hW hf (fun r0 h0 hg => o_V (C := RJ2) (As := [.ref x1]) (rest := []) (n := 1) FX (mJ2_addt h0) (cwV 1 FX.2.2.2.2 (lw_V q932 q933 q934 q127 q935) rfl rfl rfl (by decide +kernel) ⟨Nat.le_of_ble_eq_true rfl, Nat.le_of_ble_eq_true rfl⟩) (o_recv hW rfl hv9) rfl hl.1 rfl (Nat.le_of_ble_eq_true rfl) hg dX5_readTrunk_193 hW) (fun r3 w4 c5 y6 H locs hW hf => ?_)
  refine lv_pop hx hb dX5_readTrunk_196 rfl ?_
  obtain ⟨hg, hf⟩ := gck_some hf
  obtain rfl := Option.some.inj hf
  exact ro_v FX hr hlk hW hg dX5_readTrunk_197
set_option maxHeartbeats 4000000 in
set_option maxRecDepth 100000 in
theorem mX5_readTrunk {l : Launch} {D : va_G} {dA : Nat → ClassId} {z : Nat}  {t7 : Nat} {w : va_W} {q : ((Unit ⊕ Nat) × va_W × Nat × Nat)} (hf : fX5_readTrunk dA z t7 w = some q) : CtO l yX5_readTrunk cX5_readTrunk 3 none rX5_readTrunk D dA [.ref t7] w z (Sum.map (fun _ => none) id q.1) q.2.1 q.2.2.1 q.2.2.2 := by
  refine e_O (by decide) (Nat.le_of_ble_eq_true rfl) ?_
  intro p e s m below meth c9 ls A FX hr hlk hnm hout hl hW
  have hx := FX.1; have hb := FX.2.1; have hown := FX.2.2.2.1; have hts := FX.2.2.2.2
  have hl : lv_has ls 3 [(0, .ref t7)] := hl
  rw [fX5_readTrunk] at hf
  refine on_new (C := RX9) (T := TX9) (N := 5) (ci := 8) (fs := [.null, .int 0, .int 0, .int 0, .int 0]) FX hW in_X9 tyX9 tyX9_ok q990 q991 q148 rfl (by decide +kernel) hf dX5_readTrunk_0 (fun w1 c2 y3 H hW hf => ?_)
  refine lv_dup hx hb dX5_readTrunk_3 rfl ?_
  refine lv_aload_n hx hb dX5_readTrunk_4 rfl (lv_at hl 0 rfl) ?_
  refine lv_aload_n hx hb dX5_readTrunk_5 rfl (lv_at hl 0 rfl) ?_
  refine og_R (C := RX5) (T := TX5) (N := 12) (ci := 5) FX hW in_X5 rfl 10 (by decide) q479 (fun _ h => h) hf dX5_readTrunk_6 (fun v4 hf => ?_)
  refine og_R (C := RX1) (T := TX1) (N := 8) (ci := 1) FX hW in_X1 rfl 1 (by decide) q233 (fun _ h => h) hf dX5_readTrunk_9 (fun v5 hf => ?_)
  obtain ⟨hv9, hf⟩ := pck_some hf
  refine oc_X (fun r => some (.ref r)) hW hf (fun r0 h0 hg => o_V (C := RX5) (As := [.ref v5]) (rest := [.ref (z + 0), .ref (z + 0)]) (n := 1) FX (mX5_newNamet h0) (cwV 1 FX.2.2.2.2 (lw_V q740 q742 qs8 q133 q743) rfl rfl rfl (by decide +kernel) ⟨Nat.le_of_ble_eq_true rfl, Nat.le_of_ble_eq_true rfl⟩) (o_recv hW rfl hv9) rfl hl.1 rfl (Nat.le_of_ble_eq_true rfl) hg dX5_readTrunk_12 hW) (fun t9 w7 c8 y9 H locs ce9 hW e1 e2 e3 hf => ?_) (fun v10 w7 c8 y9 H locs hW hf => ?_)
  · rw [othr_inr] at hf
    obtain ⟨hg, hf⟩ := gck_some hf
    obtain rfl := Option.some.inj hf
    exact ro_x hout hlk hW hg e1 e2 e3
  rw [othr_inl] at hf
  refine oc_v hW hf (fun r0 h0 hg => o_I (As := [.ref v10]) (rest := [.ref (z + 0)]) (n := 1) FX (mX9_init h0) (cwI 1 FX.2.2.2.2 (lw_meth q994) rfl rfl rfl (FX.2.2.2.2 _ q148) (FX.2.2.2.2 _ q992) (FX.2.2.2.2 _ q993) rfl (by decide +kernel) ⟨Nat.le_of_ble_eq_true rfl, Nat.le_of_ble_eq_true rfl⟩) rfl hl.1 rfl (Nat.le_of_ble_eq_true rfl) hg dX5_readTrunk_15 hW) (fun w12 c13 y14 H locs hW hf => ?_)
  refine lv_astore_n (lv' := [(1, .ref (z + 0)), (0, .ref t7)]) hx hb dX5_readTrunk_18 rfl hl (by decide) rfl (fun ls hl => ?_)
  refine lv_aload_n hx hb dX5_readTrunk_19 rfl (lv_at hl 0 rfl) ?_
  refine lv_aload_n hx hb dX5_readTrunk_20 rfl (lv_at hl 1 rfl) ?_
  refine o_text FX rfl hW 4 (by decide) rfl dX5_readTrunk_21 ?_
  refine lv_iconst (v := 1) hx hb dX5_readTrunk_23 (by decide) ?_
  refine lv_bipush (v := 20) hx hb dX5_readTrunk_24 (by decide) ?_
  obtain ⟨hv9, hf⟩ := pck_some hf
  refine oc_X (fun r => some (.int r)) hW hf (fun r0 h0 hg => o_V (C := RX5) (As := [.ref (dA 204), .int (1 : Int32), .int (20 : Int32)]) (rest := [.ref (z + 0)]) (n := 3) FX (mX5_numberBy h0) (cwV 3 FX.2.2.2.2 (lw_V q916 q918 qs12 q133 q919) rfl rfl rfl (by decide +kernel) ⟨Nat.le_of_ble_eq_true rfl, Nat.le_of_ble_eq_true rfl⟩) (o_recv hW rfl hv9) rfl hl.1 rfl (Nat.le_of_ble_eq_true rfl) hg dX5_readTrunk_26 hW) (fun t9 w16 c17 y18 H locs ce9 hW e1 e2 e3 hf => ?_) (fun v19 w16 c17 y18 H locs hW hf => ?_)
  · rw [othr_inr] at hf
    obtain ⟨hg, hf⟩ := gck_some hf
    obtain rfl := Option.some.inj hf
    exact ro_x hout hlk hW hg e1 e2 e3
  rw [othr_inl] at hf
  refine op_put (C := RX9) (T := TX9) (N := 5) (ci := 8) (ty := .int) FX hW in_X9 tyX9 tyX9_ok nmX9 rfl 1 (by decide) q997 (fun _ h => h) rfl (by decide +kernel) rfl rfl hf dX5_readTrunk_29 (fun w20 H locs hW hf => ?_)
  refine lv_aload_n hx hb dX5_readTrunk_32 rfl (lv_at hl 1 rfl) ?_
  refine o_text FX rfl hW 5 (by decide) rfl dX5_readTrunk_33 ?_
  obtain ⟨hv9, hf⟩ := pck_some hf
  refine oc_X (fun _ => none) hW hf (fun r0 h0 hg => o_V (C := RX5) (As := [.ref (dA 205)]) (rest := []) (n := 1) FX (mX5_key h0) (cwV 1 FX.2.2.2.2 (lw_V q920 q922 qs13 q133 q923) rfl rfl rfl (by decide +kernel) ⟨Nat.le_of_ble_eq_true rfl, Nat.le_of_ble_eq_true rfl⟩) (o_recv hW rfl hv9) rfl hl.1 rfl (Nat.le_of_ble_eq_true rfl) hg dX5_readTrunk_35 hW) (fun t9 w22 c23 y24 H locs ce9 hW e1 e2 e3 hf => ?_) (fun v25 w22 c23 y24 H locs hW hf => ?_)
  · rw [othr_inr] at hf
    obtain ⟨hg, hf⟩ := gck_some hf
    obtain rfl := Option.some.inj hf
    exact ro_x hout hlk hW hg e1 e2 e3
  rw [othr_inl] at hf
  refine lv_aload_n hx hb dX5_readTrunk_38 rfl (lv_at hl 1 rfl) ?_
  obtain ⟨hv9, hf⟩ := pck_some hf
  refine oc_i hW hf (fun r0 h0 hg => o_V (C := RX5) (As := []) (rest := []) (n := 0) FX (mX5_isName h0) (cwV 0 FX.2.2.2.2 (lw_V q744 q746 qs9 q133 q747) rfl rfl rfl (by decide +kernel) ⟨Nat.le_of_ble_eq_true rfl, Nat.le_of_ble_eq_true rfl⟩) (o_recv hW rfl hv9) rfl hl.1 rfl (Nat.le_of_ble_eq_true rfl) hg dX5_readTrunk_39 hW) (fun r26 w27 c28 y29 H locs hW hf => ?_)
  refine lv_if_ne (tgt := 50) hx hb dX5_readTrunk_42 (by decide) (fun c42 => ?_) (fun c42 => ?_)
  · have hf := ifn c42 hf
    refine lv_aload_n hx hb dX5_readTrunk_50 rfl (lv_at hl 0 rfl) ?_
    refine lv_aload_n hx hb dX5_readTrunk_51 rfl (lv_at hl 1 rfl) ?_
    refine og_R (C := RX5) (T := TX5) (N := 12) (ci := 5) FX hW in_X5 rfl 10 (by decide) q479 (fun _ h => h) hf dX5_readTrunk_52 (fun v30 hf => ?_)
    refine og_R (C := RX1) (T := TX1) (N := 8) (ci := 1) FX hW in_X1 rfl 0 (by decide) q229 (fun _ h => h) hf dX5_readTrunk_55 (fun v31 hf => ?_)
    refine lv_aload_n hx hb dX5_readTrunk_58 rfl (lv_at hl 1 rfl) ?_
    refine og_R (C := RX5) (T := TX5) (N := 12) (ci := 5) FX hW in_X5 rfl 9 (by decide) q478 (fun _ h => h) hf dX5_readTrunk_59 (fun v32 hf => ?_)
    refine oc_i hW hf (fun r0 h0 hg => o_SN (As := [.ref v31, .ref v32]) (rest := [.ref (z + 0)]) (n := 2) FX (mX0_findr h0) ⟨va_cnB (host := "TrunkLitters") 2 FX.2.2.2.2 (lw_meth q891) rfl rfl rfl (hW.gx.1 _ (List.mem_of_getElem? (i := 10) rfl)) (FX.2.2.2.2 _ q123) (by decide +kernel) ⟨Nat.le_of_ble_eq_true rfl, Nat.le_of_ble_eq_true rfl⟩, FX.2.2.2.2 _ q890, trivial⟩ rfl hl.1 rfl (Nat.le_of_ble_eq_true rfl) hg dX5_readTrunk_62 hW) (fun r33 w34 c35 y36 H locs hW hf => ?_)
    refine op_put (C := RX9) (T := TX9) (N := 5) (ci := 8) (ty := .int) FX hW in_X9 tyX9 tyX9_ok nmX9 rfl 2 (by decide) q999 (fun _ h => h) rfl (by decide +kernel) rfl rfl hf dX5_readTrunk_65 (fun w37 H locs hW hf => ?_)
    refine lv_aload_n hx hb dX5_readTrunk_68 rfl (lv_at hl 0 rfl) ?_
    refine og_i (C := RX9) (T := TX9) (N := 5) (ci := 8) FX hW in_X9 rfl 2 (by decide) q999 (fun _ h => h) hf dX5_readTrunk_69 (fun v38 hf => ?_)
    refine lv_if_ge (tgt := 88) hx hb dX5_readTrunk_72 (by decide) (fun c72 => ?_) (fun c72 => ?_)
    · have hf := ifp c72 hf
      refine lv_aload_n hx hb dX5_readTrunk_88 rfl (lv_at hl 1 rfl) ?_
      refine og_R (C := RX5) (T := TX5) (N := 12) (ci := 5) FX hW in_X5 rfl 10 (by decide) q479 (fun _ h => h) hf dX5_readTrunk_89 (fun v39 hf => ?_)
      refine og_R (C := RX1) (T := TX1) (N := 8) (ci := 1) FX hW in_X1 rfl 0 (by decide) q229 (fun _ h => h) hf dX5_readTrunk_92 (fun v40 hf => ?_)
      refine lv_aload_n hx hb dX5_readTrunk_95 rfl (lv_at hl 0 rfl) ?_
      refine og_i (C := RX9) (T := TX9) (N := 5) (ci := 8) FX hW in_X9 rfl 2 (by decide) q999 (fun _ h => h) hf dX5_readTrunk_96 (fun v41 hf => ?_)
      obtain ⟨hv9, hf⟩ := pck_some hf
      refine oc_R hW hf (fun r0 h0 hg => o_V (C := RJ2) (As := [.int v41]) (rest := []) (n := 1) FX (mJ2_getO h0) (cwV 1 FX.2.2.2.2 (lw_V q1015 q345 q346 q127 q347) rfl rfl rfl (by decide +kernel) ⟨Nat.le_of_ble_eq_true rfl, Nat.le_of_ble_eq_true rfl⟩) (o_recv hW rfl hv9) rfl hl.1 rfl (Nat.le_of_ble_eq_true rfl) hg dX5_readTrunk_99 hW) (fun r42 w43 c44 y45 H locs hW hf => ?_)
      obtain ⟨hv9, hf⟩ := pck_some hf
      refine o_castS (C := RX7) (T := TX7) (N := 3) (ci := 6) FX hW rfl q738 hv9 dX5_readTrunk_102 ?_
      refine lv_astore_n (lv' := [(2, .ref r42), (1, .ref (z + 0)), (0, .ref t7)]) hx hb dX5_readTrunk_105 rfl hl (by decide) rfl (fun ls hl => ?_)
      refine lv_aload_n hx hb dX5_readTrunk_106 rfl (lv_at hl 0 rfl) ?_
      refine og_i (C := RX7) (T := TX7) (N := 3) (ci := 6) FX hW in_X7 rfl 2 (by decide) q906 (fun _ h => h) hf dX5_readTrunk_107 (fun v46 hf => ?_)
      refine lv_aload_n hx hb dX5_readTrunk_110 rfl (lv_at hl 1 rfl) ?_
      refine og_i (C := RX9) (T := TX9) (N := 5) (ci := 8) FX hW in_X9 rfl 1 (by decide) q997 (fun _ h => h) hf dX5_readTrunk_111 (fun v47 hf => ?_)
      refine lv_iadd hx hb dX5_readTrunk_114 ?_
      refine lv_aload_n hx hb dX5_readTrunk_115 rfl (lv_at hl 0 rfl) ?_
      refine og_i (C := RX7) (T := TX7) (N := 3) (ci := 6) FX hW in_X7 rfl 1 (by decide) q905 (fun _ h => h) hf dX5_readTrunk_116 (fun v48 hf => ?_)
      refine lv_icmp_le (tgt := 135) hx hb dX5_readTrunk_119 (by decide) (fun c119 => ?_) (fun c119 => ?_)
      · have hf := ifp c119 hf
        refine lv_aload_n hx hb dX5_readTrunk_135 rfl (lv_at hl 0 rfl) ?_
        refine lv_dup hx hb dX5_readTrunk_136 rfl ?_
        refine og_i (C := RX7) (T := TX7) (N := 3) (ci := 6) FX hW in_X7 rfl 2 (by decide) q906 (fun _ h => h) hf dX5_readTrunk_137 (fun v49 hf => ?_)
        refine lv_aload_n hx hb dX5_readTrunk_140 rfl (lv_at hl 1 rfl) ?_
        refine og_i (C := RX9) (T := TX9) (N := 5) (ci := 8) FX hW in_X9 rfl 1 (by decide) q997 (fun _ h => h) hf dX5_readTrunk_141 (fun v50 hf => ?_)
        refine lv_iadd hx hb dX5_readTrunk_144 ?_
        refine op_put (C := RX7) (T := TX7) (N := 3) (ci := 6) (ty := .int) FX hW in_X7 tyX7 tyX7_ok nmX7 rfl 2 (by decide) q906 (fun _ h => h) rfl (by decide +kernel) rfl rfl hf dX5_readTrunk_145 (fun w51 H locs hW hf => ?_)
        refine lv_aload_n hx hb dX5_readTrunk_148 rfl (lv_at hl 2 rfl) ?_
        obtain ⟨hv9, hf⟩ := pck_some hf
        refine oc_v hW hf (fun r0 h0 hg => o_V (C := RX5) (As := []) (rest := []) (n := 0) FX (mX5_go h0) (cwV 0 FX.2.2.2.2 (lw_V q510 q512 qs1 q133 q513) rfl rfl rfl (by decide +kernel) ⟨Nat.le_of_ble_eq_true rfl, Nat.le_of_ble_eq_true rfl⟩) (o_recv hW rfl hv9) rfl hl.1 rfl (Nat.le_of_ble_eq_true rfl) hg dX5_readTrunk_149 hW) (fun w53 c54 y55 H locs hW hf => ?_)
        refine lv_aload_n hx hb dX5_readTrunk_152 rfl (lv_at hl 1 rfl) ?_
        refine lv_aload_n hx hb dX5_readTrunk_153 rfl (lv_at hl 2 rfl) ?_
        refine o_text FX rfl hW 6 (by decide) rfl dX5_readTrunk_154 ?_
        refine lv_iconst (v := 0) hx hb dX5_readTrunk_156 (by decide) ?_
        refine lv_bipush (v := 63) hx hb dX5_readTrunk_157 (by decide) ?_
        obtain ⟨hv9, hf⟩ := pck_some hf
        refine oc_X (fun r => some (.int r)) hW hf (fun r0 h0 hg => o_V (C := RX5) (As := [.ref (dA 206), .int (0 : Int32), .int (63 : Int32)]) (rest := [.ref (z + 0)]) (n := 3) FX (mX5_numberBy h0) (cwV 3 FX.2.2.2.2 (lw_V q916 q918 qs12 q133 q919) rfl rfl rfl (by decide +kernel) ⟨Nat.le_of_ble_eq_true rfl, Nat.le_of_ble_eq_true rfl⟩) (o_recv hW rfl hv9) rfl hl.1 rfl (Nat.le_of_ble_eq_true rfl) hg dX5_readTrunk_159 hW) (fun t9 w57 c58 y59 H locs ce9 hW e1 e2 e3 hf => ?_) (fun v60 w57 c58 y59 H locs hW hf => ?_)
        · rw [othr_inr] at hf
          obtain ⟨hg, hf⟩ := gck_some hf
          obtain rfl := Option.some.inj hf
          exact ro_x hout hlk hW hg e1 e2 e3
        rw [othr_inl] at hf
        refine op_put (C := RX9) (T := TX9) (N := 5) (ci := 8) (ty := .int) FX hW in_X9 tyX9 tyX9_ok nmX9 rfl 3 (by decide) q1001 (fun _ h => h) rfl (by decide +kernel) rfl rfl hf dX5_readTrunk_162 (fun w61 H locs hW hf => ?_)
        refine lv_aload_n hx hb dX5_readTrunk_165 rfl (lv_at hl 2 rfl) ?_
        refine o_text FX rfl hW 7 (by decide) rfl dX5_readTrunk_166 ?_
        obtain ⟨hv9, hf⟩ := pck_some hf
        refine oc_i hW hf (fun r0 h0 hg => o_V (C := RX5) (As := [.ref (dA 207)]) (rest := []) (n := 1) FX (mX5_takes h0) (cwV 1 FX.2.2.2.2 (lw_V q924 q926 qs14 q133 q927) rfl rfl rfl (by decide +kernel) ⟨Nat.le_of_ble_eq_true rfl, Nat.le_of_ble_eq_true rfl⟩) (o_recv hW rfl hv9) rfl hl.1 rfl (Nat.le_of_ble_eq_true rfl) hg dX5_readTrunk_168 hW) (fun r62 w63 c64 y65 H locs hW hf => ?_)
        refine lv_if_eq (tgt := 185) hx hb dX5_readTrunk_171 (by decide) (fun c171 => ?_) (fun c171 => ?_)
        · have hf := ifp c171 hf
          exact wX5_readTrunk_185 FX hr hlk hnm hout t7 (z + 0) w63 c64 y65 _ _ _ (lv_sub hl [2, 1] rfl) hW hf
        · have hf := ifn c171 hf
          refine lv_aload_n hx hb dX5_readTrunk_174 rfl (lv_at hl 1 rfl) ?_
          refine lv_aload_n hx hb dX5_readTrunk_175 rfl (lv_at hl 2 rfl) ?_
          refine lv_iconst (v := 0) hx hb dX5_readTrunk_176 (by decide) ?_
          refine lv_bipush (v := 9) hx hb dX5_readTrunk_177 (by decide) ?_
          obtain ⟨hv9, hf⟩ := pck_some hf
          refine oc_X (fun r => some (.int r)) hW hf (fun r0 h0 hg => o_V (C := RX5) (As := [.int (0 : Int32), .int (9 : Int32)]) (rest := [.ref (z + 0)]) (n := 2) FX (mX5_number h0) (cwV 2 FX.2.2.2.2 (lw_V q928 q930 qs15 q133 q931) rfl rfl rfl (by decide +kernel) ⟨Nat.le_of_ble_eq_true rfl, Nat.le_of_ble_eq_true rfl⟩) (o_recv hW rfl hv9) rfl hl.1 rfl (Nat.le_of_ble_eq_true rfl) hg dX5_readTrunk_179 hW) (fun t9 w67 c68 y69 H locs ce9 hW e1 e2 e3 hf => ?_) (fun v70 w67 c68 y69 H locs hW hf => ?_)
          · rw [othr_inr] at hf
            obtain ⟨hg, hf⟩ := gck_some hf
            obtain rfl := Option.some.inj hf
            exact ro_x hout hlk hW hg e1 e2 e3
          rw [othr_inl] at hf
          refine op_put (C := RX9) (T := TX9) (N := 5) (ci := 8) (ty := .int) FX hW in_X9 tyX9 tyX9_ok nmX9 rfl 4 (by decide) q1004 (fun _ h => h) rfl (by decide +kernel) rfl rfl hf dX5_readTrunk_182 (fun w71 H locs hW hf => ?_)
          exact wX5_readTrunk_185 FX hr hlk hnm hout t7 (z + 0) w71 c68 y69 _ _ _ (lv_sub hl [2, 1] rfl) hW hf
      · have hf := ifn c119 hf
        refine on_new (C := RX8) (T := TX8) (N := 8) (ci := 7) (fs := [.null, .null, .null, .null, .null, .int 0, .int 0, .int 0]) FX hW in_X8 tyX8 tyX8_ok q822 q823 q147 rfl (by decide +kernel) hf dX5_readTrunk_122 (fun w72 c73 y74 H hW hf => ?_)
        refine lv_dup hx hb dX5_readTrunk_125 rfl ?_
        refine lv_iconst (v := 3) hx hb dX5_readTrunk_126 (by decide) ?_
        refine lv_aload_n hx hb dX5_readTrunk_127 rfl (lv_at hl 2 rfl) ?_
        refine og_i (C := RX5) (T := TX5) (N := 12) (ci := 5) FX hW in_X5 rfl 2 (by decide) q471 (fun _ h => h) hf dX5_readTrunk_128 (fun v75 hf => ?_)
        refine oc_v hW hf (fun r0 h0 hg => o_I (As := [.int (3 : Int32), .int v75]) (rest := [.ref (z + c44)]) (n := 2) FX (mX8_init h0) (cwI 2 FX.2.2.2.2 (lw_meth q861) rfl rfl rfl (FX.2.2.2.2 _ q147) (FX.2.2.2.2 _ q859) (FX.2.2.2.2 _ q860) rfl (by decide +kernel) ⟨Nat.le_of_ble_eq_true rfl, Nat.le_of_ble_eq_true rfl⟩) rfl hl.1 rfl (Nat.le_of_ble_eq_true rfl) hg dX5_readTrunk_131 hW) (fun w77 c78 y79 H locs hW hf => ?_)
        obtain ⟨hg, hf⟩ := gck_some hf
        obtain ⟨⟨fs9, hv9⟩, hf⟩ := pck_some hf
        obtain rfl := Option.some.inj hf
        exact o_athrow FX hW hv9 dX5_readTrunk_134 (fun ce e1 e2 e3 => ro_x hout hlk hW hg e1 e2 e3)
    · have hf := ifn c72 hf
      refine on_new (C := RX8) (T := TX8) (N := 8) (ci := 7) (fs := [.null, .null, .null, .null, .null, .int 0, .int 0, .int 0]) FX hW in_X8 tyX8 tyX8_ok q822 q823 q147 rfl (by decide +kernel) hf dX5_readTrunk_75 (fun w80 c81 y82 H hW hf => ?_)
      refine lv_dup hx hb dX5_readTrunk_78 rfl ?_
      refine lv_iconst (v := 5) hx hb dX5_readTrunk_79 (by decide) ?_
      refine lv_aload_n hx hb dX5_readTrunk_80 rfl (lv_at hl 1 rfl) ?_
      refine og_i (C := RX5) (T := TX5) (N := 12) (ci := 5) FX hW in_X5 rfl 2 (by decide) q471 (fun _ h => h) hf dX5_readTrunk_81 (fun v83 hf => ?_)
      refine oc_v hW hf (fun r0 h0 hg => o_I (As := [.int (5 : Int32), .int v83]) (rest := [.ref (z + c35)]) (n := 2) FX (mX8_init h0) (cwI 2 FX.2.2.2.2 (lw_meth q861) rfl rfl rfl (FX.2.2.2.2 _ q147) (FX.2.2.2.2 _ q859) (FX.2.2.2.2 _ q860) rfl (by decide +kernel) ⟨Nat.le_of_ble_eq_true rfl, Nat.le_of_ble_eq_true rfl⟩) rfl hl.1 rfl (Nat.le_of_ble_eq_true rfl) hg dX5_readTrunk_84 hW) (fun w85 c86 y87 H locs hW hf => ?_)
      obtain ⟨hg, hf⟩ := gck_some hf
      obtain ⟨⟨fs9, hv9⟩, hf⟩ := pck_some hf
      obtain rfl := Option.some.inj hf
      exact o_athrow FX hW hv9 dX5_readTrunk_87 (fun ce e1 e2 e3 => ro_x hout hlk hW hg e1 e2 e3)
  · have hf := ifp c42 hf
    refine lv_aload_n hx hb dX5_readTrunk_45 rfl (lv_at hl 1 rfl) ?_
    obtain ⟨hv9, hf⟩ := pck_some hf
    refine oc_R hW hf (fun r0 h0 hg => o_V (C := RX5) (As := []) (rest := []) (n := 0) FX (mX5_wrong h0) (cwV 0 FX.2.2.2.2 (lw_V q818 q820 qs10 q133 q821) rfl rfl rfl (by decide +kernel) ⟨Nat.le_of_ble_eq_true rfl, Nat.le_of_ble_eq_true rfl⟩) (o_recv hW rfl hv9) rfl hl.1 rfl (Nat.le_of_ble_eq_true rfl) hg dX5_readTrunk_46 hW) (fun r88 w89 c90 y91 H locs hW hf => ?_)
    obtain ⟨hg, hf⟩ := gck_some hf
    obtain ⟨⟨fs9, hv9⟩, hf⟩ := pck_some hf
    obtain rfl := Option.some.inj hf
    exact o_athrow FX hW hv9 dX5_readTrunk_49 (fun ce e1 e2 e3 => ro_x hout hlk hW hg e1 e2 e3)
/-! TrunkLitters$Reader.readPines()V: kind O -/
abbrev rX5_readPines : Room := { frames := 8, cells := 10, slots := 320, locals := 217 }
def fX5_readPines (dA : Nat → Nat) (z : Nat) (t7 : Nat) (w : va_W) : Option ((Unit ⊕ Nat) × va_W × Nat × Nat) := pck w t7 5 (ocal rX5_readPines.cells rX5_readPines.slots 0 0 rX5_go.cells rX5_go.slots (fX5_go dA (z + 0) t7 w) fun r1 w2 c3 y4 => ppt w2 t7 5 6 (.int (1 : Int32)) fun w5 => pgR w5 t7 5 10 fun v6 => pck w5 t7 5 (ocal rX5_readPines.cells rX5_readPines.slots c3 y4 rX5_number.cells rX5_number.slots (fX5_number dA (z + c3) t7 (1 : Int32) (9 : Int32) w5) fun r7 w8 c9 y10 => othr r7 (fun v11 => ppt w8 v6 1 4 (.int v11) fun w12 => gck c9 y10 rX5_readPines.cells rX5_readPines.slots (some ((.inl ()), w12, c9, y10))) fun t => gck c9 y10 rX5_readPines.cells rX5_readPines.slots (some (.inr t, w8, c9, y10))))
set_option maxHeartbeats 4000000 in
set_option maxRecDepth 100000 in
theorem mX5_readPines {l : Launch} {D : va_G} {dA : Nat → ClassId} {z : Nat}  {t7 : Nat} {w : va_W} {q : ((Unit ⊕ Nat) × va_W × Nat × Nat)} (hf : fX5_readPines dA z t7 w = some q) : CtO l yX5_readPines cX5_readPines 1 none rX5_readPines D dA [.ref t7] w z (Sum.map (fun _ => none) id q.1) q.2.1 q.2.2.1 q.2.2.2 := by
  refine e_O (by decide) (Nat.le_of_ble_eq_true rfl) ?_
  intro p e s m below meth c9 ls A FX hr hlk hnm hout hl hW
  have hx := FX.1; have hb := FX.2.1; have hown := FX.2.2.2.1; have hts := FX.2.2.2.2
  have hl : lv_has ls 1 [(0, .ref t7)] := hl
  rw [fX5_readPines] at hf
  refine lv_aload_n hx hb dX5_readPines_0 rfl (lv_at hl 0 rfl) ?_
  obtain ⟨hv9, hf⟩ := pck_some hf
  refine oc_v hW hf (fun r0 h0 hg => o_V (C := RX5) (As := []) (rest := []) (n := 0) FX (mX5_go h0) (cwV 0 FX.2.2.2.2 (lw_V q510 q512 qs1 q133 q513) rfl rfl rfl (by decide +kernel) ⟨Nat.le_of_ble_eq_true rfl, Nat.le_of_ble_eq_true rfl⟩) (o_recv hW rfl hv9) rfl hl.1 rfl (Nat.le_of_ble_eq_true rfl) hg dX5_readPines_1 hW) (fun w2 c3 y4 H locs hW hf => ?_)
  refine lv_aload_n hx hb dX5_readPines_4 rfl (lv_at hl 0 rfl) ?_
  refine lv_iconst (v := 1) hx hb dX5_readPines_5 (by decide) ?_
  refine op_put (C := RX5) (T := TX5) (N := 12) (ci := 5) (ty := .boolean) FX hW in_X5 tyX5 tyX5_ok nmX5 rfl 6 (by decide) q475 (fun _ h => h) rfl (by decide +kernel) rfl rfl hf dX5_readPines_6 (fun w5 H locs hW hf => ?_)
  refine lv_aload_n hx hb dX5_readPines_9 rfl (lv_at hl 0 rfl) ?_
  refine og_R (C := RX5) (T := TX5) (N := 12) (ci := 5) FX hW in_X5 rfl 10 (by decide) q479 (fun _ h => h) hf dX5_readPines_10 (fun v6 hf => ?_)
  refine lv_aload_n hx hb dX5_readPines_13 rfl (lv_at hl 0 rfl) ?_
  refine lv_iconst (v := 1) hx hb dX5_readPines_14 (by decide) ?_
  refine lv_bipush (v := 9) hx hb dX5_readPines_15 (by decide) ?_
  obtain ⟨hv9, hf⟩ := pck_some hf
  refine oc_X (fun r => some (.int r)) hW hf (fun r0 h0 hg => o_V (C := RX5) (As := [.int (1 : Int32), .int (9 : Int32)]) (rest := [.ref v6]) (n := 2) FX (mX5_number h0) (cwV 2 FX.2.2.2.2 (lw_V q928 q930 qs15 q133 q931) rfl rfl rfl (by decide +kernel) ⟨Nat.le_of_ble_eq_true rfl, Nat.le_of_ble_eq_true rfl⟩) (o_recv hW rfl hv9) rfl hl.1 rfl (Nat.le_of_ble_eq_true rfl) hg dX5_readPines_17 hW) (fun t9 w8 c9 y10 H locs ce9 hW e1 e2 e3 hf => ?_) (fun v11 w8 c9 y10 H locs hW hf => ?_)
  · rw [othr_inr] at hf
    obtain ⟨hg, hf⟩ := gck_some hf
    obtain rfl := Option.some.inj hf
    exact ro_x hout hlk hW hg e1 e2 e3
  rw [othr_inl] at hf
  refine op_put (C := RX1) (T := TX1) (N := 8) (ci := 1) (ty := .int) FX hW in_X1 tyX1 tyX1_ok nmX1 rfl 4 (by decide) q240 (fun _ h => h) rfl (by decide +kernel) rfl rfl hf dX5_readPines_20 (fun w12 H locs hW hf => ?_)
  obtain ⟨hg, hf⟩ := gck_some hf
  obtain rfl := Option.some.inj hf
  exact ro_v FX hr hlk hW hg dX5_readPines_23
/-! TrunkLitters$Reader.readTales()V: kind O -/
abbrev rX5_readTales : Room := { frames := 8, cells := 10, slots := 320, locals := 217 }
def fX5_readTales (dA : Nat → Nat) (z : Nat) (t7 : Nat) (w : va_W) : Option ((Unit ⊕ Nat) × va_W × Nat × Nat) := pck w t7 5 (ocal rX5_readTales.cells rX5_readTales.slots 0 0 rX5_go.cells rX5_go.slots (fX5_go dA (z + 0) t7 w) fun r1 w2 c3 y4 => ppt w2 t7 5 7 (.int (1 : Int32)) fun w5 => pgR w5 t7 5 10 fun v6 => pck w5 t7 5 (ocal rX5_readTales.cells rX5_readTales.slots c3 y4 rX5_number.cells rX5_number.slots (fX5_number dA (z + c3) t7 (0 : Int32) (99 : Int32) w5) fun r7 w8 c9 y10 => othr r7 (fun v11 => ppt w8 v6 1 5 (.int v11) fun w12 => gck c9 y10 rX5_readTales.cells rX5_readTales.slots (some ((.inl ()), w12, c9, y10))) fun t => gck c9 y10 rX5_readTales.cells rX5_readTales.slots (some (.inr t, w8, c9, y10))))
set_option maxHeartbeats 4000000 in
set_option maxRecDepth 100000 in
theorem mX5_readTales {l : Launch} {D : va_G} {dA : Nat → ClassId} {z : Nat}  {t7 : Nat} {w : va_W} {q : ((Unit ⊕ Nat) × va_W × Nat × Nat)} (hf : fX5_readTales dA z t7 w = some q) : CtO l yX5_readTales cX5_readTales 1 none rX5_readTales D dA [.ref t7] w z (Sum.map (fun _ => none) id q.1) q.2.1 q.2.2.1 q.2.2.2 := by
  refine e_O (by decide) (Nat.le_of_ble_eq_true rfl) ?_
  intro p e s m below meth c9 ls A FX hr hlk hnm hout hl hW
  have hx := FX.1; have hb := FX.2.1; have hown := FX.2.2.2.1; have hts := FX.2.2.2.2
  have hl : lv_has ls 1 [(0, .ref t7)] := hl
  rw [fX5_readTales] at hf
  refine lv_aload_n hx hb dX5_readTales_0 rfl (lv_at hl 0 rfl) ?_
  obtain ⟨hv9, hf⟩ := pck_some hf
  refine oc_v hW hf (fun r0 h0 hg => o_V (C := RX5) (As := []) (rest := []) (n := 0) FX (mX5_go h0) (cwV 0 FX.2.2.2.2 (lw_V q510 q512 qs1 q133 q513) rfl rfl rfl (by decide +kernel) ⟨Nat.le_of_ble_eq_true rfl, Nat.le_of_ble_eq_true rfl⟩) (o_recv hW rfl hv9) rfl hl.1 rfl (Nat.le_of_ble_eq_true rfl) hg dX5_readTales_1 hW) (fun w2 c3 y4 H locs hW hf => ?_)
  refine lv_aload_n hx hb dX5_readTales_4 rfl (lv_at hl 0 rfl) ?_
  refine lv_iconst (v := 1) hx hb dX5_readTales_5 (by decide) ?_
  refine op_put (C := RX5) (T := TX5) (N := 12) (ci := 5) (ty := .boolean) FX hW in_X5 tyX5 tyX5_ok nmX5 rfl 7 (by decide) q476 (fun _ h => h) rfl (by decide +kernel) rfl rfl hf dX5_readTales_6 (fun w5 H locs hW hf => ?_)
  refine lv_aload_n hx hb dX5_readTales_9 rfl (lv_at hl 0 rfl) ?_
  refine og_R (C := RX5) (T := TX5) (N := 12) (ci := 5) FX hW in_X5 rfl 10 (by decide) q479 (fun _ h => h) hf dX5_readTales_10 (fun v6 hf => ?_)
  refine lv_aload_n hx hb dX5_readTales_13 rfl (lv_at hl 0 rfl) ?_
  refine lv_iconst (v := 0) hx hb dX5_readTales_14 (by decide) ?_
  refine lv_bipush (v := 99) hx hb dX5_readTales_15 (by decide) ?_
  obtain ⟨hv9, hf⟩ := pck_some hf
  refine oc_X (fun r => some (.int r)) hW hf (fun r0 h0 hg => o_V (C := RX5) (As := [.int (0 : Int32), .int (99 : Int32)]) (rest := [.ref v6]) (n := 2) FX (mX5_number h0) (cwV 2 FX.2.2.2.2 (lw_V q928 q930 qs15 q133 q931) rfl rfl rfl (by decide +kernel) ⟨Nat.le_of_ble_eq_true rfl, Nat.le_of_ble_eq_true rfl⟩) (o_recv hW rfl hv9) rfl hl.1 rfl (Nat.le_of_ble_eq_true rfl) hg dX5_readTales_17 hW) (fun t9 w8 c9 y10 H locs ce9 hW e1 e2 e3 hf => ?_) (fun v11 w8 c9 y10 H locs hW hf => ?_)
  · rw [othr_inr] at hf
    obtain ⟨hg, hf⟩ := gck_some hf
    obtain rfl := Option.some.inj hf
    exact ro_x hout hlk hW hg e1 e2 e3
  rw [othr_inl] at hf
  refine op_put (C := RX1) (T := TX1) (N := 8) (ci := 1) (ty := .int) FX hW in_X1 tyX1 tyX1_ok nmX1 rfl 5 (by decide) q243 (fun _ h => h) rfl (by decide +kernel) rfl rfl hf dX5_readTales_20 (fun w12 H locs hW hf => ?_)
  obtain ⟨hg, hf⟩ := gck_some hf
  obtain rfl := Option.some.inj hf
  exact ro_v FX hr hlk hW hg dX5_readTales_23
/-! TrunkLitters$Reader.readDraw()V: kind O -/
abbrev rX5_readDraw : Room := { frames := 8, cells := 10, slots := 320, locals := 217 }
def fX5_readDraw (dA : Nat → Nat) (z : Nat) (t7 : Nat) (w : va_W) : Option ((Unit ⊕ Nat) × va_W × Nat × Nat) := pck w t7 5 (ocal rX5_readDraw.cells rX5_readDraw.slots 0 0 rX5_go.cells rX5_go.slots (fX5_go dA (z + 0) t7 w) fun r1 w2 c3 y4 => ppt w2 t7 5 8 (.int (1 : Int32)) fun w5 => pgR w5 t7 5 10 fun v6 => pck w5 t7 5 (ocal rX5_readDraw.cells rX5_readDraw.slots c3 y4 rX5_number.cells rX5_number.slots (fX5_number dA (z + c3) t7 (0 : Int32) (999 : Int32) w5) fun r7 w8 c9 y10 => othr r7 (fun v11 => ppt w8 v6 1 6 (.int v11) fun w12 => gck c9 y10 rX5_readDraw.cells rX5_readDraw.slots (some ((.inl ()), w12, c9, y10))) fun t => gck c9 y10 rX5_readDraw.cells rX5_readDraw.slots (some (.inr t, w8, c9, y10))))
set_option maxHeartbeats 4000000 in
set_option maxRecDepth 100000 in
theorem mX5_readDraw {l : Launch} {D : va_G} {dA : Nat → ClassId} {z : Nat}  {t7 : Nat} {w : va_W} {q : ((Unit ⊕ Nat) × va_W × Nat × Nat)} (hf : fX5_readDraw dA z t7 w = some q) : CtO l yX5_readDraw cX5_readDraw 1 none rX5_readDraw D dA [.ref t7] w z (Sum.map (fun _ => none) id q.1) q.2.1 q.2.2.1 q.2.2.2 := by
  refine e_O (by decide) (Nat.le_of_ble_eq_true rfl) ?_
  intro p e s m below meth c9 ls A FX hr hlk hnm hout hl hW
  have hx := FX.1; have hb := FX.2.1; have hown := FX.2.2.2.1; have hts := FX.2.2.2.2
  have hl : lv_has ls 1 [(0, .ref t7)] := hl
  rw [fX5_readDraw] at hf
  refine lv_aload_n hx hb dX5_readDraw_0 rfl (lv_at hl 0 rfl) ?_
  obtain ⟨hv9, hf⟩ := pck_some hf
  refine oc_v hW hf (fun r0 h0 hg => o_V (C := RX5) (As := []) (rest := []) (n := 0) FX (mX5_go h0) (cwV 0 FX.2.2.2.2 (lw_V q510 q512 qs1 q133 q513) rfl rfl rfl (by decide +kernel) ⟨Nat.le_of_ble_eq_true rfl, Nat.le_of_ble_eq_true rfl⟩) (o_recv hW rfl hv9) rfl hl.1 rfl (Nat.le_of_ble_eq_true rfl) hg dX5_readDraw_1 hW) (fun w2 c3 y4 H locs hW hf => ?_)
  refine lv_aload_n hx hb dX5_readDraw_4 rfl (lv_at hl 0 rfl) ?_
  refine lv_iconst (v := 1) hx hb dX5_readDraw_5 (by decide) ?_
  refine op_put (C := RX5) (T := TX5) (N := 12) (ci := 5) (ty := .boolean) FX hW in_X5 tyX5 tyX5_ok nmX5 rfl 8 (by decide) q477 (fun _ h => h) rfl (by decide +kernel) rfl rfl hf dX5_readDraw_6 (fun w5 H locs hW hf => ?_)
  refine lv_aload_n hx hb dX5_readDraw_9 rfl (lv_at hl 0 rfl) ?_
  refine og_R (C := RX5) (T := TX5) (N := 12) (ci := 5) FX hW in_X5 rfl 10 (by decide) q479 (fun _ h => h) hf dX5_readDraw_10 (fun v6 hf => ?_)
  refine lv_aload_n hx hb dX5_readDraw_13 rfl (lv_at hl 0 rfl) ?_
  refine lv_iconst (v := 0) hx hb dX5_readDraw_14 (by decide) ?_
  refine lv_sipush (v := 999) hx hb dX5_readDraw_15 (by decide) ?_
  obtain ⟨hv9, hf⟩ := pck_some hf
  refine oc_X (fun r => some (.int r)) hW hf (fun r0 h0 hg => o_V (C := RX5) (As := [.int (0 : Int32), .int (999 : Int32)]) (rest := [.ref v6]) (n := 2) FX (mX5_number h0) (cwV 2 FX.2.2.2.2 (lw_V q928 q930 qs15 q133 q931) rfl rfl rfl (by decide +kernel) ⟨Nat.le_of_ble_eq_true rfl, Nat.le_of_ble_eq_true rfl⟩) (o_recv hW rfl hv9) rfl hl.1 rfl (Nat.le_of_ble_eq_true rfl) hg dX5_readDraw_18 hW) (fun t9 w8 c9 y10 H locs ce9 hW e1 e2 e3 hf => ?_) (fun v11 w8 c9 y10 H locs hW hf => ?_)
  · rw [othr_inr] at hf
    obtain ⟨hg, hf⟩ := gck_some hf
    obtain rfl := Option.some.inj hf
    exact ro_x hout hlk hW hg e1 e2 e3
  rw [othr_inl] at hf
  refine op_put (C := RX1) (T := TX1) (N := 8) (ci := 1) (ty := .int) FX hW in_X1 tyX1 tyX1_ok nmX1 rfl 6 (by decide) q245 (fun _ h => h) rfl (by decide +kernel) rfl rfl hf dX5_readDraw_21 (fun w12 H locs hW hf => ?_)
  obtain ⟨hg, hf⟩ := gck_some hf
  obtain rfl := Option.some.inj hf
  exact ro_v FX hr hlk hW hg dX5_readDraw_24
/-! TrunkLitters$Reader.asked()LTrunkLitters$Node;: kind O -/
abbrev rX5_asked : Room := { frames := 4, cells := 0, slots := 0, locals := 90 }
def fX5_asked_139 (dA : Nat → Nat) (z : Nat) (x2 : Int32) (w : va_W) (c : Nat) (y : Nat) : Option ((Option Nat) × va_W × Nat × Nat) := (if x2 = (0 : Int32) then gck c y rX5_asked.cells rX5_asked.slots (some ((some (dA 100)), w, c, y)) else (if x2 = (1 : Int32) then gck c y rX5_asked.cells rX5_asked.slots (some ((some (dA 101)), w, c, y)) else (if x2 = (2 : Int32) then gck c y rX5_asked.cells rX5_asked.slots (some ((some (dA 102)), w, c, y)) else (if x2 = (3 : Int32) then gck c y rX5_asked.cells rX5_asked.slots (some ((some (dA 103)), w, c, y)) else (if x2 = (4 : Int32) then gck c y rX5_asked.cells rX5_asked.slots (some ((some (dA 104)), w, c, y)) else gck c y rX5_asked.cells rX5_asked.slots (some (none, w, c, y)))))))
def fX5_asked (dA : Nat → Nat) (z : Nat) (t7 : Nat) (w : va_W) : Option ((Option Nat) × va_W × Nat × Nat) := pgi w t7 5 1 fun v1 => (if v1 = (1 : Int32) then pgR w t7 5 9 fun v2 => pck w v2 15 (ocal rX5_asked.cells rX5_asked.slots 0 0 rJ7_hashCode.cells rJ7_hashCode.slots (fJ7_hashCode dA (z + 0) v2 w) fun r3 w4 c5 y6 => (if r3 = (3035410 : Int32) then pck w4 v2 15 (ocal rX5_asked.cells rX5_asked.slots c5 y6 rJ7_equalsO.cells rJ7_equalsO.slots (fJ7_equalsO dA (z + c5) v2 (dA 204) w4) fun r7 w8 c9 y10 => (if r7 = 0 then fX5_asked_139 dA z (-1 : Int32) w8 c9 y10 else fX5_asked_139 dA z (0 : Int32) w8 c9 y10)) else (if r3 = (3317767 : Int32) then pck w4 v2 15 (ocal rX5_asked.cells rX5_asked.slots c5 y6 rJ7_equalsO.cells rJ7_equalsO.slots (fJ7_equalsO dA (z + c5) v2 (dA 213) w4) fun r11 w12 c13 y14 => (if r11 = 0 then fX5_asked_139 dA z (-1 : Int32) w12 c13 y14 else fX5_asked_139 dA z (2 : Int32) w12 c13 y14)) else (if r3 = (3343967 : Int32) then pck w4 v2 15 (ocal rX5_asked.cells rX5_asked.slots c5 y6 rJ7_equalsO.cells rJ7_equalsO.slots (fJ7_equalsO dA (z + c5) v2 (dA 214) w4) fun r15 w16 c17 y18 => (if r15 = 0 then fX5_asked_139 dA z (-1 : Int32) w16 c17 y18 else fX5_asked_139 dA z (3 : Int32) w16 c17 y18)) else (if r3 = (3704893 : Int32) then pck w4 v2 15 (ocal rX5_asked.cells rX5_asked.slots c5 y6 rJ7_equalsO.cells rJ7_equalsO.slots (fJ7_equalsO dA (z + c5) v2 (dA 215) w4) fun r19 w20 c21 y22 => (if r19 = 0 then fX5_asked_139 dA z (-1 : Int32) w20 c21 y22 else fX5_asked_139 dA z (4 : Int32) w20 c21 y22)) else (if r3 = (92903288 : Int32) then pck w4 v2 15 (ocal rX5_asked.cells rX5_asked.slots c5 y6 rJ7_equalsO.cells rJ7_equalsO.slots (fJ7_equalsO dA (z + c5) v2 (dA 212) w4) fun r23 w24 c25 y26 => (if r23 = 0 then fX5_asked_139 dA z (-1 : Int32) w24 c25 y26 else fX5_asked_139 dA z (1 : Int32) w24 c25 y26)) else fX5_asked_139 dA z (-1 : Int32) w4 c5 y6)))))) else gck 0 0 rX5_asked.cells rX5_asked.slots (some (none, w, 0, 0)))
set_option maxHeartbeats 4000000 in
set_option maxRecDepth 100000 in
theorem wX5_asked_139 {l : Launch} {D : va_G} {dA : Nat → ClassId} {z : Nat} {p : Program} {e : Env} {s : State} {m : MethodId} {args : Array Value} {below : List Frame} {meth : Method} {c9 : Code} {A : Nat → Prop} {q : ((Option Nat) × va_W × Nat × Nat)} (FX : CallFix p m c9 cX5_asked 3 s args lw_all RX5) (hr : meth.sig.returnType = (some (Jvm.ClassFile.FieldType.object "TrunkLitters$Node"))) (hlk : meth.locks = false) (hnm : meth.name = yX5_asked.name) (hout : ∀ x ∈ c9.exceptionTable.toList, False) : ∀ (x2 : Int32) (w : va_W) (c : Nat) (y : Nat) (H : Heap) (locs : List Loc) (ls : Array Slot), lv_has ls 3 [(2, .int x2)] → Wo D dA A s w z c H locs → fX5_asked_139 dA z x2 w c y = some q → W p l e rX5_asked s m args below meth c9 H locs c y (QO D dA A below args s rX5_asked.cells rX5_asked.slots (.inl (some (va_rf q.1))) q.2.1 (z + q.2.2.1) q.2.2.2) (F0 m 139 ls []) := by
  have hx := FX.1; have hb := FX.2.1; have hown := FX.2.2.2.1; have hts := FX.2.2.2.2
  intro x2 w c y H locs ls hl hW hf
  rw [fX5_asked_139] at hf
  refine lv_iload_n hx hb dX5_asked_139 rfl (lv_at hl 0 rfl) ?_
  by_cases c140_0 : x2 = (0 : Int32)
  · have hf := ifp c140_0 hf
    refine g_tabC (tgt := 176) FX (0 : Int32) c140_0 (by decide) (by decide) rfl (by decide) dX5_asked_140 ?_
    refine o_enum FX hW 0 (by decide) q1062 dX5_asked_176 ?_
    obtain ⟨hg, hf⟩ := gck_some hf
    obtain rfl := Option.some.inj hf
    exact ro_a (v := (some (dA 100))) FX hr (Or.inl ⟨_, rfl⟩) hlk hW hg dX5_asked_179
  have hf := ifn c140_0 hf
  by_cases c140_1 : x2 = (1 : Int32)
  · have hf := ifp c140_1 hf
    refine g_tabC (tgt := 180) FX (1 : Int32) c140_1 (by decide) (by decide) rfl (by decide) dX5_asked_140 ?_
    refine o_enum FX hW 1 (by decide) q1064 dX5_asked_180 ?_
    obtain ⟨hg, hf⟩ := gck_some hf
    obtain rfl := Option.some.inj hf
    exact ro_a (v := (some (dA 101))) FX hr (Or.inl ⟨_, rfl⟩) hlk hW hg dX5_asked_183
  have hf := ifn c140_1 hf
  by_cases c140_2 : x2 = (2 : Int32)
  · have hf := ifp c140_2 hf
    refine g_tabC (tgt := 184) FX (2 : Int32) c140_2 (by decide) (by decide) rfl (by decide) dX5_asked_140 ?_
    refine o_enum FX hW 2 (by decide) q1066 dX5_asked_184 ?_
    obtain ⟨hg, hf⟩ := gck_some hf
    obtain rfl := Option.some.inj hf
    exact ro_a (v := (some (dA 102))) FX hr (Or.inl ⟨_, rfl⟩) hlk hW hg dX5_asked_187
  have hf := ifn c140_2 hf
  by_cases c140_3 : x2 = (3 : Int32)
  · have hf := ifp c140_3 hf
    refine g_tabC (tgt := 188) FX (3 : Int32) c140_3 (by decide) (by decide) rfl (by decide) dX5_asked_140 ?_
    refine o_enum FX hW 3 (by decide) q1068 dX5_asked_188 ?_
    obtain ⟨hg, hf⟩ := gck_some hf
    obtain rfl := Option.some.inj hf
    exact ro_a (v := (some (dA 103))) FX hr (Or.inl ⟨_, rfl⟩) hlk hW hg dX5_asked_191
  have hf := ifn c140_3 hf
  by_cases c140_4 : x2 = (4 : Int32)
  · have hf := ifp c140_4 hf
    refine g_tabC (tgt := 192) FX (4 : Int32) c140_4 (by decide) (by decide) rfl (by decide) dX5_asked_140 ?_
    refine o_enum FX hW 4 (by decide) q1070 dX5_asked_192 ?_
    obtain ⟨hg, hf⟩ := gck_some hf
    obtain rfl := Option.some.inj hf
    exact ro_a (v := (some (dA 104))) FX hr (Or.inl ⟨_, rfl⟩) hlk hW hg dX5_asked_195
  have hf := ifn c140_4 hf
  have n140_0 := lv_neT (a := 0) c140_0 (by decide)
  have n140_1 := lv_neT (a := 1) c140_1 (by decide)
  have n140_2 := lv_neT (a := 2) c140_2 (by decide)
  have n140_3 := lv_neT (a := 3) c140_3 (by decide)
  have n140_4 := lv_neT (a := 4) c140_4 (by decide)
  refine lv_tableOut (tgt := 196) hx hb dX5_asked_140 (by omega) (by decide) ?_
  refine lv_null hx hb dX5_asked_196 ?_
  obtain ⟨hg, hf⟩ := gck_some hf
  obtain rfl := Option.some.inj hf
  exact ro_a (v := none) FX hr (Or.inl ⟨_, rfl⟩) hlk hW hg dX5_asked_197
set_option maxHeartbeats 4000000 in
set_option maxRecDepth 100000 in
theorem mX5_asked {l : Launch} {D : va_G} {dA : Nat → ClassId} {z : Nat}  {t7 : Nat} {w : va_W} {q : ((Option Nat) × va_W × Nat × Nat)} (hf : fX5_asked dA z t7 w = some q) : CtO l yX5_asked cX5_asked 3 (some (Jvm.ClassFile.FieldType.object "TrunkLitters$Node")) rX5_asked D dA [.ref t7] w z (.inl (some (va_rf q.1))) q.2.1 q.2.2.1 q.2.2.2 := by
  refine e_O (by decide) (Nat.le_of_ble_eq_true rfl) ?_
  intro p e s m below meth c9 ls A FX hr hlk hnm hout hl hW
  have hx := FX.1; have hb := FX.2.1; have hown := FX.2.2.2.1; have hts := FX.2.2.2.2
  have hl : lv_has ls 3 [(0, .ref t7)] := hl
  rw [fX5_asked] at hf
  refine lv_aload_n hx hb dX5_asked_0 rfl (lv_at hl 0 rfl) ?_
  refine og_i (C := RX5) (T := TX5) (N := 12) (ci := 5) FX hW in_X5 rfl 1 (by decide) q470 (fun _ h => h) hf dX5_asked_1 (fun v1 hf => ?_)
  refine lv_iconst (v := 1) hx hb dX5_asked_4 (by decide) ?_
  refine lv_icmp_eq (tgt := 10) hx hb dX5_asked_5 (by decide) (fun c5 => ?_) (fun c5 => ?_)
  · have hf := ifp c5 hf
    refine lv_aload_n hx hb dX5_asked_10 rfl (lv_at hl 0 rfl) ?_
    refine og_R (C := RX5) (T := TX5) (N := 12) (ci := 5) FX hW in_X5 rfl 9 (by decide) q478 (fun _ h => h) hf dX5_asked_11 (fun v2 hf => ?_)
    refine lv_astore_n (lv' := [(1, .ref v2), (0, .ref t7)]) hx hb dX5_asked_14 rfl hl (by decide) rfl (fun ls hl => ?_)
    refine lv_iconst (v := -1) hx hb dX5_asked_15 (by decide) ?_
    refine lv_istore_n (lv' := [(2, .int (-1 : Int32)), (1, .ref v2), (0, .ref t7)]) hx hb dX5_asked_16 rfl hl (by decide) rfl (fun ls hl => ?_)
    refine lv_aload_n hx hb dX5_asked_17 rfl (lv_at hl 1 rfl) ?_
    obtain ⟨hv9, hf⟩ := pck_some hf
    refine oc_i hW hf (fun r0 h0 hg => o_V (C := RJ7) (As := []) (rest := []) (n := 0) FX (mJ7_hashCode h0) (cwV 0 FX.2.2.2.2 (lw_V q748 q749 q750 q136 q751) rfl rfl rfl (by decide +kernel) ⟨Nat.le_of_ble_eq_true rfl, Nat.le_of_ble_eq_true rfl⟩) (o_recv hW rfl hv9) rfl hl.1 rfl (Nat.le_of_ble_eq_true rfl) hg dX5_asked_18 hW) (fun r3 w4 c5 y6 H locs hW hf => ?_)
    by_cases c21_3035410 : r3 = (3035410 : Int32)
    · have hf := ifp c21_3035410 hf
      refine g_lookC (tgt := 72) FX (3035410 : Int32) c21_3035410 (by decide) rfl (by decide) dX5_asked_21 ?_
      refine lv_aload_n hx hb dX5_asked_72 rfl (lv_at hl 1 rfl) ?_
      refine o_text FX rfl hW 4 (by decide) rfl dX5_asked_73 ?_
      obtain ⟨hv9, hf⟩ := pck_some hf
      refine oc_i hW hf (fun r0 h0 hg => o_V (C := RJ7) (As := [.ref (dA 204)]) (rest := []) (n := 1) FX (mJ7_equalsO h0) (cwV 1 FX.2.2.2.2 (lw_V q725 q726 q727 q136 q728) rfl rfl rfl (by decide +kernel) ⟨Nat.le_of_ble_eq_true rfl, Nat.le_of_ble_eq_true rfl⟩) (o_recv hW rfl hv9) rfl hl.1 rfl (Nat.le_of_ble_eq_true rfl) hg dX5_asked_75 hW) (fun r7 w8 c9 y10 H locs hW hf => ?_)
      refine lv_if_eq (tgt := 139) hx hb dX5_asked_78 (by decide) (fun c78 => ?_) (fun c78 => ?_)
      · have hf := ifp c78 hf
        exact wX5_asked_139 FX hr hlk hnm hout (-1 : Int32) w8 c9 y10 _ _ _ (lv_sub hl [0] rfl) hW hf
      · have hf := ifn c78 hf
        refine lv_iconst (v := 0) hx hb dX5_asked_81 (by decide) ?_
        refine lv_istore_n (lv' := [(2, .int (0 : Int32)), (1, .ref v2), (0, .ref t7)]) hx hb dX5_asked_82 rfl hl (by decide) rfl (fun ls hl => ?_)
        refine lv_goto (tgt := 139) hx hb dX5_asked_83 (by decide) ?_
        exact wX5_asked_139 FX hr hlk hnm hout (0 : Int32) w8 c9 y10 _ _ _ (lv_sub hl [0] rfl) hW hf
    have hf := ifn c21_3035410 hf
    by_cases c21_3317767 : r3 = (3317767 : Int32)
    · have hf := ifp c21_3317767 hf
      refine g_lookC (tgt := 100) FX (3317767 : Int32) c21_3317767 (by decide) rfl (by decide) dX5_asked_21 ?_
      refine lv_aload_n hx hb dX5_asked_100 rfl (lv_at hl 1 rfl) ?_
      refine o_text FX rfl hW 13 (by decide) rfl dX5_asked_101 ?_
      obtain ⟨hv9, hf⟩ := pck_some hf
      refine oc_i hW hf (fun r0 h0 hg => o_V (C := RJ7) (As := [.ref (dA 213)]) (rest := []) (n := 1) FX (mJ7_equalsO h0) (cwV 1 FX.2.2.2.2 (lw_V q725 q726 q727 q136 q728) rfl rfl rfl (by decide +kernel) ⟨Nat.le_of_ble_eq_true rfl, Nat.le_of_ble_eq_true rfl⟩) (o_recv hW rfl hv9) rfl hl.1 rfl (Nat.le_of_ble_eq_true rfl) hg dX5_asked_103 hW) (fun r11 w12 c13 y14 H locs hW hf => ?_)
      refine lv_if_eq (tgt := 139) hx hb dX5_asked_106 (by decide) (fun c106 => ?_) (fun c106 => ?_)
      · have hf := ifp c106 hf
        exact wX5_asked_139 FX hr hlk hnm hout (-1 : Int32) w12 c13 y14 _ _ _ (lv_sub hl [0] rfl) hW hf
      · have hf := ifn c106 hf
        refine lv_iconst (v := 2) hx hb dX5_asked_109 (by decide) ?_
        refine lv_istore_n (lv' := [(2, .int (2 : Int32)), (1, .ref v2), (0, .ref t7)]) hx hb dX5_asked_110 rfl hl (by decide) rfl (fun ls hl => ?_)
        refine lv_goto (tgt := 139) hx hb dX5_asked_111 (by decide) ?_
        exact wX5_asked_139 FX hr hlk hnm hout (2 : Int32) w12 c13 y14 _ _ _ (lv_sub hl [0] rfl) hW hf
    have hf := ifn c21_3317767 hf
    by_cases c21_3343967 : r3 = (3343967 : Int32)
    · have hf := ifp c21_3343967 hf
      refine g_lookC (tgt := 114) FX (3343967 : Int32) c21_3343967 (by decide) rfl (by decide) dX5_asked_21 ?_
      refine lv_aload_n hx hb dX5_asked_114 rfl (lv_at hl 1 rfl) ?_
      refine o_text FX rfl hW 14 (by decide) rfl dX5_asked_115 ?_
      obtain ⟨hv9, hf⟩ := pck_some hf
      refine oc_i hW hf (fun r0 h0 hg => o_V (C := RJ7) (As := [.ref (dA 214)]) (rest := []) (n := 1) FX (mJ7_equalsO h0) (cwV 1 FX.2.2.2.2 (lw_V q725 q726 q727 q136 q728) rfl rfl rfl (by decide +kernel) ⟨Nat.le_of_ble_eq_true rfl, Nat.le_of_ble_eq_true rfl⟩) (o_recv hW rfl hv9) rfl hl.1 rfl (Nat.le_of_ble_eq_true rfl) hg dX5_asked_117 hW) (fun r15 w16 c17 y18 H locs hW hf => ?_)
      refine lv_if_eq (tgt := 139) hx hb dX5_asked_120 (by decide) (fun c120 => ?_) (fun c120 => ?_)
      · have hf := ifp c120 hf
        exact wX5_asked_139 FX hr hlk hnm hout (-1 : Int32) w16 c17 y18 _ _ _ (lv_sub hl [0] rfl) hW hf
      · have hf := ifn c120 hf
        refine lv_iconst (v := 3) hx hb dX5_asked_123 (by decide) ?_
        refine lv_istore_n (lv' := [(2, .int (3 : Int32)), (1, .ref v2), (0, .ref t7)]) hx hb dX5_asked_124 rfl hl (by decide) rfl (fun ls hl => ?_)
        refine lv_goto (tgt := 139) hx hb dX5_asked_125 (by decide) ?_
        exact wX5_asked_139 FX hr hlk hnm hout (3 : Int32) w16 c17 y18 _ _ _ (lv_sub hl [0] rfl) hW hf
    have hf := ifn c21_3343967 hf
    by_cases c21_3704893 : r3 = (3704893 : Int32)
    · have hf := ifp c21_3704893 hf
      refine g_lookC (tgt := 128) FX (3704893 : Int32) c21_3704893 (by decide) rfl (by decide) dX5_asked_21 ?_
      refine lv_aload_n hx hb dX5_asked_128 rfl (lv_at hl 1 rfl) ?_
      refine o_text FX rfl hW 15 (by decide) rfl dX5_asked_129 ?_
      obtain ⟨hv9, hf⟩ := pck_some hf
      refine oc_i hW hf (fun r0 h0 hg => o_V (C := RJ7) (As := [.ref (dA 215)]) (rest := []) (n := 1) FX (mJ7_equalsO h0) (cwV 1 FX.2.2.2.2 (lw_V q725 q726 q727 q136 q728) rfl rfl rfl (by decide +kernel) ⟨Nat.le_of_ble_eq_true rfl, Nat.le_of_ble_eq_true rfl⟩) (o_recv hW rfl hv9) rfl hl.1 rfl (Nat.le_of_ble_eq_true rfl) hg dX5_asked_131 hW) (fun r19 w20 c21 y22 H locs hW hf => ?_)
      refine lv_if_eq (tgt := 139) hx hb dX5_asked_134 (by decide) (fun c134 => ?_) (fun c134 => ?_)
      · have hf := ifp c134 hf
        exact wX5_asked_139 FX hr hlk hnm hout (-1 : Int32) w20 c21 y22 _ _ _ (lv_sub hl [0] rfl) hW hf
      · have hf := ifn c134 hf
        refine lv_iconst (v := 4) hx hb dX5_asked_137 (by decide) ?_
        refine lv_istore_n (lv' := [(2, .int (4 : Int32)), (1, .ref v2), (0, .ref t7)]) hx hb dX5_asked_138 rfl hl (by decide) rfl (fun ls hl => ?_)
        exact wX5_asked_139 FX hr hlk hnm hout (4 : Int32) w20 c21 y22 _ _ _ (lv_sub hl [0] rfl) hW hf
    have hf := ifn c21_3704893 hf
    by_cases c21_92903288 : r3 = (92903288 : Int32)
    · have hf := ifp c21_92903288 hf
      refine g_lookC (tgt := 86) FX (92903288 : Int32) c21_92903288 (by decide) rfl (by decide) dX5_asked_21 ?_
      refine lv_aload_n hx hb dX5_asked_86 rfl (lv_at hl 1 rfl) ?_
      refine o_text FX rfl hW 12 (by decide) rfl dX5_asked_87 ?_
      obtain ⟨hv9, hf⟩ := pck_some hf
      refine oc_i hW hf (fun r0 h0 hg => o_V (C := RJ7) (As := [.ref (dA 212)]) (rest := []) (n := 1) FX (mJ7_equalsO h0) (cwV 1 FX.2.2.2.2 (lw_V q725 q726 q727 q136 q728) rfl rfl rfl (by decide +kernel) ⟨Nat.le_of_ble_eq_true rfl, Nat.le_of_ble_eq_true rfl⟩) (o_recv hW rfl hv9) rfl hl.1 rfl (Nat.le_of_ble_eq_true rfl) hg dX5_asked_89 hW) (fun r23 w24 c25 y26 H locs hW hf => ?_)
      refine lv_if_eq (tgt := 139) hx hb dX5_asked_92 (by decide) (fun c92 => ?_) (fun c92 => ?_)
      · have hf := ifp c92 hf
        exact wX5_asked_139 FX hr hlk hnm hout (-1 : Int32) w24 c25 y26 _ _ _ (lv_sub hl [0] rfl) hW hf
      · have hf := ifn c92 hf
        refine lv_iconst (v := 1) hx hb dX5_asked_95 (by decide) ?_
        refine lv_istore_n (lv' := [(2, .int (1 : Int32)), (1, .ref v2), (0, .ref t7)]) hx hb dX5_asked_96 rfl hl (by decide) rfl (fun ls hl => ?_)
        refine lv_goto (tgt := 139) hx hb dX5_asked_97 (by decide) ?_
        exact wX5_asked_139 FX hr hlk hnm hout (1 : Int32) w24 c25 y26 _ _ _ (lv_sub hl [0] rfl) hW hf
    have hf := ifn c21_92903288 hf
    refine lv_lookup (tgt := 139) (off := 118) hx hb dX5_asked_21 (by decide) ((lv_osw c21_3035410 (by decide)).trans ((lv_osw c21_3317767 (by decide)).trans ((lv_osw c21_3343967 (by decide)).trans ((lv_osw c21_3704893 (by decide)).trans ((lv_osw c21_92903288 (by decide)).trans rfl))))) (by decide) ?_
    exact wX5_asked_139 FX hr hlk hnm hout (-1 : Int32) w4 c5 y6 _ _ _ (lv_sub hl [0] rfl) hW hf
  · have hf := ifn c5 hf
    refine lv_null hx hb dX5_asked_8 ?_
    obtain ⟨hg, hf⟩ := gck_some hf
    obtain rfl := Option.some.inj hf
    exact ro_a (v := none) FX hr (Or.inl ⟨_, rfl⟩) hlk hW hg dX5_asked_9
