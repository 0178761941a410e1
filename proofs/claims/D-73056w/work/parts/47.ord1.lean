/-! TrunkLitters.find(Ljava/util/ArrayList;Ljava/lang/String;)I: kind O -/
abbrev rX0_findr : Room := { frames := 4, cells := 0, slots := 0, locals := 91 }
def fX0_findr_4 (dA : Nat → Nat) (z : Nat) : Nat → Nat → Nat → Int32 → Int32 → va_W → Nat → Nat → Option ((Int32) × va_W × Nat × Nat)
  | 0, _, _, _, _, _, _, _ => none
  | n + 1, x0, x1, x2, x3, w, c, y => pck w x0 13 (ocal rX0_findr.cells rX0_findr.slots c y rJ2_sizeO.cells rJ2_sizeO.slots (fJ2_sizeO dA (z + c) x0 w) fun r1 w2 c3 y4 => (if r1 ≤ x3 then gck c3 y4 rX0_findr.cells rX0_findr.slots (some (x2, w2, c3, y4)) else pck w2 x0 13 (ocal rX0_findr.cells rX0_findr.slots c3 y4 rJ2_getO.cells rJ2_getO.slots (fJ2_getO dA (z + c3) x0 x3 w2) fun r5 w6 c7 y8 => pck w6 r5 6 (pgR w6 r5 6 0 fun v9 => pck w6 v9 15 (ocal rX0_findr.cells rX0_findr.slots c7 y8 rJ7_equalsO.cells rJ7_equalsO.slots (fJ7_equalsO dA (z + c7) v9 x1 w6) fun r10 w11 c12 y13 => (if r10 = 0 then fX0_findr_4 dA z n x0 x1 x2 (x3 + (1 : Int32)) w11 c12 y13 else fX0_findr_4 dA z n x0 x1 x3 (x3 + (1 : Int32)) w11 c12 y13))))))
def fX0_findr (dA : Nat → Nat) (z : Nat) (l97 : Nat) (s7 : Nat) (w : va_W) : Option ((Int32) × va_W × Nat × Nat) := fX0_findr_4 dA z FU l97 s7 (-1 : Int32) (0 : Int32) w 0 0
set_option maxHeartbeats 4000000 in
set_option maxRecDepth 100000 in
theorem wX0_findr_4 {l : Launch} {D : va_G} {dA : Nat → ClassId} {z : Nat} {p : Program} {e : Env} {s : State} {m : MethodId} {args : Array Value} {below : List Frame} {meth : Method} {c9 : Code} {A : Nat → Prop} {q : ((Int32) × va_W × Nat × Nat)} (FX : CallFix p m c9 cX0_find 4 s args lw_all RX0) (hr : meth.sig.returnType = (some .int)) (hlk : meth.locks = false) (hnm : meth.name = yX0_find.name) (hout : ∀ x ∈ c9.exceptionTable.toList, False) : ∀ n : Nat, ∀ (x0 : Nat) (x1 : Nat) (x2 : Int32) (x3 : Int32) (w : va_W) (c : Nat) (y : Nat) (H : Heap) (locs : List Loc) (ls : Array Slot), lv_has ls 4 [(0, .ref x0), (1, .ref x1), (2, .int x2), (3, .int x3)] → Wo D dA A s w z c H locs → fX0_findr_4 dA z n x0 x1 x2 x3 w c y = some q → W p l e rX0_findr s m args below meth c9 H locs c y (QO D dA A below args s rX0_findr.cells rX0_findr.slots (.inl (some (.int q.1))) q.2.1 (z + q.2.2.1) q.2.2.2) (F0 m 4 ls []) := by
  have hx := FX.1; have hb := FX.2.1; have hown := FX.2.2.2.1; have hts := FX.2.2.2.2
  intro n
  induction n with
  | zero =>
    intro x0 x1 x2 x3 w c y H locs ls hl hW hf
    cases (show (none : Option ((Int32) × va_W × Nat × Nat)) = some q from hf)
  | succ n ih =>
    intro x0 x1 x2 x3 w c y H locs ls hl hW hf
    rw [fX0_findr_4] at hf
    refine lv_iload_n hx hb dX0_find_4 rfl (lv_at hl 3 rfl) ?_
    refine lv_aload_n hx hb dX0_find_5 rfl (lv_at hl 0 rfl) ?_
    obtain ⟨hv9, hf⟩ := pck_some hf
    refine oc_i hW hf (fun r0 h0 hg => o_V (C := RJ2) (As := []) (rest := [.int x3]) (n := 0) FX (mJ2_sizeO h0) (cwV 0 FX.2.2.2.2 (lw_V q892 q333 q334 q127 q335) rfl rfl rfl (by decide +kernel) ⟨Nat.le_of_ble_eq_true rfl, Nat.le_of_ble_eq_true rfl⟩) (o_recv hW rfl hv9) rfl hl.1 rfl (Nat.le_of_ble_eq_true rfl) hg dX0_find_6 hW) (fun r1 w2 c3 y4 H locs hW hf => ?_)
    refine lv_icmp_ge (tgt := 42) hx hb dX0_find_9 (by decide) (fun c9 => ?_) (fun c9 => ?_)
    · have hf := ifp c9 hf
      refine lv_iload_n hx hb dX0_find_42 rfl (lv_at hl 2 rfl) ?_
      obtain ⟨hg, hf⟩ := gck_some hf
      obtain rfl := Option.some.inj hf
      exact ro_i FX hr hlk hW hg dX0_find_43
    · have hf := ifn c9 hf
      refine lv_aload_n hx hb dX0_find_12 rfl (lv_at hl 0 rfl) ?_
      refine lv_iload_n hx hb dX0_find_13 rfl (lv_at hl 3 rfl) ?_
      obtain ⟨hv9, hf⟩ := pck_some hf
      refine oc_R hW hf (fun r0 h0 hg => o_V (C := RJ2) (As := [.int x3]) (rest := []) (n := 1) FX (mJ2_getO h0) (cwV 1 FX.2.2.2.2 (lw_V q893 q345 q346 q127 q347) rfl rfl rfl (by decide +kernel) ⟨Nat.le_of_ble_eq_true rfl, Nat.le_of_ble_eq_true rfl⟩) (o_recv hW rfl hv9) rfl hl.1 rfl (Nat.le_of_ble_eq_true rfl) hg dX0_find_14 hW) (fun r5 w6 c7 y8 H locs hW hf => ?_)
      obtain ⟨hv9, hf⟩ := pck_some hf
      refine o_castY (ci := 6) FX hW rfl q894 (List.mem_of_getElem? (i := 11) rfl) hv9 dX0_find_17 ?_
      refine og_R (C := RX7) (T := TX7) (N := 3) (ci := 6) FX hW in_X7 rfl 0 (by decide) q908 (fun _ h => h) hf dX0_find_20 (fun v9 hf => ?_)
      refine lv_aload_n hx hb dX0_find_23 rfl (lv_at hl 1 rfl) ?_
      obtain ⟨hv9, hf⟩ := pck_some hf
      refine oc_i hW hf (fun r0 h0 hg => o_V (C := RJ7) (As := [.ref x1]) (rest := []) (n := 1) FX (mJ7_equalsO h0) (cwV 1 FX.2.2.2.2 (lw_V q895 q726 q727 q136 q728) rfl rfl rfl (by decide +kernel) ⟨Nat.le_of_ble_eq_true rfl, Nat.le_of_ble_eq_true rfl⟩) (o_recv hW rfl hv9) rfl hl.1 rfl (Nat.le_of_ble_eq_true rfl) hg dX0_find_24 hW) (fun r10 w11 c12 y13 H locs hW hf => ?_)
      refine lv_if_eq (tgt := 34) hx hb dX0_find_27 (by decide) (fun c27 => ?_) (fun c27 => ?_)
      · have hf := ifp c27 hf
        refine lv_iload_n hx hb dX0_find_34 rfl (lv_at hl 2 rfl) ?_
        refine lv_istore_n (lv' := [(2, .int x2), (0, .ref x0), (1, .ref x1), (3, .int x3)]) hx hb dX0_find_35 rfl hl (by decide) rfl (fun ls hl => ?_)
        refine lv_iinc (v := (x3 + (1 : Int32))) (lv' := [(3, .int (x3 + (1 : Int32))), (2, .int x2), (0, .ref x0), (1, .ref x1)]) hx hb dX0_find_36 hl (k := 3) rfl rfl (by decide) rfl (fun ls hl => ?_)
        refine lv_goto (tgt := 4) hx hb dX0_find_39 (by decide) ?_
        exact ih x0 x1 x2 (x3 + (1 : Int32)) w11 c12 y13 _ _ _ (lv_sub hl [2, 3, 1, 0] rfl) hW hf
      · have hf := ifn c27 hf
        refine lv_iload_n hx hb dX0_find_30 rfl (lv_at hl 3 rfl) ?_
        refine lv_goto (tgt := 35) hx hb dX0_find_31 (by decide) ?_
        refine lv_istore_n (lv' := [(2, .int x3), (0, .ref x0), (1, .ref x1), (3, .int x3)]) hx hb dX0_find_35 rfl hl (by decide) rfl (fun ls hl => ?_)
        refine lv_iinc (v := (x3 + (1 : Int32))) (lv' := [(3, .int (x3 + (1 : Int32))), (2, .int x3), (0, .ref x0), (1, .ref x1)]) hx hb dX0_find_36 hl (k := 3) rfl rfl (by decide) rfl (fun ls hl => ?_)
        refine lv_goto (tgt := 4) hx hb dX0_find_39 (by decide) ?_
        exact ih x0 x1 x3 (x3 + (1 : Int32)) w11 c12 y13 _ _ _ (lv_sub hl [2, 3, 1, 0] rfl) hW hf
set_option maxHeartbeats 4000000 in
set_option maxRecDepth 100000 in
theorem mX0_findr {l : Launch} {D : va_G} {dA : Nat → ClassId} {z : Nat}  {l97 : Nat} {s7 : Nat} {w : va_W} {q : ((Int32) × va_W × Nat × Nat)} (hf : fX0_findr dA z l97 s7 w = some q) : CtO l yX0_find cX0_find 4 (some .int) rX0_findr D dA [.ref l97, .ref s7] w z (.inl (some (.int q.1))) q.2.1 q.2.2.1 q.2.2.2 := by
  refine e_O (by decide) (Nat.le_of_ble_eq_true rfl) ?_
  intro p e s m below meth c9 ls A FX hr hlk hnm hout hl hW
  have hx := FX.1; have hb := FX.2.1; have hown := FX.2.2.2.1; have hts := FX.2.2.2.2
  have hl : lv_has ls 4 [(0, .ref l97), (1, .ref s7)] := hl
  rw [fX0_findr] at hf
  refine lv_iconst (v := -1) hx hb dX0_find_0 (by decide) ?_
  refine lv_istore_n (lv' := [(2, .int (-1 : Int32)), (0, .ref l97), (1, .ref s7)]) hx hb dX0_find_1 rfl hl (by decide) rfl (fun ls hl => ?_)
  refine lv_iconst (v := 0) hx hb dX0_find_2 (by decide) ?_
  refine lv_istore_n (lv' := [(3, .int (0 : Int32)), (2, .int (-1 : Int32)), (0, .ref l97), (1, .ref s7)]) hx hb dX0_find_3 rfl hl (by decide) rfl (fun ls hl => ?_)
  exact wX0_findr_4 FX hr hlk hnm hout _ l97 s7 (-1 : Int32) (0 : Int32) w 0 0 _ _ _ (lv_sub hl [2, 3, 1, 0] rfl) hW hf
/-! TrunkLitters.find(Ljava/util/ArrayList;Ljava/lang/String;)I: kind O -/
abbrev rX0_findt : Room := { frames := 4, cells := 0, slots := 0, locals := 91 }
def fX0_findt_4 (dA : Nat → Nat) (z : Nat) : Nat → Nat → Nat → Int32 → Int32 → va_W → Nat → Nat → Option ((Int32) × va_W × Nat × Nat)
  | 0, _, _, _, _, _, _, _ => none
  | n + 1, x0, x1, x2, x3, w, c, y => pck w x0 13 (ocal rX0_findt.cells rX0_findt.slots c y rJ2_sizeO.cells rJ2_sizeO.slots (fJ2_sizeO dA (z + c) x0 w) fun r1 w2 c3 y4 => (if r1 ≤ x3 then gck c3 y4 rX0_findt.cells rX0_findt.slots (some (x2, w2, c3, y4)) else pck w2 x0 13 (ocal rX0_findt.cells rX0_findt.slots c3 y4 rJ2_getO.cells rJ2_getO.slots (fJ2_getO dA (z + c3) x0 x3 w2) fun r5 w6 c7 y8 => pck w6 r5 8 (pgR w6 r5 8 0 fun v9 => pck w6 v9 15 (ocal rX0_findt.cells rX0_findt.slots c7 y8 rJ7_equalsO.cells rJ7_equalsO.slots (fJ7_equalsO dA (z + c7) v9 x1 w6) fun r10 w11 c12 y13 => (if r10 = 0 then fX0_findt_4 dA z n x0 x1 x2 (x3 + (1 : Int32)) w11 c12 y13 else fX0_findt_4 dA z n x0 x1 x3 (x3 + (1 : Int32)) w11 c12 y13))))))
def fX0_findt (dA : Nat → Nat) (z : Nat) (l97 : Nat) (s7 : Nat) (w : va_W) : Option ((Int32) × va_W × Nat × Nat) := fX0_findt_4 dA z FU l97 s7 (-1 : Int32) (0 : Int32) w 0 0
set_option maxHeartbeats 4000000 in
set_option maxRecDepth 100000 in
theorem wX0_findt_4 {l : Launch} {D : va_G} {dA : Nat → ClassId} {z : Nat} {p : Program} {e : Env} {s : State} {m : MethodId} {args : Array Value} {below : List Frame} {meth : Method} {c9 : Code} {A : Nat → Prop} {q : ((Int32) × va_W × Nat × Nat)} (FX : CallFix p m c9 cX0_find 4 s args lw_all RX0) (hr : meth.sig.returnType = (some .int)) (hlk : meth.locks = false) (hnm : meth.name = yX0_find.name) (hout : ∀ x ∈ c9.exceptionTable.toList, False) : ∀ n : Nat, ∀ (x0 : Nat) (x1 : Nat) (x2 : Int32) (x3 : Int32) (w : va_W) (c : Nat) (y : Nat) (H : Heap) (locs : List Loc) (ls : Array Slot), lv_has ls 4 [(0, .ref x0), (1, .ref x1), (2, .int x2), (3, .int x3)] → Wo D dA A s w z c H locs → fX0_findt_4 dA z n x0 x1 x2 x3 w c y = some q → W p l e rX0_findt s m args below meth c9 H locs c y (QO D dA A below args s rX0_findt.cells rX0_findt.slots (.inl (some (.int q.1))) q.2.1 (z + q.2.2.1) q.2.2.2) (F0 m 4 ls []) := by
  have hx := FX.1; have hb := FX.2.1; have hown := FX.2.2.2.1; have hts := FX.2.2.2.2
  intro n
  induction n with
  | zero =>
    intro x0 x1 x2 x3 w c y H locs ls hl hW hf
    cases (show (none : Option ((Int32) × va_W × Nat × Nat)) = some q from hf)
  | succ n ih =>
    intro x0 x1 x2 x3 w c y H locs ls hl hW hf
    rw [fX0_findt_4] at hf
    refine lv_iload_n hx hb dX0_find_4 rfl (lv_at hl 3 rfl) ?_
    refine lv_aload_n hx hb dX0_find_5 rfl (lv_at hl 0 rfl) ?_
    obtain ⟨hv9, hf⟩ := pck_some hf
    refine oc_i hW hf (fun r0 h0 hg => o_V (C := RJ2) (As := []) (rest := [.int x3]) (n := 0) FX (mJ2_sizeO h0) (cwV 0 FX.2.2.2.2 (lw_V q892 q333 q334 q127 q335) rfl rfl rfl (by decide +kernel) ⟨Nat.le_of_ble_eq_true rfl, Nat.le_of_ble_eq_true rfl⟩) (o_recv hW rfl hv9) rfl hl.1 rfl (Nat.le_of_ble_eq_true rfl) hg dX0_find_6 hW) (fun r1 w2 c3 y4 H locs hW hf => ?_)
    refine lv_icmp_ge (tgt := 42) hx hb dX0_find_9 (by decide) (fun c9 => ?_) (fun c9 => ?_)
    · have hf := ifp c9 hf
      refine lv_iload_n hx hb dX0_find_42 rfl (lv_at hl 2 rfl) ?_
      obtain ⟨hg, hf⟩ := gck_some hf
      obtain rfl := Option.some.inj hf
      exact ro_i FX hr hlk hW hg dX0_find_43
    · have hf := ifn c9 hf
      refine lv_aload_n hx hb dX0_find_12 rfl (lv_at hl 0 rfl) ?_
      refine lv_iload_n hx hb dX0_find_13 rfl (lv_at hl 3 rfl) ?_
      obtain ⟨hv9, hf⟩ := pck_some hf
      refine oc_R hW hf (fun r0 h0 hg => o_V (C := RJ2) (As := [.int x3]) (rest := []) (n := 1) FX (mJ2_getO h0) (cwV 1 FX.2.2.2.2 (lw_V q893 q345 q346 q127 q347) rfl rfl rfl (by decide +kernel) ⟨Nat.le_of_ble_eq_true rfl, Nat.le_of_ble_eq_true rfl⟩) (o_recv hW rfl hv9) rfl hl.1 rfl (Nat.le_of_ble_eq_true rfl) hg dX0_find_14 hW) (fun r5 w6 c7 y8 H locs hW hf => ?_)
      obtain ⟨hv9, hf⟩ := pck_some hf
      refine o_castY (ci := 8) FX hW rfl q894 (List.mem_of_getElem? (i := 12) rfl) hv9 dX0_find_17 ?_
      refine og_R (C := RX9) (T := TX9) (N := 5) (ci := 8) FX hW in_X9 rfl 0 (by decide) q908 (fun _ h => h) hf dX0_find_20 (fun v9 hf => ?_)
      refine lv_aload_n hx hb dX0_find_23 rfl (lv_at hl 1 rfl) ?_
      obtain ⟨hv9, hf⟩ := pck_some hf
      refine oc_i hW hf (fun r0 h0 hg => o_V (C := RJ7) (As := [.ref x1]) (rest := []) (n := 1) FX (mJ7_equalsO h0) (cwV 1 FX.2.2.2.2 (lw_V q895 q726 q727 q136 q728) rfl rfl rfl (by decide +kernel) ⟨Nat.le_of_ble_eq_true rfl, Nat.le_of_ble_eq_true rfl⟩) (o_recv hW rfl hv9) rfl hl.1 rfl (Nat.le_of_ble_eq_true rfl) hg dX0_find_24 hW) (fun r10 w11 c12 y13 H locs hW hf => ?_)
      refine lv_if_eq (tgt := 34) hx hb dX0_find_27 (by decide) (fun c27 => ?_) (fun c27 => ?_)
      · have hf := ifp c27 hf
        refine lv_iload_n hx hb dX0_find_34 rfl (lv_at hl 2 rfl) ?_
        refine lv_istore_n (lv' := [(2, .int x2), (0, .ref x0), (1, .ref x1), (3, .int x3)]) hx hb dX0_find_35 rfl hl (by decide) rfl (fun ls hl => ?_)
        refine lv_iinc (v := (x3 + (1 : Int32))) (lv' := [(3, .int (x3 + (1 : Int32))), (2, .int x2), (0, .ref x0), (1, .ref x1)]) hx hb dX0_find_36 hl (k := 3) rfl rfl (by decide) rfl (fun ls hl => ?_)
        refine lv_goto (tgt := 4) hx hb dX0_find_39 (by decide) ?_
        exact ih x0 x1 x2 (x3 + (1 : Int32)) w11 c12 y13 _ _ _ (lv_sub hl [2, 3, 1, 0] rfl) hW hf
      · have hf := ifn c27 hf
        refine lv_iload_n hx hb dX0_find_30 rfl (lv_at hl 3 rfl) ?_
        refine lv_goto (tgt := 35) hx hb dX0_find_31 (by decide) ?_
        refine lv_istore_n (lv' := [(2, .int x3), (0, .ref x0), (1, .ref x1), (3, .int x3)]) hx hb dX0_find_35 rfl hl (by decide) rfl (fun ls hl => ?_)
        refine lv_iinc (v := (x3 + (1 : Int32))) (lv' := [(3, .int (x3 + (1 : Int32))), (2, .int x3), (0, .ref x0), (1, .ref x1)]) hx hb dX0_find_36 hl (k := 3) rfl rfl (by decide) rfl (fun ls hl => ?_)
        refine lv_goto (tgt := 4) hx hb dX0_find_39 (by decide) ?_
        exact ih x0 x1 x3 (x3 + (1 : Int32)) w11 c12 y13 _ _ _ (lv_sub hl [2, 3, 1, 0] rfl) hW hf
set_option maxHeartbeats 4000000 in
set_option maxRecDepth 100000 in
theorem mX0_findt {l : Launch} {D : va_G} {dA : Nat → ClassId} {z : Nat}  {l97 : Nat} {s7 : Nat} {w : va_W} {q : ((Int32) × va_W × Nat × Nat)} (hf : fX0_findt dA z l97 s7 w = some q) : CtO l yX0_find cX0_find 4 (some .int) rX0_findt D dA [.ref l97, .ref s7] w z (.inl (some (.int q.1))) q.2.1 q.2.2.1 q.2.2.2 := by
  refine e_O (by decide) (Nat.le_of_ble_eq_true rfl) ?_
  intro p e s m below meth c9 ls A FX hr hlk hnm hout hl hW
  have hx := FX.1; have hb := FX.2.1; have hown := FX.2.2.2.1; have hts := FX.2.2.2.2
  have hl : lv_has ls 4 [(0, .ref l97), (1, .ref s7)] := hl
  rw [fX0_findt] at hf
  refine lv_iconst (v := -1) hx hb dX0_find_0 (by decide) ?_
  refine lv_istore_n (lv' := [(2, .int (-1 : Int32)), (0, .ref l97), (1, .ref s7)]) hx hb dX0_find_1 rfl hl (by decide) rfl (fun ls hl => ?_)
  refine lv_iconst (v := 0) hx hb dX0_find_2 (by decide) ?_
  refine lv_istore_n (lv' := [(3, .int (0 : Int32)), (2, .int (-1 : Int32)), (0, .ref l97), (1, .ref s7)]) hx hb dX0_find_3 rfl hl (by decide) rfl (fun ls hl => ?_)
  exact wX0_findt_4 FX hr hlk hnm hout _ l97 s7 (-1 : Int32) (0 : Int32) w 0 0 _ _ _ (lv_sub hl [2, 3, 1, 0] rfl) hW hf
/-! TrunkLitters$Reader.here(I)I: kind O -/
abbrev rX5_here : Room := { frames := 0, cells := 0, slots := 0, locals := 0 }
def fX5_here (dA : Nat → Nat) (z : Nat) (t7 : Nat) (k7 : Int32) (w : va_W) : Option ((Int32) × va_W × Nat × Nat) := pgi w t7 5 0 fun v1 => pgR w t7 5 11 fun v2 => pgi w v2 0 1 fun v3 => (if v3 ≤ (v1 + k7) then gck 0 0 rX5_here.cells rX5_here.slots (some ((-1 : Int32), w, 0, 0)) else pgR w t7 5 11 fun v4 => pgR w v4 0 0 fun v5 => pgi w t7 5 0 fun v6 => hald w (dA 1) v5 (v6 + k7) fun v7 => gck 0 0 rX5_here.cells rX5_here.slots (some ((v7 &&& (255 : Int32)), w, 0, 0)))
set_option maxHeartbeats 4000000 in
set_option maxRecDepth 100000 in
theorem mX5_here {l : Launch} {D : va_G} {dA : Nat → ClassId} {z : Nat}  {t7 : Nat} {k7 : Int32} {w : va_W} {q : ((Int32) × va_W × Nat × Nat)} (hf : fX5_here dA z t7 k7 w = some q) : CtO l yX5_here cX5_here 2 (some .int) rX5_here D dA [.ref t7, .int k7] w z (.inl (some (.int q.1))) q.2.1 q.2.2.1 q.2.2.2 := by
  refine e_O (by decide) (Nat.le_of_ble_eq_true rfl) ?_
  intro p e s m below meth c9 ls A FX hr hlk hnm hout hl hW
  have hx := FX.1; have hb := FX.2.1; have hown := FX.2.2.2.1; have hts := FX.2.2.2.2
  have hl : lv_has ls 2 [(0, .ref t7), (1, .int k7)] := hl
  rw [fX5_here] at hf
  refine lv_aload_n hx hb dX5_here_0 rfl (lv_at hl 0 rfl) ?_
  refine og_i (C := RX5) (T := TX5) (N := 12) (ci := 5) FX hW in_X5 rfl 0 (by decide) q469 (fun _ h => h) hf dX5_here_1 (fun v1 hf => ?_)
  refine lv_iload_n hx hb dX5_here_4 rfl (lv_at hl 1 rfl) ?_
  refine lv_iadd hx hb dX5_here_5 ?_
  refine lv_aload_n hx hb dX5_here_6 rfl (lv_at hl 0 rfl) ?_
  refine og_R (C := RX5) (T := TX5) (N := 12) (ci := 5) FX hW in_X5 rfl 11 (by decide) q480 (fun _ h => h) hf dX5_here_7 (fun v2 hf => ?_)
  refine og_iN (C := RX0) (T := TX0) (N := 26) (ci := 0) FX hW in_X0 rfl 1 (by decide) (List.mem_of_getElem? (i := 2) rfl) (fun _ h => h) hf dX5_here_10 (fun v3 hf => ?_)
  refine lv_icmp_ge (tgt := 37) hx hb dX5_here_13 (by decide) (fun c13 => ?_) (fun c13 => ?_)
  · have hf := ifp c13 hf
    refine lv_iconst (v := -1) hx hb dX5_here_37 (by decide) ?_
    obtain ⟨hg, hf⟩ := gck_some hf
    obtain rfl := Option.some.inj hf
    exact ro_i FX hr hlk hW hg dX5_here_38
  · have hf := ifn c13 hf
    refine lv_aload_n hx hb dX5_here_16 rfl (lv_at hl 0 rfl) ?_
    refine og_R (C := RX5) (T := TX5) (N := 12) (ci := 5) FX hW in_X5 rfl 11 (by decide) q480 (fun _ h => h) hf dX5_here_17 (fun v4 hf => ?_)
    refine og_RN (C := RX0) (T := TX0) (N := 26) (ci := 0) FX hW in_X0 rfl 0 (by decide) (List.mem_of_getElem? (i := 1) rfl) (fun _ h => h) hf dX5_here_20 (fun v5 hf => ?_)
    refine lv_aload_n hx hb dX5_here_23 rfl (lv_at hl 0 rfl) ?_
    refine og_i (C := RX5) (T := TX5) (N := 12) (ci := 5) FX hW in_X5 rfl 0 (by decide) q469 (fun _ h => h) hf dX5_here_24 (fun v6 hf => ?_)
    refine lv_iload_n hx hb dX5_here_27 rfl (lv_at hl 1 rfl) ?_
    refine lv_iadd hx hb dX5_here_28 ?_
    refine o_bald FX hW.1 hf dX5_here_29 (fun v7 hf => ?_)
    refine lv_sipush (v := 255) hx hb dX5_here_30 (by decide) ?_
    refine lv_iand hx hb dX5_here_33 ?_
    refine lv_goto (tgt := 38) hx hb dX5_here_34 (by decide) ?_
    obtain ⟨hg, hf⟩ := gck_some hf
    obtain rfl := Option.some.inj hf
    exact ro_i FX hr hlk hW hg dX5_here_38
/-! TrunkLitters$Reader.isLetter(I)Z: kind O -/
abbrev rX5_isLetter : Room := { frames := 1, cells := 0, slots := 0, locals := 21 }
def fX5_isLetter (dA : Nat → Nat) (z : Nat) (t7 : Nat) (k7 : Int32) (w : va_W) : Option ((Int32) × va_W × Nat × Nat) := pck w t7 5 (ocal rX5_isLetter.cells rX5_isLetter.slots 0 0 rX5_here.cells rX5_here.slots (fX5_here dA (z + 0) t7 k7 w) fun r1 w2 c3 y4 => (if r1 < (97 : Int32) then gck c3 y4 rX5_isLetter.cells rX5_isLetter.slots (some ((0 : Int32), w2, c3, y4)) else pck w2 t7 5 (ocal rX5_isLetter.cells rX5_isLetter.slots c3 y4 rX5_here.cells rX5_here.slots (fX5_here dA (z + c3) t7 k7 w2) fun r5 w6 c7 y8 => (if (122 : Int32) < r5 then gck c7 y8 rX5_isLetter.cells rX5_isLetter.slots (some ((0 : Int32), w6, c7, y8)) else gck c7 y8 rX5_isLetter.cells rX5_isLetter.slots (some ((1 : Int32), w6, c7, y8))))))
set_option maxHeartbeats 4000000 in
set_option maxRecDepth 100000 in
theorem mX5_isLetter {l : Launch} {D : va_G} {dA : Nat → ClassId} {z : Nat}  {t7 : Nat} {k7 : Int32} {w : va_W} {q : ((Int32) × va_W × Nat × Nat)} (hf : fX5_isLetter dA z t7 k7 w = some q) : CtO l yX5_isLetter cX5_isLetter 2 (some .boolean) rX5_isLetter D dA [.ref t7, .int k7] w z (.inl (some (.int q.1))) q.2.1 q.2.2.1 q.2.2.2 := by
  refine e_O (by decide) (Nat.le_of_ble_eq_true rfl) ?_
  intro p e s m below meth c9 ls A FX hr hlk hnm hout hl hW
  have hx := FX.1; have hb := FX.2.1; have hown := FX.2.2.2.1; have hts := FX.2.2.2.2
  have hl : lv_has ls 2 [(0, .ref t7), (1, .int k7)] := hl
  rw [fX5_isLetter] at hf
  refine lv_aload_n hx hb dX5_isLetter_0 rfl (lv_at hl 0 rfl) ?_
  refine lv_iload_n hx hb dX5_isLetter_1 rfl (lv_at hl 1 rfl) ?_
  obtain ⟨hv9, hf⟩ := pck_some hf
  refine oc_i hW hf (fun r0 h0 hg => o_V (C := RX5) (As := [.int k7]) (rest := []) (n := 1) FX (mX5_here h0) (cwV 1 FX.2.2.2.2 (lw_V q514 q516 qs2 q133 q517) rfl rfl rfl (by decide +kernel) ⟨Nat.le_of_ble_eq_true rfl, Nat.le_of_ble_eq_true rfl⟩) (o_recv hW rfl hv9) rfl hl.1 rfl (Nat.le_of_ble_eq_true rfl) hg dX5_isLetter_2 hW) (fun r1 w2 c3 y4 H locs hW hf => ?_)
  refine lv_bipush (v := 97) hx hb dX5_isLetter_5 (by decide) ?_
  refine lv_icmp_lt (tgt := 24) hx hb dX5_isLetter_7 (by decide) (fun c7 => ?_) (fun c7 => ?_)
  · have hf := ifp c7 hf
    refine lv_iconst (v := 0) hx hb dX5_isLetter_24 (by decide) ?_
    obtain ⟨hg, hf⟩ := gck_some hf
    obtain rfl := Option.some.inj hf
    exact ro_z (v := (0 : Int32)) FX hr hlk hW hg rfl dX5_isLetter_25
  · have hf := ifn c7 hf
    refine lv_aload_n hx hb dX5_isLetter_10 rfl (lv_at hl 0 rfl) ?_
    refine lv_iload_n hx hb dX5_isLetter_11 rfl (lv_at hl 1 rfl) ?_
    obtain ⟨hv9, hf⟩ := pck_some hf
    refine oc_i hW hf (fun r0 h0 hg => o_V (C := RX5) (As := [.int k7]) (rest := []) (n := 1) FX (mX5_here h0) (cwV 1 FX.2.2.2.2 (lw_V q514 q516 qs2 q133 q517) rfl rfl rfl (by decide +kernel) ⟨Nat.le_of_ble_eq_true rfl, Nat.le_of_ble_eq_true rfl⟩) (o_recv hW rfl hv9) rfl hl.1 rfl (Nat.le_of_ble_eq_true rfl) hg dX5_isLetter_12 hW) (fun r5 w6 c7 y8 H locs hW hf => ?_)
    refine lv_bipush (v := 122) hx hb dX5_isLetter_15 (by decide) ?_
    refine lv_icmp_gt (tgt := 24) hx hb dX5_isLetter_17 (by decide) (fun c17 => ?_) (fun c17 => ?_)
    · have hf := ifp c17 hf
      refine lv_iconst (v := 0) hx hb dX5_isLetter_24 (by decide) ?_
      obtain ⟨hg, hf⟩ := gck_some hf
      obtain rfl := Option.some.inj hf
      exact ro_z (v := (0 : Int32)) FX hr hlk hW hg rfl dX5_isLetter_25
    · have hf := ifn c17 hf
      refine lv_iconst (v := 1) hx hb dX5_isLetter_20 (by decide) ?_
      refine lv_goto (tgt := 25) hx hb dX5_isLetter_21 (by decide) ?_
      obtain ⟨hg, hf⟩ := gck_some hf
      obtain rfl := Option.some.inj hf
      exact ro_z (v := (1 : Int32)) FX hr hlk hW hg rfl dX5_isLetter_25
/-! TrunkLitters$Reader.isDigit(I)Z: kind O -/
abbrev rX5_isDigit : Room := { frames := 1, cells := 0, slots := 0, locals := 21 }
def fX5_isDigit (dA : Nat → Nat) (z : Nat) (t7 : Nat) (k7 : Int32) (w : va_W) : Option ((Int32) × va_W × Nat × Nat) := pck w t7 5 (ocal rX5_isDigit.cells rX5_isDigit.slots 0 0 rX5_here.cells rX5_here.slots (fX5_here dA (z + 0) t7 k7 w) fun r1 w2 c3 y4 => (if r1 < (48 : Int32) then gck c3 y4 rX5_isDigit.cells rX5_isDigit.slots (some ((0 : Int32), w2, c3, y4)) else pck w2 t7 5 (ocal rX5_isDigit.cells rX5_isDigit.slots c3 y4 rX5_here.cells rX5_here.slots (fX5_here dA (z + c3) t7 k7 w2) fun r5 w6 c7 y8 => (if (57 : Int32) < r5 then gck c7 y8 rX5_isDigit.cells rX5_isDigit.slots (some ((0 : Int32), w6, c7, y8)) else gck c7 y8 rX5_isDigit.cells rX5_isDigit.slots (some ((1 : Int32), w6, c7, y8))))))
set_option maxHeartbeats 4000000 in
set_option maxRecDepth 100000 in
theorem mX5_isDigit {l : Launch} {D : va_G} {dA : Nat → ClassId} {z : Nat}  {t7 : Nat} {k7 : Int32} {w : va_W} {q : ((Int32) × va_W × Nat × Nat)} (hf : fX5_isDigit dA z t7 k7 w = some q) : CtO l yX5_isDigit cX5_isDigit 2 (some .boolean) rX5_isDigit D dA [.ref t7, .int k7] w z (.inl (some (.int q.1))) q.2.1 q.2.2.1 q.2.2.2 := by
  refine e_O (by decide) (Nat.le_of_ble_eq_true rfl) ?_
  intro p e s m below meth c9 ls A FX hr hlk hnm hout hl hW
  have hx := FX.1; have hb := FX.2.1; have hown := FX.2.2.2.1; have hts := FX.2.2.2.2
  have hl : lv_has ls 2 [(0, .ref t7), (1, .int k7)] := hl
  rw [fX5_isDigit] at hf
  refine lv_aload_n hx hb dX5_isDigit_0 rfl (lv_at hl 0 rfl) ?_
  refine lv_iload_n hx hb dX5_isDigit_1 rfl (lv_at hl 1 rfl) ?_
  obtain ⟨hv9, hf⟩ := pck_some hf
  refine oc_i hW hf (fun r0 h0 hg => o_V (C := RX5) (As := [.int k7]) (rest := []) (n := 1) FX (mX5_here h0) (cwV 1 FX.2.2.2.2 (lw_V q514 q516 qs2 q133 q517) rfl rfl rfl (by decide +kernel) ⟨Nat.le_of_ble_eq_true rfl, Nat.le_of_ble_eq_true rfl⟩) (o_recv hW rfl hv9) rfl hl.1 rfl (Nat.le_of_ble_eq_true rfl) hg dX5_isDigit_2 hW) (fun r1 w2 c3 y4 H locs hW hf => ?_)
  refine lv_bipush (v := 48) hx hb dX5_isDigit_5 (by decide) ?_
  refine lv_icmp_lt (tgt := 24) hx hb dX5_isDigit_7 (by decide) (fun c7 => ?_) (fun c7 => ?_)
  · have hf := ifp c7 hf
    refine lv_iconst (v := 0) hx hb dX5_isDigit_24 (by decide) ?_
    obtain ⟨hg, hf⟩ := gck_some hf
    obtain rfl := Option.some.inj hf
    exact ro_z (v := (0 : Int32)) FX hr hlk hW hg rfl dX5_isDigit_25
  · have hf := ifn c7 hf
    refine lv_aload_n hx hb dX5_isDigit_10 rfl (lv_at hl 0 rfl) ?_
    refine lv_iload_n hx hb dX5_isDigit_11 rfl (lv_at hl 1 rfl) ?_
    obtain ⟨hv9, hf⟩ := pck_some hf
    refine oc_i hW hf (fun r0 h0 hg => o_V (C := RX5) (As := [.int k7]) (rest := []) (n := 1) FX (mX5_here h0) (cwV 1 FX.2.2.2.2 (lw_V q514 q516 qs2 q133 q517) rfl rfl rfl (by decide +kernel) ⟨Nat.le_of_ble_eq_true rfl, Nat.le_of_ble_eq_true rfl⟩) (o_recv hW rfl hv9) rfl hl.1 rfl (Nat.le_of_ble_eq_true rfl) hg dX5_isDigit_12 hW) (fun r5 w6 c7 y8 H locs hW hf => ?_)
    refine lv_bipush (v := 57) hx hb dX5_isDigit_15 (by decide) ?_
    refine lv_icmp_gt (tgt := 24) hx hb dX5_isDigit_17 (by decide) (fun c17 => ?_) (fun c17 => ?_)
    · have hf := ifp c17 hf
      refine lv_iconst (v := 0) hx hb dX5_isDigit_24 (by decide) ?_
      obtain ⟨hg, hf⟩ := gck_some hf
      obtain rfl := Option.some.inj hf
      exact ro_z (v := (0 : Int32)) FX hr hlk hW hg rfl dX5_isDigit_25
    · have hf := ifn c17 hf
      refine lv_iconst (v := 1) hx hb dX5_isDigit_20 (by decide) ?_
      refine lv_goto (tgt := 25) hx hb dX5_isDigit_21 (by decide) ?_
      obtain ⟨hg, hf⟩ := gck_some hf
      obtain rfl := Option.some.inj hf
      exact ro_z (v := (1 : Int32)) FX hr hlk hW hg rfl dX5_isDigit_25
/-! TrunkLitters$Reader.isSign(I)Z: kind O -/
abbrev rX5_isSign : Room := { frames := 0, cells := 0, slots := 0, locals := 0 }
def fX5_isSign_66 (dA : Nat → Nat) (z : Nat) (w : va_W) (c : Nat) (y : Nat) : Option ((Int32) × va_W × Nat × Nat) := gck c y rX5_isSign.cells rX5_isSign.slots (some ((1 : Int32), w, c, y))
def fX5_isSign (dA : Nat → Nat) (z : Nat) (k7 : Int32) (w : va_W) : Option ((Int32) × va_W × Nat × Nat) := (if k7 = (59 : Int32) then fX5_isSign_66 dA z w 0 0 else (if k7 = (40 : Int32) then fX5_isSign_66 dA z w 0 0 else (if k7 = (41 : Int32) then fX5_isSign_66 dA z w 0 0 else (if k7 = (60 : Int32) then fX5_isSign_66 dA z w 0 0 else (if k7 = (62 : Int32) then fX5_isSign_66 dA z w 0 0 else (if k7 = (61 : Int32) then fX5_isSign_66 dA z w 0 0 else (if k7 = (43 : Int32) then fX5_isSign_66 dA z w 0 0 else (if k7 = (45 : Int32) then fX5_isSign_66 dA z w 0 0 else (if k7 = (42 : Int32) then fX5_isSign_66 dA z w 0 0 else (if k7 = (47 : Int32) then fX5_isSign_66 dA z w 0 0 else (if k7 = (37 : Int32) then fX5_isSign_66 dA z w 0 0 else gck 0 0 rX5_isSign.cells rX5_isSign.slots (some ((0 : Int32), w, 0, 0)))))))))))))
set_option maxHeartbeats 4000000 in
set_option maxRecDepth 100000 in
theorem wX5_isSign_66 {l : Launch} {D : va_G} {dA : Nat → ClassId} {z : Nat} {p : Program} {e : Env} {s : State} {m : MethodId} {args : Array Value} {below : List Frame} {meth : Method} {c9 : Code} {A : Nat → Prop} {q : ((Int32) × va_W × Nat × Nat)} (FX : CallFix p m c9 cX5_isSign 1 s args lw_all RX5) (hr : meth.sig.returnType = (some .boolean)) (hlk : meth.locks = false) (hnm : meth.name = yX5_isSign.name) (hout : ∀ x ∈ c9.exceptionTable.toList, False) : ∀ (w : va_W) (c : Nat) (y : Nat) (H : Heap) (locs : List Loc) (ls : Array Slot), lv_has ls 1 [] → Wo D dA A s w z c H locs → fX5_isSign_66 dA z w c y = some q → W p l e rX5_isSign s m args below meth c9 H locs c y (QO D dA A below args s rX5_isSign.cells rX5_isSign.slots (.inl (some (.int q.1))) q.2.1 (z + q.2.2.1) q.2.2.2) (F0 m 66 ls []) := by
  have hx := FX.1; have hb := FX.2.1; have hown := FX.2.2.2.1; have hts := FX.2.2.2.2
  intro w c y H locs ls hl hW hf
  rw [fX5_isSign_66] at hf
  refine lv_iconst (v := 1) hx hb dX5_isSign_66 (by decide) ?_
  refine lv_goto (tgt := 71) hx hb dX5_isSign_67 (by decide) ?_
  obtain ⟨hg, hf⟩ := gck_some hf
  obtain rfl := Option.some.inj hf
  exact ro_z (v := (1 : Int32)) FX hr hlk hW hg rfl dX5_isSign_71
set_option maxHeartbeats 4000000 in
set_option maxRecDepth 100000 in
theorem mX5_isSign {l : Launch} {D : va_G} {dA : Nat → ClassId} {z : Nat}  {k7 : Int32} {w : va_W} {q : ((Int32) × va_W × Nat × Nat)} (hf : fX5_isSign dA z k7 w = some q) : CtO l yX5_isSign cX5_isSign 1 (some .boolean) rX5_isSign D dA [.int k7] w z (.inl (some (.int q.1))) q.2.1 q.2.2.1 q.2.2.2 := by
  refine e_O (by decide) (Nat.le_of_ble_eq_true rfl) ?_
  intro p e s m below meth c9 ls A FX hr hlk hnm hout hl hW
  have hx := FX.1; have hb := FX.2.1; have hown := FX.2.2.2.1; have hts := FX.2.2.2.2
  have hl : lv_has ls 1 [(0, .int k7)] := hl
  rw [fX5_isSign] at hf
  refine lv_iload_n hx hb dX5_isSign_0 rfl (lv_at hl 0 rfl) ?_
  refine lv_bipush (v := 59) hx hb dX5_isSign_1 (by decide) ?_
  refine lv_icmp_eq (tgt := 66) hx hb dX5_isSign_3 (by decide) (fun c3 => ?_) (fun c3 => ?_)
  · have hf := ifp c3 hf
    exact wX5_isSign_66 FX hr hlk hnm hout w 0 0 _ _ _ (lv_sub hl [] rfl) hW hf
  · have hf := ifn c3 hf
    refine lv_iload_n hx hb dX5_isSign_6 rfl (lv_at hl 0 rfl) ?_
    refine lv_bipush (v := 40) hx hb dX5_isSign_7 (by decide) ?_
    refine lv_icmp_eq (tgt := 66) hx hb dX5_isSign_9 (by decide) (fun c9 => ?_) (fun c9 => ?_)
    · have hf := ifp c9 hf
      exact wX5_isSign_66 FX hr hlk hnm hout w 0 0 _ _ _ (lv_sub hl [] rfl) hW hf
    · have hf := ifn c9 hf
      refine lv_iload_n hx hb dX5_isSign_12 rfl (lv_at hl 0 rfl) ?_
      refine lv_bipush (v := 41) hx hb dX5_isSign_13 (by decide) ?_
      refine lv_icmp_eq (tgt := 66) hx hb dX5_isSign_15 (by decide) (fun c15 => ?_) (fun c15 => ?_)
      · have hf := ifp c15 hf
        exact wX5_isSign_66 FX hr hlk hnm hout w 0 0 _ _ _ (lv_sub hl [] rfl) hW hf
      · have hf := ifn c15 hf
        refine lv_iload_n hx hb dX5_isSign_18 rfl (lv_at hl 0 rfl) ?_
        refine lv_bipush (v := 60) hx hb dX5_isSign_19 (by decide) ?_
        refine lv_icmp_eq (tgt := 66) hx hb dX5_isSign_21 (by decide) (fun c21 => ?_) (fun c21 => ?_)
        · have hf := ifp c21 hf
          exact wX5_isSign_66 FX hr hlk hnm hout w 0 0 _ _ _ (lv_sub hl [] rfl) hW hf
        · have hf := ifn c21 hf
          refine lv_iload_n hx hb dX5_isSign_24 rfl (lv_at hl 0 rfl) ?_
          refine lv_bipush (v := 62) hx hb dX5_isSign_25 (by decide) ?_
          refine lv_icmp_eq (tgt := 66) hx hb dX5_isSign_27 (by decide) (fun c27 => ?_) (fun c27 => ?_)
          · have hf := ifp c27 hf
            exact wX5_isSign_66 FX hr hlk hnm hout w 0 0 _ _ _ (lv_sub hl [] rfl) hW hf
          · have hf := ifn c27 hf
            refine lv_iload_n hx hb dX5_isSign_30 rfl (lv_at hl 0 rfl) ?_
            refine lv_bipush (v := 61) hx hb dX5_isSign_31 (by decide) ?_
            refine lv_icmp_eq (tgt := 66) hx hb dX5_isSign_33 (by decide) (fun c33 => ?_) (fun c33 => ?_)
            · have hf := ifp c33 hf
              exact wX5_isSign_66 FX hr hlk hnm hout w 0 0 _ _ _ (lv_sub hl [] rfl) hW hf
            · have hf := ifn c33 hf
              refine lv_iload_n hx hb dX5_isSign_36 rfl (lv_at hl 0 rfl) ?_
              refine lv_bipush (v := 43) hx hb dX5_isSign_37 (by decide) ?_
              refine lv_icmp_eq (tgt := 66) hx hb dX5_isSign_39 (by decide) (fun c39 => ?_) (fun c39 => ?_)
              · have hf := ifp c39 hf
                exact wX5_isSign_66 FX hr hlk hnm hout w 0 0 _ _ _ (lv_sub hl [] rfl) hW hf
              · have hf := ifn c39 hf
                refine lv_iload_n hx hb dX5_isSign_42 rfl (lv_at hl 0 rfl) ?_
                refine lv_bipush (v := 45) hx hb dX5_isSign_43 (by decide) ?_
                refine lv_icmp_eq (tgt := 66) hx hb dX5_isSign_45 (by decide) (fun c45 => ?_) (fun c45 => ?_)
                · have hf := ifp c45 hf
                  exact wX5_isSign_66 FX hr hlk hnm hout w 0 0 _ _ _ (lv_sub hl [] rfl) hW hf
                · have hf := ifn c45 hf
                  refine lv_iload_n hx hb dX5_isSign_48 rfl (lv_at hl 0 rfl) ?_
                  refine lv_bipush (v := 42) hx hb dX5_isSign_49 (by decide) ?_
                  refine lv_icmp_eq (tgt := 66) hx hb dX5_isSign_51 (by decide) (fun c51 => ?_) (fun c51 => ?_)
                  · have hf := ifp c51 hf
                    exact wX5_isSign_66 FX hr hlk hnm hout w 0 0 _ _ _ (lv_sub hl [] rfl) hW hf
                  · have hf := ifn c51 hf
                    refine lv_iload_n hx hb dX5_isSign_54 rfl (lv_at hl 0 rfl) ?_
                    refine lv_bipush (v := 47) hx hb dX5_isSign_55 (by decide) ?_
                    refine lv_icmp_eq (tgt := 66) hx hb dX5_isSign_57 (by decide) (fun c57 => ?_) (fun c57 => ?_)
                    · have hf := ifp c57 hf
                      exact wX5_isSign_66 FX hr hlk hnm hout w 0 0 _ _ _ (lv_sub hl [] rfl) hW hf
                    · have hf := ifn c57 hf
                      refine lv_iload_n hx hb dX5_isSign_60 rfl (lv_at hl 0 rfl) ?_
                      refine lv_bipush (v := 37) hx hb dX5_isSign_61 (by decide) ?_
                      refine lv_icmp_ne (tgt := 70) hx hb dX5_isSign_63 (by decide) (fun c63 => ?_) (fun c63 => ?_)
                      · have hf := ifn c63 hf
                        refine lv_iconst (v := 0) hx hb dX5_isSign_70 (by decide) ?_
                        obtain ⟨hg, hf⟩ := gck_some hf
                        obtain rfl := Option.some.inj hf
                        exact ro_z (v := (0 : Int32)) FX hr hlk hW hg rfl dX5_isSign_71
                      · have hf := ifp c63 hf
                        exact wX5_isSign_66 FX hr hlk hnm hout w 0 0 _ _ _ (lv_sub hl [] rfl) hW hf
/-! TrunkLitters$Reader.go()V: kind O -/
abbrev rX5_go : Room := { frames := 6, cells := 4, slots := 150, locals := 171 }
def fX5_go_20 (dA : Nat → Nat) (z : Nat) (k0 : Nat → va_W → Nat → Nat → Option ((Unit) × va_W × Nat × Nat)) (x0 : Nat) (w : va_W) (c : Nat) (y : Nat) : Option ((Unit) × va_W × Nat × Nat) := pgi w x0 5 0 fun v1 => ppt w x0 5 0 (.int (v1 + (1 : Int32))) fun w2 => k0 x0 w2 c y
def fX5_go_226 (dA : Nat → Nat) (z : Nat) (x0 : Nat) (x2 : Int32) (w : va_W) (c : Nat) (y : Nat) : Option ((Unit) × va_W × Nat × Nat) := pgi w x0 5 0 fun v1 => ppt w x0 5 0 (.int (v1 + x2)) fun w2 => gck c y rX5_go.cells rX5_go.slots (some ((), w2, c, y))
def fX5_go_151 (dA : Nat → Nat) (z : Nat) : Nat → Nat → Int32 → va_W → Nat → Nat → Option ((Unit) × va_W × Nat × Nat)
  | 0, _, _, _, _, _ => none
  | n + 1, x0, x2, w, c, y => pck w x0 5 (ocal rX5_go.cells rX5_go.slots c y rX5_isDigit.cells rX5_isDigit.slots (fX5_isDigit dA (z + c) x0 x2 w) fun r1 w2 c3 y4 => (if r1 = 0 then (if (4 : Int32) < x2 then gck c3 y4 rX5_go.cells rX5_go.slots (some ((), w2, c3, y4)) else pck w2 x0 5 (ocal rX5_go.cells rX5_go.slots c3 y4 rX5_isLetter.cells rX5_isLetter.slots (fX5_isLetter dA (z + c3) x0 x2 w2) fun r5 w6 c7 y8 => (if r5 = 0 then ppt w6 x0 5 1 (.int (2 : Int32)) fun w9 => fX5_go_226 dA z x0 x2 w9 c7 y8 else gck c7 y8 rX5_go.cells rX5_go.slots (some ((), w6, c7, y8))))) else (if (4 : Int32) ≤ x2 then fX5_go_151 dA z n x0 (x2 + (1 : Int32)) w2 c3 y4 else pgi w2 x0 5 3 fun v10 => pck w2 x0 5 (ocal rX5_go.cells rX5_go.slots c3 y4 rX5_here.cells rX5_here.slots (fX5_here dA (z + c3) x0 x2 w2) fun r11 w12 c13 y14 => ppt w12 x0 5 3 (.int ((((10 : Int32) * v10) + r11) - (48 : Int32))) fun w15 => fX5_go_151 dA z n x0 (x2 + (1 : Int32)) w15 c13 y14))))
def fX5_go_84 (dA : Nat → Nat) (z : Nat) : Nat → Nat → Int32 → Nat → va_W → Nat → Nat → Option ((Unit) × va_W × Nat × Nat)
  | 0, _, _, _, _, _, _ => none
  | n + 1, x0, x2, x3, w, c, y => pck w x0 5 (ocal rX5_go.cells rX5_go.slots c y rX5_isLetter.cells rX5_isLetter.slots (fX5_isLetter dA (z + c) x0 x2 w) fun r1 w2 c3 y4 => (if r1 = 0 then (if x2 ≤ (8 : Int32) then pck w2 x3 14 (ocal rX5_go.cells rX5_go.slots c3 y4 rJ6_toString.cells rJ6_toString.slots (fJ6_toString dA (z + c3) x3 w2) fun r5 w6 c7 y8 => ppt w6 x0 5 9 (.ref r5) fun w9 => ppt w9 x0 5 1 (.int (1 : Int32)) fun w10 => fX5_go_226 dA z x0 x2 w10 c7 y8) else gck c3 y4 rX5_go.cells rX5_go.slots (some ((), w2, c3, y4))) else (if (8 : Int32) ≤ x2 then fX5_go_84 dA z n x0 (x2 + (1 : Int32)) x3 w2 c3 y4 else pck w2 x0 5 (ocal rX5_go.cells rX5_go.slots c3 y4 rX5_here.cells rX5_here.slots (fX5_here dA (z + c3) x0 x2 w2) fun r11 w12 c13 y14 => pck w12 x3 14 (ocal rX5_go.cells rX5_go.slots c13 y14 rJ6_append.cells rJ6_append.slots (fJ6_append dA (z + c13) x3 ((r11.toUInt32 % 65536).toInt32) w12) fun r15 w16 c17 y18 => fX5_go_84 dA z n x0 (x2 + (1 : Int32)) x3 w16 c17 y18)))))
def fX5_go_0 (dA : Nat → Nat) (z : Nat) : Nat → Nat → va_W → Nat → Nat → Option ((Unit) × va_W × Nat × Nat)
  | 0, _, _, _, _ => none
  | n + 1, x0, w, c, y => pck w x0 5 (ocal rX5_go.cells rX5_go.slots c y rX5_here.cells rX5_here.slots (fX5_here dA (z + c) x0 (0 : Int32) w) fun r1 w2 c3 y4 => (if r1 = (32 : Int32) then fX5_go_20 dA z (fX5_go_0 dA z n) x0 w2 c3 y4 else pck w2 x0 5 (ocal rX5_go.cells rX5_go.slots c3 y4 rX5_here.cells rX5_here.slots (fX5_here dA (z + c3) x0 (0 : Int32) w2) fun r5 w6 c7 y8 => (if r5 = (10 : Int32) then fX5_go_20 dA z (fX5_go_0 dA z n) x0 w6 c7 y8 else pgi w6 x0 5 0 fun v9 => ppt w6 x0 5 2 (.int v9) fun w10 => pck w10 x0 5 (ocal rX5_go.cells rX5_go.slots c7 y8 rX5_here.cells rX5_here.slots (fX5_here dA (z + c7) x0 (0 : Int32) w10) fun r11 w12 c13 y14 => ppt w12 x0 5 1 (.int (3 : Int32)) fun w15 => (if 0 ≤ r11 then pck w15 x0 5 (ocal rX5_go.cells rX5_go.slots c13 y14 rX5_isLetter.cells rX5_isLetter.slots (fX5_isLetter dA (z + c13) x0 (0 : Int32) w15) fun r16 w17 c18 y19 => (if r16 = 0 then pck w17 x0 5 (ocal rX5_go.cells rX5_go.slots c18 y19 rX5_isDigit.cells rX5_isDigit.slots (fX5_isDigit dA (z + c18) x0 (0 : Int32) w17) fun r20 w21 c22 y23 => (if r20 = 0 then ocal rX5_go.cells rX5_go.slots c22 y23 rX5_isSign.cells rX5_isSign.slots (fX5_isSign dA (z + c22) r11 w21) fun r24 w25 c26 y27 => (if r24 = 0 then fX5_go_226 dA z x0 (0 : Int32) w25 c26 y27 else ppt w25 x0 5 1 (.int r11) fun w28 => fX5_go_226 dA z x0 (1 : Int32) w28 c26 y27) else ppt w21 x0 5 3 (.int (0 : Int32)) fun w29 => fX5_go_151 dA z FU x0 (0 : Int32) w29 c22 y23)) else onew rX5_go.cells rX5_go.slots c18 y19 4 w17 (z + c18) (.inr (14, [.null, .int 0, .int 0, .int 0])) fun w30 c31 y32 => ocal rX5_go.cells rX5_go.slots c31 y32 rJ6_init.cells rJ6_init.slots (fJ6_init dA (z + c31) (z + c18) (8 : Int32) w30) fun r33 w34 c35 y36 => fX5_go_84 dA z FU x0 (0 : Int32) (z + c18) w34 c35 y36)) else ppt w15 x0 5 1 (.int (0 : Int32)) fun w37 => fX5_go_226 dA z x0 (0 : Int32) w37 c13 y14))))))
def fX5_go (dA : Nat → Nat) (z : Nat) (t7 : Nat) (w : va_W) : Option ((Unit) × va_W × Nat × Nat) := fX5_go_0 dA z FU t7 w 0 0
set_option maxHeartbeats 4000000 in
set_option maxRecDepth 100000 in
theorem wX5_go_20 {l : Launch} {D : va_G} {dA : Nat → ClassId} {z : Nat} {p : Program} {e : Env} {s : State} {m : MethodId} {args : Array Value} {below : List Frame} {meth : Method} {c9 : Code} {A : Nat → Prop} {q : ((Unit) × va_W × Nat × Nat)} (FX : CallFix p m c9 cX5_go 4 s args lw_all RX5) (hr : meth.sig.returnType = none) (hlk : meth.locks = false) (hnm : meth.name = yX5_go.name) (hout : ∀ x ∈ c9.exceptionTable.toList, False) {k0 : Nat → va_W → Nat → Nat → Option ((Unit) × va_W × Nat × Nat)} (hk0 : ∀ (x0 : Nat) (w : va_W) (c : Nat) (y : Nat) (H : Heap) (locs : List Loc) (ls : Array Slot), lv_has ls 4 [(0, .ref x0)] → Wo D dA A s w z c H locs → k0 x0 w c y = some q → W p l e rX5_go s m args below meth c9 H locs c y (QO D dA A below args s rX5_go.cells rX5_go.slots (.inl none) q.2.1 (z + q.2.2.1) q.2.2.2) (F0 m 0 ls [])) : ∀ (x0 : Nat) (w : va_W) (c : Nat) (y : Nat) (H : Heap) (locs : List Loc) (ls : Array Slot), lv_has ls 4 [(0, .ref x0)] → Wo D dA A s w z c H locs → fX5_go_20 dA z k0 x0 w c y = some q → W p l e rX5_go s m args below meth c9 H locs c y (QO D dA A below args s rX5_go.cells rX5_go.slots (.inl none) q.2.1 (z + q.2.2.1) q.2.2.2) (F0 m 20 ls []) := by
  have hx := FX.1; have hb := FX.2.1; have hown := FX.2.2.2.1; have hts := FX.2.2.2.2
  intro x0 w c y H locs ls hl hW hf
  rw [fX5_go_20] at hf
  refine lv_aload_n hx hb dX5_go_20 rfl (lv_at hl 0 rfl) ?_
  refine lv_dup hx hb dX5_go_21 rfl ?_
  refine og_i (C := RX5) (T := TX5) (N := 12) (ci := 5) FX hW in_X5 rfl 0 (by decide) q469 (fun _ h => h) hf dX5_go_22 (fun v1 hf => ?_)
  refine lv_iconst (v := 1) hx hb dX5_go_25 (by decide) ?_
  refine lv_iadd hx hb dX5_go_26 ?_
  refine op_put (C := RX5) (T := TX5) (N := 12) (ci := 5) (ty := .int) FX hW in_X5 tyX5 tyX5_ok nmX5 rfl 0 (by decide) q469 (fun _ h => h) rfl (by decide +kernel) rfl rfl hf dX5_go_27 (fun w2 H locs hW hf => ?_)
  refine lv_goto (tgt := 0) hx hb dX5_go_30 (by decide) ?_
  exact hk0 x0 w2 c y _ _ _ (lv_sub hl [0] rfl) hW hf
set_option maxHeartbeats 4000000 in
set_option maxRecDepth 100000 in
theorem wX5_go_226 {l : Launch} {D : va_G} {dA : Nat → ClassId} {z : Nat} {p : Program} {e : Env} {s : State} {m : MethodId} {args : Array Value} {below : List Frame} {meth : Method} {c9 : Code} {A : Nat → Prop} {q : ((Unit) × va_W × Nat × Nat)} (FX : CallFix p m c9 cX5_go 4 s args lw_all RX5) (hr : meth.sig.returnType = none) (hlk : meth.locks = false) (hnm : meth.name = yX5_go.name) (hout : ∀ x ∈ c9.exceptionTable.toList, False) : ∀ (x0 : Nat) (x2 : Int32) (w : va_W) (c : Nat) (y : Nat) (H : Heap) (locs : List Loc) (ls : Array Slot), lv_has ls 4 [(0, .ref x0), (2, .int x2)] → Wo D dA A s w z c H locs → fX5_go_226 dA z x0 x2 w c y = some q → W p l e rX5_go s m args below meth c9 H locs c y (QO D dA A below args s rX5_go.cells rX5_go.slots (.inl none) q.2.1 (z + q.2.2.1) q.2.2.2) (F0 m 226 ls []) := by
  have hx := FX.1; have hb := FX.2.1; have hown := FX.2.2.2.1; have hts := FX.2.2.2.2
  intro x0 x2 w c y H locs ls hl hW hf
  rw [fX5_go_226] at hf
  refine lv_aload_n hx hb dX5_go_226 rfl (lv_at hl 0 rfl) ?_
  refine lv_dup hx hb dX5_go_227 rfl ?_
  refine og_i (C := RX5) (T := TX5) (N := 12) (ci := 5) FX hW in_X5 rfl 0 (by decide) q469 (fun _ h => h) hf dX5_go_228 (fun v1 hf => ?_)
  refine lv_iload_n hx hb dX5_go_231 rfl (lv_at hl 1 rfl) ?_
  refine lv_iadd hx hb dX5_go_232 ?_
  refine op_put (C := RX5) (T := TX5) (N := 12) (ci := 5) (ty := .int) FX hW in_X5 tyX5 tyX5_ok nmX5 rfl 0 (by decide) q469 (fun _ h => h) rfl (by decide +kernel) rfl rfl hf dX5_go_233 (fun w2 H locs hW hf => ?_)
  obtain ⟨hg, hf⟩ := gck_some hf
  obtain rfl := Option.some.inj hf
  exact ro_v FX hr hlk hW hg dX5_go_236
set_option maxHeartbeats 4000000 in
set_option maxRecDepth 100000 in
theorem wX5_go_151 {l : Launch} {D : va_G} {dA : Nat → ClassId} {z : Nat} {p : Program} {e : Env} {s : State} {m : MethodId} {args : Array Value} {below : List Frame} {meth : Method} {c9 : Code} {A : Nat → Prop} {q : ((Unit) × va_W × Nat × Nat)} (FX : CallFix p m c9 cX5_go 4 s args lw_all RX5) (hr : meth.sig.returnType = none) (hlk : meth.locks = false) (hnm : meth.name = yX5_go.name) (hout : ∀ x ∈ c9.exceptionTable.toList, False) : ∀ n : Nat, ∀ (x0 : Nat) (x2 : Int32) (w : va_W) (c : Nat) (y : Nat) (H : Heap) (locs : List Loc) (ls : Array Slot), lv_has ls 4 [(0, .ref x0), (2, .int x2)] → Wo D dA A s w z c H locs → fX5_go_151 dA z n x0 x2 w c y = some q → W p l e rX5_go s m args below meth c9 H locs c y (QO D dA A below args s rX5_go.cells rX5_go.slots (.inl none) q.2.1 (z + q.2.2.1) q.2.2.2) (F0 m 151 ls []) := by
  have hx := FX.1; have hb := FX.2.1; have hown := FX.2.2.2.1; have hts := FX.2.2.2.2
  intro n
  induction n with
  | zero =>
    intro x0 x2 w c y H locs ls hl hW hf
    cases (show (none : Option ((Unit) × va_W × Nat × Nat)) = some q from hf)
  | succ n ih =>
    intro x0 x2 w c y H locs ls hl hW hf
    rw [fX5_go_151] at hf
    refine lv_aload_n hx hb dX5_go_151 rfl (lv_at hl 0 rfl) ?_
    refine lv_iload_n hx hb dX5_go_152 rfl (lv_at hl 1 rfl) ?_
    obtain ⟨hv9, hf⟩ := pck_some hf
    refine oc_i hW hf (fun r0 h0 hg => o_V (C := RX5) (As := [.int x2]) (rest := []) (n := 1) FX (mX5_isDigit h0) (cwV 1 FX.2.2.2.2 (lw_V q709 q711 qs4 q133 q712) rfl rfl rfl (by decide +kernel) ⟨Nat.le_of_ble_eq_true rfl, Nat.le_of_ble_eq_true rfl⟩) (o_recv hW rfl hv9) rfl hl.1 rfl (Nat.le_of_ble_eq_true rfl) hg dX5_go_153 hW) (fun r1 w2 c3 y4 H locs hW hf => ?_)
    refine lv_if_eq (tgt := 190) hx hb dX5_go_156 (by decide) (fun c156 => ?_) (fun c156 => ?_)
    · have hf := ifp c156 hf
      refine lv_iload_n hx hb dX5_go_190 rfl (lv_at hl 1 rfl) ?_
      refine lv_iconst (v := 4) hx hb dX5_go_191 (by decide) ?_
      refine lv_icmp_gt (tgt := 203) hx hb dX5_go_192 (by decide) (fun c192 => ?_) (fun c192 => ?_)
      · have hf := ifp c192 hf
        obtain ⟨hg, hf⟩ := gck_some hf
        obtain rfl := Option.some.inj hf
        exact ro_v FX hr hlk hW hg dX5_go_203
      · have hf := ifn c192 hf
        refine lv_aload_n hx hb dX5_go_195 rfl (lv_at hl 0 rfl) ?_
        refine lv_iload_n hx hb dX5_go_196 rfl (lv_at hl 1 rfl) ?_
        obtain ⟨hv9, hf⟩ := pck_some hf
        refine oc_i hW hf (fun r0 h0 hg => o_V (C := RX5) (As := [.int x2]) (rest := []) (n := 1) FX (mX5_isLetter h0) (cwV 1 FX.2.2.2.2 (lw_V q518 q520 qs3 q133 q521) rfl rfl rfl (by decide +kernel) ⟨Nat.le_of_ble_eq_true rfl, Nat.le_of_ble_eq_true rfl⟩) (o_recv hW rfl hv9) rfl hl.1 rfl (Nat.le_of_ble_eq_true rfl) hg dX5_go_197 hW) (fun r5 w6 c7 y8 H locs hW hf => ?_)
        refine lv_if_eq (tgt := 204) hx hb dX5_go_200 (by decide) (fun c200 => ?_) (fun c200 => ?_)
        · have hf := ifp c200 hf
          refine lv_aload_n hx hb dX5_go_204 rfl (lv_at hl 0 rfl) ?_
          refine lv_iconst (v := 2) hx hb dX5_go_205 (by decide) ?_
          refine op_put (C := RX5) (T := TX5) (N := 12) (ci := 5) (ty := .int) FX hW in_X5 tyX5 tyX5_ok nmX5 rfl 1 (by decide) q470 (fun _ h => h) rfl (by decide +kernel) rfl rfl hf dX5_go_206 (fun w9 H locs hW hf => ?_)
          refine lv_goto (tgt := 226) hx hb dX5_go_209 (by decide) ?_
          exact wX5_go_226 FX hr hlk hnm hout x0 x2 w9 c7 y8 _ _ _ (lv_sub hl [0, 1] rfl) hW hf
        · have hf := ifn c200 hf
          obtain ⟨hg, hf⟩ := gck_some hf
          obtain rfl := Option.some.inj hf
          exact ro_v FX hr hlk hW hg dX5_go_203
    · have hf := ifn c156 hf
      refine lv_iload_n hx hb dX5_go_159 rfl (lv_at hl 1 rfl) ?_
      refine lv_iconst (v := 4) hx hb dX5_go_160 (by decide) ?_
      refine lv_icmp_ge (tgt := 184) hx hb dX5_go_161 (by decide) (fun c161 => ?_) (fun c161 => ?_)
      · have hf := ifp c161 hf
        refine lv_iinc (v := (x2 + (1 : Int32))) (lv' := [(2, .int (x2 + (1 : Int32))), (0, .ref x0)]) hx hb dX5_go_184 hl (k := 1) rfl rfl (by decide) rfl (fun ls hl => ?_)
        refine lv_goto (tgt := 151) hx hb dX5_go_187 (by decide) ?_
        exact ih x0 (x2 + (1 : Int32)) w2 c3 y4 _ _ _ (lv_sub hl [1, 0] rfl) hW hf
      · have hf := ifn c161 hf
        refine lv_aload_n hx hb dX5_go_164 rfl (lv_at hl 0 rfl) ?_
        refine lv_bipush (v := 10) hx hb dX5_go_165 (by decide) ?_
        refine lv_aload_n hx hb dX5_go_167 rfl (lv_at hl 0 rfl) ?_
        refine og_i (C := RX5) (T := TX5) (N := 12) (ci := 5) FX hW in_X5 rfl 3 (by decide) q472 (fun _ h => h) hf dX5_go_168 (fun v10 hf => ?_)
        refine lv_imul hx hb dX5_go_171 ?_
        refine lv_aload_n hx hb dX5_go_172 rfl (lv_at hl 0 rfl) ?_
        refine lv_iload_n hx hb dX5_go_173 rfl (lv_at hl 1 rfl) ?_
        obtain ⟨hv9, hf⟩ := pck_some hf
        refine oc_i hW hf (fun r0 h0 hg => o_V (C := RX5) (As := [.int x2]) (rest := [.int ((10 : Int32) * v10), .ref x0]) (n := 1) FX (mX5_here h0) (cwV 1 FX.2.2.2.2 (lw_V q514 q516 qs2 q133 q517) rfl rfl rfl (by decide +kernel) ⟨Nat.le_of_ble_eq_true rfl, Nat.le_of_ble_eq_true rfl⟩) (o_recv hW rfl hv9) rfl hl.1 rfl (Nat.le_of_ble_eq_true rfl) hg dX5_go_174 hW) (fun r11 w12 c13 y14 H locs hW hf => ?_)
        refine lv_iadd hx hb dX5_go_177 ?_
        refine lv_bipush (v := 48) hx hb dX5_go_178 (by decide) ?_
        refine lv_isub hx hb dX5_go_180 ?_
        refine op_put (C := RX5) (T := TX5) (N := 12) (ci := 5) (ty := .int) FX hW in_X5 tyX5 tyX5_ok nmX5 rfl 3 (by decide) q472 (fun _ h => h) rfl (by decide +kernel) rfl rfl hf dX5_go_181 (fun w15 H locs hW hf => ?_)
        refine lv_iinc (v := (x2 + (1 : Int32))) (lv' := [(2, .int (x2 + (1 : Int32))), (0, .ref x0)]) hx hb dX5_go_184 hl (k := 1) rfl rfl (by decide) rfl (fun ls hl => ?_)
        refine lv_goto (tgt := 151) hx hb dX5_go_187 (by decide) ?_
        exact ih x0 (x2 + (1 : Int32)) w15 c13 y14 _ _ _ (lv_sub hl [1, 0] rfl) hW hf
set_option maxHeartbeats 4000000 in
set_option maxRecDepth 100000 in
theorem wX5_go_84 {l : Launch} {D : va_G} {dA : Nat → ClassId} {z : Nat} {p : Program} {e : Env} {s : State} {m : MethodId} {args : Array Value} {below : List Frame} {meth : Method} {c9 : Code} {A : Nat → Prop} {q : ((Unit) × va_W × Nat × Nat)} (FX : CallFix p m c9 cX5_go 4 s args lw_all RX5) (hr : meth.sig.returnType = none) (hlk : meth.locks = false) (hnm : meth.name = yX5_go.name) (hout : ∀ x ∈ c9.exceptionTable.toList, False) : ∀ n : Nat, ∀ (x0 : Nat) (x2 : Int32) (x3 : Nat) (w : va_W) (c : Nat) (y : Nat) (H : Heap) (locs : List Loc) (ls : Array Slot), lv_has ls 4 [(0, .ref x0), (2, .int x2), (3, .ref x3)] → Wo D dA A s w z c H locs → fX5_go_84 dA z n x0 x2 x3 w c y = some q → W p l e rX5_go s m args below meth c9 H locs c y (QO D dA A below args s rX5_go.cells rX5_go.slots (.inl none) q.2.1 (z + q.2.2.1) q.2.2.2) (F0 m 84 ls []) := by
  have hx := FX.1; have hb := FX.2.1; have hown := FX.2.2.2.1; have hts := FX.2.2.2.2
  intro n
  induction n with
  | zero =>
    intro x0 x2 x3 w c y H locs ls hl hW hf
    cases (show (none : Option ((Unit) × va_W × Nat × Nat)) = some q from hf)
  | succ n ih =>
    intro x0 x2 x3 w c y H locs ls hl hW hf
    rw [fX5_go_84] at hf
    refine lv_aload_n hx hb dX5_go_84 rfl (lv_at hl 0 rfl) ?_
    refine lv_iload_n hx hb dX5_go_85 rfl (lv_at hl 1 rfl) ?_
    obtain ⟨hv9, hf⟩ := pck_some hf
    refine oc_i hW hf (fun r0 h0 hg => o_V (C := RX5) (As := [.int x2]) (rest := []) (n := 1) FX (mX5_isLetter h0) (cwV 1 FX.2.2.2.2 (lw_V q518 q520 qs3 q133 q521) rfl rfl rfl (by decide +kernel) ⟨Nat.le_of_ble_eq_true rfl, Nat.le_of_ble_eq_true rfl⟩) (o_recv hW rfl hv9) rfl hl.1 rfl (Nat.le_of_ble_eq_true rfl) hg dX5_go_86 hW) (fun r1 w2 c3 y4 H locs hW hf => ?_)
    refine lv_if_eq (tgt := 115) hx hb dX5_go_89 (by decide) (fun c89 => ?_) (fun c89 => ?_)
    · have hf := ifp c89 hf
      refine lv_iload_n hx hb dX5_go_115 rfl (lv_at hl 1 rfl) ?_
      refine lv_bipush (v := 8) hx hb dX5_go_116 (by decide) ?_
      refine lv_icmp_le (tgt := 122) hx hb dX5_go_118 (by decide) (fun c118 => ?_) (fun c118 => ?_)
      · have hf := ifp c118 hf
        refine lv_aload_n hx hb dX5_go_122 rfl (lv_at hl 0 rfl) ?_
        refine lv_aload_n hx hb dX5_go_123 rfl (lv_at hl 2 rfl) ?_
        obtain ⟨hv9, hf⟩ := pck_some hf
        refine oc_R hW hf (fun r0 h0 hg => o_V (C := RJ6) (As := []) (rest := [.ref x0]) (n := 0) FX (mJ6_toString h0) (cwV 0 FX.2.2.2.2 (lw_V q646 q647 q648 q135 q649) rfl rfl rfl (by decide +kernel) ⟨Nat.le_of_ble_eq_true rfl, Nat.le_of_ble_eq_true rfl⟩) (o_recv hW rfl hv9) rfl hl.1 rfl (Nat.le_of_ble_eq_true rfl) hg dX5_go_124 hW) (fun r5 w6 c7 y8 H locs hW hf => ?_)
        refine op_put (C := RX5) (T := TX5) (N := 12) (ci := 5) (ty := (.object "java/lang/String")) FX hW in_X5 tyX5 tyX5_ok nmX5 rfl 9 (by decide) q478 (fun _ h => h) rfl (by decide +kernel) rfl rfl hf dX5_go_127 (fun w9 H locs hW hf => ?_)
        refine lv_aload_n hx hb dX5_go_130 rfl (lv_at hl 0 rfl) ?_
        refine lv_iconst (v := 1) hx hb dX5_go_131 (by decide) ?_
        refine op_put (C := RX5) (T := TX5) (N := 12) (ci := 5) (ty := .int) FX hW in_X5 tyX5 tyX5_ok nmX5 rfl 1 (by decide) q470 (fun _ h => h) rfl (by decide +kernel) rfl rfl hf dX5_go_132 (fun w10 H locs hW hf => ?_)
        refine lv_goto (tgt := 226) hx hb dX5_go_135 (by decide) ?_
        exact wX5_go_226 FX hr hlk hnm hout x0 x2 w10 c7 y8 _ _ _ (lv_sub hl [0, 1] rfl) hW hf
      · have hf := ifn c118 hf
        obtain ⟨hg, hf⟩ := gck_some hf
        obtain rfl := Option.some.inj hf
        exact ro_v FX hr hlk hW hg dX5_go_121
    · have hf := ifn c89 hf
      refine lv_iload_n hx hb dX5_go_92 rfl (lv_at hl 1 rfl) ?_
      refine lv_bipush (v := 8) hx hb dX5_go_93 (by decide) ?_
      refine lv_icmp_ge (tgt := 109) hx hb dX5_go_95 (by decide) (fun c95 => ?_) (fun c95 => ?_)
      · have hf := ifp c95 hf
        refine lv_iinc (v := (x2 + (1 : Int32))) (lv' := [(2, .int (x2 + (1 : Int32))), (0, .ref x0), (3, .ref x3)]) hx hb dX5_go_109 hl (k := 1) rfl rfl (by decide) rfl (fun ls hl => ?_)
        refine lv_goto (tgt := 84) hx hb dX5_go_112 (by decide) ?_
        exact ih x0 (x2 + (1 : Int32)) x3 w2 c3 y4 _ _ _ (lv_sub hl [1, 0, 2] rfl) hW hf
      · have hf := ifn c95 hf
        refine lv_aload_n hx hb dX5_go_98 rfl (lv_at hl 2 rfl) ?_
        refine lv_aload_n hx hb dX5_go_99 rfl (lv_at hl 0 rfl) ?_
        refine lv_iload_n hx hb dX5_go_100 rfl (lv_at hl 1 rfl) ?_
        obtain ⟨hv9, hf⟩ := pck_some hf
        refine oc_i hW hf (fun r0 h0 hg => o_V (C := RX5) (As := [.int x2]) (rest := [.ref x3]) (n := 1) FX (mX5_here h0) (cwV 1 FX.2.2.2.2 (lw_V q514 q516 qs2 q133 q517) rfl rfl rfl (by decide +kernel) ⟨Nat.le_of_ble_eq_true rfl, Nat.le_of_ble_eq_true rfl⟩) (o_recv hW rfl hv9) rfl hl.1 rfl (Nat.le_of_ble_eq_true rfl) hg dX5_go_101 hW) (fun r11 w12 c13 y14 H locs hW hf => ?_)
        refine lv_i2c (v := ((r11.toUInt32 % 65536).toInt32)) hx hb dX5_go_104 rfl ?_
        obtain ⟨hv9, hf⟩ := pck_some hf
        refine oc_R hW hf (fun r0 h0 hg => o_V (C := RJ6) (As := [.int ((r11.toUInt32 % 65536).toInt32)]) (rest := []) (n := 1) FX (mJ6_append h0) (cwV 1 FX.2.2.2.2 (lw_V q553 q554 q555 q135 q556) rfl rfl rfl (by decide +kernel) ⟨Nat.le_of_ble_eq_true rfl, Nat.le_of_ble_eq_true rfl⟩) (o_recv hW rfl hv9) rfl hl.1 rfl (Nat.le_of_ble_eq_true rfl) hg dX5_go_105 hW) (fun r15 w16 c17 y18 H locs hW hf => ?_)
        refine lv_pop hx hb dX5_go_108 rfl ?_
        refine lv_iinc (v := (x2 + (1 : Int32))) (lv' := [(2, .int (x2 + (1 : Int32))), (0, .ref x0), (3, .ref x3)]) hx hb dX5_go_109 hl (k := 1) rfl rfl (by decide) rfl (fun ls hl => ?_)
        refine lv_goto (tgt := 84) hx hb dX5_go_112 (by decide) ?_
        exact ih x0 (x2 + (1 : Int32)) x3 w16 c17 y18 _ _ _ (lv_sub hl [1, 0, 2] rfl) hW hf
set_option maxHeartbeats 4000000 in
set_option maxRecDepth 100000 in
theorem wX5_go_0 {l : Launch} {D : va_G} {dA : Nat → ClassId} {z : Nat} {p : Program} {e : Env} {s : State} {m : MethodId} {args : Array Value} {below : List Frame} {meth : Method} {c9 : Code} {A : Nat → Prop} {q : ((Unit) × va_W × Nat × Nat)} (FX : CallFix p m c9 cX5_go 4 s args lw_all RX5) (hr : meth.sig.returnType = none) (hlk : meth.locks = false) (hnm : meth.name = yX5_go.name) (hout : ∀ x ∈ c9.exceptionTable.toList, False) : ∀ n : Nat, ∀ (x0 : Nat) (w : va_W) (c : Nat) (y : Nat) (H : Heap) (locs : List Loc) (ls : Array Slot), lv_has ls 4 [(0, .ref x0)] → Wo D dA A s w z c H locs → fX5_go_0 dA z n x0 w c y = some q → W p l e rX5_go s m args below meth c9 H locs c y (QO D dA A below args s rX5_go.cells rX5_go.slots (.inl none) q.2.1 (z + q.2.2.1) q.2.2.2) (F0 m 0 ls []) := by
  have hx := FX.1; have hb := FX.2.1; have hown := FX.2.2.2.1; have hts := FX.2.2.2.2
  intro n
  induction n with
  | zero =>
    intro x0 w c y H locs ls hl hW hf
    cases (show (none : Option ((Unit) × va_W × Nat × Nat)) = some q from hf)
  | succ n ih =>
    intro x0 w c y H locs ls hl hW hf
    rw [fX5_go_0] at hf
    refine lv_aload_n hx hb dX5_go_0 rfl (lv_at hl 0 rfl) ?_
    refine lv_iconst (v := 0) hx hb dX5_go_1 (by decide) ?_
    obtain ⟨hv9, hf⟩ := pck_some hf
    refine oc_i hW hf (fun r0 h0 hg => o_V (C := RX5) (As := [.int (0 : Int32)]) (rest := []) (n := 1) FX (mX5_here h0) (cwV 1 FX.2.2.2.2 (lw_V q514 q516 qs2 q133 q517) rfl rfl rfl (by decide +kernel) ⟨Nat.le_of_ble_eq_true rfl, Nat.le_of_ble_eq_true rfl⟩) (o_recv hW rfl hv9) rfl hl.1 rfl (Nat.le_of_ble_eq_true rfl) hg dX5_go_2 hW) (fun r1 w2 c3 y4 H locs hW hf => ?_)
    refine lv_bipush (v := 32) hx hb dX5_go_5 (by decide) ?_
    refine lv_icmp_eq (tgt := 20) hx hb dX5_go_7 (by decide) (fun c7 => ?_) (fun c7 => ?_)
    · have hf := ifp c7 hf
      exact wX5_go_20 FX hr hlk hnm hout (ih) x0 w2 c3 y4 _ _ _ (lv_sub hl [0] rfl) hW hf
    · have hf := ifn c7 hf
      refine lv_aload_n hx hb dX5_go_10 rfl (lv_at hl 0 rfl) ?_
      refine lv_iconst (v := 0) hx hb dX5_go_11 (by decide) ?_
      obtain ⟨hv9, hf⟩ := pck_some hf
      refine oc_i hW hf (fun r0 h0 hg => o_V (C := RX5) (As := [.int (0 : Int32)]) (rest := []) (n := 1) FX (mX5_here h0) (cwV 1 FX.2.2.2.2 (lw_V q514 q516 qs2 q133 q517) rfl rfl rfl (by decide +kernel) ⟨Nat.le_of_ble_eq_true rfl, Nat.le_of_ble_eq_true rfl⟩) (o_recv hW rfl hv9) rfl hl.1 rfl (Nat.le_of_ble_eq_true rfl) hg dX5_go_12 hW) (fun r5 w6 c7 y8 H locs hW hf => ?_)
      refine lv_bipush (v := 10) hx hb dX5_go_15 (by decide) ?_
      refine lv_icmp_ne (tgt := 33) hx hb dX5_go_17 (by decide) (fun c17 => ?_) (fun c17 => ?_)
      · have hf := ifn c17 hf
        refine lv_aload_n hx hb dX5_go_33 rfl (lv_at hl 0 rfl) ?_
        refine lv_aload_n hx hb dX5_go_34 rfl (lv_at hl 0 rfl) ?_
        refine og_i (C := RX5) (T := TX5) (N := 12) (ci := 5) FX hW in_X5 rfl 0 (by decide) q469 (fun _ h => h) hf dX5_go_35 (fun v9 hf => ?_)
        refine op_put (C := RX5) (T := TX5) (N := 12) (ci := 5) (ty := .int) FX hW in_X5 tyX5 tyX5_ok nmX5 rfl 2 (by decide) q471 (fun _ h => h) rfl (by decide +kernel) rfl rfl hf dX5_go_38 (fun w10 H locs hW hf => ?_)
        refine lv_aload_n hx hb dX5_go_41 rfl (lv_at hl 0 rfl) ?_
        refine lv_iconst (v := 0) hx hb dX5_go_42 (by decide) ?_
        obtain ⟨hv9, hf⟩ := pck_some hf
        refine oc_i hW hf (fun r0 h0 hg => o_V (C := RX5) (As := [.int (0 : Int32)]) (rest := []) (n := 1) FX (mX5_here h0) (cwV 1 FX.2.2.2.2 (lw_V q514 q516 qs2 q133 q517) rfl rfl rfl (by decide +kernel) ⟨Nat.le_of_ble_eq_true rfl, Nat.le_of_ble_eq_true rfl⟩) (o_recv hW rfl hv9) rfl hl.1 rfl (Nat.le_of_ble_eq_true rfl) hg dX5_go_43 hW) (fun r11 w12 c13 y14 H locs hW hf => ?_)
        refine lv_istore_n (lv' := [(1, .int r11), (0, .ref x0)]) hx hb dX5_go_46 rfl hl (by decide) rfl (fun ls hl => ?_)
        refine lv_iconst (v := 0) hx hb dX5_go_47 (by decide) ?_
        refine lv_istore_n (lv' := [(2, .int (0 : Int32)), (1, .int r11), (0, .ref x0)]) hx hb dX5_go_48 rfl hl (by decide) rfl (fun ls hl => ?_)
        refine lv_aload_n hx hb dX5_go_49 rfl (lv_at hl 2 rfl) ?_
        refine lv_iconst (v := 3) hx hb dX5_go_50 (by decide) ?_
        refine op_put (C := RX5) (T := TX5) (N := 12) (ci := 5) (ty := .int) FX hW in_X5 tyX5 tyX5_ok nmX5 rfl 1 (by decide) q470 (fun _ h => h) rfl (by decide +kernel) rfl rfl hf dX5_go_51 (fun w15 H locs hW hf => ?_)
        refine lv_iload_n hx hb dX5_go_54 rfl (lv_at hl 1 rfl) ?_
        refine lv_if_ge (tgt := 66) hx hb dX5_go_55 (by decide) (fun c55 => ?_) (fun c55 => ?_)
        · have hf := ifp c55 hf
          refine lv_aload_n hx hb dX5_go_66 rfl (lv_at hl 2 rfl) ?_
          refine lv_iconst (v := 0) hx hb dX5_go_67 (by decide) ?_
          obtain ⟨hv9, hf⟩ := pck_some hf
          refine oc_i hW hf (fun r0 h0 hg => o_V (C := RX5) (As := [.int (0 : Int32)]) (rest := []) (n := 1) FX (mX5_isLetter h0) (cwV 1 FX.2.2.2.2 (lw_V q518 q520 qs3 q133 q521) rfl rfl rfl (by decide +kernel) ⟨Nat.le_of_ble_eq_true rfl, Nat.le_of_ble_eq_true rfl⟩) (o_recv hW rfl hv9) rfl hl.1 rfl (Nat.le_of_ble_eq_true rfl) hg dX5_go_68 hW) (fun r16 w17 c18 y19 H locs hW hf => ?_)
          refine lv_if_eq (tgt := 138) hx hb dX5_go_71 (by decide) (fun c71 => ?_) (fun c71 => ?_)
          · have hf := ifp c71 hf
            refine lv_aload_n hx hb dX5_go_138 rfl (lv_at hl 2 rfl) ?_
            refine lv_iconst (v := 0) hx hb dX5_go_139 (by decide) ?_
            obtain ⟨hv9, hf⟩ := pck_some hf
            refine oc_i hW hf (fun r0 h0 hg => o_V (C := RX5) (As := [.int (0 : Int32)]) (rest := []) (n := 1) FX (mX5_isDigit h0) (cwV 1 FX.2.2.2.2 (lw_V q709 q711 qs4 q133 q712) rfl rfl rfl (by decide +kernel) ⟨Nat.le_of_ble_eq_true rfl, Nat.le_of_ble_eq_true rfl⟩) (o_recv hW rfl hv9) rfl hl.1 rfl (Nat.le_of_ble_eq_true rfl) hg dX5_go_140 hW) (fun r20 w21 c22 y23 H locs hW hf => ?_)
            refine lv_if_eq (tgt := 212) hx hb dX5_go_143 (by decide) (fun c143 => ?_) (fun c143 => ?_)
            · have hf := ifp c143 hf
              refine lv_iload_n hx hb dX5_go_212 rfl (lv_at hl 1 rfl) ?_
              refine oc_i hW hf (fun r0 h0 hg => o_S (As := [.int r11]) (rest := []) (n := 1) FX (mX5_isSign h0) (va_cwS 1 FX.2.2.2.2 (lw_S q713 q714 q133 q715) rfl rfl rfl (by decide +kernel) ⟨Nat.le_of_ble_eq_true rfl, Nat.le_of_ble_eq_true rfl⟩) rfl hl.1 rfl (Nat.le_of_ble_eq_true rfl) hg dX5_go_213 hW) (fun r24 w25 c26 y27 H locs hW hf => ?_)
              refine lv_if_eq (tgt := 226) hx hb dX5_go_216 (by decide) (fun c216 => ?_) (fun c216 => ?_)
              · have hf := ifp c216 hf
                exact wX5_go_226 FX hr hlk hnm hout x0 (0 : Int32) w25 c26 y27 _ _ _ (lv_sub hl [2, 0] rfl) hW hf
              · have hf := ifn c216 hf
                refine lv_aload_n hx hb dX5_go_219 rfl (lv_at hl 2 rfl) ?_
                refine lv_iload_n hx hb dX5_go_220 rfl (lv_at hl 1 rfl) ?_
                refine op_put (C := RX5) (T := TX5) (N := 12) (ci := 5) (ty := .int) FX hW in_X5 tyX5 tyX5_ok nmX5 rfl 1 (by decide) q470 (fun _ h => h) rfl (by decide +kernel) rfl rfl hf dX5_go_221 (fun w28 H locs hW hf => ?_)
                refine lv_iconst (v := 1) hx hb dX5_go_224 (by decide) ?_
                refine lv_istore_n (lv' := [(2, .int (1 : Int32)), (1, .int r11), (0, .ref x0)]) hx hb dX5_go_225 rfl hl (by decide) rfl (fun ls hl => ?_)
                exact wX5_go_226 FX hr hlk hnm hout x0 (1 : Int32) w28 c26 y27 _ _ _ (lv_sub hl [2, 0] rfl) hW hf
            · have hf := ifn c143 hf
              refine lv_aload_n hx hb dX5_go_146 rfl (lv_at hl 2 rfl) ?_
              refine lv_iconst (v := 0) hx hb dX5_go_147 (by decide) ?_
              refine op_put (C := RX5) (T := TX5) (N := 12) (ci := 5) (ty := .int) FX hW in_X5 tyX5 tyX5_ok nmX5 rfl 3 (by decide) q472 (fun _ h => h) rfl (by decide +kernel) rfl rfl hf dX5_go_148 (fun w29 H locs hW hf => ?_)
              exact wX5_go_151 FX hr hlk hnm hout _ x0 (0 : Int32) w29 c22 y23 _ _ _ (lv_sub hl [2, 0] rfl) hW hf
          · have hf := ifn c71 hf
            refine on_new (C := RJ6) (T := TJ6) (N := 4) (ci := 14) (fs := [.null, .int 0, .int 0, .int 0]) FX hW in_J6 tyJ6 tyJ6_ok q522 q523 q135 rfl (by decide +kernel) hf dX5_go_74 (fun w30 c31 y32 H hW hf => ?_)
            refine lv_dup hx hb dX5_go_77 rfl ?_
            refine lv_bipush (v := 8) hx hb dX5_go_78 (by decide) ?_
            refine oc_v hW hf (fun r0 h0 hg => o_I (As := [.int (8 : Int32)]) (rest := [.ref (z + c18)]) (n := 1) FX (mJ6_init h0) (cwI 1 FX.2.2.2.2 (lw_meth q526) rfl rfl rfl (FX.2.2.2.2 _ q135) (FX.2.2.2.2 _ q524) (FX.2.2.2.2 _ q525) rfl (by decide +kernel) ⟨Nat.le_of_ble_eq_true rfl, Nat.le_of_ble_eq_true rfl⟩) rfl hl.1 rfl (Nat.le_of_ble_eq_true rfl) hg dX5_go_80 hW) (fun w34 c35 y36 H locs hW hf => ?_)
            refine lv_astore_n (lv' := [(3, .ref (z + c18)), (2, .int (0 : Int32)), (1, .int r11), (0, .ref x0)]) hx hb dX5_go_83 rfl hl (by decide) rfl (fun ls hl => ?_)
            exact wX5_go_84 FX hr hlk hnm hout _ x0 (0 : Int32) (z + c18) w34 c35 y36 _ _ _ (lv_sub hl [3, 1, 0] rfl) hW hf
        · have hf := ifn c55 hf
          refine lv_aload_n hx hb dX5_go_58 rfl (lv_at hl 2 rfl) ?_
          refine lv_iconst (v := 0) hx hb dX5_go_59 (by decide) ?_
          refine op_put (C := RX5) (T := TX5) (N := 12) (ci := 5) (ty := .int) FX hW in_X5 tyX5 tyX5_ok nmX5 rfl 1 (by decide) q470 (fun _ h => h) rfl (by decide +kernel) rfl rfl hf dX5_go_60 (fun w37 H locs hW hf => ?_)
          refine lv_goto (tgt := 226) hx hb dX5_go_63 (by decide) ?_
          exact wX5_go_226 FX hr hlk hnm hout x0 (0 : Int32) w37 c13 y14 _ _ _ (lv_sub hl [2, 0] rfl) hW hf
      · have hf := ifp c17 hf
        exact wX5_go_20 FX hr hlk hnm hout (ih) x0 w6 c7 y8 _ _ _ (lv_sub hl [0] rfl) hW hf
set_option maxHeartbeats 4000000 in
set_option maxRecDepth 100000 in
theorem mX5_go {l : Launch} {D : va_G} {dA : Nat → ClassId} {z : Nat}  {t7 : Nat} {w : va_W} {q : ((Unit) × va_W × Nat × Nat)} (hf : fX5_go dA z t7 w = some q) : CtO l yX5_go cX5_go 4 none rX5_go D dA [.ref t7] w z (.inl none) q.2.1 q.2.2.1 q.2.2.2 := by
  refine e_O (by decide) (Nat.le_of_ble_eq_true rfl) ?_
  intro p e s m below meth c9 ls A FX hr hlk hnm hout hl hW
  have hx := FX.1; have hb := FX.2.1; have hown := FX.2.2.2.1; have hts := FX.2.2.2.2
  have hl : lv_has ls 4 [(0, .ref t7)] := hl
  rw [fX5_go] at hf
  exact wX5_go_0 FX hr hlk hnm hout _ t7 w 0 0 _ _ _ (lv_sub hl [0] rfl) hW hf
/-! TrunkLitters$Reader.wrong()LTrunkLitters$Wrong;: kind O -/
abbrev rX5_wrong : Room := { frames := 4, cells := 1, slots := 10, locals := 100 }
def fX5_wrong_17 (dA : Nat → Nat) (z : Nat) (x0 : Nat) (y0 : Nat) (y1 : Nat) (y2 : Int32) (w : va_W) (c : Nat) (y : Nat) : Option ((Nat) × va_W × Nat × Nat) := pgi w x0 5 2 fun v1 => ocal rX5_wrong.cells rX5_wrong.slots c y rX8_init.cells rX8_init.slots (fX8_init dA (z + c) y1 y2 v1 w) fun r2 w3 c4 y5 => gck c4 y5 rX5_wrong.cells rX5_wrong.slots (some (y0, w3, c4, y5))
def fX5_wrong (dA : Nat → Nat) (z : Nat) (t7 : Nat) (w : va_W) : Option ((Nat) × va_W × Nat × Nat) := onew rX5_wrong.cells rX5_wrong.slots 0 0 8 w (z + 0) (.inr (7, [.null, .null, .null, .null, .null, .int 0, .int 0, .int 0])) fun w1 c2 y3 => pgi w1 t7 5 1 fun v4 => (if v4 = (3 : Int32) then fX5_wrong_17 dA z t7 (z + 0) (z + 0) (1 : Int32) w1 c2 y3 else fX5_wrong_17 dA z t7 (z + 0) (z + 0) (2 : Int32) w1 c2 y3)
set_option maxHeartbeats 4000000 in
set_option maxRecDepth 100000 in
theorem wX5_wrong_17 {l : Launch} {D : va_G} {dA : Nat → ClassId} {z : Nat} {p : Program} {e : Env} {s : State} {m : MethodId} {args : Array Value} {below : List Frame} {meth : Method} {c9 : Code} {A : Nat → Prop} {q : ((Nat) × va_W × Nat × Nat)} (FX : CallFix p m c9 cX5_wrong 1 s args lw_all RX5) (hr : meth.sig.returnType = (some (Jvm.ClassFile.FieldType.object "TrunkLitters$Wrong"))) (hlk : meth.locks = false) (hnm : meth.name = yX5_wrong.name) (hout : ∀ x ∈ c9.exceptionTable.toList, False) : ∀ (x0 : Nat) (y0 : Nat) (y1 : Nat) (y2 : Int32) (w : va_W) (c : Nat) (y : Nat) (H : Heap) (locs : List Loc) (ls : Array Slot), lv_has ls 1 [(0, .ref x0)] → Wo D dA A s w z c H locs → fX5_wrong_17 dA z x0 y0 y1 y2 w c y = some q → W p l e rX5_wrong s m args below meth c9 H locs c y (QO D dA A below args s rX5_wrong.cells rX5_wrong.slots (.inl (some (.ref q.1))) q.2.1 (z + q.2.2.1) q.2.2.2) (F0 m 17 ls [.int y2, .ref y1, .ref y0]) := by
  have hx := FX.1; have hb := FX.2.1; have hown := FX.2.2.2.1; have hts := FX.2.2.2.2
  intro x0 y0 y1 y2 w c y H locs ls hl hW hf
  rw [fX5_wrong_17] at hf
  refine lv_aload_n hx hb dX5_wrong_17 rfl (lv_at hl 0 rfl) ?_
  refine og_i (C := RX5) (T := TX5) (N := 12) (ci := 5) FX hW in_X5 rfl 2 (by decide) q471 (fun _ h => h) hf dX5_wrong_18 (fun v1 hf => ?_)
  refine oc_v hW hf (fun r0 h0 hg => o_I (As := [.int y2, .int v1]) (rest := [.ref y0]) (n := 2) FX (mX8_init h0) (cwI 2 FX.2.2.2.2 (lw_meth q861) rfl rfl rfl (FX.2.2.2.2 _ q147) (FX.2.2.2.2 _ q859) (FX.2.2.2.2 _ q860) rfl (by decide +kernel) ⟨Nat.le_of_ble_eq_true rfl, Nat.le_of_ble_eq_true rfl⟩) rfl hl.1 rfl (Nat.le_of_ble_eq_true rfl) hg dX5_wrong_21 hW) (fun w3 c4 y5 H locs hW hf => ?_)
  obtain ⟨hg, hf⟩ := gck_some hf
  obtain rfl := Option.some.inj hf
  exact ro_a (v := some y0) FX hr (Or.inl ⟨_, rfl⟩) hlk hW hg dX5_wrong_24
set_option maxHeartbeats 4000000 in
set_option maxRecDepth 100000 in
theorem mX5_wrong {l : Launch} {D : va_G} {dA : Nat → ClassId} {z : Nat}  {t7 : Nat} {w : va_W} {q : ((Nat) × va_W × Nat × Nat)} (hf : fX5_wrong dA z t7 w = some q) : CtO l yX5_wrong cX5_wrong 1 (some (Jvm.ClassFile.FieldType.object "TrunkLitters$Wrong")) rX5_wrong D dA [.ref t7] w z (.inl (some (.ref q.1))) q.2.1 q.2.2.1 q.2.2.2 := by
  refine e_O (by decide) (Nat.le_of_ble_eq_true rfl) ?_
  intro p e s m below meth c9 ls A FX hr hlk hnm hout hl hW
  have hx := FX.1; have hb := FX.2.1; have hown := FX.2.2.2.1; have hts := FX.2.2.2.2
  have hl : lv_has ls 1 [(0, .ref t7)] := hl
  rw [fX5_wrong] at hf
  refine on_new (C := RX8) (T := TX8) (N := 8) (ci := 7) (fs := [.null, .null, .null, .null, .null, .int 0, .int 0, .int 0]) FX hW in_X8 tyX8 tyX8_ok q822 q823 q147 rfl (by decide +kernel) hf dX5_wrong_0 (fun w1 c2 y3 H hW hf => ?_)
  refine lv_dup hx hb dX5_wrong_3 rfl ?_
  refine lv_aload_n hx hb dX5_wrong_4 rfl (lv_at hl 0 rfl) ?_
  refine og_i (C := RX5) (T := TX5) (N := 12) (ci := 5) FX hW in_X5 rfl 1 (by decide) q470 (fun _ h => h) hf dX5_wrong_5 (fun v4 hf => ?_)
  refine lv_iconst (v := 3) hx hb dX5_wrong_8 (by decide) ?_
  refine lv_icmp_ne (tgt := 16) hx hb dX5_wrong_9 (by decide) (fun c9 => ?_) (fun c9 => ?_)
  · have hf := ifn c9 hf
    refine lv_iconst (v := 2) hx hb dX5_wrong_16 (by decide) ?_
    exact wX5_wrong_17 FX hr hlk hnm hout t7 (z + 0) (z + 0) (2 : Int32) w1 c2 y3 _ _ _ (lv_sub hl [0] rfl) hW hf
  · have hf := ifp c9 hf
    refine lv_iconst (v := 1) hx hb dX5_wrong_12 (by decide) ?_
    refine lv_goto (tgt := 17) hx hb dX5_wrong_13 (by decide) ?_
    exact wX5_wrong_17 FX hr hlk hnm hout t7 (z + 0) (z + 0) (1 : Int32) w1 c2 y3 _ _ _ (lv_sub hl [0] rfl) hW hf
/-! TrunkLitters$Reader.is(Ljava/lang/String;)Z: kind O -/
abbrev rX5_is : Room := { frames := 2, cells := 0, slots := 0, locals := 52 }
def fX5_is (dA : Nat → Nat) (z : Nat) (t7 : Nat) (s7 : Nat) (w : va_W) : Option ((Int32) × va_W × Nat × Nat) := pgi w t7 5 1 fun v1 => (if v1 = (1 : Int32) then pgR w t7 5 9 fun v2 => pck w v2 15 (ocal rX5_is.cells rX5_is.slots 0 0 rJ7_equalsO.cells rJ7_equalsO.slots (fJ7_equalsO dA (z + 0) v2 s7 w) fun r3 w4 c5 y6 => (if r3 = 0 then gck c5 y6 rX5_is.cells rX5_is.slots (some ((0 : Int32), w4, c5, y6)) else gck c5 y6 rX5_is.cells rX5_is.slots (some ((1 : Int32), w4, c5, y6)))) else gck 0 0 rX5_is.cells rX5_is.slots (some ((0 : Int32), w, 0, 0)))
set_option maxHeartbeats 4000000 in
set_option maxRecDepth 100000 in
theorem mX5_is {l : Launch} {D : va_G} {dA : Nat → ClassId} {z : Nat}  {t7 : Nat} {s7 : Nat} {w : va_W} {q : ((Int32) × va_W × Nat × Nat)} (hf : fX5_is dA z t7 s7 w = some q) : CtO l yX5_is cX5_is 2 (some .boolean) rX5_is D dA [.ref t7, .ref s7] w z (.inl (some (.int q.1))) q.2.1 q.2.2.1 q.2.2.2 := by
  refine e_O (by decide) (Nat.le_of_ble_eq_true rfl) ?_
  intro p e s m below meth c9 ls A FX hr hlk hnm hout hl hW
  have hx := FX.1; have hb := FX.2.1; have hown := FX.2.2.2.1; have hts := FX.2.2.2.2
  have hl : lv_has ls 2 [(0, .ref t7), (1, .ref s7)] := hl
  rw [fX5_is] at hf
  refine lv_aload_n hx hb dX5_is_0 rfl (lv_at hl 0 rfl) ?_
  refine og_i (C := RX5) (T := TX5) (N := 12) (ci := 5) FX hW in_X5 rfl 1 (by decide) q470 (fun _ h => h) hf dX5_is_1 (fun v1 hf => ?_)
  refine lv_iconst (v := 1) hx hb dX5_is_4 (by decide) ?_
  refine lv_icmp_ne (tgt := 23) hx hb dX5_is_5 (by decide) (fun c5 => ?_) (fun c5 => ?_)
  · have hf := ifn c5 hf
    refine lv_iconst (v := 0) hx hb dX5_is_23 (by decide) ?_
    obtain ⟨hg, hf⟩ := gck_some hf
    obtain rfl := Option.some.inj hf
    exact ro_z (v := (0 : Int32)) FX hr hlk hW hg rfl dX5_is_24
  · have hf := ifp c5 hf
    refine lv_aload_n hx hb dX5_is_8 rfl (lv_at hl 0 rfl) ?_
    refine og_R (C := RX5) (T := TX5) (N := 12) (ci := 5) FX hW in_X5 rfl 9 (by decide) q478 (fun _ h => h) hf dX5_is_9 (fun v2 hf => ?_)
    refine lv_aload_n hx hb dX5_is_12 rfl (lv_at hl 1 rfl) ?_
    obtain ⟨hv9, hf⟩ := pck_some hf
    refine oc_i hW hf (fun r0 h0 hg => o_V (C := RJ7) (As := [.ref s7]) (rest := []) (n := 1) FX (mJ7_equalsO h0) (cwV 1 FX.2.2.2.2 (lw_V q725 q726 q727 q136 q728) rfl rfl rfl (by decide +kernel) ⟨Nat.le_of_ble_eq_true rfl, Nat.le_of_ble_eq_true rfl⟩) (o_recv hW rfl hv9) rfl hl.1 rfl (Nat.le_of_ble_eq_true rfl) hg dX5_is_13 hW) (fun r3 w4 c5 y6 H locs hW hf => ?_)
    refine lv_if_eq (tgt := 23) hx hb dX5_is_16 (by decide) (fun c16 => ?_) (fun c16 => ?_)
    · have hf := ifp c16 hf
      refine lv_iconst (v := 0) hx hb dX5_is_23 (by decide) ?_
      obtain ⟨hg, hf⟩ := gck_some hf
      obtain rfl := Option.some.inj hf
      exact ro_z (v := (0 : Int32)) FX hr hlk hW hg rfl dX5_is_24
    · have hf := ifn c16 hf
      refine lv_iconst (v := 1) hx hb dX5_is_19 (by decide) ?_
      refine lv_goto (tgt := 24) hx hb dX5_is_20 (by decide) ?_
      obtain ⟨hg, hf⟩ := gck_some hf
      obtain rfl := Option.some.inj hf
      exact ro_z (v := (1 : Int32)) FX hr hlk hW hg rfl dX5_is_24
/-! TrunkLitters$Reader.takes(Ljava/lang/String;)Z: kind O -/
abbrev rX5_takes : Room := { frames := 7, cells := 4, slots := 150, locals := 194 }
def fX5_takes (dA : Nat → Nat) (z : Nat) (t7 : Nat) (s7 : Nat) (w : va_W) : Option ((Int32) × va_W × Nat × Nat) := pck w t7 5 (ocal rX5_takes.cells rX5_takes.slots 0 0 rX5_is.cells rX5_is.slots (fX5_is dA (z + 0) t7 s7 w) fun r1 w2 c3 y4 => (if r1 = 0 then nrw .boolean r1 (gck c3 y4 rX5_takes.cells rX5_takes.slots (some (r1, w2, c3, y4))) else pck w2 t7 5 (ocal rX5_takes.cells rX5_takes.slots c3 y4 rX5_go.cells rX5_go.slots (fX5_go dA (z + c3) t7 w2) fun r5 w6 c7 y8 => nrw .boolean r1 (gck c7 y8 rX5_takes.cells rX5_takes.slots (some (r1, w6, c7, y8))))))
set_option maxHeartbeats 4000000 in
set_option maxRecDepth 100000 in
theorem mX5_takes {l : Launch} {D : va_G} {dA : Nat → ClassId} {z : Nat}  {t7 : Nat} {s7 : Nat} {w : va_W} {q : ((Int32) × va_W × Nat × Nat)} (hf : fX5_takes dA z t7 s7 w = some q) : CtO l yX5_takes cX5_takes 3 (some .boolean) rX5_takes D dA [.ref t7, .ref s7] w z (.inl (some (.int q.1))) q.2.1 q.2.2.1 q.2.2.2 := by
  refine e_O (by decide) (Nat.le_of_ble_eq_true rfl) ?_
  intro p e s m below meth c9 ls A FX hr hlk hnm hout hl hW
  have hx := FX.1; have hb := FX.2.1; have hown := FX.2.2.2.1; have hts := FX.2.2.2.2
  have hl : lv_has ls 3 [(0, .ref t7), (1, .ref s7)] := hl
  rw [fX5_takes] at hf
  refine lv_aload_n hx hb dX5_takes_0 rfl (lv_at hl 0 rfl) ?_
  refine lv_aload_n hx hb dX5_takes_1 rfl (lv_at hl 1 rfl) ?_
  obtain ⟨hv9, hf⟩ := pck_some hf
  refine oc_i hW hf (fun r0 h0 hg => o_V (C := RX5) (As := [.ref s7]) (rest := []) (n := 1) FX (mX5_is h0) (cwV 1 FX.2.2.2.2 (lw_V q721 q723 qs6 q133 q724) rfl rfl rfl (by decide +kernel) ⟨Nat.le_of_ble_eq_true rfl, Nat.le_of_ble_eq_true rfl⟩) (o_recv hW rfl hv9) rfl hl.1 rfl (Nat.le_of_ble_eq_true rfl) hg dX5_takes_2 hW) (fun r1 w2 c3 y4 H locs hW hf => ?_)
  refine lv_istore_n (lv' := [(2, .int r1), (0, .ref t7), (1, .ref s7)]) hx hb dX5_takes_5 rfl hl (by decide) rfl (fun ls hl => ?_)
  refine lv_iload_n hx hb dX5_takes_6 rfl (lv_at hl 0 rfl) ?_
  refine lv_if_eq (tgt := 14) hx hb dX5_takes_7 (by decide) (fun c7 => ?_) (fun c7 => ?_)
  · have hf := ifp c7 hf
    refine lv_iload_n hx hb dX5_takes_14 rfl (lv_at hl 0 rfl) ?_
    obtain ⟨hnr, hft, hf⟩ := nrw_some hf
    obtain ⟨hg, hf⟩ := gck_some hf
    obtain rfl := Option.some.inj hf
    exact ro_z (v := r1) FX hr hlk hW hg hnr dX5_takes_15
  · have hf := ifn c7 hf
    refine lv_aload_n hx hb dX5_takes_10 rfl (lv_at hl 1 rfl) ?_
    obtain ⟨hv9, hf⟩ := pck_some hf
    refine oc_v hW hf (fun r0 h0 hg => o_V (C := RX5) (As := []) (rest := []) (n := 0) FX (mX5_go h0) (cwV 0 FX.2.2.2.2 (lw_V q510 q512 qs1 q133 q513) rfl rfl rfl (by decide +kernel) ⟨Nat.le_of_ble_eq_true rfl, Nat.le_of_ble_eq_true rfl⟩) (o_recv hW rfl hv9) rfl hl.1 rfl (Nat.le_of_ble_eq_true rfl) hg dX5_takes_11 hW) (fun w6 c7 y8 H locs hW hf => ?_)
    refine lv_iload_n hx hb dX5_takes_14 rfl (lv_at hl 0 rfl) ?_
    obtain ⟨hnr, hft, hf⟩ := nrw_some hf
    obtain ⟨hg, hf⟩ := gck_some hf
    obtain rfl := Option.some.inj hf
    exact ro_z (v := r1) FX hr hlk hW hg hnr dX5_takes_15
/-! TrunkLitters$Reader.key(Ljava/lang/String;)V: kind O -/
abbrev rX5_key : Room := { frames := 8, cells := 5, slots := 160, locals := 216 }
def fX5_key (dA : Nat → Nat) (z : Nat) (t7 : Nat) (s7 : Nat) (w : va_W) : Option ((Unit ⊕ Nat) × va_W × Nat × Nat) := pck w t7 5 (ocal rX5_key.cells rX5_key.slots 0 0 rX5_takes.cells rX5_takes.slots (fX5_takes dA (z + 0) t7 s7 w) fun r1 w2 c3 y4 => (if r1 = 0 then pck w2 t7 5 (ocal rX5_key.cells rX5_key.slots c3 y4 rX5_wrong.cells rX5_wrong.slots (fX5_wrong dA (z + c3) t7 w2) fun r5 w6 c7 y8 => gck c7 y8 rX5_key.cells rX5_key.slots (pck w6 r5 7 (some (.inr r5, w6, c7, y8)))) else gck c3 y4 rX5_key.cells rX5_key.slots (some ((.inl ()), w2, c3, y4))))
set_option maxHeartbeats 4000000 in
set_option maxRecDepth 100000 in
theorem mX5_key {l : Launch} {D : va_G} {dA : Nat → ClassId} {z : Nat}  {t7 : Nat} {s7 : Nat} {w : va_W} {q : ((Unit ⊕ Nat) × va_W × Nat × Nat)} (hf : fX5_key dA z t7 s7 w = some q) : CtO l yX5_key cX5_key 2 none rX5_key D dA [.ref t7, .ref s7] w z (Sum.map (fun _ => none) id q.1) q.2.1 q.2.2.1 q.2.2.2 := by
  refine e_O (by decide) (Nat.le_of_ble_eq_true rfl) ?_
  intro p e s m below meth c9 ls A FX hr hlk hnm hout hl hW
  have hx := FX.1; have hb := FX.2.1; have hown := FX.2.2.2.1; have hts := FX.2.2.2.2
  have hl : lv_has ls 2 [(0, .ref t7), (1, .ref s7)] := hl
  rw [fX5_key] at hf
  refine lv_aload_n hx hb dX5_key_0 rfl (lv_at hl 0 rfl) ?_
  refine lv_aload_n hx hb dX5_key_1 rfl (lv_at hl 1 rfl) ?_
  obtain ⟨hv9, hf⟩ := pck_some hf
  refine oc_i hW hf (fun r0 h0 hg => o_V (C := RX5) (As := [.ref s7]) (rest := []) (n := 1) FX (mX5_takes h0) (cwV 1 FX.2.2.2.2 (lw_V q924 q926 qs14 q133 q927) rfl rfl rfl (by decide +kernel) ⟨Nat.le_of_ble_eq_true rfl, Nat.le_of_ble_eq_true rfl⟩) (o_recv hW rfl hv9) rfl hl.1 rfl (Nat.le_of_ble_eq_true rfl) hg dX5_key_2 hW) (fun r1 w2 c3 y4 H locs hW hf => ?_)
  refine lv_if_ne (tgt := 13) hx hb dX5_key_5 (by decide) (fun c5 => ?_) (fun c5 => ?_)
  · have hf := ifn c5 hf
    obtain ⟨hg, hf⟩ := gck_some hf
    obtain rfl := Option.some.inj hf
    exact ro_v FX hr hlk hW hg dX5_key_13
  · have hf := ifp c5 hf
    refine lv_aload_n hx hb dX5_key_8 rfl (lv_at hl 0 rfl) ?_
    obtain ⟨hv9, hf⟩ := pck_some hf
    refine oc_R hW hf (fun r0 h0 hg => o_V (C := RX5) (As := []) (rest := []) (n := 0) FX (mX5_wrong h0) (cwV 0 FX.2.2.2.2 (lw_V q818 q820 qs10 q133 q821) rfl rfl rfl (by decide +kernel) ⟨Nat.le_of_ble_eq_true rfl, Nat.le_of_ble_eq_true rfl⟩) (o_recv hW rfl hv9) rfl hl.1 rfl (Nat.le_of_ble_eq_true rfl) hg dX5_key_9 hW) (fun r5 w6 c7 y8 H locs hW hf => ?_)
    obtain ⟨hg, hf⟩ := gck_some hf
    obtain ⟨⟨fs9, hv9⟩, hf⟩ := pck_some hf
    obtain rfl := Option.some.inj hf
    exact o_athrow FX hW hv9 dX5_key_12 (fun ce e1 e2 e3 => ro_x hout hlk hW hg e1 e2 e3)
/-! TrunkLitters$Reader.number(II)I: kind O -/
abbrev rX5_number : Room := { frames := 7, cells := 5, slots := 160, locals := 194 }
def fX5_number_29 (dA : Nat → Nat) (z : Nat) (x0 : Nat) (w : va_W) (c : Nat) (y : Nat) : Option ((Int32 ⊕ Nat) × va_W × Nat × Nat) := onew rX5_number.cells rX5_number.slots c y 8 w (z + c) (.inr (7, [.null, .null, .null, .null, .null, .int 0, .int 0, .int 0])) fun w1 c2 y3 => pgi w1 x0 5 2 fun v4 => ocal rX5_number.cells rX5_number.slots c2 y3 rX8_init.cells rX8_init.slots (fX8_init dA (z + c2) (z + c) (4 : Int32) v4 w1) fun r5 w6 c7 y8 => gck c7 y8 rX5_number.cells rX5_number.slots (pck w6 (z + c) 7 (some (.inr (z + c), w6, c7, y8)))
def fX5_number (dA : Nat → Nat) (z : Nat) (t7 : Nat) (a7 : Int32) (b7 : Int32) (w : va_W) : Option ((Int32 ⊕ Nat) × va_W × Nat × Nat) := pgi w t7 5 1 fun v1 => (if v1 = (2 : Int32) then pgi w t7 5 3 fun v2 => (if v2 < a7 then fX5_number_29 dA z t7 w 0 0 else pgi w t7 5 3 fun v3 => (if v3 ≤ b7 then pgi w t7 5 3 fun v4 => pck w t7 5 (ocal rX5_number.cells rX5_number.slots 0 0 rX5_go.cells rX5_go.slots (fX5_go dA (z + 0) t7 w) fun r5 w6 c7 y8 => gck c7 y8 rX5_number.cells rX5_number.slots (some ((.inl v4), w6, c7, y8))) else fX5_number_29 dA z t7 w 0 0)) else pck w t7 5 (ocal rX5_number.cells rX5_number.slots 0 0 rX5_wrong.cells rX5_wrong.slots (fX5_wrong dA (z + 0) t7 w) fun r9 w10 c11 y12 => gck c11 y12 rX5_number.cells rX5_number.slots (pck w10 r9 7 (some (.inr r9, w10, c11, y12)))))
set_option maxHeartbeats 4000000 in
set_option maxRecDepth 100000 in
theorem wX5_number_29 {l : Launch} {D : va_G} {dA : Nat → ClassId} {z : Nat} {p : Program} {e : Env} {s : State} {m : MethodId} {args : Array Value} {below : List Frame} {meth : Method} {c9 : Code} {A : Nat → Prop} {q : ((Int32 ⊕ Nat) × va_W × Nat × Nat)} (FX : CallFix p m c9 cX5_number 4 s args lw_all RX5) (hr : meth.sig.returnType = (some .int)) (hlk : meth.locks = false) (hnm : meth.name = yX5_number.name) (hout : ∀ x ∈ c9.exceptionTable.toList, False) : ∀ (x0 : Nat) (w : va_W) (c : Nat) (y : Nat) (H : Heap) (locs : List Loc) (ls : Array Slot), lv_has ls 4 [(0, .ref x0)] → Wo D dA A s w z c H locs → fX5_number_29 dA z x0 w c y = some q → W p l e rX5_number s m args below meth c9 H locs c y (QO D dA A below args s rX5_number.cells rX5_number.slots (Sum.map (fun r => some (.int r)) id q.1) q.2.1 (z + q.2.2.1) q.2.2.2) (F0 m 29 ls []) := by
  have hx := FX.1; have hb := FX.2.1; have hown := FX.2.2.2.1; have hts := FX.2.2.2.2
  intro x0 w c y H locs ls hl hW hf
  rw [fX5_number_29] at hf
  refine on_new (C := RX8) (T := TX8) (N := 8) (ci := 7) (fs := [.null, .null, .null, .null, .null, .int 0, .int 0, .int 0]) FX hW in_X8 tyX8 tyX8_ok q822 q823 q147 rfl (by decide +kernel) hf dX5_number_29 (fun w1 c2 y3 H hW hf => ?_)
  refine lv_dup hx hb dX5_number_32 rfl ?_
  refine lv_iconst (v := 4) hx hb dX5_number_33 (by decide) ?_
  refine lv_aload_n hx hb dX5_number_34 rfl (lv_at hl 0 rfl) ?_
  refine og_i (C := RX5) (T := TX5) (N := 12) (ci := 5) FX hW in_X5 rfl 2 (by decide) q471 (fun _ h => h) hf dX5_number_35 (fun v4 hf => ?_)
  refine oc_v hW hf (fun r0 h0 hg => o_I (As := [.int (4 : Int32), .int v4]) (rest := [.ref (z + c)]) (n := 2) FX (mX8_init h0) (cwI 2 FX.2.2.2.2 (lw_meth q861) rfl rfl rfl (FX.2.2.2.2 _ q147) (FX.2.2.2.2 _ q859) (FX.2.2.2.2 _ q860) rfl (by decide +kernel) ⟨Nat.le_of_ble_eq_true rfl, Nat.le_of_ble_eq_true rfl⟩) rfl hl.1 rfl (Nat.le_of_ble_eq_true rfl) hg dX5_number_38 hW) (fun w6 c7 y8 H locs hW hf => ?_)
  obtain ⟨hg, hf⟩ := gck_some hf
  obtain ⟨⟨fs9, hv9⟩, hf⟩ := pck_some hf
  obtain rfl := Option.some.inj hf
  exact o_athrow FX hW hv9 dX5_number_41 (fun ce e1 e2 e3 => ro_x hout hlk hW hg e1 e2 e3)
set_option maxHeartbeats 4000000 in
set_option maxRecDepth 100000 in
theorem mX5_number {l : Launch} {D : va_G} {dA : Nat → ClassId} {z : Nat}  {t7 : Nat} {a7 : Int32} {b7 : Int32} {w : va_W} {q : ((Int32 ⊕ Nat) × va_W × Nat × Nat)} (hf : fX5_number dA z t7 a7 b7 w = some q) : CtO l yX5_number cX5_number 4 (some .int) rX5_number D dA [.ref t7, .int a7, .int b7] w z (Sum.map (fun r => some (.int r)) id q.1) q.2.1 q.2.2.1 q.2.2.2 := by
  refine e_O (by decide) (Nat.le_of_ble_eq_true rfl) ?_
  intro p e s m below meth c9 ls A FX hr hlk hnm hout hl hW
  have hx := FX.1; have hb := FX.2.1; have hown := FX.2.2.2.1; have hts := FX.2.2.2.2
  have hl : lv_has ls 4 [(0, .ref t7), (1, .int a7), (2, .int b7)] := hl
  rw [fX5_number] at hf
  refine lv_aload_n hx hb dX5_number_0 rfl (lv_at hl 0 rfl) ?_
  refine og_i (C := RX5) (T := TX5) (N := 12) (ci := 5) FX hW in_X5 rfl 1 (by decide) q470 (fun _ h => h) hf dX5_number_1 (fun v1 hf => ?_)
  refine lv_iconst (v := 2) hx hb dX5_number_4 (by decide) ?_
  refine lv_icmp_eq (tgt := 13) hx hb dX5_number_5 (by decide) (fun c5 => ?_) (fun c5 => ?_)
  · have hf := ifp c5 hf
    refine lv_aload_n hx hb dX5_number_13 rfl (lv_at hl 0 rfl) ?_
    refine og_i (C := RX5) (T := TX5) (N := 12) (ci := 5) FX hW in_X5 rfl 3 (by decide) q472 (fun _ h => h) hf dX5_number_14 (fun v2 hf => ?_)
    refine lv_iload_n hx hb dX5_number_17 rfl (lv_at hl 1 rfl) ?_
    refine lv_icmp_lt (tgt := 29) hx hb dX5_number_18 (by decide) (fun c18 => ?_) (fun c18 => ?_)
    · have hf := ifp c18 hf
      exact wX5_number_29 FX hr hlk hnm hout t7 w 0 0 _ _ _ (lv_sub hl [0] rfl) hW hf
    · have hf := ifn c18 hf
      refine lv_aload_n hx hb dX5_number_21 rfl (lv_at hl 0 rfl) ?_
      refine og_i (C := RX5) (T := TX5) (N := 12) (ci := 5) FX hW in_X5 rfl 3 (by decide) q472 (fun _ h => h) hf dX5_number_22 (fun v3 hf => ?_)
      refine lv_iload_n hx hb dX5_number_25 rfl (lv_at hl 2 rfl) ?_
      refine lv_icmp_le (tgt := 42) hx hb dX5_number_26 (by decide) (fun c26 => ?_) (fun c26 => ?_)
      · have hf := ifp c26 hf
        refine lv_aload_n hx hb dX5_number_42 rfl (lv_at hl 0 rfl) ?_
        refine og_i (C := RX5) (T := TX5) (N := 12) (ci := 5) FX hW in_X5 rfl 3 (by decide) q472 (fun _ h => h) hf dX5_number_43 (fun v4 hf => ?_)
        refine lv_istore_n (lv' := [(3, .int v4), (0, .ref t7), (1, .int a7), (2, .int b7)]) hx hb dX5_number_46 rfl hl (by decide) rfl (fun ls hl => ?_)
        refine lv_aload_n hx hb dX5_number_47 rfl (lv_at hl 1 rfl) ?_
        obtain ⟨hv9, hf⟩ := pck_some hf
        refine oc_v hW hf (fun r0 h0 hg => o_V (C := RX5) (As := []) (rest := []) (n := 0) FX (mX5_go h0) (cwV 0 FX.2.2.2.2 (lw_V q510 q512 qs1 q133 q513) rfl rfl rfl (by decide +kernel) ⟨Nat.le_of_ble_eq_true rfl, Nat.le_of_ble_eq_true rfl⟩) (o_recv hW rfl hv9) rfl hl.1 rfl (Nat.le_of_ble_eq_true rfl) hg dX5_number_48 hW) (fun w6 c7 y8 H locs hW hf => ?_)
        refine lv_iload_n hx hb dX5_number_51 rfl (lv_at hl 0 rfl) ?_
        obtain ⟨hg, hf⟩ := gck_some hf
        obtain rfl := Option.some.inj hf
        exact ro_i FX hr hlk hW hg dX5_number_52
      · have hf := ifn c26 hf
        exact wX5_number_29 FX hr hlk hnm hout t7 w 0 0 _ _ _ (lv_sub hl [0] rfl) hW hf
  · have hf := ifn c5 hf
    refine lv_aload_n hx hb dX5_number_8 rfl (lv_at hl 0 rfl) ?_
    obtain ⟨hv9, hf⟩ := pck_some hf
    refine oc_R hW hf (fun r0 h0 hg => o_V (C := RX5) (As := []) (rest := []) (n := 0) FX (mX5_wrong h0) (cwV 0 FX.2.2.2.2 (lw_V q818 q820 qs10 q133 q821) rfl rfl rfl (by decide +kernel) ⟨Nat.le_of_ble_eq_true rfl, Nat.le_of_ble_eq_true rfl⟩) (o_recv hW rfl hv9) rfl hl.1 rfl (Nat.le_of_ble_eq_true rfl) hg dX5_number_9 hW) (fun r9 w10 c11 y12 H locs hW hf => ?_)
    obtain ⟨hg, hf⟩ := gck_some hf
    obtain ⟨⟨fs9, hv9⟩, hf⟩ := pck_some hf
    obtain rfl := Option.some.inj hf
    exact o_athrow FX hW hv9 dX5_number_12 (fun ce e1 e2 e3 => ro_x hout hlk hW hg e1 e2 e3)
/-! TrunkLitters$Reader.numberBy(Ljava/lang/String;II)I: kind O -/
abbrev rX5_numberBy : Room := { frames := 9, cells := 10, slots := 320, locals := 237 }
def fX5_numberBy (dA : Nat → Nat) (z : Nat) (t7 : Nat) (s7 : Nat) (a7 : Int32) (b7 : Int32) (w : va_W) : Option ((Int32 ⊕ Nat) × va_W × Nat × Nat) := pck w t7 5 (ocal rX5_numberBy.cells rX5_numberBy.slots 0 0 rX5_key.cells rX5_key.slots (fX5_key dA (z + 0) t7 s7 w) fun r1 w2 c3 y4 => othr r1 (fun v5 => pck w2 t7 5 (ocal rX5_numberBy.cells rX5_numberBy.slots c3 y4 rX5_number.cells rX5_number.slots (fX5_number dA (z + c3) t7 a7 b7 w2) fun r6 w7 c8 y9 => othr r6 (fun v10 => gck c8 y9 rX5_numberBy.cells rX5_numberBy.slots (some ((.inl v10), w7, c8, y9))) fun t => gck c8 y9 rX5_numberBy.cells rX5_numberBy.slots (some (.inr t, w7, c8, y9)))) fun t => gck c3 y4 rX5_numberBy.cells rX5_numberBy.slots (some (.inr t, w2, c3, y4)))
set_option maxHeartbeats 4000000 in
set_option maxRecDepth 100000 in
theorem mX5_numberBy {l : Launch} {D : va_G} {dA : Nat → ClassId} {z : Nat}  {t7 : Nat} {s7 : Nat} {a7 : Int32} {b7 : Int32} {w : va_W} {q : ((Int32 ⊕ Nat) × va_W × Nat × Nat)} (hf : fX5_numberBy dA z t7 s7 a7 b7 w = some q) : CtO l yX5_numberBy cX5_numberBy 4 (some .int) rX5_numberBy D dA [.ref t7, .ref s7, .int a7, .int b7] w z (Sum.map (fun r => some (.int r)) id q.1) q.2.1 q.2.2.1 q.2.2.2 := by
  refine e_O (by decide) (Nat.le_of_ble_eq_true rfl) ?_
  intro p e s m below meth c9 ls A FX hr hlk hnm hout hl hW
  have hx := FX.1; have hb := FX.2.1; have hown := FX.2.2.2.1; have hts := FX.2.2.2.2
  have hl : lv_has ls 4 [(0, .ref t7), (1, .ref s7), (2, .int a7), (3, .int b7)] := hl
  rw [fX5_numberBy] at hf
  refine lv_aload_n hx hb dX5_numberBy_0 rfl (lv_at hl 0 rfl) ?_
  refine lv_aload_n hx hb dX5_numberBy_1 rfl (lv_at hl 1 rfl) ?_
  obtain ⟨hv9, hf⟩ := pck_some hf
  refine oc_X (fun _ => none) hW hf (fun r0 h0 hg => o_V (C := RX5) (As := [.ref s7]) (rest := []) (n := 1) FX (mX5_key h0) (cwV 1 FX.2.2.2.2 (lw_V q920 q922 qs13 q133 q923) rfl rfl rfl (by decide +kernel) ⟨Nat.le_of_ble_eq_true rfl, Nat.le_of_ble_eq_true rfl⟩) (o_recv hW rfl hv9) rfl hl.1 rfl (Nat.le_of_ble_eq_true rfl) hg dX5_numberBy_2 hW) (fun t9 w2 c3 y4 H locs ce9 hW e1 e2 e3 hf => ?_) (fun v5 w2 c3 y4 H locs hW hf => ?_)
  · rw [othr_inr] at hf
    obtain ⟨hg, hf⟩ := gck_some hf
    obtain rfl := Option.some.inj hf
    exact ro_x hout hlk hW hg e1 e2 e3
  rw [othr_inl] at hf
  refine lv_aload_n hx hb dX5_numberBy_5 rfl (lv_at hl 0 rfl) ?_
  refine lv_iload_n hx hb dX5_numberBy_6 rfl (lv_at hl 2 rfl) ?_
  refine lv_iload_n hx hb dX5_numberBy_7 rfl (lv_at hl 3 rfl) ?_
  obtain ⟨hv9, hf⟩ := pck_some hf
  refine oc_X (fun r => some (.int r)) hW hf (fun r0 h0 hg => o_V (C := RX5) (As := [.int a7, .int b7]) (rest := []) (n := 2) FX (mX5_number h0) (cwV 2 FX.2.2.2.2 (lw_V q928 q930 qs15 q133 q931) rfl rfl rfl (by decide +kernel) ⟨Nat.le_of_ble_eq_true rfl, Nat.le_of_ble_eq_true rfl⟩) (o_recv hW rfl hv9) rfl hl.1 rfl (Nat.le_of_ble_eq_true rfl) hg dX5_numberBy_8 hW) (fun t9 w7 c8 y9 H locs ce9 hW e1 e2 e3 hf => ?_) (fun v10 w7 c8 y9 H locs hW hf => ?_)
  · rw [othr_inr] at hf
    obtain ⟨hg, hf⟩ := gck_some hf
    obtain rfl := Option.some.inj hf
    exact ro_x hout hlk hW hg e1 e2 e3
  rw [othr_inl] at hf
  obtain ⟨hg, hf⟩ := gck_some hf
  obtain rfl := Option.some.inj hf
  exact ro_i FX hr hlk hW hg dX5_numberBy_11
/-! TrunkLitters$Reader.isName()Z: kind O -/
abbrev rX5_isName : Room := { frames := 4, cells := 0, slots := 0, locals := 90 }
def fX5_isName_437 (dA : Nat → Nat) (z : Nat) (x2 : Int32) (w : va_W) (c : Nat) (y : Nat) : Option ((Int32) × va_W × Nat × Nat) := (if x2 = (0 : Int32) then gck c y rX5_isName.cells rX5_isName.slots (some ((0 : Int32), w, c, y)) else (if x2 = (1 : Int32) then gck c y rX5_isName.cells rX5_isName.slots (some ((0 : Int32), w, c, y)) else (if x2 = (2 : Int32) then gck c y rX5_isName.cells rX5_isName.slots (some ((0 : Int32), w, c, y)) else (if x2 = (3 : Int32) then gck c y rX5_isName.cells rX5_isName.slots (some ((0 : Int32), w, c, y)) else (if x2 = (4 : Int32) then gck c y rX5_isName.cells rX5_isName.slots (some ((0 : Int32), w, c, y)) else (if x2 = (5 : Int32) then gck c y rX5_isName.cells rX5_isName.slots (some ((0 : Int32), w, c, y)) else (if x2 = (6 : Int32) then gck c y rX5_isName.cells rX5_isName.slots (some ((0 : Int32), w, c, y)) else (if x2 = (7 : Int32) then gck c y rX5_isName.cells rX5_isName.slots (some ((0 : Int32), w, c, y)) else (if x2 = (8 : Int32) then gck c y rX5_isName.cells rX5_isName.slots (some ((0 : Int32), w, c, y)) else (if x2 = (9 : Int32) then gck c y rX5_isName.cells rX5_isName.slots (some ((0 : Int32), w, c, y)) else (if x2 = (10 : Int32) then gck c y rX5_isName.cells rX5_isName.slots (some ((0 : Int32), w, c, y)) else (if x2 = (11 : Int32) then gck c y rX5_isName.cells rX5_isName.slots (some ((0 : Int32), w, c, y)) else (if x2 = (12 : Int32) then gck c y rX5_isName.cells rX5_isName.slots (some ((0 : Int32), w, c, y)) else (if x2 = (13 : Int32) then gck c y rX5_isName.cells rX5_isName.slots (some ((0 : Int32), w, c, y)) else (if x2 = (14 : Int32) then gck c y rX5_isName.cells rX5_isName.slots (some ((0 : Int32), w, c, y)) else (if x2 = (15 : Int32) then gck c y rX5_isName.cells rX5_isName.slots (some ((0 : Int32), w, c, y)) else (if x2 = (16 : Int32) then gck c y rX5_isName.cells rX5_isName.slots (some ((0 : Int32), w, c, y)) else (if x2 = (17 : Int32) then gck c y rX5_isName.cells rX5_isName.slots (some ((0 : Int32), w, c, y)) else gck c y rX5_isName.cells rX5_isName.slots (some ((1 : Int32), w, c, y))))))))))))))))))))
def fX5_isName (dA : Nat → Nat) (z : Nat) (t7 : Nat) (w : va_W) : Option ((Int32) × va_W × Nat × Nat) := pgi w t7 5 1 fun v1 => (if v1 = (1 : Int32) then pgR w t7 5 9 fun v2 => pck w v2 15 (ocal rX5_isName.cells rX5_isName.slots 0 0 rJ7_hashCode.cells rJ7_hashCode.slots (fJ7_hashCode dA (z + 0) v2 w) fun r3 w4 c5 y6 => (if r3 = (3123 : Int32) then pck w4 v2 15 (ocal rX5_isName.cells rX5_isName.slots c5 y6 rJ7_equalsO.cells rJ7_equalsO.slots (fJ7_equalsO dA (z + c5) v2 (dA 205) w4) fun r7 w8 c9 y10 => (if r7 = 0 then fX5_isName_437 dA z (-1 : Int32) w8 c9 y10 else fX5_isName_437 dA z (4 : Int32) w8 c9 y10)) else (if r3 = (3555 : Int32) then pck w4 v2 15 (ocal rX5_isName.cells rX5_isName.slots c5 y6 rJ7_equalsO.cells rJ7_equalsO.slots (fJ7_equalsO dA (z + c5) v2 (dA 217) w4) fun r11 w12 c13 y14 => (if r11 = 0 then fX5_isName_437 dA z (-1 : Int32) w12 c13 y14 else fX5_isName_437 dA z (16 : Int32) w12 c13 y14)) else (if r3 = (96727 : Int32) then pck w4 v2 15 (ocal rX5_isName.cells rX5_isName.slots c5 y6 rJ7_equalsO.cells rJ7_equalsO.slots (fJ7_equalsO dA (z + c5) v2 (dA 216) w4) fun r15 w16 c17 y18 => (if r15 = 0 then fX5_isName_437 dA z (-1 : Int32) w16 c17 y18 else fX5_isName_437 dA z (15 : Int32) w16 c17 y18)) else (if r3 = (109267 : Int32) then pck w4 v2 15 (ocal rX5_isName.cells rX5_isName.slots c5 y6 rJ7_equalsO.cells rJ7_equalsO.slots (fJ7_equalsO dA (z + c5) v2 (dA 218) w4) fun r19 w20 c21 y22 => (if r19 = 0 then fX5_isName_437 dA z (-1 : Int32) w20 c21 y22 else fX5_isName_437 dA z (17 : Int32) w20 c21 y22)) else (if r3 = (3035410 : Int32) then pck w4 v2 15 (ocal rX5_isName.cells rX5_isName.slots c5 y6 rJ7_equalsO.cells rJ7_equalsO.slots (fJ7_equalsO dA (z + c5) v2 (dA 204) w4) fun r23 w24 c25 y26 => (if r23 = 0 then fX5_isName_437 dA z (-1 : Int32) w24 c25 y26 else fX5_isName_437 dA z (3 : Int32) w24 c25 y26)) else (if r3 = (3091780 : Int32) then pck w4 v2 15 (ocal rX5_isName.cells rX5_isName.slots c5 y6 rJ7_equalsO.cells rJ7_equalsO.slots (fJ7_equalsO dA (z + c5) v2 (dA 211) w4) fun r27 w28 c29 y30 => (if r27 = 0 then fX5_isName_437 dA z (-1 : Int32) w28 c29 y30 else fX5_isName_437 dA z (10 : Int32) w28 c29 y30)) else (if r3 = (3317767 : Int32) then pck w4 v2 15 (ocal rX5_isName.cells rX5_isName.slots c5 y6 rJ7_equalsO.cells rJ7_equalsO.slots (fJ7_equalsO dA (z + c5) v2 (dA 213) w4) fun r31 w32 c33 y34 => (if r31 = 0 then fX5_isName_437 dA z (-1 : Int32) w32 c33 y34 else fX5_isName_437 dA z (12 : Int32) w32 c33 y34)) else (if r3 = (3343967 : Int32) then pck w4 v2 15 (ocal rX5_isName.cells rX5_isName.slots c5 y6 rJ7_equalsO.cells rJ7_equalsO.slots (fJ7_equalsO dA (z + c5) v2 (dA 214) w4) fun r35 w36 c37 y38 => (if r35 = 0 then fX5_isName_437 dA z (-1 : Int32) w36 c37 y38 else fX5_isName_437 dA z (13 : Int32) w36 c37 y38)) else (if r3 = (3506395 : Int32) then pck w4 v2 15 (ocal rX5_isName.cells rX5_isName.slots c5 y6 rJ7_equalsO.cells rJ7_equalsO.slots (fJ7_equalsO dA (z + c5) v2 (dA 201) w4) fun r39 w40 c41 y42 => (if r39 = 0 then fX5_isName_437 dA z (-1 : Int32) w40 c41 y42 else fX5_isName_437 dA z (0 : Int32) w40 c41 y42)) else (if r3 = (3565875 : Int32) then pck w4 v2 15 (ocal rX5_isName.cells rX5_isName.slots c5 y6 rJ7_equalsO.cells rJ7_equalsO.slots (fJ7_equalsO dA (z + c5) v2 (dA 207) w4) fun r43 w44 c45 y46 => (if r43 = 0 then fX5_isName_437 dA z (-1 : Int32) w44 c45 y46 else fX5_isName_437 dA z (6 : Int32) w44 c45 y46)) else (if r3 = (3704893 : Int32) then pck w4 v2 15 (ocal rX5_isName.cells rX5_isName.slots c5 y6 rJ7_equalsO.cells rJ7_equalsO.slots (fJ7_equalsO dA (z + c5) v2 (dA 215) w4) fun r47 w48 c49 y50 => (if r47 = 0 then fX5_isName_437 dA z (-1 : Int32) w48 c49 y50 else fX5_isName_437 dA z (14 : Int32) w48 c49 y50)) else (if r3 = (92903288 : Int32) then pck w4 v2 15 (ocal rX5_isName.cells rX5_isName.slots c5 y6 rJ7_equalsO.cells rJ7_equalsO.slots (fJ7_equalsO dA (z + c5) v2 (dA 212) w4) fun r51 w52 c53 y54 => (if r51 = 0 then fX5_isName_437 dA z (-1 : Int32) w52 c53 y54 else fX5_isName_437 dA z (11 : Int32) w52 c53 y54)) else (if r3 = (94011444 : Int32) then pck w4 v2 15 (ocal rX5_isName.cells rX5_isName.slots c5 y6 rJ7_equalsO.cells rJ7_equalsO.slots (fJ7_equalsO dA (z + c5) v2 (dA 208) w4) fun r55 w56 c57 y58 => (if r55 = 0 then fX5_isName_437 dA z (-1 : Int32) w56 c57 y58 else fX5_isName_437 dA z (7 : Int32) w56 c57 y58)) else (if r3 = (99459988 : Int32) then pck w4 v2 15 (ocal rX5_isName.cells rX5_isName.slots c5 y6 rJ7_equalsO.cells rJ7_equalsO.slots (fJ7_equalsO dA (z + c5) v2 (dA 202) w4) fun r59 w60 c61 y62 => (if r59 = 0 then fX5_isName_437 dA z (-1 : Int32) w60 c61 y62 else fX5_isName_437 dA z (1 : Int32) w60 c61 y62)) else (if r3 = (103666502 : Int32) then pck w4 v2 15 (ocal rX5_isName.cells rX5_isName.slots c5 y6 rJ7_equalsO.cells rJ7_equalsO.slots (fJ7_equalsO dA (z + c5) v2 (dA 206) w4) fun r63 w64 c65 y66 => (if r63 = 0 then fX5_isName_437 dA z (-1 : Int32) w64 c65 y66 else fX5_isName_437 dA z (5 : Int32) w64 c65 y66)) else (if r3 = (106671363 : Int32) then pck w4 v2 15 (ocal rX5_isName.cells rX5_isName.slots c5 y6 rJ7_equalsO.cells rJ7_equalsO.slots (fJ7_equalsO dA (z + c5) v2 (dA 209) w4) fun r67 w68 c69 y70 => (if r67 = 0 then fX5_isName_437 dA z (-1 : Int32) w68 c69 y70 else fX5_isName_437 dA z (8 : Int32) w68 c69 y70)) else (if r3 = (110125197 : Int32) then pck w4 v2 15 (ocal rX5_isName.cells rX5_isName.slots c5 y6 rJ7_equalsO.cells rJ7_equalsO.slots (fJ7_equalsO dA (z + c5) v2 (dA 210) w4) fun r71 w72 c73 y74 => (if r71 = 0 then fX5_isName_437 dA z (-1 : Int32) w72 c73 y74 else fX5_isName_437 dA z (9 : Int32) w72 c73 y74)) else (if r3 = (110640564 : Int32) then pck w4 v2 15 (ocal rX5_isName.cells rX5_isName.slots c5 y6 rJ7_equalsO.cells rJ7_equalsO.slots (fJ7_equalsO dA (z + c5) v2 (dA 203) w4) fun r75 w76 c77 y78 => (if r75 = 0 then fX5_isName_437 dA z (-1 : Int32) w76 c77 y78 else fX5_isName_437 dA z (2 : Int32) w76 c77 y78)) else fX5_isName_437 dA z (-1 : Int32) w4 c5 y6))))))))))))))))))) else gck 0 0 rX5_isName.cells rX5_isName.slots (some ((0 : Int32), w, 0, 0)))
set_option maxHeartbeats 4000000 in
set_option maxRecDepth 100000 in
theorem wX5_isName_437 {l : Launch} {D : va_G} {dA : Nat → ClassId} {z : Nat} {p : Program} {e : Env} {s : State} {m : MethodId} {args : Array Value} {below : List Frame} {meth : Method} {c9 : Code} {A : Nat → Prop} {q : ((Int32) × va_W × Nat × Nat)} (FX : CallFix p m c9 cX5_isName 3 s args lw_all RX5) (hr : meth.sig.returnType = (some .boolean)) (hlk : meth.locks = false) (hnm : meth.name = yX5_isName.name) (hout : ∀ x ∈ c9.exceptionTable.toList, False) : ∀ (x2 : Int32) (w : va_W) (c : Nat) (y : Nat) (H : Heap) (locs : List Loc) (ls : Array Slot), lv_has ls 3 [(2, .int x2)] → Wo D dA A s w z c H locs → fX5_isName_437 dA z x2 w c y = some q → W p l e rX5_isName s m args below meth c9 H locs c y (QO D dA A below args s rX5_isName.cells rX5_isName.slots (.inl (some (.int q.1))) q.2.1 (z + q.2.2.1) q.2.2.2) (F0 m 437 ls []) := by
  have hx := FX.1; have hb := FX.2.1; have hown := FX.2.2.2.1; have hts := FX.2.2.2.2
  intro x2 w c y H locs ls hl hW hf
  rw [fX5_isName_437] at hf
  refine lv_iload_n hx hb dX5_isName_437 rfl (lv_at hl 0 rfl) ?_
  by_cases c438_0 : x2 = (0 : Int32)
  · have hf := ifp c438_0 hf
    refine g_tabC (tgt := 524) FX (0 : Int32) c438_0 (by decide) (by decide) rfl (by decide) dX5_isName_438 ?_
    refine lv_iconst (v := 0) hx hb dX5_isName_524 (by decide) ?_
    obtain ⟨hg, hf⟩ := gck_some hf
    obtain rfl := Option.some.inj hf
    exact ro_z (v := (0 : Int32)) FX hr hlk hW hg rfl dX5_isName_525
  have hf := ifn c438_0 hf
  by_cases c438_1 : x2 = (1 : Int32)
  · have hf := ifp c438_1 hf
    refine g_tabC (tgt := 524) FX (1 : Int32) c438_1 (by decide) (by decide) rfl (by decide) dX5_isName_438 ?_
    refine lv_iconst (v := 0) hx hb dX5_isName_524 (by decide) ?_
    obtain ⟨hg, hf⟩ := gck_some hf
    obtain rfl := Option.some.inj hf
    exact ro_z (v := (0 : Int32)) FX hr hlk hW hg rfl dX5_isName_525
  have hf := ifn c438_1 hf
  by_cases c438_2 : x2 = (2 : Int32)
  · have hf := ifp c438_2 hf
    refine g_tabC (tgt := 524) FX (2 : Int32) c438_2 (by decide) (by decide) rfl (by decide) dX5_isName_438 ?_
    refine lv_iconst (v := 0) hx hb dX5_isName_524 (by decide) ?_
    obtain ⟨hg, hf⟩ := gck_some hf
    obtain rfl := Option.some.inj hf
    exact ro_z (v := (0 : Int32)) FX hr hlk hW hg rfl dX5_isName_525
  have hf := ifn c438_2 hf
  by_cases c438_3 : x2 = (3 : Int32)
  · have hf := ifp c438_3 hf
    refine g_tabC (tgt := 524) FX (3 : Int32) c438_3 (by decide) (by decide) rfl (by decide) dX5_isName_438 ?_
    refine lv_iconst (v := 0) hx hb dX5_isName_524 (by decide) ?_
    obtain ⟨hg, hf⟩ := gck_some hf
    obtain rfl := Option.some.inj hf
    exact ro_z (v := (0 : Int32)) FX hr hlk hW hg rfl dX5_isName_525
  have hf := ifn c438_3 hf
  by_cases c438_4 : x2 = (4 : Int32)
  · have hf := ifp c438_4 hf
    refine g_tabC (tgt := 524) FX (4 : Int32) c438_4 (by decide) (by decide) rfl (by decide) dX5_isName_438 ?_
    refine lv_iconst (v := 0) hx hb dX5_isName_524 (by decide) ?_
    obtain ⟨hg, hf⟩ := gck_some hf
    obtain rfl := Option.some.inj hf
    exact ro_z (v := (0 : Int32)) FX hr hlk hW hg rfl dX5_isName_525
  have hf := ifn c438_4 hf
  by_cases c438_5 : x2 = (5 : Int32)
  · have hf := ifp c438_5 hf
    refine g_tabC (tgt := 524) FX (5 : Int32) c438_5 (by decide) (by decide) rfl (by decide) dX5_isName_438 ?_
    refine lv_iconst (v := 0) hx hb dX5_isName_524 (by decide) ?_
    obtain ⟨hg, hf⟩ := gck_some hf
    obtain rfl := Option.some.inj hf
    exact ro_z (v := (0 : Int32)) FX hr hlk hW hg rfl dX5_isName_525
  have hf := ifn c438_5 hf
  by_cases c438_6 : x2 = (6 : Int32)
  · have hf := ifp c438_6 hf
    refine g_tabC (tgt := 524) FX (6 : Int32) c438_6 (by decide) (by decide) rfl (by decide) dX5_isName_438 ?_
    refine lv_iconst (v := 0) hx hb dX5_isName_524 (by decide) ?_
    obtain ⟨hg, hf⟩ := gck_some hf
    obtain rfl := Option.some.inj hf
    exact ro_z (v := (0 : Int32)) FX hr hlk hW hg rfl dX5_isName_525
  have hf := ifn c438_6 hf
  by_cases c438_7 : x2 = (7 : Int32)
  · have hf := ifp c438_7 hf
    refine g_tabC (tgt := 524) FX (7 : Int32) c438_7 (by decide) (by decide) rfl (by decide) dX5_isName_438 ?_
    refine lv_iconst (v := 0) hx hb dX5_isName_524 (by decide) ?_
    obtain ⟨hg, hf⟩ := gck_some hf
    obtain rfl := Option.some.inj hf
    exact ro_z (v := (0 : Int32)) FX hr hlk hW hg rfl dX5_isName_525
  have hf := ifn c438_7 hf
  by_cases c438_8 : x2 = (8 : Int32)
  · have hf := ifp c438_8 hf
    refine g_tabC (tgt := 524) FX (8 : Int32) c438_8 (by decide) (by decide) rfl (by decide) dX5_isName_438 ?_
    refine lv_iconst (v := 0) hx hb dX5_isName_524 (by decide) ?_
    obtain ⟨hg, hf⟩ := gck_some hf
    obtain rfl := Option.some.inj hf
    exact ro_z (v := (0 : Int32)) FX hr hlk hW hg rfl dX5_isName_525
  have hf := ifn c438_8 hf
  by_cases c438_9 : x2 = (9 : Int32)
  · have hf := ifp c438_9 hf
    refine g_tabC (tgt := 524) FX (9 : Int32) c438_9 (by decide) (by decide) rfl (by decide) dX5_isName_438 ?_
    refine lv_iconst (v := 0) hx hb dX5_isName_524 (by decide) ?_
    obtain ⟨hg, hf⟩ := gck_some hf
    obtain rfl := Option.some.inj hf
    exact ro_z (v := (0 : Int32)) FX hr hlk hW hg rfl dX5_isName_525
  have hf := ifn c438_9 hf
  by_cases c438_10 : x2 = (10 : Int32)
  · have hf := ifp c438_10 hf
    refine g_tabC (tgt := 524) FX (10 : Int32) c438_10 (by decide) (by decide) rfl (by decide) dX5_isName_438 ?_
    refine lv_iconst (v := 0) hx hb dX5_isName_524 (by decide) ?_
    obtain ⟨hg, hf⟩ := gck_some hf
    obtain rfl := Option.some.inj hf
    exact ro_z (v := (0 : Int32)) FX hr hlk hW hg rfl dX5_isName_525
  have hf := ifn c438_10 hf
  by_cases c438_11 : x2 = (11 : Int32)
  · have hf := ifp c438_11 hf
    refine g_tabC (tgt := 524) FX (11 : Int32) c438_11 (by decide) (by decide) rfl (by decide) dX5_isName_438 ?_
    refine lv_iconst (v := 0) hx hb dX5_isName_524 (by decide) ?_
    obtain ⟨hg, hf⟩ := gck_some hf
    obtain rfl := Option.some.inj hf
    exact ro_z (v := (0 : Int32)) FX hr hlk hW hg rfl dX5_isName_525
  have hf := ifn c438_11 hf
  by_cases c438_12 : x2 = (12 : Int32)
  · have hf := ifp c438_12 hf
    refine g_tabC (tgt := 524) FX (12 : Int32) c438_12 (by decide) (by decide) rfl (by decide) dX5_isName_438 ?_
    refine lv_iconst (v := 0) hx hb dX5_isName_524 (by decide) ?_
    obtain ⟨hg, hf⟩ := gck_some hf
    obtain rfl := Option.some.inj hf
    exact ro_z (v := (0 : Int32)) FX hr hlk hW hg rfl dX5_isName_525
  have hf := ifn c438_12 hf
  by_cases c438_13 : x2 = (13 : Int32)
  · have hf := ifp c438_13 hf
    refine g_tabC (tgt := 524) FX (13 : Int32) c438_13 (by decide) (by decide) rfl (by decide) dX5_isName_438 ?_
    refine lv_iconst (v := 0) hx hb dX5_isName_524 (by decide) ?_
    obtain ⟨hg, hf⟩ := gck_some hf
    obtain rfl := Option.some.inj hf
    exact ro_z (v := (0 : Int32)) FX hr hlk hW hg rfl dX5_isName_525
  have hf := ifn c438_13 hf
  by_cases c438_14 : x2 = (14 : Int32)
  · have hf := ifp c438_14 hf
    refine g_tabC (tgt := 524) FX (14 : Int32) c438_14 (by decide) (by decide) rfl (by decide) dX5_isName_438 ?_
    refine lv_iconst (v := 0) hx hb dX5_isName_524 (by decide) ?_
    obtain ⟨hg, hf⟩ := gck_some hf
    obtain rfl := Option.some.inj hf
    exact ro_z (v := (0 : Int32)) FX hr hlk hW hg rfl dX5_isName_525
  have hf := ifn c438_14 hf
  by_cases c438_15 : x2 = (15 : Int32)
  · have hf := ifp c438_15 hf
    refine g_tabC (tgt := 524) FX (15 : Int32) c438_15 (by decide) (by decide) rfl (by decide) dX5_isName_438 ?_
    refine lv_iconst (v := 0) hx hb dX5_isName_524 (by decide) ?_
    obtain ⟨hg, hf⟩ := gck_some hf
    obtain rfl := Option.some.inj hf
    exact ro_z (v := (0 : Int32)) FX hr hlk hW hg rfl dX5_isName_525
  have hf := ifn c438_15 hf
  by_cases c438_16 : x2 = (16 : Int32)
  · have hf := ifp c438_16 hf
    refine g_tabC (tgt := 524) FX (16 : Int32) c438_16 (by decide) (by decide) rfl (by decide) dX5_isName_438 ?_
    refine lv_iconst (v := 0) hx hb dX5_isName_524 (by decide) ?_
    obtain ⟨hg, hf⟩ := gck_some hf
    obtain rfl := Option.some.inj hf
    exact ro_z (v := (0 : Int32)) FX hr hlk hW hg rfl dX5_isName_525
  have hf := ifn c438_16 hf
  by_cases c438_17 : x2 = (17 : Int32)
  · have hf := ifp c438_17 hf
    refine g_tabC (tgt := 524) FX (17 : Int32) c438_17 (by decide) (by decide) rfl (by decide) dX5_isName_438 ?_
    refine lv_iconst (v := 0) hx hb dX5_isName_524 (by decide) ?_
    obtain ⟨hg, hf⟩ := gck_some hf
    obtain rfl := Option.some.inj hf
    exact ro_z (v := (0 : Int32)) FX hr hlk hW hg rfl dX5_isName_525
  have hf := ifn c438_17 hf
  have n438_0 := lv_neT (a := 0) c438_0 (by decide)
  have n438_1 := lv_neT (a := 1) c438_1 (by decide)
  have n438_2 := lv_neT (a := 2) c438_2 (by decide)
  have n438_3 := lv_neT (a := 3) c438_3 (by decide)
  have n438_4 := lv_neT (a := 4) c438_4 (by decide)
  have n438_5 := lv_neT (a := 5) c438_5 (by decide)
  have n438_6 := lv_neT (a := 6) c438_6 (by decide)
  have n438_7 := lv_neT (a := 7) c438_7 (by decide)
  have n438_8 := lv_neT (a := 8) c438_8 (by decide)
  have n438_9 := lv_neT (a := 9) c438_9 (by decide)
  have n438_10 := lv_neT (a := 10) c438_10 (by decide)
  have n438_11 := lv_neT (a := 11) c438_11 (by decide)
  have n438_12 := lv_neT (a := 12) c438_12 (by decide)
  have n438_13 := lv_neT (a := 13) c438_13 (by decide)
  have n438_14 := lv_neT (a := 14) c438_14 (by decide)
  have n438_15 := lv_neT (a := 15) c438_15 (by decide)
  have n438_16 := lv_neT (a := 16) c438_16 (by decide)
  have n438_17 := lv_neT (a := 17) c438_17 (by decide)
  refine lv_tableOut (tgt := 526) hx hb dX5_isName_438 (by omega) (by decide) ?_
  refine lv_iconst (v := 1) hx hb dX5_isName_526 (by decide) ?_
  obtain ⟨hg, hf⟩ := gck_some hf
  obtain rfl := Option.some.inj hf
  exact ro_z (v := (1 : Int32)) FX hr hlk hW hg rfl dX5_isName_527
set_option maxHeartbeats 4000000 in
set_option maxRecDepth 100000 in
theorem mX5_isName {l : Launch} {D : va_G} {dA : Nat → ClassId} {z : Nat}  {t7 : Nat} {w : va_W} {q : ((Int32) × va_W × Nat × Nat)} (hf : fX5_isName dA z t7 w = some q) : CtO l yX5_isName cX5_isName 3 (some .boolean) rX5_isName D dA [.ref t7] w z (.inl (some (.int q.1))) q.2.1 q.2.2.1 q.2.2.2 := by
  refine e_O (by decide) (Nat.le_of_ble_eq_true rfl) ?_
  intro p e s m below meth c9 ls A FX hr hlk hnm hout hl hW
  have hx := FX.1; have hb := FX.2.1; have hown := FX.2.2.2.1; have hts := FX.2.2.2.2
  have hl : lv_has ls 3 [(0, .ref t7)] := hl
  rw [fX5_isName] at hf
  refine lv_aload_n hx hb dX5_isName_0 rfl (lv_at hl 0 rfl) ?_
  refine og_i (C := RX5) (T := TX5) (N := 12) (ci := 5) FX hW in_X5 rfl 1 (by decide) q470 (fun _ h => h) hf dX5_isName_1 (fun v1 hf => ?_)
  refine lv_iconst (v := 1) hx hb dX5_isName_4 (by decide) ?_
  refine lv_icmp_eq (tgt := 10) hx hb dX5_isName_5 (by decide) (fun c5 => ?_) (fun c5 => ?_)
  · have hf := ifp c5 hf
    refine lv_aload_n hx hb dX5_isName_10 rfl (lv_at hl 0 rfl) ?_
    refine og_R (C := RX5) (T := TX5) (N := 12) (ci := 5) FX hW in_X5 rfl 9 (by decide) q478 (fun _ h => h) hf dX5_isName_11 (fun v2 hf => ?_)
    refine lv_astore_n (lv' := [(1, .ref v2), (0, .ref t7)]) hx hb dX5_isName_14 rfl hl (by decide) rfl (fun ls hl => ?_)
    refine lv_iconst (v := -1) hx hb dX5_isName_15 (by decide) ?_
    refine lv_istore_n (lv' := [(2, .int (-1 : Int32)), (1, .ref v2), (0, .ref t7)]) hx hb dX5_isName_16 rfl hl (by decide) rfl (fun ls hl => ?_)
    refine lv_aload_n hx hb dX5_isName_17 rfl (lv_at hl 1 rfl) ?_
    obtain ⟨hv9, hf⟩ := pck_some hf
    refine oc_i hW hf (fun r0 h0 hg => o_V (C := RJ7) (As := []) (rest := []) (n := 0) FX (mJ7_hashCode h0) (cwV 0 FX.2.2.2.2 (lw_V q748 q749 q750 q136 q751) rfl rfl rfl (by decide +kernel) ⟨Nat.le_of_ble_eq_true rfl, Nat.le_of_ble_eq_true rfl⟩) (o_recv hW rfl hv9) rfl hl.1 rfl (Nat.le_of_ble_eq_true rfl) hg dX5_isName_18 hW) (fun r3 w4 c5 y6 H locs hW hf => ?_)
    by_cases c21_3123 : r3 = (3123 : Int32)
    · have hf := ifp c21_3123 hf
      refine g_lookC (tgt := 232) FX (3123 : Int32) c21_3123 (by decide) rfl (by decide) dX5_isName_21 ?_
      refine lv_aload_n hx hb dX5_isName_232 rfl (lv_at hl 1 rfl) ?_
      refine o_text FX rfl hW 5 (by decide) rfl dX5_isName_233 ?_
      obtain ⟨hv9, hf⟩ := pck_some hf
      refine oc_i hW hf (fun r0 h0 hg => o_V (C := RJ7) (As := [.ref (dA 205)]) (rest := []) (n := 1) FX (mJ7_equalsO h0) (cwV 1 FX.2.2.2.2 (lw_V q725 q726 q727 q136 q728) rfl rfl rfl (by decide +kernel) ⟨Nat.le_of_ble_eq_true rfl, Nat.le_of_ble_eq_true rfl⟩) (o_recv hW rfl hv9) rfl hl.1 rfl (Nat.le_of_ble_eq_true rfl) hg dX5_isName_235 hW) (fun r7 w8 c9 y10 H locs hW hf => ?_)
      refine lv_if_eq (tgt := 437) hx hb dX5_isName_238 (by decide) (fun c238 => ?_) (fun c238 => ?_)
      · have hf := ifp c238 hf
        exact wX5_isName_437 FX hr hlk hnm hout (-1 : Int32) w8 c9 y10 _ _ _ (lv_sub hl [0] rfl) hW hf
      · have hf := ifn c238 hf
        refine lv_iconst (v := 4) hx hb dX5_isName_241 (by decide) ?_
        refine lv_istore_n (lv' := [(2, .int (4 : Int32)), (1, .ref v2), (0, .ref t7)]) hx hb dX5_isName_242 rfl hl (by decide) rfl (fun ls hl => ?_)
        refine lv_goto (tgt := 437) hx hb dX5_isName_243 (by decide) ?_
        exact wX5_isName_437 FX hr hlk hnm hout (4 : Int32) w8 c9 y10 _ _ _ (lv_sub hl [0] rfl) hW hf
    have hf := ifn c21_3123 hf
    by_cases c21_3555 : r3 = (3555 : Int32)
    · have hf := ifp c21_3555 hf
      refine g_lookC (tgt := 410) FX (3555 : Int32) c21_3555 (by decide) rfl (by decide) dX5_isName_21 ?_
      refine lv_aload_n hx hb dX5_isName_410 rfl (lv_at hl 1 rfl) ?_
      refine o_text FX rfl hW 17 (by decide) rfl dX5_isName_411 ?_
      obtain ⟨hv9, hf⟩ := pck_some hf
      refine oc_i hW hf (fun r0 h0 hg => o_V (C := RJ7) (As := [.ref (dA 217)]) (rest := []) (n := 1) FX (mJ7_equalsO h0) (cwV 1 FX.2.2.2.2 (lw_V q725 q726 q727 q136 q728) rfl rfl rfl (by decide +kernel) ⟨Nat.le_of_ble_eq_true rfl, Nat.le_of_ble_eq_true rfl⟩) (o_recv hW rfl hv9) rfl hl.1 rfl (Nat.le_of_ble_eq_true rfl) hg dX5_isName_413 hW) (fun r11 w12 c13 y14 H locs hW hf => ?_)
      refine lv_if_eq (tgt := 437) hx hb dX5_isName_416 (by decide) (fun c416 => ?_) (fun c416 => ?_)
      · have hf := ifp c416 hf
        exact wX5_isName_437 FX hr hlk hnm hout (-1 : Int32) w12 c13 y14 _ _ _ (lv_sub hl [0] rfl) hW hf
      · have hf := ifn c416 hf
        refine lv_bipush (v := 16) hx hb dX5_isName_419 (by decide) ?_
        refine lv_istore_n (lv' := [(2, .int (16 : Int32)), (1, .ref v2), (0, .ref t7)]) hx hb dX5_isName_421 rfl hl (by decide) rfl (fun ls hl => ?_)
        refine lv_goto (tgt := 437) hx hb dX5_isName_422 (by decide) ?_
        exact wX5_isName_437 FX hr hlk hnm hout (16 : Int32) w12 c13 y14 _ _ _ (lv_sub hl [0] rfl) hW hf
    have hf := ifn c21_3555 hf
    by_cases c21_96727 : r3 = (96727 : Int32)
    · have hf := ifp c21_96727 hf
      refine g_lookC (tgt := 395) FX (96727 : Int32) c21_96727 (by decide) rfl (by decide) dX5_isName_21 ?_
      refine lv_aload_n hx hb dX5_isName_395 rfl (lv_at hl 1 rfl) ?_
      refine o_text FX rfl hW 16 (by decide) rfl dX5_isName_396 ?_
      obtain ⟨hv9, hf⟩ := pck_some hf
      refine oc_i hW hf (fun r0 h0 hg => o_V (C := RJ7) (As := [.ref (dA 216)]) (rest := []) (n := 1) FX (mJ7_equalsO h0) (cwV 1 FX.2.2.2.2 (lw_V q725 q726 q727 q136 q728) rfl rfl rfl (by decide +kernel) ⟨Nat.le_of_ble_eq_true rfl, Nat.le_of_ble_eq_true rfl⟩) (o_recv hW rfl hv9) rfl hl.1 rfl (Nat.le_of_ble_eq_true rfl) hg dX5_isName_398 hW) (fun r15 w16 c17 y18 H locs hW hf => ?_)
      refine lv_if_eq (tgt := 437) hx hb dX5_isName_401 (by decide) (fun c401 => ?_) (fun c401 => ?_)
      · have hf := ifp c401 hf
        exact wX5_isName_437 FX hr hlk hnm hout (-1 : Int32) w16 c17 y18 _ _ _ (lv_sub hl [0] rfl) hW hf
      · have hf := ifn c401 hf
        refine lv_bipush (v := 15) hx hb dX5_isName_404 (by decide) ?_
        refine lv_istore_n (lv' := [(2, .int (15 : Int32)), (1, .ref v2), (0, .ref t7)]) hx hb dX5_isName_406 rfl hl (by decide) rfl (fun ls hl => ?_)
        refine lv_goto (tgt := 437) hx hb dX5_isName_407 (by decide) ?_
        exact wX5_isName_437 FX hr hlk hnm hout (15 : Int32) w16 c17 y18 _ _ _ (lv_sub hl [0] rfl) hW hf
    have hf := ifn c21_96727 hf
    by_cases c21_109267 : r3 = (109267 : Int32)
    · have hf := ifp c21_109267 hf
      refine g_lookC (tgt := 425) FX (109267 : Int32) c21_109267 (by decide) rfl (by decide) dX5_isName_21 ?_
      refine lv_aload_n hx hb dX5_isName_425 rfl (lv_at hl 1 rfl) ?_
      refine o_text FX rfl hW 18 (by decide) rfl dX5_isName_426 ?_
      obtain ⟨hv9, hf⟩ := pck_some hf
      refine oc_i hW hf (fun r0 h0 hg => o_V (C := RJ7) (As := [.ref (dA 218)]) (rest := []) (n := 1) FX (mJ7_equalsO h0) (cwV 1 FX.2.2.2.2 (lw_V q725 q726 q727 q136 q728) rfl rfl rfl (by decide +kernel) ⟨Nat.le_of_ble_eq_true rfl, Nat.le_of_ble_eq_true rfl⟩) (o_recv hW rfl hv9) rfl hl.1 rfl (Nat.le_of_ble_eq_true rfl) hg dX5_isName_428 hW) (fun r19 w20 c21 y22 H locs hW hf => ?_)
      refine lv_if_eq (tgt := 437) hx hb dX5_isName_431 (by decide) (fun c431 => ?_) (fun c431 => ?_)
      · have hf := ifp c431 hf
        exact wX5_isName_437 FX hr hlk hnm hout (-1 : Int32) w20 c21 y22 _ _ _ (lv_sub hl [0] rfl) hW hf
      · have hf := ifn c431 hf
        refine lv_bipush (v := 17) hx hb dX5_isName_434 (by decide) ?_
        refine lv_istore_n (lv' := [(2, .int (17 : Int32)), (1, .ref v2), (0, .ref t7)]) hx hb dX5_isName_436 rfl hl (by decide) rfl (fun ls hl => ?_)
        exact wX5_isName_437 FX hr hlk hnm hout (17 : Int32) w20 c21 y22 _ _ _ (lv_sub hl [0] rfl) hW hf
    have hf := ifn c21_109267 hf
    by_cases c21_3035410 : r3 = (3035410 : Int32)
    · have hf := ifp c21_3035410 hf
      refine g_lookC (tgt := 218) FX (3035410 : Int32) c21_3035410 (by decide) rfl (by decide) dX5_isName_21 ?_
      refine lv_aload_n hx hb dX5_isName_218 rfl (lv_at hl 1 rfl) ?_
      refine o_text FX rfl hW 4 (by decide) rfl dX5_isName_219 ?_
      obtain ⟨hv9, hf⟩ := pck_some hf
      refine oc_i hW hf (fun r0 h0 hg => o_V (C := RJ7) (As := [.ref (dA 204)]) (rest := []) (n := 1) FX (mJ7_equalsO h0) (cwV 1 FX.2.2.2.2 (lw_V q725 q726 q727 q136 q728) rfl rfl rfl (by decide +kernel) ⟨Nat.le_of_ble_eq_true rfl, Nat.le_of_ble_eq_true rfl⟩) (o_recv hW rfl hv9) rfl hl.1 rfl (Nat.le_of_ble_eq_true rfl) hg dX5_isName_221 hW) (fun r23 w24 c25 y26 H locs hW hf => ?_)
      refine lv_if_eq (tgt := 437) hx hb dX5_isName_224 (by decide) (fun c224 => ?_) (fun c224 => ?_)
      · have hf := ifp c224 hf
        exact wX5_isName_437 FX hr hlk hnm hout (-1 : Int32) w24 c25 y26 _ _ _ (lv_sub hl [0] rfl) hW hf
      · have hf := ifn c224 hf
        refine lv_iconst (v := 3) hx hb dX5_isName_227 (by decide) ?_
        refine lv_istore_n (lv' := [(2, .int (3 : Int32)), (1, .ref v2), (0, .ref t7)]) hx hb dX5_isName_228 rfl hl (by decide) rfl (fun ls hl => ?_)
        refine lv_goto (tgt := 437) hx hb dX5_isName_229 (by decide) ?_
        exact wX5_isName_437 FX hr hlk hnm hout (3 : Int32) w24 c25 y26 _ _ _ (lv_sub hl [0] rfl) hW hf
    have hf := ifn c21_3035410 hf
    by_cases c21_3091780 : r3 = (3091780 : Int32)
    · have hf := ifp c21_3091780 hf
      refine g_lookC (tgt := 320) FX (3091780 : Int32) c21_3091780 (by decide) rfl (by decide) dX5_isName_21 ?_
      refine lv_aload_n hx hb dX5_isName_320 rfl (lv_at hl 1 rfl) ?_
      refine o_text FX rfl hW 11 (by decide) rfl dX5_isName_321 ?_
      obtain ⟨hv9, hf⟩ := pck_some hf
      refine oc_i hW hf (fun r0 h0 hg => o_V (C := RJ7) (As := [.ref (dA 211)]) (rest := []) (n := 1) FX (mJ7_equalsO h0) (cwV 1 FX.2.2.2.2 (lw_V q725 q726 q727 q136 q728) rfl rfl rfl (by decide +kernel) ⟨Nat.le_of_ble_eq_true rfl, Nat.le_of_ble_eq_true rfl⟩) (o_recv hW rfl hv9) rfl hl.1 rfl (Nat.le_of_ble_eq_true rfl) hg dX5_isName_323 hW) (fun r27 w28 c29 y30 H locs hW hf => ?_)
      refine lv_if_eq (tgt := 437) hx hb dX5_isName_326 (by decide) (fun c326 => ?_) (fun c326 => ?_)
      · have hf := ifp c326 hf
        exact wX5_isName_437 FX hr hlk hnm hout (-1 : Int32) w28 c29 y30 _ _ _ (lv_sub hl [0] rfl) hW hf
      · have hf := ifn c326 hf
        refine lv_bipush (v := 10) hx hb dX5_isName_329 (by decide) ?_
        refine lv_istore_n (lv' := [(2, .int (10 : Int32)), (1, .ref v2), (0, .ref t7)]) hx hb dX5_isName_331 rfl hl (by decide) rfl (fun ls hl => ?_)
        refine lv_goto (tgt := 437) hx hb dX5_isName_332 (by decide) ?_
        exact wX5_isName_437 FX hr hlk hnm hout (10 : Int32) w28 c29 y30 _ _ _ (lv_sub hl [0] rfl) hW hf
    have hf := ifn c21_3091780 hf
    by_cases c21_3317767 : r3 = (3317767 : Int32)
    · have hf := ifp c21_3317767 hf
      refine g_lookC (tgt := 350) FX (3317767 : Int32) c21_3317767 (by decide) rfl (by decide) dX5_isName_21 ?_
      refine lv_aload_n hx hb dX5_isName_350 rfl (lv_at hl 1 rfl) ?_
      refine o_text FX rfl hW 13 (by decide) rfl dX5_isName_351 ?_
      obtain ⟨hv9, hf⟩ := pck_some hf
      refine oc_i hW hf (fun r0 h0 hg => o_V (C := RJ7) (As := [.ref (dA 213)]) (rest := []) (n := 1) FX (mJ7_equalsO h0) (cwV 1 FX.2.2.2.2 (lw_V q725 q726 q727 q136 q728) rfl rfl rfl (by decide +kernel) ⟨Nat.le_of_ble_eq_true rfl, Nat.le_of_ble_eq_true rfl⟩) (o_recv hW rfl hv9) rfl hl.1 rfl (Nat.le_of_ble_eq_true rfl) hg dX5_isName_353 hW) (fun r31 w32 c33 y34 H locs hW hf => ?_)
      refine lv_if_eq (tgt := 437) hx hb dX5_isName_356 (by decide) (fun c356 => ?_) (fun c356 => ?_)
      · have hf := ifp c356 hf
        exact wX5_isName_437 FX hr hlk hnm hout (-1 : Int32) w32 c33 y34 _ _ _ (lv_sub hl [0] rfl) hW hf
      · have hf := ifn c356 hf
        refine lv_bipush (v := 12) hx hb dX5_isName_359 (by decide) ?_
        refine lv_istore_n (lv' := [(2, .int (12 : Int32)), (1, .ref v2), (0, .ref t7)]) hx hb dX5_isName_361 rfl hl (by decide) rfl (fun ls hl => ?_)
        refine lv_goto (tgt := 437) hx hb dX5_isName_362 (by decide) ?_
        exact wX5_isName_437 FX hr hlk hnm hout (12 : Int32) w32 c33 y34 _ _ _ (lv_sub hl [0] rfl) hW hf
    have hf := ifn c21_3317767 hf
    by_cases c21_3343967 : r3 = (3343967 : Int32)
    · have hf := ifp c21_3343967 hf
      refine g_lookC (tgt := 365) FX (3343967 : Int32) c21_3343967 (by decide) rfl (by decide) dX5_isName_21 ?_
      refine lv_aload_n hx hb dX5_isName_365 rfl (lv_at hl 1 rfl) ?_
      refine o_text FX rfl hW 14 (by decide) rfl dX5_isName_366 ?_
      obtain ⟨hv9, hf⟩ := pck_some hf
      refine oc_i hW hf (fun r0 h0 hg => o_V (C := RJ7) (As := [.ref (dA 214)]) (rest := []) (n := 1) FX (mJ7_equalsO h0) (cwV 1 FX.2.2.2.2 (lw_V q725 q726 q727 q136 q728) rfl rfl rfl (by decide +kernel) ⟨Nat.le_of_ble_eq_true rfl, Nat.le_of_ble_eq_true rfl⟩) (o_recv hW rfl hv9) rfl hl.1 rfl (Nat.le_of_ble_eq_true rfl) hg dX5_isName_368 hW) (fun r35 w36 c37 y38 H locs hW hf => ?_)
      refine lv_if_eq (tgt := 437) hx hb dX5_isName_371 (by decide) (fun c371 => ?_) (fun c371 => ?_)
      · have hf := ifp c371 hf
        exact wX5_isName_437 FX hr hlk hnm hout (-1 : Int32) w36 c37 y38 _ _ _ (lv_sub hl [0] rfl) hW hf
      · have hf := ifn c371 hf
        refine lv_bipush (v := 13) hx hb dX5_isName_374 (by decide) ?_
        refine lv_istore_n (lv' := [(2, .int (13 : Int32)), (1, .ref v2), (0, .ref t7)]) hx hb dX5_isName_376 rfl hl (by decide) rfl (fun ls hl => ?_)
        refine lv_goto (tgt := 437) hx hb dX5_isName_377 (by decide) ?_
        exact wX5_isName_437 FX hr hlk hnm hout (13 : Int32) w36 c37 y38 _ _ _ (lv_sub hl [0] rfl) hW hf
    have hf := ifn c21_3343967 hf
    by_cases c21_3506395 : r3 = (3506395 : Int32)
    · have hf := ifp c21_3506395 hf
      refine g_lookC (tgt := 176) FX (3506395 : Int32) c21_3506395 (by decide) rfl (by decide) dX5_isName_21 ?_
      refine lv_aload_n hx hb dX5_isName_176 rfl (lv_at hl 1 rfl) ?_
      refine o_text FX rfl hW 1 (by decide) rfl dX5_isName_177 ?_
      obtain ⟨hv9, hf⟩ := pck_some hf
      refine oc_i hW hf (fun r0 h0 hg => o_V (C := RJ7) (As := [.ref (dA 201)]) (rest := []) (n := 1) FX (mJ7_equalsO h0) (cwV 1 FX.2.2.2.2 (lw_V q725 q726 q727 q136 q728) rfl rfl rfl (by decide +kernel) ⟨Nat.le_of_ble_eq_true rfl, Nat.le_of_ble_eq_true rfl⟩) (o_recv hW rfl hv9) rfl hl.1 rfl (Nat.le_of_ble_eq_true rfl) hg dX5_isName_179 hW) (fun r39 w40 c41 y42 H locs hW hf => ?_)
      refine lv_if_eq (tgt := 437) hx hb dX5_isName_182 (by decide) (fun c182 => ?_) (fun c182 => ?_)
      · have hf := ifp c182 hf
        exact wX5_isName_437 FX hr hlk hnm hout (-1 : Int32) w40 c41 y42 _ _ _ (lv_sub hl [0] rfl) hW hf
      · have hf := ifn c182 hf
        refine lv_iconst (v := 0) hx hb dX5_isName_185 (by decide) ?_
        refine lv_istore_n (lv' := [(2, .int (0 : Int32)), (1, .ref v2), (0, .ref t7)]) hx hb dX5_isName_186 rfl hl (by decide) rfl (fun ls hl => ?_)
        refine lv_goto (tgt := 437) hx hb dX5_isName_187 (by decide) ?_
        exact wX5_isName_437 FX hr hlk hnm hout (0 : Int32) w40 c41 y42 _ _ _ (lv_sub hl [0] rfl) hW hf
    have hf := ifn c21_3506395 hf
    by_cases c21_3565875 : r3 = (3565875 : Int32)
    · have hf := ifp c21_3565875 hf
      refine g_lookC (tgt := 260) FX (3565875 : Int32) c21_3565875 (by decide) rfl (by decide) dX5_isName_21 ?_
      refine lv_aload_n hx hb dX5_isName_260 rfl (lv_at hl 1 rfl) ?_
      refine o_text FX rfl hW 7 (by decide) rfl dX5_isName_261 ?_
      obtain ⟨hv9, hf⟩ := pck_some hf
      refine oc_i hW hf (fun r0 h0 hg => o_V (C := RJ7) (As := [.ref (dA 207)]) (rest := []) (n := 1) FX (mJ7_equalsO h0) (cwV 1 FX.2.2.2.2 (lw_V q725 q726 q727 q136 q728) rfl rfl rfl (by decide +kernel) ⟨Nat.le_of_ble_eq_true rfl, Nat.le_of_ble_eq_true rfl⟩) (o_recv hW rfl hv9) rfl hl.1 rfl (Nat.le_of_ble_eq_true rfl) hg dX5_isName_263 hW) (fun r43 w44 c45 y46 H locs hW hf => ?_)
      refine lv_if_eq (tgt := 437) hx hb dX5_isName_266 (by decide) (fun c266 => ?_) (fun c266 => ?_)
      · have hf := ifp c266 hf
        exact wX5_isName_437 FX hr hlk hnm hout (-1 : Int32) w44 c45 y46 _ _ _ (lv_sub hl [0] rfl) hW hf
      · have hf := ifn c266 hf
        refine lv_bipush (v := 6) hx hb dX5_isName_269 (by decide) ?_
        refine lv_istore_n (lv' := [(2, .int (6 : Int32)), (1, .ref v2), (0, .ref t7)]) hx hb dX5_isName_271 rfl hl (by decide) rfl (fun ls hl => ?_)
        refine lv_goto (tgt := 437) hx hb dX5_isName_272 (by decide) ?_
        exact wX5_isName_437 FX hr hlk hnm hout (6 : Int32) w44 c45 y46 _ _ _ (lv_sub hl [0] rfl) hW hf
    have hf := ifn c21_3565875 hf
    by_cases c21_3704893 : r3 = (3704893 : Int32)
    · have hf := ifp c21_3704893 hf
      refine g_lookC (tgt := 380) FX (3704893 : Int32) c21_3704893 (by decide) rfl (by decide) dX5_isName_21 ?_
      refine lv_aload_n hx hb dX5_isName_380 rfl (lv_at hl 1 rfl) ?_
      refine o_text FX rfl hW 15 (by decide) rfl dX5_isName_381 ?_
      obtain ⟨hv9, hf⟩ := pck_some hf
      refine oc_i hW hf (fun r0 h0 hg => o_V (C := RJ7) (As := [.ref (dA 215)]) (rest := []) (n := 1) FX (mJ7_equalsO h0) (cwV 1 FX.2.2.2.2 (lw_V q725 q726 q727 q136 q728) rfl rfl rfl (by decide +kernel) ⟨Nat.le_of_ble_eq_true rfl, Nat.le_of_ble_eq_true rfl⟩) (o_recv hW rfl hv9) rfl hl.1 rfl (Nat.le_of_ble_eq_true rfl) hg dX5_isName_383 hW) (fun r47 w48 c49 y50 H locs hW hf => ?_)
      refine lv_if_eq (tgt := 437) hx hb dX5_isName_386 (by decide) (fun c386 => ?_) (fun c386 => ?_)
      · have hf := ifp c386 hf
        exact wX5_isName_437 FX hr hlk hnm hout (-1 : Int32) w48 c49 y50 _ _ _ (lv_sub hl [0] rfl) hW hf
      · have hf := ifn c386 hf
        refine lv_bipush (v := 14) hx hb dX5_isName_389 (by decide) ?_
        refine lv_istore_n (lv' := [(2, .int (14 : Int32)), (1, .ref v2), (0, .ref t7)]) hx hb dX5_isName_391 rfl hl (by decide) rfl (fun ls hl => ?_)
        refine lv_goto (tgt := 437) hx hb dX5_isName_392 (by decide) ?_
        exact wX5_isName_437 FX hr hlk hnm hout (14 : Int32) w48 c49 y50 _ _ _ (lv_sub hl [0] rfl) hW hf
    have hf := ifn c21_3704893 hf
    by_cases c21_92903288 : r3 = (92903288 : Int32)
    · have hf := ifp c21_92903288 hf
      refine g_lookC (tgt := 335) FX (92903288 : Int32) c21_92903288 (by decide) rfl (by decide) dX5_isName_21 ?_
      refine lv_aload_n hx hb dX5_isName_335 rfl (lv_at hl 1 rfl) ?_
      refine o_text FX rfl hW 12 (by decide) rfl dX5_isName_336 ?_
      obtain ⟨hv9, hf⟩ := pck_some hf
      refine oc_i hW hf (fun r0 h0 hg => o_V (C := RJ7) (As := [.ref (dA 212)]) (rest := []) (n := 1) FX (mJ7_equalsO h0) (cwV 1 FX.2.2.2.2 (lw_V q725 q726 q727 q136 q728) rfl rfl rfl (by decide +kernel) ⟨Nat.le_of_ble_eq_true rfl, Nat.le_of_ble_eq_true rfl⟩) (o_recv hW rfl hv9) rfl hl.1 rfl (Nat.le_of_ble_eq_true rfl) hg dX5_isName_338 hW) (fun r51 w52 c53 y54 H locs hW hf => ?_)
      refine lv_if_eq (tgt := 437) hx hb dX5_isName_341 (by decide) (fun c341 => ?_) (fun c341 => ?_)
      · have hf := ifp c341 hf
        exact wX5_isName_437 FX hr hlk hnm hout (-1 : Int32) w52 c53 y54 _ _ _ (lv_sub hl [0] rfl) hW hf
      · have hf := ifn c341 hf
        refine lv_bipush (v := 11) hx hb dX5_isName_344 (by decide) ?_
        refine lv_istore_n (lv' := [(2, .int (11 : Int32)), (1, .ref v2), (0, .ref t7)]) hx hb dX5_isName_346 rfl hl (by decide) rfl (fun ls hl => ?_)
        refine lv_goto (tgt := 437) hx hb dX5_isName_347 (by decide) ?_
        exact wX5_isName_437 FX hr hlk hnm hout (11 : Int32) w52 c53 y54 _ _ _ (lv_sub hl [0] rfl) hW hf
    have hf := ifn c21_92903288 hf
    by_cases c21_94011444 : r3 = (94011444 : Int32)
    · have hf := ifp c21_94011444 hf
      refine g_lookC (tgt := 275) FX (94011444 : Int32) c21_94011444 (by decide) rfl (by decide) dX5_isName_21 ?_
      refine lv_aload_n hx hb dX5_isName_275 rfl (lv_at hl 1 rfl) ?_
      refine o_text FX rfl hW 8 (by decide) rfl dX5_isName_276 ?_
      obtain ⟨hv9, hf⟩ := pck_some hf
      refine oc_i hW hf (fun r0 h0 hg => o_V (C := RJ7) (As := [.ref (dA 208)]) (rest := []) (n := 1) FX (mJ7_equalsO h0) (cwV 1 FX.2.2.2.2 (lw_V q725 q726 q727 q136 q728) rfl rfl rfl (by decide +kernel) ⟨Nat.le_of_ble_eq_true rfl, Nat.le_of_ble_eq_true rfl⟩) (o_recv hW rfl hv9) rfl hl.1 rfl (Nat.le_of_ble_eq_true rfl) hg dX5_isName_278 hW) (fun r55 w56 c57 y58 H locs hW hf => ?_)
      refine lv_if_eq (tgt := 437) hx hb dX5_isName_281 (by decide) (fun c281 => ?_) (fun c281 => ?_)
      · have hf := ifp c281 hf
        exact wX5_isName_437 FX hr hlk hnm hout (-1 : Int32) w56 c57 y58 _ _ _ (lv_sub hl [0] rfl) hW hf
      · have hf := ifn c281 hf
        refine lv_bipush (v := 7) hx hb dX5_isName_284 (by decide) ?_
        refine lv_istore_n (lv' := [(2, .int (7 : Int32)), (1, .ref v2), (0, .ref t7)]) hx hb dX5_isName_286 rfl hl (by decide) rfl (fun ls hl => ?_)
        refine lv_goto (tgt := 437) hx hb dX5_isName_287 (by decide) ?_
        exact wX5_isName_437 FX hr hlk hnm hout (7 : Int32) w56 c57 y58 _ _ _ (lv_sub hl [0] rfl) hW hf
    have hf := ifn c21_94011444 hf
    by_cases c21_99459988 : r3 = (99459988 : Int32)
    · have hf := ifp c21_99459988 hf
      refine g_lookC (tgt := 190) FX (99459988 : Int32) c21_99459988 (by decide) rfl (by decide) dX5_isName_21 ?_
      refine lv_aload_n hx hb dX5_isName_190 rfl (lv_at hl 1 rfl) ?_
      refine o_text FX rfl hW 2 (by decide) rfl dX5_isName_191 ?_
      obtain ⟨hv9, hf⟩ := pck_some hf
      refine oc_i hW hf (fun r0 h0 hg => o_V (C := RJ7) (As := [.ref (dA 202)]) (rest := []) (n := 1) FX (mJ7_equalsO h0) (cwV 1 FX.2.2.2.2 (lw_V q725 q726 q727 q136 q728) rfl rfl rfl (by decide +kernel) ⟨Nat.le_of_ble_eq_true rfl, Nat.le_of_ble_eq_true rfl⟩) (o_recv hW rfl hv9) rfl hl.1 rfl (Nat.le_of_ble_eq_true rfl) hg dX5_isName_193 hW) (fun r59 w60 c61 y62 H locs hW hf => ?_)
      refine lv_if_eq (tgt := 437) hx hb dX5_isName_196 (by decide) (fun c196 => ?_) (fun c196 => ?_)
      · have hf := ifp c196 hf
        exact wX5_isName_437 FX hr hlk hnm hout (-1 : Int32) w60 c61 y62 _ _ _ (lv_sub hl [0] rfl) hW hf
      · have hf := ifn c196 hf
        refine lv_iconst (v := 1) hx hb dX5_isName_199 (by decide) ?_
        refine lv_istore_n (lv' := [(2, .int (1 : Int32)), (1, .ref v2), (0, .ref t7)]) hx hb dX5_isName_200 rfl hl (by decide) rfl (fun ls hl => ?_)
        refine lv_goto (tgt := 437) hx hb dX5_isName_201 (by decide) ?_
        exact wX5_isName_437 FX hr hlk hnm hout (1 : Int32) w60 c61 y62 _ _ _ (lv_sub hl [0] rfl) hW hf
    have hf := ifn c21_99459988 hf
    by_cases c21_103666502 : r3 = (103666502 : Int32)
    · have hf := ifp c21_103666502 hf
      refine g_lookC (tgt := 246) FX (103666502 : Int32) c21_103666502 (by decide) rfl (by decide) dX5_isName_21 ?_
      refine lv_aload_n hx hb dX5_isName_246 rfl (lv_at hl 1 rfl) ?_
      refine o_text FX rfl hW 6 (by decide) rfl dX5_isName_247 ?_
      obtain ⟨hv9, hf⟩ := pck_some hf
      refine oc_i hW hf (fun r0 h0 hg => o_V (C := RJ7) (As := [.ref (dA 206)]) (rest := []) (n := 1) FX (mJ7_equalsO h0) (cwV 1 FX.2.2.2.2 (lw_V q725 q726 q727 q136 q728) rfl rfl rfl (by decide +kernel) ⟨Nat.le_of_ble_eq_true rfl, Nat.le_of_ble_eq_true rfl⟩) (o_recv hW rfl hv9) rfl hl.1 rfl (Nat.le_of_ble_eq_true rfl) hg dX5_isName_249 hW) (fun r63 w64 c65 y66 H locs hW hf => ?_)
      refine lv_if_eq (tgt := 437) hx hb dX5_isName_252 (by decide) (fun c252 => ?_) (fun c252 => ?_)
      · have hf := ifp c252 hf
        exact wX5_isName_437 FX hr hlk hnm hout (-1 : Int32) w64 c65 y66 _ _ _ (lv_sub hl [0] rfl) hW hf
      · have hf := ifn c252 hf
        refine lv_iconst (v := 5) hx hb dX5_isName_255 (by decide) ?_
        refine lv_istore_n (lv' := [(2, .int (5 : Int32)), (1, .ref v2), (0, .ref t7)]) hx hb dX5_isName_256 rfl hl (by decide) rfl (fun ls hl => ?_)
        refine lv_goto (tgt := 437) hx hb dX5_isName_257 (by decide) ?_
        exact wX5_isName_437 FX hr hlk hnm hout (5 : Int32) w64 c65 y66 _ _ _ (lv_sub hl [0] rfl) hW hf
    have hf := ifn c21_103666502 hf
    by_cases c21_106671363 : r3 = (106671363 : Int32)
    · have hf := ifp c21_106671363 hf
      refine g_lookC (tgt := 290) FX (106671363 : Int32) c21_106671363 (by decide) rfl (by decide) dX5_isName_21 ?_
      refine lv_aload_n hx hb dX5_isName_290 rfl (lv_at hl 1 rfl) ?_
      refine o_text FX rfl hW 9 (by decide) rfl dX5_isName_291 ?_
      obtain ⟨hv9, hf⟩ := pck_some hf
      refine oc_i hW hf (fun r0 h0 hg => o_V (C := RJ7) (As := [.ref (dA 209)]) (rest := []) (n := 1) FX (mJ7_equalsO h0) (cwV 1 FX.2.2.2.2 (lw_V q725 q726 q727 q136 q728) rfl rfl rfl (by decide +kernel) ⟨Nat.le_of_ble_eq_true rfl, Nat.le_of_ble_eq_true rfl⟩) (o_recv hW rfl hv9) rfl hl.1 rfl (Nat.le_of_ble_eq_true rfl) hg dX5_isName_293 hW) (fun r67 w68 c69 y70 H locs hW hf => ?_)
      refine lv_if_eq (tgt := 437) hx hb dX5_isName_296 (by decide) (fun c296 => ?_) (fun c296 => ?_)
      · have hf := ifp c296 hf
        exact wX5_isName_437 FX hr hlk hnm hout (-1 : Int32) w68 c69 y70 _ _ _ (lv_sub hl [0] rfl) hW hf
      · have hf := ifn c296 hf
        refine lv_bipush (v := 8) hx hb dX5_isName_299 (by decide) ?_
        refine lv_istore_n (lv' := [(2, .int (8 : Int32)), (1, .ref v2), (0, .ref t7)]) hx hb dX5_isName_301 rfl hl (by decide) rfl (fun ls hl => ?_)
        refine lv_goto (tgt := 437) hx hb dX5_isName_302 (by decide) ?_
        exact wX5_isName_437 FX hr hlk hnm hout (8 : Int32) w68 c69 y70 _ _ _ (lv_sub hl [0] rfl) hW hf
    have hf := ifn c21_106671363 hf
    by_cases c21_110125197 : r3 = (110125197 : Int32)
    · have hf := ifp c21_110125197 hf
      refine g_lookC (tgt := 305) FX (110125197 : Int32) c21_110125197 (by decide) rfl (by decide) dX5_isName_21 ?_
      refine lv_aload_n hx hb dX5_isName_305 rfl (lv_at hl 1 rfl) ?_
      refine o_text FX rfl hW 10 (by decide) rfl dX5_isName_306 ?_
      obtain ⟨hv9, hf⟩ := pck_some hf
      refine oc_i hW hf (fun r0 h0 hg => o_V (C := RJ7) (As := [.ref (dA 210)]) (rest := []) (n := 1) FX (mJ7_equalsO h0) (cwV 1 FX.2.2.2.2 (lw_V q725 q726 q727 q136 q728) rfl rfl rfl (by decide +kernel) ⟨Nat.le_of_ble_eq_true rfl, Nat.le_of_ble_eq_true rfl⟩) (o_recv hW rfl hv9) rfl hl.1 rfl (Nat.le_of_ble_eq_true rfl) hg dX5_isName_308 hW) (fun r71 w72 c73 y74 H locs hW hf => ?_)
      refine lv_if_eq (tgt := 437) hx hb dX5_isName_311 (by decide) (fun c311 => ?_) (fun c311 => ?_)
      · have hf := ifp c311 hf
        exact wX5_isName_437 FX hr hlk hnm hout (-1 : Int32) w72 c73 y74 _ _ _ (lv_sub hl [0] rfl) hW hf
      · have hf := ifn c311 hf
        refine lv_bipush (v := 9) hx hb dX5_isName_314 (by decide) ?_
        refine lv_istore_n (lv' := [(2, .int (9 : Int32)), (1, .ref v2), (0, .ref t7)]) hx hb dX5_isName_316 rfl hl (by decide) rfl (fun ls hl => ?_)
        refine lv_goto (tgt := 437) hx hb dX5_isName_317 (by decide) ?_
        exact wX5_isName_437 FX hr hlk hnm hout (9 : Int32) w72 c73 y74 _ _ _ (lv_sub hl [0] rfl) hW hf
    have hf := ifn c21_110125197 hf
    by_cases c21_110640564 : r3 = (110640564 : Int32)
    · have hf := ifp c21_110640564 hf
      refine g_lookC (tgt := 204) FX (110640564 : Int32) c21_110640564 (by decide) rfl (by decide) dX5_isName_21 ?_
      refine lv_aload_n hx hb dX5_isName_204 rfl (lv_at hl 1 rfl) ?_
      refine o_text FX rfl hW 3 (by decide) rfl dX5_isName_205 ?_
      obtain ⟨hv9, hf⟩ := pck_some hf
      refine oc_i hW hf (fun r0 h0 hg => o_V (C := RJ7) (As := [.ref (dA 203)]) (rest := []) (n := 1) FX (mJ7_equalsO h0) (cwV 1 FX.2.2.2.2 (lw_V q725 q726 q727 q136 q728) rfl rfl rfl (by decide +kernel) ⟨Nat.le_of_ble_eq_true rfl, Nat.le_of_ble_eq_true rfl⟩) (o_recv hW rfl hv9) rfl hl.1 rfl (Nat.le_of_ble_eq_true rfl) hg dX5_isName_207 hW) (fun r75 w76 c77 y78 H locs hW hf => ?_)
      refine lv_if_eq (tgt := 437) hx hb dX5_isName_210 (by decide) (fun c210 => ?_) (fun c210 => ?_)
      · have hf := ifp c210 hf
        exact wX5_isName_437 FX hr hlk hnm hout (-1 : Int32) w76 c77 y78 _ _ _ (lv_sub hl [0] rfl) hW hf
      · have hf := ifn c210 hf
        refine lv_iconst (v := 2) hx hb dX5_isName_213 (by decide) ?_
        refine lv_istore_n (lv' := [(2, .int (2 : Int32)), (1, .ref v2), (0, .ref t7)]) hx hb dX5_isName_214 rfl hl (by decide) rfl (fun ls hl => ?_)
        refine lv_goto (tgt := 437) hx hb dX5_isName_215 (by decide) ?_
        exact wX5_isName_437 FX hr hlk hnm hout (2 : Int32) w76 c77 y78 _ _ _ (lv_sub hl [0] rfl) hW hf
    have hf := ifn c21_110640564 hf
    refine lv_lookup (tgt := 437) (off := 416) hx hb dX5_isName_21 (by decide) ((lv_osw c21_3123 (by decide)).trans ((lv_osw c21_3555 (by decide)).trans ((lv_osw c21_96727 (by decide)).trans ((lv_osw c21_109267 (by decide)).trans ((lv_osw c21_3035410 (by decide)).trans ((lv_osw c21_3091780 (by decide)).trans ((lv_osw c21_3317767 (by decide)).trans ((lv_osw c21_3343967 (by decide)).trans ((lv_osw c21_3506395 (by decide)).trans ((lv_osw c21_3565875 (by decide)).trans ((lv_osw c21_3704893 (by decide)).trans ((lv_osw c21_92903288 (by decide)).trans ((lv_osw c21_94011444 (by decide)).trans ((lv_osw c21_99459988 (by decide)).trans ((lv_osw c21_103666502 (by decide)).trans ((lv_osw c21_106671363 (by decide)).trans ((lv_osw c21_110125197 (by decide)).trans ((lv_osw c21_110640564 (by decide)).trans rfl)))))))))))))))))) (by decide) ?_
    exact wX5_isName_437 FX hr hlk hnm hout (-1 : Int32) w4 c5 y6 _ _ _ (lv_sub hl [0] rfl) hW hf
  · have hf := ifn c5 hf
    refine lv_iconst (v := 0) hx hb dX5_isName_8 (by decide) ?_
    obtain ⟨hg, hf⟩ := gck_some hf
    obtain rfl := Option.some.inj hf
    exact ro_z (v := (0 : Int32)) FX hr hlk hW hg rfl dX5_isName_9
