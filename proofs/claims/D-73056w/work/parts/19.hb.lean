/-! House with a Book -/
abbrev HBst : Type := Hst × (Nat → Int32)
def HBx (dA : Nat → ClassId) (a : Nat) (b : Nat → Nat) (B : Bk) (wr : va_W) (σ : HBst) : va_W := [(a, .inr (3, [.ref (b 0), .ref (b 1), .ref (b 2), .ref (b 3), .ref (b 4), .ref (b 5), .ref (b 6), .ref (b 7), .int (hF σ.1 8), .int (hF σ.1 9), .int (hF σ.1 10), .int (hF σ.1 11), .int (hF σ.1 12), .int (hF σ.1 13)])), ((b 0), .inl (dA 0, 8, .inl (hA σ.1 0))), ((b 1), .inl (dA 0, 8, .inl (hA σ.1 1))), ((b 2), .inl (dA 0, 8, .inl (hA σ.1 2))), ((b 3), .inl (dA 0, 8, .inl (hA σ.1 3))), ((b 4), .inl (dA 0, 8, .inl (hA σ.1 4))), ((b 5), .inl (dA 0, 8, .inl (hA σ.1 5))), ((b 6), .inl (dA 0, 8, .inl (hA σ.1 6))), ((b 7), .inl (dA 0, 8, .inl (hA σ.1 7))), ((bA B 0), .inr (1, [.ref (bA B 1), .ref (bA B 2), .ref (bA B 3), va_rf (bN B), .int (bI B 0), .int (bI B 1), .int (bI B 2), .int (bI B 3)])), ((bA B 3), .inr (2, [.int (σ.2 0), .int (σ.2 1), .int (σ.2 2), .int (σ.2 3), .int (σ.2 4)])), ((bA B 1), .inr (13, [.int (bI B 4), .ref (bA B 4), .int (bI B 5)])), ((bA B 4), .inl (dA 4, (bA B 6), .inr (.inr (.inr (.inr (bR B)))))), ((bA B 2), .inr (13, [.int (bI B 6), .ref (bA B 5), .int (bI B 7)])), ((bA B 5), .inl (dA 4, (bA B 7), .inr (.inr (.inr (.inr (bT B))))))] ++ (bP B ++ wr)
def HBr (dA : Nat → ClassId) (B : Bk) (wr : va_W) (u : Nat → Int32) : va_W := [((bA B 0), .inr (1, [.ref (bA B 1), .ref (bA B 2), .ref (bA B 3), va_rf (bN B), .int (bI B 0), .int (bI B 1), .int (bI B 2), .int (bI B 3)])), ((bA B 3), .inr (2, [.int (u 0), .int (u 1), .int (u 2), .int (u 3), .int (u 4)])), ((bA B 1), .inr (13, [.int (bI B 4), .ref (bA B 4), .int (bI B 5)])), ((bA B 4), .inl (dA 4, (bA B 6), .inr (.inr (.inr (.inr (bR B)))))), ((bA B 2), .inr (13, [.int (bI B 6), .ref (bA B 5), .int (bI B 7)])), ((bA B 5), .inl (dA 4, (bA B 7), .inr (.inr (.inr (.inr (bT B))))))] ++ (bP B ++ wr)
section HBS
variable {p : Program} {l : Launch} {e : Env} {R : Room} {s : State} {m : MethodId} {args : Array Value} {below : List Frame} {meth : Method} {c : Code} {H : Heap} {locs : List Loc} {cells slots : Nat} {Q : State → Prop}
variable {cc : ByteArray} {pc nL : Nat} {ls : Array Slot} {rest : List Value} {D : va_G} {dA : Nat → ClassId} {A : Nat → Prop}
theorem HB_in {a : Nat} {b : Nat → Nat} {B : Bk} {wr : va_W} {σ : HBst} (hW : Wd D dA A s (HBx dA a b B wr σ) H locs) : Wd D dA A s (Hx dA a b (HBr dA B wr σ.2) σ.1) H locs := hW
theorem HB_out {a : Nat} {b : Nat → Nat} {B : Bk} {wr : va_W} {σ : Hst} {u : Nat → Int32} (hW : Wd D dA A s (Hx dA a b (HBr dA B wr u) σ) H locs) : Wd D dA A s (HBx dA a b B wr (σ, u)) H locs := hW
theorem HBgX3_9_0 {a : Nat} {b : Nat → Nat} {B : Bk} {wr : va_W} {σ : HBst} (FX : CallFix p m c cc nL s args lw_all RX3) (hW : Wd D dA A s (HBx dA a b B wr σ) H locs) (hdg : decode cc pc = .ok (.getfield 97, 3)) (kk : W p l e R s m args below meth c H locs cells slots Q (F0 m (pc + 3) ls (.ref (bA B 1) :: rest))) : W p l e R s m args below meth c H locs cells slots Q (F0 m pc ls (.ref (bA B 0) :: rest)) :=
  g_get FX hW (C := RX1) (T := TX1) (N := 8) (ci := 1) in_X1 9 rfl rfl 0 (by decide) q227 (fun _ h => h) rfl hdg kk
set_option maxHeartbeats 4000000 in
set_option maxRecDepth 100000 in
theorem HBgetX3_11 {a : Nat} {b : Nat → Nat} {B : Bk} {wr : va_W} {σ : HBst} {α : Type} {q : α} {i : Int32} {k : Nat → Option α} (FX : CallFix p m c cc nL s args lw_all RX3) (hR : rJ2_get.frames + 1 ≤ R.frames ∧ 8 + (2 + 11) + rJ2_get.locals ≤ R.locals) (hcs : cells ≤ R.cells ∧ slots ≤ R.slots) (hl : ls.size = nL) (hrm : (rest.map fun v => v.category).sum ≤ 8) (hW : Wd D dA A s (HBx dA a b B wr σ) H locs) (hf : lget (bA B 6) (bI B 5) (bR B) i k = some q) (hdg : decode cc pc = .ok (.invokevirtual 63, 3)) (kk : ∀ (x : Nat) (H1 : Heap) (locs1 : List Loc), Wd D dA A s (HBx dA a b B wr σ) H1 locs1 → k x = some q → W p l e R s m args below meth c H1 locs1 cells slots Q (F0 m (pc + 3) ls (.ref x :: rest))) : W p l e R s m args below meth c H locs cells slots Q (F0 m pc ls (.int i :: .ref (bA B 1) :: rest)) := by
  obtain ⟨h0, h1, h2, x, h3, hf⟩ := lget_some hf
  have hk : (HBx dA a b B wr σ)[11]? = some ((bA B 1), .inr (13, [.int (bI B 4), .ref (bA B 4), .int (bI B 5)])) := rfl
  have he : (HBx dA a b B wr σ)[12]? = some ((bA B 4), .inl (dA 4, (bA B 6), .inr (.inr (.inr (.inr (bR B)))))) := rfl
  refine w_VR (C := RJ2) (As := [.int i]) (rest := rest) (n := 1) (wr := []) FX (mJ2_get hk he h0 h1 h2 h3) (cwV 1 FX.2.2.2.2 (lw_V q344 q345 q346 q127 q347) rfl rfl rfl (by decide +kernel) hR) (va_recv hW.2.2.2.1 hW.1 (ci := 13) rfl hk) rfl hl rfl hrm ⟨Nat.le_trans (Nat.le_of_eq (Nat.add_zero cells)) hcs.1, Nat.le_trans (Nat.le_of_eq (Nat.add_zero slots)) hcs.2⟩ hdg hW.nil ?_
  exact fun H1 locs1 hW1 => kk x H1 locs1 hW1.nil' hf
theorem HBcstX3_X7 {a : Nat} {b : Nat → Nat} {B : Bk} {wr : va_W} {σ : HBst} {α : Type} {q : α} {x : Nat} {k : Option α} (FX : CallFix p m c cc nL s args lw_all RX3) (hW : Wd D dA A s (HBx dA a b B wr σ) H locs) (hf : pck (bP B) x 6 k = some q) (hdg : decode cc pc = .ok (.checkcast 100, 3)) (kk : k = some q → W p l e R s m args below meth c H locs cells slots Q (F0 m (pc + 3) ls (.ref x :: rest))) : W p l e R s m args below meth c H locs cells slots Q (F0 m pc ls (.ref x :: rest)) := by
  obtain ⟨⟨fs, hx⟩, hf⟩ := pck_some hf
  obtain ⟨j, hj⟩ := hlk_get hx
  obtain ⟨j2, hj2⟩ := pool_in (pre := [(a, .inr (3, [.ref (b 0), .ref (b 1), .ref (b 2), .ref (b 3), .ref (b 4), .ref (b 5), .ref (b 6), .ref (b 7), .int (hF σ.1 8), .int (hF σ.1 9), .int (hF σ.1 10), .int (hF σ.1 11), .int (hF σ.1 12), .int (hF σ.1 13)])), ((b 0), .inl (dA 0, 8, .inl (hA σ.1 0))), ((b 1), .inl (dA 0, 8, .inl (hA σ.1 1))), ((b 2), .inl (dA 0, 8, .inl (hA σ.1 2))), ((b 3), .inl (dA 0, 8, .inl (hA σ.1 3))), ((b 4), .inl (dA 0, 8, .inl (hA σ.1 4))), ((b 5), .inl (dA 0, 8, .inl (hA σ.1 5))), ((b 6), .inl (dA 0, 8, .inl (hA σ.1 6))), ((b 7), .inl (dA 0, 8, .inl (hA σ.1 7))), ((bA B 0), .inr (1, [.ref (bA B 1), .ref (bA B 2), .ref (bA B 3), va_rf (bN B), .int (bI B 0), .int (bI B 1), .int (bI B 2), .int (bI B 3)])), ((bA B 3), .inr (2, [.int (σ.2 0), .int (σ.2 1), .int (σ.2 2), .int (σ.2 3), .int (σ.2 4)])), ((bA B 1), .inr (13, [.int (bI B 4), .ref (bA B 4), .int (bI B 5)])), ((bA B 4), .inl (dA 4, (bA B 6), .inr (.inr (.inr (.inr (bR B)))))), ((bA B 2), .inr (13, [.int (bI B 6), .ref (bA B 5), .int (bI B 7)])), ((bA B 5), .inl (dA 4, (bA B 7), .inr (.inr (.inr (.inr (bT B))))))]) (wr := wr) hj
  exact g_castS FX hW (C := RX7) (T := TX7) (N := 3) (ci := 6) rfl q1138 ⟨j2, fs, hj2⟩ hdg (kk hf)
theorem HBpgX3_X7_1 {a : Nat} {b : Nat → Nat} {B : Bk} {wr : va_W} {σ : HBst} {α : Type} {q : α} {x : Nat} {k : Int32 → Option α} (FX : CallFix p m c cc nL s args lw_all RX3) (hW : Wd D dA A s (HBx dA a b B wr σ) H locs) (hf : pgi (bP B) x 6 1 k = some q) (hdg : decode cc pc = .ok (.getfield 102, 3)) (kk : ∀ v : Int32, k v = some q → W p l e R s m args below meth c H locs cells slots Q (F0 m (pc + 3) ls (.int v :: rest))) : W p l e R s m args below meth c H locs cells slots Q (F0 m pc ls (.ref x :: rest)) := by
  obtain ⟨fs, v, hx, hv, hf⟩ := pgi_some hf
  obtain ⟨j, hj⟩ := hlk_get hx
  obtain ⟨j2, hj2⟩ := pool_in (pre := [(a, .inr (3, [.ref (b 0), .ref (b 1), .ref (b 2), .ref (b 3), .ref (b 4), .ref (b 5), .ref (b 6), .ref (b 7), .int (hF σ.1 8), .int (hF σ.1 9), .int (hF σ.1 10), .int (hF σ.1 11), .int (hF σ.1 12), .int (hF σ.1 13)])), ((b 0), .inl (dA 0, 8, .inl (hA σ.1 0))), ((b 1), .inl (dA 0, 8, .inl (hA σ.1 1))), ((b 2), .inl (dA 0, 8, .inl (hA σ.1 2))), ((b 3), .inl (dA 0, 8, .inl (hA σ.1 3))), ((b 4), .inl (dA 0, 8, .inl (hA σ.1 4))), ((b 5), .inl (dA 0, 8, .inl (hA σ.1 5))), ((b 6), .inl (dA 0, 8, .inl (hA σ.1 6))), ((b 7), .inl (dA 0, 8, .inl (hA σ.1 7))), ((bA B 0), .inr (1, [.ref (bA B 1), .ref (bA B 2), .ref (bA B 3), va_rf (bN B), .int (bI B 0), .int (bI B 1), .int (bI B 2), .int (bI B 3)])), ((bA B 3), .inr (2, [.int (σ.2 0), .int (σ.2 1), .int (σ.2 2), .int (σ.2 3), .int (σ.2 4)])), ((bA B 1), .inr (13, [.int (bI B 4), .ref (bA B 4), .int (bI B 5)])), ((bA B 4), .inl (dA 4, (bA B 6), .inr (.inr (.inr (.inr (bR B)))))), ((bA B 2), .inr (13, [.int (bI B 6), .ref (bA B 5), .int (bI B 7)])), ((bA B 5), .inl (dA 4, (bA B 7), .inr (.inr (.inr (.inr (bT B))))))]) (wr := wr) hj
  exact g_get FX hW (C := RX7) (T := TX7) (N := 3) (ci := 6) in_X7 j2 hj2 rfl 1 (by decide) q903 (fun _ h => h) hv hdg (kk v hf)
set_option maxHeartbeats 4000000 in
set_option maxRecDepth 100000 in
theorem kHBh_in {a : Nat} {b : Nat → Nat} {B : Bk} {wr : va_W} {α : Type} {q : α} {k : Int32 → Option α} {x1 : Int32} {σ : HBst} (FX : CallFix p m c cc nL s args lw_all RX3) (hR : rX3_in.frames + 1 ≤ R.frames ∧ 8 + (4 + 11) + rX3_in.locals ≤ R.locals) (hcs : cells ≤ R.cells ∧ slots ≤ R.slots) (hl : ls.size = nL) (hrm : (rest.map fun v => v.category).sum ≤ 8) (hW : Wd D dA A s (HBx dA a b B wr σ) H locs) (hf : (fX3_in x1 σ.1).bind k = some q) (hdg : decode cc pc = .ok (.invokevirtual 105, 3)) (kk : ∀ (r : Int32) (H1 : Heap) (locs1 : List Loc), Wd D dA A s (HBx dA a b B wr σ) H1 locs1 → k r = some q → W p l e R s m args below meth c H1 locs1 cells slots Q (F0 m (pc + 3) ls (.int r :: rest))) : W p l e R s m args below meth c H locs cells slots Q (F0 m pc ls (.int x1 :: .ref a :: rest)) := by
  obtain ⟨r1, h1, hf⟩ := bnd hf
  have hW2 := HB_in hW
  refine w_Vi (C := RX3) (As := [.int x1]) (rest := rest) (n := 1) (wr := []) FX (mX3_in h1) (cwV 1 FX.2.2.2.2 (lw_V q1139 q1140 q1141 q129 q1142) rfl rfl rfl (by decide +kernel) hR) (va_recv hW2.2.2.2.1 hW2.1 (ci := 3) (q0 := 0) rfl rfl) rfl hl rfl hrm ⟨Nat.le_trans (Nat.le_of_eq (Nat.add_zero cells)) hcs.1, Nat.le_trans (Nat.le_of_eq (Nat.add_zero slots)) hcs.2⟩ hdg hW2.nil ?_
  exact fun H1 locs1 hW1 => kk r1 H1 locs1 (HB_out hW1.nil') hf
set_option maxHeartbeats 4000000 in
set_option maxRecDepth 100000 in
theorem kHBh_bulkOf {a : Nat} {b : Nat → Nat} {B : Bk} {wr : va_W} {α : Type} {q : α} {k : Int32 → Option α} {x1 : Int32} {σ : HBst} (FX : CallFix p m c cc nL s args lw_all RX3) (hR : rX3_bulkOf.frames + 1 ≤ R.frames ∧ 8 + (4 + 11) + rX3_bulkOf.locals ≤ R.locals) (hcs : cells ≤ R.cells ∧ slots ≤ R.slots) (hl : ls.size = nL) (hrm : (rest.map fun v => v.category).sum ≤ 8) (hW : Wd D dA A s (HBx dA a b B wr σ) H locs) (hf : (fX3_bulkOf x1 σ.1).bind k = some q) (hdg : decode cc pc = .ok (.invokevirtual 109, 3)) (kk : ∀ (r : Int32) (H1 : Heap) (locs1 : List Loc), Wd D dA A s (HBx dA a b B wr σ) H1 locs1 → k r = some q → W p l e R s m args below meth c H1 locs1 cells slots Q (F0 m (pc + 3) ls (.int r :: rest))) : W p l e R s m args below meth c H locs cells slots Q (F0 m pc ls (.int x1 :: .ref a :: rest)) := by
  obtain ⟨r1, h1, hf⟩ := bnd hf
  have hW2 := HB_in hW
  refine w_Vi (C := RX3) (As := [.int x1]) (rest := rest) (n := 1) (wr := []) FX (mX3_bulkOf h1) (cwV 1 FX.2.2.2.2 (lw_V q1143 q1144 q1145 q129 q1146) rfl rfl rfl (by decide +kernel) hR) (va_recv hW2.2.2.2.1 hW2.1 (ci := 3) (q0 := 0) rfl rfl) rfl hl rfl hrm ⟨Nat.le_trans (Nat.le_of_eq (Nat.add_zero cells)) hcs.1, Nat.le_trans (Nat.le_of_eq (Nat.add_zero slots)) hcs.2⟩ hdg hW2.nil ?_
  exact fun H1 locs1 hW1 => kk r1 H1 locs1 (HB_out hW1.nil') hf
/-! TrunkLitters$House.left(LTrunkLitters$Book;I)I: kind R -/
def fHB_left (dA : Nat → Nat) (B : Bk) (x2 : Int32) (σ : HBst) : Option Int32 := lget (bA B 6) (bI B 5) (bR B) x2 fun a1 => pck (bP B) a1 6 (pgi (bP B) a1 6 1 fun v2 => (fX3_in x2 σ.1).bind fun r3 => (fX3_bulkOf r3 σ.1).bind fun r4 => some (v2 - r4))
abbrev rHB_left : Room := { frames := 4, cells := 0, slots := 0, locals := 91 }
set_option maxHeartbeats 4000000 in
set_option maxRecDepth 100000 in
theorem mHB_left {a : Nat} {b : Nat → Nat} {B : Bk} {wr : va_W}  {x2 : Int32} {σ : HBst} {q : Int32} (hf : fHB_left dA B x2 σ = some q) : CtI l yX3_left cX3_left 3 (some .int) rHB_left D dA [.ref a, .ref (bA B 0), .int x2] (HBx dA a b B wr σ) q (HBx dA a b B wr σ) := by
  refine e_I (by decide) (Nat.le_of_ble_eq_true rfl) ?_
  intro p e s m below meth c ls A FX hr hlk hl hW
  have hx := FX.1; have hb := FX.2.1; have hown := FX.2.2.2.1; have hts := FX.2.2.2.2
  have hl : lv_has ls 3 [(0, .ref a), (1, .ref (bA B 0)), (2, .int x2)] := hl
  rw [fHB_left] at hf
  refine lv_aload_n hx hb dX3_left_0 rfl (lv_at hl 1 rfl) ?_
  refine HBgX3_9_0 FX hW dX3_left_1 ?_
  refine lv_iload_n hx hb dX3_left_4 rfl (lv_at hl 2 rfl) ?_
  refine HBgetX3_11 FX ⟨Nat.le_of_ble_eq_true rfl, Nat.le_of_ble_eq_true rfl⟩ ⟨Nat.zero_le _, Nat.zero_le _⟩ hl.1 (Nat.le_of_ble_eq_true rfl) hW hf dX3_left_5 (fun a1 H locs hW hf => ?_)
  refine HBcstX3_X7 FX hW hf dX3_left_8 (fun hf => ?_)
  refine HBpgX3_X7_1 FX hW hf dX3_left_11 (fun v2 hf => ?_)
  refine lv_aload_n hx hb dX3_left_14 rfl (lv_at hl 0 rfl) ?_
  refine lv_aload_n hx hb dX3_left_15 rfl (lv_at hl 0 rfl) ?_
  refine lv_iload_n hx hb dX3_left_16 rfl (lv_at hl 2 rfl) ?_
  refine kHBh_in FX ⟨Nat.le_of_ble_eq_true rfl, Nat.le_of_ble_eq_true rfl⟩ ⟨Nat.zero_le _, Nat.zero_le _⟩ hl.1 (Nat.le_of_ble_eq_true rfl) hW hf dX3_left_17 (fun r3 H locs hW hf => ?_)
  refine kHBh_bulkOf FX ⟨Nat.le_of_ble_eq_true rfl, Nat.le_of_ble_eq_true rfl⟩ ⟨Nat.zero_le _, Nat.zero_le _⟩ hl.1 (Nat.le_of_ble_eq_true rfl) hW hf dX3_left_20 (fun r4 H locs hW hf => ?_)
  refine lv_isub hx hb dX3_left_23 ?_
  exact g_iret FX hr hlk hW (Option.some.inj hf) dX3_left_24
theorem HBgX3_9_2 {a : Nat} {b : Nat → Nat} {B : Bk} {wr : va_W} {σ : HBst} (FX : CallFix p m c cc nL s args lw_all RX3) (hW : Wd D dA A s (HBx dA a b B wr σ) H locs) (hdg : decode cc pc = .ok (.getfield 112, 3)) (kk : W p l e R s m args below meth c H locs cells slots Q (F0 m (pc + 3) ls (.ref (bA B 3) :: rest))) : W p l e R s m args below meth c H locs cells slots Q (F0 m pc ls (.ref (bA B 0) :: rest)) :=
  g_get FX hW (C := RX1) (T := TX1) (N := 8) (ci := 1) in_X1 9 rfl rfl 2 (by decide) q235 (fun _ h => h) rfl hdg kk
theorem HBgX3_0_0 {a : Nat} {b : Nat → Nat} {B : Bk} {wr : va_W} {σ : HBst} (FX : CallFix p m c cc nL s args lw_all RX3) (hW : Wd D dA A s (HBx dA a b B wr σ) H locs) (hdg : decode cc pc = .ok (.getfield 9, 3)) (kk : W p l e R s m args below meth c H locs cells slots Q (F0 m (pc + 3) ls (.ref (b 0) :: rest))) : W p l e R s m args below meth c H locs cells slots Q (F0 m pc ls (.ref a :: rest)) :=
  g_get FX hW (C := RX3) (T := TX3) (N := 14) (ci := 3) in_X3 0 rfl rfl 0 (by decide) q271 (fun _ h => h) rfl hdg kk
theorem HBp1 {a : Nat} {b : Nat → Nat} {B : Bk} {wr : va_W} {σ : HBst} : (HBx dA a b B wr σ)[1]? = some ((b 0), .inl (dA 0, 8, .inl (hA σ.1 0))) := rfl
theorem HBsX3_10_0 {a : Nat} {b : Nat → Nat} {B : Bk} {wr : va_W} {σ : HBst} {α : Type} {q : α} {v : Int32} {k : HBst → Option α} (FX : CallFix p m c cc nL s args lw_all RX3) (hW : Wd D dA A s (HBx dA a b B wr σ) H locs) (hf : stp ((σ.1, va_up σ.2 0 v)) k = some q) (hdg : decode cc pc = .ok (.putfield 116, 3)) (kk : ∀ (σ1 : HBst) (H1 : Heap) (locs1 : List Loc), Wd D dA A s (HBx dA a b B wr σ1) H1 locs1 → k σ1 = some q → W p l e R s m args below meth c H1 locs1 cells slots Q (F0 m (pc + 3) ls rest)) : W p l e R s m args below meth c H locs cells slots Q (F0 m pc ls (.int v :: .ref (bA B 3) :: rest)) :=
  g_put FX hW (C := RX2) (T := TX2) (N := 5) (ci := 2) (ty := .int) in_X2 tyX2 tyX2_ok nmX2 10 rfl rfl 0 (by decide) q206 (fun _ h => h) rfl (by decide +kernel) rfl rfl (Nat.le_of_ble_eq_true rfl) (ws' := HBx dA a b B wr ((σ.1, va_up σ.2 0 v))) rfl hdg (fun H1 locs1 hW1 => kk _ H1 locs1 hW1 hf)
theorem HBgX3_0_2 {a : Nat} {b : Nat → Nat} {B : Bk} {wr : va_W} {σ : HBst} (FX : CallFix p m c cc nL s args lw_all RX3) (hW : Wd D dA A s (HBx dA a b B wr σ) H locs) (hdg : decode cc pc = .ok (.getfield 18, 3)) (kk : W p l e R s m args below meth c H locs cells slots Q (F0 m (pc + 3) ls (.ref (b 2) :: rest))) : W p l e R s m args below meth c H locs cells slots Q (F0 m pc ls (.ref a :: rest)) :=
  g_get FX hW (C := RX3) (T := TX3) (N := 14) (ci := 3) in_X3 0 rfl rfl 2 (by decide) q275 (fun _ h => h) rfl hdg kk
theorem HBp3 {a : Nat} {b : Nat → Nat} {B : Bk} {wr : va_W} {σ : HBst} : (HBx dA a b B wr σ)[3]? = some ((b 2), .inl (dA 0, 8, .inl (hA σ.1 2))) := rfl
theorem HBsX3_10_1 {a : Nat} {b : Nat → Nat} {B : Bk} {wr : va_W} {σ : HBst} {α : Type} {q : α} {v : Int32} {k : HBst → Option α} (FX : CallFix p m c cc nL s args lw_all RX3) (hW : Wd D dA A s (HBx dA a b B wr σ) H locs) (hf : stp ((σ.1, va_up σ.2 1 v)) k = some q) (hdg : decode cc pc = .ok (.putfield 123, 3)) (kk : ∀ (σ1 : HBst) (H1 : Heap) (locs1 : List Loc), Wd D dA A s (HBx dA a b B wr σ1) H1 locs1 → k σ1 = some q → W p l e R s m args below meth c H1 locs1 cells slots Q (F0 m (pc + 3) ls rest)) : W p l e R s m args below meth c H locs cells slots Q (F0 m pc ls (.int v :: .ref (bA B 3) :: rest)) :=
  g_put FX hW (C := RX2) (T := TX2) (N := 5) (ci := 2) (ty := .int) in_X2 tyX2 tyX2_ok nmX2 10 rfl rfl 1 (by decide) q208 (fun _ h => h) rfl (by decide +kernel) rfl rfl (Nat.le_of_ble_eq_true rfl) (ws' := HBx dA a b B wr ((σ.1, va_up σ.2 1 v))) rfl hdg (fun H1 locs1 hW1 => kk _ H1 locs1 hW1 hf)
theorem HBgX3_0_1 {a : Nat} {b : Nat → Nat} {B : Bk} {wr : va_W} {σ : HBst} (FX : CallFix p m c cc nL s args lw_all RX3) (hW : Wd D dA A s (HBx dA a b B wr σ) H locs) (hdg : decode cc pc = .ok (.getfield 15, 3)) (kk : W p l e R s m args below meth c H locs cells slots Q (F0 m (pc + 3) ls (.ref (b 1) :: rest))) : W p l e R s m args below meth c H locs cells slots Q (F0 m pc ls (.ref a :: rest)) :=
  g_get FX hW (C := RX3) (T := TX3) (N := 14) (ci := 3) in_X3 0 rfl rfl 1 (by decide) q273 (fun _ h => h) rfl hdg kk
theorem HBp2 {a : Nat} {b : Nat → Nat} {B : Bk} {wr : va_W} {σ : HBst} : (HBx dA a b B wr σ)[2]? = some ((b 1), .inl (dA 0, 8, .inl (hA σ.1 1))) := rfl
theorem HBsX3_10_2 {a : Nat} {b : Nat → Nat} {B : Bk} {wr : va_W} {σ : HBst} {α : Type} {q : α} {v : Int32} {k : HBst → Option α} (FX : CallFix p m c cc nL s args lw_all RX3) (hW : Wd D dA A s (HBx dA a b B wr σ) H locs) (hf : stp ((σ.1, va_up σ.2 2 v)) k = some q) (hdg : decode cc pc = .ok (.putfield 130, 3)) (kk : ∀ (σ1 : HBst) (H1 : Heap) (locs1 : List Loc), Wd D dA A s (HBx dA a b B wr σ1) H1 locs1 → k σ1 = some q → W p l e R s m args below meth c H1 locs1 cells slots Q (F0 m (pc + 3) ls rest)) : W p l e R s m args below meth c H locs cells slots Q (F0 m pc ls (.int v :: .ref (bA B 3) :: rest)) :=
  g_put FX hW (C := RX2) (T := TX2) (N := 5) (ci := 2) (ty := .int) in_X2 tyX2 tyX2_ok nmX2 10 rfl rfl 2 (by decide) q210 (fun _ h => h) rfl (by decide +kernel) rfl rfl (Nat.le_of_ble_eq_true rfl) (ws' := HBx dA a b B wr ((σ.1, va_up σ.2 2 v))) rfl hdg (fun H1 locs1 hW1 => kk _ H1 locs1 hW1 hf)
theorem HBgX3_0_8 {a : Nat} {b : Nat → Nat} {B : Bk} {wr : va_W} {σ : HBst} (FX : CallFix p m c cc nL s args lw_all RX3) (hW : Wd D dA A s (HBx dA a b B wr σ) H locs) (hdg : decode cc pc = .ok (.getfield 52, 3)) (kk : W p l e R s m args below meth c H locs cells slots Q (F0 m (pc + 3) ls (.int (hF σ.1 8) :: rest))) : W p l e R s m args below meth c H locs cells slots Q (F0 m pc ls (.ref a :: rest)) :=
  g_get FX hW (C := RX3) (T := TX3) (N := 14) (ci := 3) in_X3 0 rfl rfl 8 (by decide) q287 (fun _ h => h) rfl hdg kk
theorem HBsX3_10_3 {a : Nat} {b : Nat → Nat} {B : Bk} {wr : va_W} {σ : HBst} {α : Type} {q : α} {v : Int32} {k : HBst → Option α} (FX : CallFix p m c cc nL s args lw_all RX3) (hW : Wd D dA A s (HBx dA a b B wr σ) H locs) (hf : stp ((σ.1, va_up σ.2 3 v)) k = some q) (hdg : decode cc pc = .ok (.putfield 137, 3)) (kk : ∀ (σ1 : HBst) (H1 : Heap) (locs1 : List Loc), Wd D dA A s (HBx dA a b B wr σ1) H1 locs1 → k σ1 = some q → W p l e R s m args below meth c H1 locs1 cells slots Q (F0 m (pc + 3) ls rest)) : W p l e R s m args below meth c H locs cells slots Q (F0 m pc ls (.int v :: .ref (bA B 3) :: rest)) :=
  g_put FX hW (C := RX2) (T := TX2) (N := 5) (ci := 2) (ty := .int) in_X2 tyX2 tyX2_ok nmX2 10 rfl rfl 3 (by decide) q212 (fun _ h => h) rfl (by decide +kernel) rfl rfl (Nat.le_of_ble_eq_true rfl) (ws' := HBx dA a b B wr ((σ.1, va_up σ.2 3 v))) rfl hdg (fun H1 locs1 hW1 => kk _ H1 locs1 hW1 hf)
theorem HBgX3_0_10 {a : Nat} {b : Nat → Nat} {B : Bk} {wr : va_W} {σ : HBst} (FX : CallFix p m c cc nL s args lw_all RX3) (hW : Wd D dA A s (HBx dA a b B wr σ) H locs) (hdg : decode cc pc = .ok (.getfield 84, 3)) (kk : W p l e R s m args below meth c H locs cells slots Q (F0 m (pc + 3) ls (.int (hF σ.1 10) :: rest))) : W p l e R s m args below meth c H locs cells slots Q (F0 m pc ls (.ref a :: rest)) :=
  g_get FX hW (C := RX3) (T := TX3) (N := 14) (ci := 3) in_X3 0 rfl rfl 10 (by decide) q291 (fun _ h => h) rfl hdg kk
theorem HBsX3_10_4 {a : Nat} {b : Nat → Nat} {B : Bk} {wr : va_W} {σ : HBst} {α : Type} {q : α} {v : Int32} {k : HBst → Option α} (FX : CallFix p m c cc nL s args lw_all RX3) (hW : Wd D dA A s (HBx dA a b B wr σ) H locs) (hf : stp ((σ.1, va_up σ.2 4 v)) k = some q) (hdg : decode cc pc = .ok (.putfield 140, 3)) (kk : ∀ (σ1 : HBst) (H1 : Heap) (locs1 : List Loc), Wd D dA A s (HBx dA a b B wr σ1) H1 locs1 → k σ1 = some q → W p l e R s m args below meth c H1 locs1 cells slots Q (F0 m (pc + 3) ls rest)) : W p l e R s m args below meth c H locs cells slots Q (F0 m pc ls (.int v :: .ref (bA B 3) :: rest)) :=
  g_put FX hW (C := RX2) (T := TX2) (N := 5) (ci := 2) (ty := .int) in_X2 tyX2 tyX2_ok nmX2 10 rfl rfl 4 (by decide) q214 (fun _ h => h) rfl (by decide +kernel) rfl rfl (Nat.le_of_ble_eq_true rfl) (ws' := HBx dA a b B wr ((σ.1, va_up σ.2 4 v))) rfl hdg (fun H1 locs1 hW1 => kk _ H1 locs1 hW1 hf)
theorem HBgX3_9_3 {a : Nat} {b : Nat → Nat} {B : Bk} {wr : va_W} {σ : HBst} (FX : CallFix p m c cc nL s args lw_all RX3) (hW : Wd D dA A s (HBx dA a b B wr σ) H locs) (hdg : decode cc pc = .ok (.getfield 141, 3)) (kk : W p l e R s m args below meth c H locs cells slots Q (F0 m (pc + 3) ls (va_rf (bN B) :: rest))) : W p l e R s m args below meth c H locs cells slots Q (F0 m pc ls (.ref (bA B 0) :: rest)) :=
  g_get FX hW (C := RX1) (T := TX1) (N := 8) (ci := 1) in_X1 9 rfl rfl 3 (by decide) q236 (fun _ h => h) rfl hdg kk
set_option maxHeartbeats 4000000 in
set_option maxRecDepth 100000 in
theorem HBnode {a : Nat} {b : Nat → Nat} {B : Bk} {wr : va_W} {σ : HBst} {α : Type} {q : α} {x : Option Nat} {k : Int32 → Option α} (FX : CallFix p m c cc nL s args lw_all RX3) (hR : 65 ≤ R.frames ∧ 2600 ≤ R.locals) (hcs : cells ≤ R.cells ∧ slots ≤ R.slots) (hl : ls.size = nL) (hrm : (rest.map fun v => v.category).sum ≤ 8) (hW : Wd D dA A s (HBx dA a b B wr σ) H locs) (hf : nn x (fun y => (nEv dA (bP B) σ.2 64 y).bind k) = some q) (hdg : decode cc pc = .ok (.invokeinterface 145 2, 5)) (kk : ∀ (r : Int32) (H1 : Heap) (locs1 : List Loc), Wd D dA A s (HBx dA a b B wr σ) H1 locs1 → k r = some q → W p l e R s m args below meth c H1 locs1 cells slots Q (F0 m (pc + 5) ls (.int r :: rest))) : W p l e R s m args below meth c H locs cells slots Q (F0 m pc ls (.ref (bA B 3) :: va_rf x :: rest)) := by
  obtain ⟨y, rfl, hf⟩ := nn_some hf
  refine node_call (pk := 10) (Or.inl ⟨rfl, rfl⟩) (fun a1 z hz => ?_) rfl FX hR hcs hl hrm hW hf hdg kk
  obtain ⟨j, hj⟩ := hlk_get hz
  exact pool_in (pre := [(a, .inr (3, [.ref (b 0), .ref (b 1), .ref (b 2), .ref (b 3), .ref (b 4), .ref (b 5), .ref (b 6), .ref (b 7), .int (hF σ.1 8), .int (hF σ.1 9), .int (hF σ.1 10), .int (hF σ.1 11), .int (hF σ.1 12), .int (hF σ.1 13)])), ((b 0), .inl (dA 0, 8, .inl (hA σ.1 0))), ((b 1), .inl (dA 0, 8, .inl (hA σ.1 1))), ((b 2), .inl (dA 0, 8, .inl (hA σ.1 2))), ((b 3), .inl (dA 0, 8, .inl (hA σ.1 3))), ((b 4), .inl (dA 0, 8, .inl (hA σ.1 4))), ((b 5), .inl (dA 0, 8, .inl (hA σ.1 5))), ((b 6), .inl (dA 0, 8, .inl (hA σ.1 6))), ((b 7), .inl (dA 0, 8, .inl (hA σ.1 7))), ((bA B 0), .inr (1, [.ref (bA B 1), .ref (bA B 2), .ref (bA B 3), va_rf (bN B), .int (bI B 0), .int (bI B 1), .int (bI B 2), .int (bI B 3)])), ((bA B 3), .inr (2, [.int (σ.2 0), .int (σ.2 1), .int (σ.2 2), .int (σ.2 3), .int (σ.2 4)])), ((bA B 1), .inr (13, [.int (bI B 4), .ref (bA B 4), .int (bI B 5)])), ((bA B 4), .inl (dA 4, (bA B 6), .inr (.inr (.inr (.inr (bR B)))))), ((bA B 2), .inr (13, [.int (bI B 6), .ref (bA B 5), .int (bI B 7)])), ((bA B 5), .inl (dA 4, (bA B 7), .inr (.inr (.inr (.inr (bT B))))))]) (wr := wr) hj
theorem HBgX3_10_1 {a : Nat} {b : Nat → Nat} {B : Bk} {wr : va_W} {σ : HBst} (FX : CallFix p m c cc nL s args lw_all RX3) (hW : Wd D dA A s (HBx dA a b B wr σ) H locs) (hdg : decode cc pc = .ok (.getfield 123, 3)) (kk : W p l e R s m args below meth c H locs cells slots Q (F0 m (pc + 3) ls (.int (σ.2 1) :: rest))) : W p l e R s m args below meth c H locs cells slots Q (F0 m pc ls (.ref (bA B 3) :: rest)) :=
  g_get FX hW (C := RX2) (T := TX2) (N := 5) (ci := 2) in_X2 10 rfl rfl 1 (by decide) q208 (fun _ h => h) rfl hdg kk
theorem HBgX3_10_3 {a : Nat} {b : Nat → Nat} {B : Bk} {wr : va_W} {σ : HBst} (FX : CallFix p m c cc nL s args lw_all RX3) (hW : Wd D dA A s (HBx dA a b B wr σ) H locs) (hdg : decode cc pc = .ok (.getfield 137, 3)) (kk : W p l e R s m args below meth c H locs cells slots Q (F0 m (pc + 3) ls (.int (σ.2 3) :: rest))) : W p l e R s m args below meth c H locs cells slots Q (F0 m pc ls (.ref (bA B 3) :: rest)) :=
  g_get FX hW (C := RX2) (T := TX2) (N := 5) (ci := 2) in_X2 10 rfl rfl 3 (by decide) q212 (fun _ h => h) rfl hdg kk
set_option maxHeartbeats 4000000 in
set_option maxRecDepth 100000 in
theorem kX3_X0_shared {α : Type} {q : α} {k : Int32 → Option α} {x0 : Int32} {x1 : Int32} {ws : va_W} (FX : CallFix p m c cc nL s args lw_all RX3) (hR : rX0_shared.frames + 1 ≤ R.frames ∧ 8 + (2 + 11) + rX0_shared.locals ≤ R.locals) (hcs : cells ≤ R.cells ∧ slots ≤ R.slots) (hl : ls.size = nL) (hrm : (rest.map fun v => v.category).sum ≤ 8) (hW : Wd D dA A s ws H locs) (hf : (fX0_shared x0 x1).bind k = some q) (hdg : decode cc pc = .ok (.invokestatic 119, 3)) (kk : ∀ (r : Int32) (H1 : Heap) (locs1 : List Loc), Wd D dA A s ws H1 locs1 → k r = some q → W p l e R s m args below meth c H1 locs1 cells slots Q (F0 m (pc + 3) ls (.int r :: rest))) : W p l e R s m args below meth c H locs cells slots Q (F0 m pc ls (.int x1 :: .int x0 :: rest)) := by
  obtain ⟨r1, h1, hf⟩ := bnd hf
  have hW2 := hW
  refine w_SiN (As := [.int x0, .int x1]) (rest := rest) (n := 2) (wr := ws) FX (mX0_shared h1) ⟨va_cnB (host := "TrunkLitters") 2 FX.2.2.2.2 (lw_meth q1167) rfl rfl rfl (hW.2.2.2.2.2.1 _ (List.mem_of_getElem? (i := 8) rfl)) (FX.2.2.2.2 _ q123) (by decide +kernel) hR, FX.2.2.2.2 _ q1166, trivial⟩ rfl hl rfl hrm ⟨Nat.le_trans (Nat.le_of_eq (Nat.add_zero cells)) hcs.1, Nat.le_trans (Nat.le_of_eq (Nat.add_zero slots)) hcs.2⟩ hdg hW ?_
  exact fun H1 locs1 hW1 => kk r1 H1 locs1 hW1 hf
set_option maxHeartbeats 4000000 in
set_option maxRecDepth 100000 in
theorem kHB_left {a : Nat} {b : Nat → Nat} {B : Bk} {wr : va_W} {α : Type} {q : α} {k : Int32 → Option α} {x2 : Int32} {σ : HBst} (FX : CallFix p m c cc nL s args lw_all RX3) (hR : rHB_left.frames + 1 ≤ R.frames ∧ 8 + (3 + 11) + rHB_left.locals ≤ R.locals) (hcs : cells ≤ R.cells ∧ slots ≤ R.slots) (hl : ls.size = nL) (hrm : (rest.map fun v => v.category).sum ≤ 8) (hW : Wd D dA A s (HBx dA a b B wr σ) H locs) (hf : (fHB_left dA B x2 σ).bind k = some q) (hdg : decode cc pc = .ok (.invokevirtual 126, 3)) (kk : ∀ (r : Int32) (H1 : Heap) (locs1 : List Loc), Wd D dA A s (HBx dA a b B wr σ) H1 locs1 → k r = some q → W p l e R s m args below meth c H1 locs1 cells slots Q (F0 m (pc + 3) ls (.int r :: rest))) : W p l e R s m args below meth c H locs cells slots Q (F0 m pc ls (.int x2 :: .ref (bA B 0) :: .ref a :: rest)) := by
  obtain ⟨r1, h1, hf⟩ := bnd hf
  have hW2 := hW
  refine w_Vi (C := RX3) (As := [.ref (bA B 0), .int x2]) (rest := rest) (n := 2) (wr := []) FX (mHB_left h1) (cwV 2 FX.2.2.2.2 (lw_V q1174 q1135 q1136 q129 q1137) rfl rfl rfl (by decide +kernel) hR) (va_recv hW2.2.2.2.1 hW2.1 (ci := 3) (q0 := 0) rfl rfl) rfl hl rfl hrm ⟨Nat.le_trans (Nat.le_of_eq (Nat.add_zero cells)) hcs.1, Nat.le_trans (Nat.le_of_eq (Nat.add_zero slots)) hcs.2⟩ hdg hW2.nil ?_
  exact fun H1 locs1 hW1 => kk r1 H1 locs1 (hW1.nil') hf
set_option maxHeartbeats 4000000 in
set_option maxRecDepth 100000 in
theorem kX3_J15_bitCount {α : Type} {q : α} {k : Int32 → Option α} {x0 : Int32} {ws : va_W} (FX : CallFix p m c cc nL s args lw_all RX3) (hR : rJ15_bitCount.frames + 1 ≤ R.frames ∧ 8 + (1 + 11) + rJ15_bitCount.locals ≤ R.locals) (hcs : cells ≤ R.cells ∧ slots ≤ R.slots) (hl : ls.size = nL) (hrm : (rest.map fun v => v.category).sum ≤ 8) (hW : Wd D dA A s ws H locs) (hf : (fJ15_bitCount x0).bind k = some q) (hdg : decode cc pc = .ok (.invokestatic 132, 3)) (kk : ∀ (r : Int32) (H1 : Heap) (locs1 : List Loc), Wd D dA A s ws H1 locs1 → k r = some q → W p l e R s m args below meth c H1 locs1 cells slots Q (F0 m (pc + 3) ls (.int r :: rest))) : W p l e R s m args below meth c H locs cells slots Q (F0 m pc ls (.int x0 :: rest)) := by
  obtain ⟨r1, h1, hf⟩ := bnd hf
  have hW2 := hW
  refine w_Si (As := [.int x0]) (rest := rest) (n := 1) (wr := ws) FX (mJ15_bitCount h1) (va_cwS 1 FX.2.2.2.2 (lw_S q1175 q1169 q154 q1170) rfl rfl rfl (by decide +kernel) hR) rfl hl rfl hrm ⟨Nat.le_trans (Nat.le_of_eq (Nat.add_zero cells)) hcs.1, Nat.le_trans (Nat.le_of_eq (Nat.add_zero slots)) hcs.2⟩ hdg hW ?_
  exact fun H1 locs1 hW1 => kk r1 H1 locs1 hW1 hf
/-! TrunkLitters$House.broodOf(LTrunkLitters$Book;II)I: kind W -/
def fHB_broodOf (dA : Nat → Nat) (B : Bk) (x2 : Int32) (x3 : Int32) (σ : HBst) : Option (Int32 × HBst) := ald 8 (hA σ.1 0) x2 fun v1 => ald 8 (hA σ.1 0) x3 fun v2 => stp ((σ.1, va_up σ.2 0 (v1 + v2))) fun s3 => ald 8 (hA s3.1 2) x2 fun v4 => ald 8 (hA s3.1 2) x3 fun v5 => (fX0_shared v4 v5).bind fun r6 => stp ((s3.1, va_up s3.2 1 r6)) fun s7 => ald 8 (hA s7.1 1) x2 fun v8 => (fHB_left dA B v8 s7).bind fun r9 => stp ((s7.1, va_up s7.2 2 r9)) fun s10 => (fJ15_bitCount (hF s10.1 8)).bind fun r11 => stp ((s10.1, va_up s10.2 3 r11)) fun s12 => stp ((s12.1, va_up s12.2 4 (hF s12.1 10))) fun s13 => nlc (bN B) (some (((s13.2 1) - (s13.2 3)), s13)) fun _ => nn (bN B) fun y => (nEv dA (bP B) s13.2 64 y).bind fun r15 => some (r15, s13)
abbrev rHB_broodOf : Room := { frames := 65, cells := 0, slots := 0, locals := 2600 }
set_option maxHeartbeats 4000000 in
set_option maxRecDepth 100000 in
theorem mHB_broodOf {a : Nat} {b : Nat → Nat} {B : Bk} {wr : va_W}  {x2 : Int32} {x3 : Int32} {σ : HBst} {q : (Int32 × HBst)} (hf : fHB_broodOf dA B x2 x3 σ = some q) : CtI l yX3_broodOf cX3_broodOf 5 (some .int) rHB_broodOf D dA [.ref a, .ref (bA B 0), .int x2, .int x3] (HBx dA a b B wr σ) q.1 (HBx dA a b B wr q.2) := by
  refine e_I (by decide) (Nat.le_of_ble_eq_true rfl) ?_
  intro p e s m below meth c ls A FX hr hlk hl hW
  have hx := FX.1; have hb := FX.2.1; have hown := FX.2.2.2.1; have hts := FX.2.2.2.2
  have hl : lv_has ls 5 [(0, .ref a), (1, .ref (bA B 0)), (2, .int x2), (3, .int x3)] := hl
  rw [fHB_broodOf] at hf
  refine lv_aload_n hx hb dX3_broodOf_0 rfl (lv_at hl 1 rfl) ?_
  refine HBgX3_9_2 FX hW dX3_broodOf_1 ?_
  refine lv_astore (lv' := [(4, .ref (bA B 3)), (0, .ref a), (1, .ref (bA B 0)), (2, .int x2), (3, .int x3)]) hx hb dX3_broodOf_4 hl (by decide) rfl (fun ls hl => ?_)
  refine lv_aload hx hb dX3_broodOf_6 (lv_at hl 0 rfl) ?_
  refine lv_aload_n hx hb dX3_broodOf_8 rfl (lv_at hl 1 rfl) ?_
  refine HBgX3_0_0 FX hW dX3_broodOf_9 ?_
  refine lv_iload_n hx hb dX3_broodOf_12 rfl (lv_at hl 3 rfl) ?_
  refine g_iald FX hW 1 HBp1 hf dX3_broodOf_13 (fun v1 hf => ?_)
  refine lv_aload_n hx hb dX3_broodOf_14 rfl (lv_at hl 1 rfl) ?_
  refine HBgX3_0_0 FX hW dX3_broodOf_15 ?_
  refine lv_iload_n hx hb dX3_broodOf_18 rfl (lv_at hl 4 rfl) ?_
  refine g_iald FX hW 1 HBp1 hf dX3_broodOf_19 (fun v2 hf => ?_)
  refine lv_iadd hx hb dX3_broodOf_20 ?_
  refine HBsX3_10_0 FX hW hf dX3_broodOf_21 (fun s3 H locs hW hf => ?_)
  refine lv_aload hx hb dX3_broodOf_24 (lv_at hl 0 rfl) ?_
  refine lv_aload_n hx hb dX3_broodOf_26 rfl (lv_at hl 1 rfl) ?_
  refine HBgX3_0_2 FX hW dX3_broodOf_27 ?_
  refine lv_iload_n hx hb dX3_broodOf_30 rfl (lv_at hl 3 rfl) ?_
  refine g_iald FX hW 3 HBp3 hf dX3_broodOf_31 (fun v4 hf => ?_)
  refine lv_aload_n hx hb dX3_broodOf_32 rfl (lv_at hl 1 rfl) ?_
  refine HBgX3_0_2 FX hW dX3_broodOf_33 ?_
  refine lv_iload_n hx hb dX3_broodOf_36 rfl (lv_at hl 4 rfl) ?_
  refine g_iald FX hW 3 HBp3 hf dX3_broodOf_37 (fun v5 hf => ?_)
  refine kX3_X0_shared FX ⟨Nat.le_of_ble_eq_true rfl, Nat.le_of_ble_eq_true rfl⟩ ⟨Nat.zero_le _, Nat.zero_le _⟩ hl.1 (Nat.le_of_ble_eq_true rfl) hW hf dX3_broodOf_38 (fun r6 H locs hW hf => ?_)
  refine HBsX3_10_1 FX hW hf dX3_broodOf_41 (fun s7 H locs hW hf => ?_)
  refine lv_aload hx hb dX3_broodOf_44 (lv_at hl 0 rfl) ?_
  refine lv_aload_n hx hb dX3_broodOf_46 rfl (lv_at hl 1 rfl) ?_
  refine lv_aload_n hx hb dX3_broodOf_47 rfl (lv_at hl 2 rfl) ?_
  refine lv_aload_n hx hb dX3_broodOf_48 rfl (lv_at hl 1 rfl) ?_
  refine HBgX3_0_1 FX hW dX3_broodOf_49 ?_
  refine lv_iload_n hx hb dX3_broodOf_52 rfl (lv_at hl 3 rfl) ?_
  refine g_iald FX hW 2 HBp2 hf dX3_broodOf_53 (fun v8 hf => ?_)
  refine kHB_left FX ⟨Nat.le_of_ble_eq_true rfl, Nat.le_of_ble_eq_true rfl⟩ ⟨Nat.zero_le _, Nat.zero_le _⟩ hl.1 (Nat.le_of_ble_eq_true rfl) hW hf dX3_broodOf_54 (fun r9 H locs hW hf => ?_)
  refine HBsX3_10_2 FX hW hf dX3_broodOf_57 (fun s10 H locs hW hf => ?_)
  refine lv_aload hx hb dX3_broodOf_60 (lv_at hl 0 rfl) ?_
  refine lv_aload_n hx hb dX3_broodOf_62 rfl (lv_at hl 1 rfl) ?_
  refine HBgX3_0_8 FX hW dX3_broodOf_63 ?_
  refine kX3_J15_bitCount FX ⟨Nat.le_of_ble_eq_true rfl, Nat.le_of_ble_eq_true rfl⟩ ⟨Nat.zero_le _, Nat.zero_le _⟩ hl.1 (Nat.le_of_ble_eq_true rfl) hW hf dX3_broodOf_66 (fun r11 H locs hW hf => ?_)
  refine HBsX3_10_3 FX hW hf dX3_broodOf_69 (fun s12 H locs hW hf => ?_)
  refine lv_aload hx hb dX3_broodOf_72 (lv_at hl 0 rfl) ?_
  refine lv_aload_n hx hb dX3_broodOf_74 rfl (lv_at hl 1 rfl) ?_
  refine HBgX3_0_10 FX hW dX3_broodOf_75 ?_
  refine HBsX3_10_4 FX hW hf dX3_broodOf_78 (fun s13 H locs hW hf => ?_)
  refine lv_aload_n hx hb dX3_broodOf_81 rfl (lv_at hl 2 rfl) ?_
  refine HBgX3_9_3 FX hW dX3_broodOf_82 ?_
  refine g_ifnonnull (tgt := 102) FX hf dX3_broodOf_85 (by decide) (fun hf => ?_) (fun x14 ex14 hf => ?_)
  · skip
    refine lv_aload hx hb dX3_broodOf_88 (lv_at hl 0 rfl) ?_
    refine HBgX3_10_1 FX hW dX3_broodOf_90 ?_
    refine lv_aload hx hb dX3_broodOf_93 (lv_at hl 0 rfl) ?_
    refine HBgX3_10_3 FX hW dX3_broodOf_95 ?_
    refine lv_isub hx hb dX3_broodOf_98 ?_
    refine lv_goto (tgt := 113) hx hb dX3_broodOf_99 (by decide) ?_
    obtain rfl := Option.some.inj hf
    exact g_iret FX hr hlk hW rfl dX3_broodOf_113
  · skip
    refine lv_aload_n hx hb dX3_broodOf_102 rfl (lv_at hl 2 rfl) ?_
    refine HBgX3_9_3 FX hW dX3_broodOf_103 ?_
    refine lv_aload hx hb dX3_broodOf_106 (lv_at hl 0 rfl) ?_
    refine HBnode FX ⟨Nat.le_of_ble_eq_true rfl, Nat.le_of_ble_eq_true rfl⟩ ⟨Nat.zero_le _, Nat.zero_le _⟩ hl.1 (Nat.le_of_ble_eq_true rfl) hW hf dX3_broodOf_108 (fun r15 H locs hW hf => ?_)
    obtain rfl := Option.some.inj hf
    exact g_iret FX hr hlk hW rfl dX3_broodOf_113

set_option maxHeartbeats 4000000 in
set_option maxRecDepth 100000 in
theorem kHBh_coupleOf {a : Nat} {b : Nat → Nat} {B : Bk} {wr : va_W} {α : Type} {q : α} {k : Int32 → Option α} {x1 : Int32} {σ : HBst} (FX : CallFix p m c cc nL s args lw_all RX3) (hR : rX3_coupleOf.frames + 1 ≤ R.frames ∧ 8 + (5 + 11) + rX3_coupleOf.locals ≤ R.locals) (hcs : cells ≤ R.cells ∧ slots ≤ R.slots) (hl : ls.size = nL) (hrm : (rest.map fun v => v.category).sum ≤ 8) (hW : Wd D dA A s (HBx dA a b B wr σ) H locs) (hf : (fX3_coupleOf x1 σ.1).bind k = some q) (hdg : decode cc pc = .ok (.invokevirtual 159, 3)) (kk : ∀ (r : Int32) (H1 : Heap) (locs1 : List Loc), Wd D dA A s (HBx dA a b B wr σ) H1 locs1 → k r = some q → W p l e R s m args below meth c H1 locs1 cells slots Q (F0 m (pc + 3) ls (.int r :: rest))) : W p l e R s m args below meth c H locs cells slots Q (F0 m pc ls (.int x1 :: .ref a :: rest)) := by
  obtain ⟨r1, h1, hf⟩ := bnd hf
  have hW2 := HB_in hW
  refine w_Vi (C := RX3) (As := [.int x1]) (rest := rest) (n := 1) (wr := []) FX (mX3_coupleOf h1) (cwV 1 FX.2.2.2.2 (lw_V q1253 q1238 q1239 q129 q1240) rfl rfl rfl (by decide +kernel) hR) (va_recv hW2.2.2.2.1 hW2.1 (ci := 3) (q0 := 0) rfl rfl) rfl hl rfl hrm ⟨Nat.le_trans (Nat.le_of_eq (Nat.add_zero cells)) hcs.1, Nat.le_trans (Nat.le_of_eq (Nat.add_zero slots)) hcs.2⟩ hdg hW2.nil ?_
  exact fun H1 locs1 hW1 => kk r1 H1 locs1 (HB_out hW1.nil') hf
set_option maxHeartbeats 4000000 in
set_option maxRecDepth 100000 in
theorem kHBh_freePlace {a : Nat} {b : Nat → Nat} {B : Bk} {wr : va_W} {α : Type} {q : α} {k : Int32 → Option α} {σ : HBst} (FX : CallFix p m c cc nL s args lw_all RX3) (hR : rX3_freePlace.frames + 1 ≤ R.frames ∧ 8 + (2 + 11) + rX3_freePlace.locals ≤ R.locals) (hcs : cells ≤ R.cells ∧ slots ≤ R.slots) (hl : ls.size = nL) (hrm : (rest.map fun v => v.category).sum ≤ 8) (hW : Wd D dA A s (HBx dA a b B wr σ) H locs) (hf : (fX3_freePlace σ.1).bind k = some q) (hdg : decode cc pc = .ok (.invokevirtual 162, 3)) (kk : ∀ (r : Int32) (H1 : Heap) (locs1 : List Loc), Wd D dA A s (HBx dA a b B wr σ) H1 locs1 → k r = some q → W p l e R s m args below meth c H1 locs1 cells slots Q (F0 m (pc + 3) ls (.int r :: rest))) : W p l e R s m args below meth c H locs cells slots Q (F0 m pc ls (.ref a :: rest)) := by
  obtain ⟨r1, h1, hf⟩ := bnd hf
  have hW2 := HB_in hW
  refine w_Vi (C := RX3) (As := []) (rest := rest) (n := 0) (wr := []) FX (mX3_freePlace h1) (cwV 0 FX.2.2.2.2 (lw_V q1254 q1256 qs36 q129 q1257) rfl rfl rfl (by decide +kernel) hR) (va_recv hW2.2.2.2.1 hW2.1 (ci := 3) (q0 := 0) rfl rfl) rfl hl rfl hrm ⟨Nat.le_trans (Nat.le_of_eq (Nat.add_zero cells)) hcs.1, Nat.le_trans (Nat.le_of_eq (Nat.add_zero slots)) hcs.2⟩ hdg hW2.nil ?_
  exact fun H1 locs1 hW1 => kk r1 H1 locs1 (HB_out hW1.nil') hf
set_option maxHeartbeats 4000000 in
set_option maxRecDepth 100000 in
theorem kHB_broodOf {a : Nat} {b : Nat → Nat} {B : Bk} {wr : va_W} {α : Type} {q : α} {k : Int32 → HBst → Option α} {x2 : Int32} {x3 : Int32} {σ : HBst} (FX : CallFix p m c cc nL s args lw_all RX3) (hR : rHB_broodOf.frames + 1 ≤ R.frames ∧ 8 + (5 + 11) + rHB_broodOf.locals ≤ R.locals) (hcs : cells ≤ R.cells ∧ slots ≤ R.slots) (hl : ls.size = nL) (hrm : (rest.map fun v => v.category).sum ≤ 8) (hW : Wd D dA A s (HBx dA a b B wr σ) H locs) (hf : bnd2 (fHB_broodOf dA B x2 x3 σ) k = some q) (hdg : decode cc pc = .ok (.invokevirtual 165, 3)) (kk : ∀ (r : Int32) (σ1 : HBst) (H1 : Heap) (locs1 : List Loc), Wd D dA A s (HBx dA a b B wr σ1) H1 locs1 → k r σ1 = some q → W p l e R s m args below meth c H1 locs1 cells slots Q (F0 m (pc + 3) ls (.int r :: rest))) : W p l e R s m args below meth c H locs cells slots Q (F0 m pc ls (.int x3 :: .int x2 :: .ref (bA B 0) :: .ref a :: rest)) := by
  obtain ⟨r1, h1, hf⟩ := bnd (bnd2_eq hf)
  have hW2 := hW
  refine w_Vi (C := RX3) (As := [.ref (bA B 0), .int x2, .int x3]) (rest := rest) (n := 3) (wr := []) FX (mHB_broodOf h1) (cwV 3 FX.2.2.2.2 (lw_V q1258 q1162 q1163 q129 q1164) rfl rfl rfl (by decide +kernel) hR) (va_recv hW2.2.2.2.1 hW2.1 (ci := 3) (q0 := 0) rfl rfl) rfl hl rfl hrm ⟨Nat.le_trans (Nat.le_of_eq (Nat.add_zero cells)) hcs.1, Nat.le_trans (Nat.le_of_eq (Nat.add_zero slots)) hcs.2⟩ hdg hW2.nil ?_
  exact fun H1 locs1 hW1 => kk r1.1 _ H1 locs1 (hW1.nil') hf
set_option maxHeartbeats 4000000 in
set_option maxRecDepth 100000 in
theorem kHBh_youngBulk {a : Nat} {b : Nat → Nat} {B : Bk} {wr : va_W} {α : Type} {q : α} {k : Int32 → Option α} {x1 : Int32} {σ : HBst} (FX : CallFix p m c cc nL s args lw_all RX3) (hR : rX3_youngBulk.frames + 1 ≤ R.frames ∧ 8 + (2 + 11) + rX3_youngBulk.locals ≤ R.locals) (hcs : cells ≤ R.cells ∧ slots ≤ R.slots) (hl : ls.size = nL) (hrm : (rest.map fun v => v.category).sum ≤ 8) (hW : Wd D dA A s (HBx dA a b B wr σ) H locs) (hf : (fX3_youngBulk x1 σ.1).bind k = some q) (hdg : decode cc pc = .ok (.invokevirtual 169, 3)) (kk : ∀ (r : Int32) (H1 : Heap) (locs1 : List Loc), Wd D dA A s (HBx dA a b B wr σ) H1 locs1 → k r = some q → W p l e R s m args below meth c H1 locs1 cells slots Q (F0 m (pc + 3) ls (.int r :: rest))) : W p l e R s m args below meth c H locs cells slots Q (F0 m pc ls (.int x1 :: .ref a :: rest)) := by
  obtain ⟨r1, h1, hf⟩ := bnd hf
  have hW2 := HB_in hW
  refine w_Vi (C := RX3) (As := [.int x1]) (rest := rest) (n := 1) (wr := []) FX (mX3_youngBulk h1) (cwV 1 FX.2.2.2.2 (lw_V q1259 q1260 q1261 q129 q1262) rfl rfl rfl (by decide +kernel) hR) (va_recv hW2.2.2.2.1 hW2.1 (ci := 3) (q0 := 0) rfl rfl) rfl hl rfl hrm ⟨Nat.le_trans (Nat.le_of_eq (Nat.add_zero cells)) hcs.1, Nat.le_trans (Nat.le_of_eq (Nat.add_zero slots)) hcs.2⟩ hdg hW2.nil ?_
  exact fun H1 locs1 hW1 => kk r1 H1 locs1 (HB_out hW1.nil') hf
/-! TrunkLitters$House.isRipe(LTrunkLitters$Book;I)Z: kind W -/
def fHB_isRipe (dA : Nat → Nat) (B : Bk) (x2 : Int32) (σ : HBst) : Option (Int32 × HBst) := (fX3_coupleOf x2 σ.1).bind fun r1 => (if r1 < 0 then some ((0 : Int32), σ) else (fX3_freePlace σ.1).bind fun r2 => (if r2 < 0 then some ((0 : Int32), σ) else bnd2 (fHB_broodOf dA B (r1 / (8 : Int32)) (r1 - r1 / (8 : Int32) * (8 : Int32)) σ) fun r3 s4 => (if r3 ≤ 0 then some ((0 : Int32), s4) else (fX3_youngBulk r1 s4.1).bind fun r5 => (fHB_left dA B x2 s4).bind fun r6 => (if r6 < r5 then some ((0 : Int32), s4) else some ((1 : Int32), s4)))))
abbrev rHB_isRipe : Room := { frames := 66, cells := 0, slots := 0, locals := 2624 }
set_option maxHeartbeats 4000000 in
set_option maxRecDepth 100000 in
theorem mHB_isRipe {a : Nat} {b : Nat → Nat} {B : Bk} {wr : va_W}  {x2 : Int32} {σ : HBst} {q : (Int32 × HBst)} (hf : fHB_isRipe dA B x2 σ = some q) : CtI l yX3_isRipe cX3_isRipe 4 (some .boolean) rHB_isRipe D dA [.ref a, .ref (bA B 0), .int x2] (HBx dA a b B wr σ) q.1 (HBx dA a b B wr q.2) := by
  refine e_I (by decide) (Nat.le_of_ble_eq_true rfl) ?_
  intro p e s m below meth c ls A FX hr hlk hl hW
  have hx := FX.1; have hb := FX.2.1; have hown := FX.2.2.2.1; have hts := FX.2.2.2.2
  have hl : lv_has ls 4 [(0, .ref a), (1, .ref (bA B 0)), (2, .int x2)] := hl
  rw [fHB_isRipe] at hf
  refine lv_aload_n hx hb dX3_isRipe_0 rfl (lv_at hl 0 rfl) ?_
  refine lv_iload_n hx hb dX3_isRipe_1 rfl (lv_at hl 2 rfl) ?_
  refine kHBh_coupleOf FX ⟨Nat.le_of_ble_eq_true rfl, Nat.le_of_ble_eq_true rfl⟩ ⟨Nat.zero_le _, Nat.zero_le _⟩ hl.1 (Nat.le_of_ble_eq_true rfl) hW hf dX3_isRipe_2 (fun r1 H locs hW hf => ?_)
  refine lv_istore_n (lv' := [(3, .int r1), (0, .ref a), (1, .ref (bA B 0)), (2, .int x2)]) hx hb dX3_isRipe_5 rfl hl (by decide) rfl (fun ls hl => ?_)
  refine lv_iload_n hx hb dX3_isRipe_6 rfl (lv_at hl 0 rfl) ?_
  refine lv_if_lt (tgt := 51) hx hb dX3_isRipe_7 (by decide) (fun c7 => ?_) (fun c7 => ?_)
  · have hf := ifp c7 hf
    refine lv_iconst (v := 0) hx hb dX3_isRipe_51 (by decide) ?_
    obtain rfl := Option.some.inj hf
    exact g_zret FX hr hlk hW rfl rfl dX3_isRipe_52
  · have hf := ifn c7 hf
    refine lv_aload_n hx hb dX3_isRipe_10 rfl (lv_at hl 1 rfl) ?_
    refine kHBh_freePlace FX ⟨Nat.le_of_ble_eq_true rfl, Nat.le_of_ble_eq_true rfl⟩ ⟨Nat.zero_le _, Nat.zero_le _⟩ hl.1 (Nat.le_of_ble_eq_true rfl) hW hf dX3_isRipe_11 (fun r2 H locs hW hf => ?_)
    refine lv_if_lt (tgt := 51) hx hb dX3_isRipe_14 (by decide) (fun c14 => ?_) (fun c14 => ?_)
    · have hf := ifp c14 hf
      refine lv_iconst (v := 0) hx hb dX3_isRipe_51 (by decide) ?_
      obtain rfl := Option.some.inj hf
      exact g_zret FX hr hlk hW rfl rfl dX3_isRipe_52
    · have hf := ifn c14 hf
      refine lv_aload_n hx hb dX3_isRipe_17 rfl (lv_at hl 1 rfl) ?_
      refine lv_aload_n hx hb dX3_isRipe_18 rfl (lv_at hl 2 rfl) ?_
      refine lv_iload_n hx hb dX3_isRipe_19 rfl (lv_at hl 0 rfl) ?_
      refine lv_bipush (v := 8) hx hb dX3_isRipe_20 (by decide) ?_
      refine lv_idiv hx hb dX3_isRipe_22 (by decide) ?_
      refine lv_iload_n hx hb dX3_isRipe_23 rfl (lv_at hl 0 rfl) ?_
      refine lv_bipush (v := 8) hx hb dX3_isRipe_24 (by decide) ?_
      refine lv_irem hx hb dX3_isRipe_26 (by decide) ?_
      refine kHB_broodOf FX ⟨Nat.le_of_ble_eq_true rfl, Nat.le_of_ble_eq_true rfl⟩ ⟨Nat.zero_le _, Nat.zero_le _⟩ hl.1 (Nat.le_of_ble_eq_true rfl) hW hf dX3_isRipe_27 (fun r3 s4 H locs hW hf => ?_)
      refine lv_if_le (tgt := 51) hx hb dX3_isRipe_30 (by decide) (fun c30 => ?_) (fun c30 => ?_)
      · have hf := ifp c30 hf
        refine lv_iconst (v := 0) hx hb dX3_isRipe_51 (by decide) ?_
        obtain rfl := Option.some.inj hf
        exact g_zret FX hr hlk hW rfl rfl dX3_isRipe_52
      · have hf := ifn c30 hf
        refine lv_aload_n hx hb dX3_isRipe_33 rfl (lv_at hl 1 rfl) ?_
        refine lv_iload_n hx hb dX3_isRipe_34 rfl (lv_at hl 0 rfl) ?_
        refine kHBh_youngBulk FX ⟨Nat.le_of_ble_eq_true rfl, Nat.le_of_ble_eq_true rfl⟩ ⟨Nat.zero_le _, Nat.zero_le _⟩ hl.1 (Nat.le_of_ble_eq_true rfl) hW hf dX3_isRipe_35 (fun r5 H locs hW hf => ?_)
        refine lv_aload_n hx hb dX3_isRipe_38 rfl (lv_at hl 1 rfl) ?_
        refine lv_aload_n hx hb dX3_isRipe_39 rfl (lv_at hl 2 rfl) ?_
        refine lv_iload_n hx hb dX3_isRipe_40 rfl (lv_at hl 3 rfl) ?_
        refine kHB_left FX ⟨Nat.le_of_ble_eq_true rfl, Nat.le_of_ble_eq_true rfl⟩ ⟨Nat.zero_le _, Nat.zero_le _⟩ hl.1 (Nat.le_of_ble_eq_true rfl) hW hf dX3_isRipe_41 (fun r6 H locs hW hf => ?_)
        refine lv_icmp_gt (tgt := 51) hx hb dX3_isRipe_44 (by decide) (fun c44 => ?_) (fun c44 => ?_)
        · have hf := ifp c44 hf
          refine lv_iconst (v := 0) hx hb dX3_isRipe_51 (by decide) ?_
          obtain rfl := Option.some.inj hf
          exact g_zret FX hr hlk hW rfl rfl dX3_isRipe_52
        · have hf := ifn c44 hf
          refine lv_iconst (v := 1) hx hb dX3_isRipe_47 (by decide) ?_
          refine lv_goto (tgt := 52) hx hb dX3_isRipe_48 (by decide) ?_
          obtain rfl := Option.some.inj hf
          exact g_zret FX hr hlk hW rfl rfl dX3_isRipe_52
theorem HBgX3_0_3 {a : Nat} {b : Nat → Nat} {B : Bk} {wr : va_W} {σ : HBst} (FX : CallFix p m c cc nL s args lw_all RX3) (hW : Wd D dA A s (HBx dA a b B wr σ) H locs) (hdg : decode cc pc = .ok (.getfield 21, 3)) (kk : W p l e R s m args below meth c H locs cells slots Q (F0 m (pc + 3) ls (.ref (b 3) :: rest))) : W p l e R s m args below meth c H locs cells slots Q (F0 m pc ls (.ref a :: rest)) :=
  g_get FX hW (C := RX3) (T := TX3) (N := 14) (ci := 3) in_X3 0 rfl rfl 3 (by decide) q277 (fun _ h => h) rfl hdg kk
theorem HBp4 {a : Nat} {b : Nat → Nat} {B : Bk} {wr : va_W} {σ : HBst} : (HBx dA a b B wr σ)[4]? = some ((b 3), .inl (dA 0, 8, .inl (hA σ.1 3))) := rfl
theorem HBgX3_0_4 {a : Nat} {b : Nat → Nat} {B : Bk} {wr : va_W} {σ : HBst} (FX : CallFix p m c cc nL s args lw_all RX3) (hW : Wd D dA A s (HBx dA a b B wr σ) H locs) (hdg : decode cc pc = .ok (.getfield 24, 3)) (kk : W p l e R s m args below meth c H locs cells slots Q (F0 m (pc + 3) ls (.ref (b 4) :: rest))) : W p l e R s m args below meth c H locs cells slots Q (F0 m pc ls (.ref a :: rest)) :=
  g_get FX hW (C := RX3) (T := TX3) (N := 14) (ci := 3) in_X3 0 rfl rfl 4 (by decide) q279 (fun _ h => h) rfl hdg kk
theorem HBp5 {a : Nat} {b : Nat → Nat} {B : Bk} {wr : va_W} {σ : HBst} : (HBx dA a b B wr σ)[5]? = some ((b 4), .inl (dA 0, 8, .inl (hA σ.1 4))) := rfl
theorem HBt5 {a : Nat} {b : Nat → Nat} {B : Bk} {wr : va_W} {σ : HBst} {i v : Int32} : (HBx dA a b B wr σ).set 5 ((b 4), .inl (dA 0, 8, .inl (upd (hA σ.1 4) i.toNatClampNeg v))) = HBx dA a b B wr ((uA σ.1 4 i v, σ.2)) := rfl
theorem HBgX3_0_13 {a : Nat} {b : Nat → Nat} {B : Bk} {wr : va_W} {σ : HBst} (FX : CallFix p m c cc nL s args lw_all RX3) (hW : Wd D dA A s (HBx dA a b B wr σ) H locs) (hdg : decode cc pc = .ok (.getfield 36, 3)) (kk : W p l e R s m args below meth c H locs cells slots Q (F0 m (pc + 3) ls (.int (hF σ.1 13) :: rest))) : W p l e R s m args below meth c H locs cells slots Q (F0 m pc ls (.ref a :: rest)) :=
  g_get FX hW (C := RX3) (T := TX3) (N := 14) (ci := 3) in_X3 0 rfl rfl 13 (by decide) q296 (fun _ h => h) rfl hdg kk
theorem HBgX3_9_4 {a : Nat} {b : Nat → Nat} {B : Bk} {wr : va_W} {σ : HBst} (FX : CallFix p m c cc nL s args lw_all RX3) (hW : Wd D dA A s (HBx dA a b B wr σ) H locs) (hdg : decode cc pc = .ok (.getfield 172, 3)) (kk : W p l e R s m args below meth c H locs cells slots Q (F0 m (pc + 3) ls (.int (bI B 0) :: rest))) : W p l e R s m args below meth c H locs cells slots Q (F0 m pc ls (.ref (bA B 0) :: rest)) :=
  g_get FX hW (C := RX1) (T := TX1) (N := 8) (ci := 1) in_X1 9 rfl rfl 4 (by decide) q239 (fun _ h => h) rfl hdg kk
theorem HBt4 {a : Nat} {b : Nat → Nat} {B : Bk} {wr : va_W} {σ : HBst} {i v : Int32} : (HBx dA a b B wr σ).set 4 ((b 3), .inl (dA 0, 8, .inl (upd (hA σ.1 3) i.toNatClampNeg v))) = HBx dA a b B wr ((uA σ.1 3 i v, σ.2)) := rfl
set_option maxHeartbeats 4000000 in
set_option maxRecDepth 100000 in
theorem kHBh_leaves {a : Nat} {b : Nat → Nat} {B : Bk} {wr : va_W} {α : Type} {q : α} {k : HBst → Option α} {x1 : Int32} {σ : HBst} (FX : CallFix p m c cc nL s args lw_all RX3) (hR : rX3_leaves.frames + 1 ≤ R.frames ∧ 8 + (3 + 11) + rX3_leaves.locals ≤ R.locals) (hcs : cells ≤ R.cells ∧ slots ≤ R.slots) (hl : ls.size = nL) (hrm : (rest.map fun v => v.category).sum ≤ 8) (hW : Wd D dA A s (HBx dA a b B wr σ) H locs) (hf : (fX3_leaves x1 σ.1).bind (fun t0 => stp ((t0, σ.2)) k) = some q) (hdg : decode cc pc = .ok (.invokevirtual 173, 3)) (kk : ∀ (σ1 : HBst) (H1 : Heap) (locs1 : List Loc), Wd D dA A s (HBx dA a b B wr σ1) H1 locs1 → k σ1 = some q → W p l e R s m args below meth c H1 locs1 cells slots Q (F0 m (pc + 3) ls (rest))) : W p l e R s m args below meth c H locs cells slots Q (F0 m pc ls (.int x1 :: .ref a :: rest)) := by
  obtain ⟨r1, h1, hf⟩ := bnd hf
  have hW2 := HB_in hW
  refine w_Vv (C := RX3) (As := [.int x1]) (rest := rest) (n := 1) (wr := []) FX (mX3_leaves h1) (cwV 1 FX.2.2.2.2 (lw_V q1286 q1287 q1288 q129 q1289) rfl rfl rfl (by decide +kernel) hR) (va_recv hW2.2.2.2.1 hW2.1 (ci := 3) (q0 := 0) rfl rfl) rfl hl rfl hrm ⟨Nat.le_trans (Nat.le_of_eq (Nat.add_zero cells)) hcs.1, Nat.le_trans (Nat.le_of_eq (Nat.add_zero slots)) hcs.2⟩ hdg hW2.nil ?_
  exact fun H1 locs1 hW1 => kk ((r1, σ.2)) H1 locs1 (HB_out hW1.nil') hf
/-! TrunkLitters$House.listens(LTrunkLitters$Book;I)V: kind W -/
def fHB_listens_61 (dA : Nat → Nat) (B : Bk) (x2 : Int32) (y0 : Int32) (y1 : Int32) (σ : HBst) : Option HBst := (if y0 < y1 then some σ else (fX3_leaves x2 σ.1).bind fun t0 => stp ((t0, σ.2)) fun s1 => some s1)
def fHB_listens (dA : Nat → Nat) (B : Bk) (x2 : Int32) (σ : HBst) : Option HBst := ald 8 (hA σ.1 3) x2 fun v1 => (if v1 ≤ 0 then ald 8 (hA σ.1 4) x2 fun v2 => ast 8 x2 (stp ((uA σ.1 4 x2 (v2 + (1 : Int32)), σ.2)) fun s3 => ald 8 (hA s3.1 4) x2 fun v4 => (if 0 ≤ (hF s3.1 13) then fHB_listens_61 dA B x2 v4 (hF s3.1 13) s3 else fHB_listens_61 dA B x2 v4 (bI B 0) s3)) else ald 8 (hA σ.1 3) x2 fun v5 => ast 8 x2 (stp ((uA σ.1 3 x2 (v5 - (1 : Int32)), σ.2)) fun s6 => ast 8 x2 (stp ((uA s6.1 4 x2 (0 : Int32), s6.2)) fun s7 => some s7)))
abbrev rHB_listens : Room := { frames := 2, cells := 0, slots := 0, locals := 43 }
set_option maxHeartbeats 4000000 in
set_option maxRecDepth 100000 in
theorem wHB_listens_61 {a : Nat} {b : Nat → Nat} {B : Bk} {wr : va_W} {q : HBst} (FX : CallFix p m c cX3_listens 3 s args lw_all RX3) (hr : meth.sig.returnType = none) (hlk : meth.locks = false) : ∀ (x2 : Int32) (y0 : Int32) (y1 : Int32) (σ : HBst) (H : Heap) (locs : List Loc) (ls : Array Slot), lv_has ls 3 [(0, .ref a), (2, .int x2)] → Wd D dA A s (HBx dA a b B wr σ) H locs → fHB_listens_61 dA B x2 y0 y1 σ = some q → W p l e rHB_listens s m args below meth c H locs 0 0 (QV D dA A below args s 0 0 (HBx dA a b B wr q)) (F0 m 61 ls [.int y1, .int y0]) := by
  have hx := FX.1; have hb := FX.2.1; have hown := FX.2.2.2.1; have hts := FX.2.2.2.2
  intro x2 y0 y1 σ H locs ls hl hW hf
  rw [fHB_listens_61] at hf
  refine lv_icmp_lt (tgt := 69) hx hb dX3_listens_61 (by decide) (fun c61 => ?_) (fun c61 => ?_)
  · have hf := ifp c61 hf
    obtain rfl := Option.some.inj hf
    exact g_vret FX hr hlk hW dX3_listens_69
  · have hf := ifn c61 hf
    refine lv_aload_n hx hb dX3_listens_64 rfl (lv_at hl 0 rfl) ?_
    refine lv_iload_n hx hb dX3_listens_65 rfl (lv_at hl 1 rfl) ?_
    refine kHBh_leaves FX ⟨Nat.le_of_ble_eq_true rfl, Nat.le_of_ble_eq_true rfl⟩ ⟨Nat.zero_le _, Nat.zero_le _⟩ hl.1 (Nat.le_of_ble_eq_true rfl) hW hf dX3_listens_66 (fun s1 H locs hW hf => ?_)
    obtain rfl := Option.some.inj hf
    exact g_vret FX hr hlk hW dX3_listens_69
set_option maxHeartbeats 4000000 in
set_option maxRecDepth 100000 in
theorem mHB_listens {a : Nat} {b : Nat → Nat} {B : Bk} {wr : va_W}  {x2 : Int32} {σ : HBst} {q : HBst} (hf : fHB_listens dA B x2 σ = some q) : CtV l yX3_listens cX3_listens 3 none rHB_listens D dA [.ref a, .ref (bA B 0), .int x2] (HBx dA a b B wr σ) (HBx dA a b B wr q) := by
  refine e_V (by decide) (Nat.le_of_ble_eq_true rfl) ?_
  intro p e s m below meth c ls A FX hr hlk hl hW
  have hx := FX.1; have hb := FX.2.1; have hown := FX.2.2.2.1; have hts := FX.2.2.2.2
  have hl : lv_has ls 3 [(0, .ref a), (1, .ref (bA B 0)), (2, .int x2)] := hl
  rw [fHB_listens] at hf
  refine lv_aload_n hx hb dX3_listens_0 rfl (lv_at hl 0 rfl) ?_
  refine HBgX3_0_3 FX hW dX3_listens_1 ?_
  refine lv_iload_n hx hb dX3_listens_4 rfl (lv_at hl 2 rfl) ?_
  refine g_iald FX hW 4 HBp4 hf dX3_listens_5 (fun v1 hf => ?_)
  refine lv_if_le (tgt := 27) hx hb dX3_listens_6 (by decide) (fun c6 => ?_) (fun c6 => ?_)
  · have hf := ifp c6 hf
    refine lv_aload_n hx hb dX3_listens_27 rfl (lv_at hl 0 rfl) ?_
    refine HBgX3_0_4 FX hW dX3_listens_28 ?_
    refine lv_iload_n hx hb dX3_listens_31 rfl (lv_at hl 2 rfl) ?_
    refine lv_dup2_11 hx hb dX3_listens_32 rfl rfl ?_
    refine g_iald FX hW 5 HBp5 hf dX3_listens_33 (fun v2 hf => ?_)
    refine lv_iconst (v := 1) hx hb dX3_listens_34 (by decide) ?_
    refine lv_iadd hx hb dX3_listens_35 ?_
    refine g_iast FX hW 5 HBp5 (L := HBx dA a b B wr) (HBt5) hf dX3_listens_36 (fun s3 H locs hW hf => ?_)
    refine lv_aload_n hx hb dX3_listens_37 rfl (lv_at hl 0 rfl) ?_
    refine HBgX3_0_4 FX hW dX3_listens_38 ?_
    refine lv_iload_n hx hb dX3_listens_41 rfl (lv_at hl 2 rfl) ?_
    refine g_iald FX hW 5 HBp5 hf dX3_listens_42 (fun v4 hf => ?_)
    refine lv_aload_n hx hb dX3_listens_43 rfl (lv_at hl 0 rfl) ?_
    refine HBgX3_0_13 FX hW dX3_listens_44 ?_
    refine lv_if_ge (tgt := 57) hx hb dX3_listens_47 (by decide) (fun c47 => ?_) (fun c47 => ?_)
    · have hf := ifp c47 hf
      refine lv_aload_n hx hb dX3_listens_57 rfl (lv_at hl 0 rfl) ?_
      refine HBgX3_0_13 FX hW dX3_listens_58 ?_
      exact wHB_listens_61 FX hr hlk x2 v4 (hF s3.1 13) s3 _ _ _ (lv_sub hl [0, 2] rfl) hW hf
    · have hf := ifn c47 hf
      refine lv_aload_n hx hb dX3_listens_50 rfl (lv_at hl 1 rfl) ?_
      refine HBgX3_9_4 FX hW dX3_listens_51 ?_
      refine lv_goto (tgt := 61) hx hb dX3_listens_54 (by decide) ?_
      exact wHB_listens_61 FX hr hlk x2 v4 (bI B 0) s3 _ _ _ (lv_sub hl [0, 2] rfl) hW hf
  · have hf := ifn c6 hf
    refine lv_aload_n hx hb dX3_listens_9 rfl (lv_at hl 0 rfl) ?_
    refine HBgX3_0_3 FX hW dX3_listens_10 ?_
    refine lv_iload_n hx hb dX3_listens_13 rfl (lv_at hl 2 rfl) ?_
    refine lv_dup2_11 hx hb dX3_listens_14 rfl rfl ?_
    refine g_iald FX hW 4 HBp4 hf dX3_listens_15 (fun v5 hf => ?_)
    refine lv_iconst (v := 1) hx hb dX3_listens_16 (by decide) ?_
    refine lv_isub hx hb dX3_listens_17 ?_
    refine g_iast FX hW 4 HBp4 (L := HBx dA a b B wr) (HBt4) hf dX3_listens_18 (fun s6 H locs hW hf => ?_)
    refine lv_aload_n hx hb dX3_listens_19 rfl (lv_at hl 0 rfl) ?_
    refine HBgX3_0_4 FX hW dX3_listens_20 ?_
    refine lv_iload_n hx hb dX3_listens_23 rfl (lv_at hl 2 rfl) ?_
    refine lv_iconst (v := 0) hx hb dX3_listens_24 (by decide) ?_
    refine g_iast FX hW 5 HBp5 (L := HBx dA a b B wr) (HBt5) hf dX3_listens_25 (fun s7 H locs hW hf => ?_)
    obtain rfl := Option.some.inj hf
    exact g_vret FX hr hlk hW dX3_listens_26
set_option maxHeartbeats 4000000 in
set_option maxRecDepth 100000 in
theorem HBszX3_11 {a : Nat} {b : Nat → Nat} {B : Bk} {wr : va_W} {σ : HBst} (FX : CallFix p m c cc nL s args lw_all RX3) (hR : rJ2_size.frames + 1 ≤ R.frames ∧ 8 + (1 + 11) + rJ2_size.locals ≤ R.locals) (hcs : cells ≤ R.cells ∧ slots ≤ R.slots) (hl : ls.size = nL) (hrm : (rest.map fun v => v.category).sum ≤ 8) (hW : Wd D dA A s (HBx dA a b B wr σ) H locs) (hdg : decode cc pc = .ok (.invokevirtual 46, 3)) (kk : ∀ (H1 : Heap) (locs1 : List Loc), Wd D dA A s (HBx dA a b B wr σ) H1 locs1 → W p l e R s m args below meth c H1 locs1 cells slots Q (F0 m (pc + 3) ls (.int (bI B 5) :: rest))) : W p l e R s m args below meth c H locs cells slots Q (F0 m pc ls (.ref (bA B 1) :: rest)) := by
  have hk : (HBx dA a b B wr σ)[11]? = some ((bA B 1), .inr (13, [.int (bI B 4), .ref (bA B 4), .int (bI B 5)])) := rfl
  refine w_Vi (C := RJ2) (As := []) (rest := rest) (n := 0) (wr := []) FX (mJ2_size hk) (cwV 0 FX.2.2.2.2 (lw_V q332 q333 q334 q127 q335) rfl rfl rfl (by decide +kernel) hR) (va_recv hW.2.2.2.1 hW.1 (ci := 13) rfl hk) rfl hl rfl hrm ⟨Nat.le_trans (Nat.le_of_eq (Nat.add_zero cells)) hcs.1, Nat.le_trans (Nat.le_of_eq (Nat.add_zero slots)) hcs.2⟩ hdg hW.nil ?_
  exact fun H1 locs1 hW1 => kk H1 locs1 hW1.nil'
theorem HBsX3_0_10 {a : Nat} {b : Nat → Nat} {B : Bk} {wr : va_W} {σ : HBst} {α : Type} {q : α} {v : Int32} {k : HBst → Option α} (FX : CallFix p m c cc nL s args lw_all RX3) (hW : Wd D dA A s (HBx dA a b B wr σ) H locs) (hf : stp ((uF σ.1 10 v, σ.2)) k = some q) (hdg : decode cc pc = .ok (.putfield 84, 3)) (kk : ∀ (σ1 : HBst) (H1 : Heap) (locs1 : List Loc), Wd D dA A s (HBx dA a b B wr σ1) H1 locs1 → k σ1 = some q → W p l e R s m args below meth c H1 locs1 cells slots Q (F0 m (pc + 3) ls rest)) : W p l e R s m args below meth c H locs cells slots Q (F0 m pc ls (.int v :: .ref a :: rest)) :=
  g_put FX hW (C := RX3) (T := TX3) (N := 14) (ci := 3) (ty := .int) in_X3 tyX3 tyX3_ok nmX3 0 rfl rfl 10 (by decide) q291 (fun _ h => h) rfl (by decide +kernel) rfl rfl (Nat.le_of_ble_eq_true rfl) (ws' := HBx dA a b B wr ((uF σ.1 10 v, σ.2))) rfl hdg (fun H1 locs1 hW1 => kk _ H1 locs1 hW1 hf)
theorem HBt1 {a : Nat} {b : Nat → Nat} {B : Bk} {wr : va_W} {σ : HBst} {i v : Int32} : (HBx dA a b B wr σ).set 1 ((b 0), .inl (dA 0, 8, .inl (upd (hA σ.1 0) i.toNatClampNeg v))) = HBx dA a b B wr ((uA σ.1 0 i v, σ.2)) := rfl
set_option maxHeartbeats 4000000 in
set_option maxRecDepth 100000 in
theorem kHB_isRipe {a : Nat} {b : Nat → Nat} {B : Bk} {wr : va_W} {α : Type} {q : α} {k : Int32 → HBst → Option α} {x2 : Int32} {σ : HBst} (FX : CallFix p m c cc nL s args lw_all RX3) (hR : rHB_isRipe.frames + 1 ≤ R.frames ∧ 8 + (4 + 11) + rHB_isRipe.locals ≤ R.locals) (hcs : cells ≤ R.cells ∧ slots ≤ R.slots) (hl : ls.size = nL) (hrm : (rest.map fun v => v.category).sum ≤ 8) (hW : Wd D dA A s (HBx dA a b B wr σ) H locs) (hf : bnd2 (fHB_isRipe dA B x2 σ) k = some q) (hdg : decode cc pc = .ok (.invokevirtual 180, 3)) (kk : ∀ (r : Int32) (σ1 : HBst) (H1 : Heap) (locs1 : List Loc), Wd D dA A s (HBx dA a b B wr σ1) H1 locs1 → k r σ1 = some q → W p l e R s m args below meth c H1 locs1 cells slots Q (F0 m (pc + 3) ls (.int r :: rest))) : W p l e R s m args below meth c H locs cells slots Q (F0 m pc ls (.int x2 :: .ref (bA B 0) :: .ref a :: rest)) := by
  obtain ⟨r1, h1, hf⟩ := bnd (bnd2_eq hf)
  have hW2 := hW
  refine w_Vi (C := RX3) (As := [.ref (bA B 0), .int x2]) (rest := rest) (n := 2) (wr := []) FX (mHB_isRipe h1) (cwV 2 FX.2.2.2.2 (lw_V q1290 q1250 q1251 q129 q1252) rfl rfl rfl (by decide +kernel) hR) (va_recv hW2.2.2.2.1 hW2.1 (ci := 3) (q0 := 0) rfl rfl) rfl hl rfl hrm ⟨Nat.le_trans (Nat.le_of_eq (Nat.add_zero cells)) hcs.1, Nat.le_trans (Nat.le_of_eq (Nat.add_zero slots)) hcs.2⟩ hdg hW2.nil ?_
  exact fun H1 locs1 hW1 => kk r1.1 _ H1 locs1 (hW1.nil') hf
set_option maxHeartbeats 4000000 in
set_option maxRecDepth 100000 in
theorem kHBh_bringForth {a : Nat} {b : Nat → Nat} {B : Bk} {wr : va_W} {α : Type} {q : α} {k : Int32 → HBst → Option α} {x1 : Int32} {σ : HBst} (FX : CallFix p m c cc nL s args lw_all RX3) (hR : rX3_bringForth.frames + 1 ≤ R.frames ∧ 8 + (7 + 11) + rX3_bringForth.locals ≤ R.locals) (hcs : cells ≤ R.cells ∧ slots ≤ R.slots) (hl : ls.size = nL) (hrm : (rest.map fun v => v.category).sum ≤ 8) (hW : Wd D dA A s (HBx dA a b B wr σ) H locs) (hf : bnd2 (fX3_bringForth x1 σ.1) (fun r t0 => stp ((t0, σ.2)) (k r)) = some q) (hdg : decode cc pc = .ok (.invokevirtual 184, 3)) (kk : ∀ (r : Int32) (σ1 : HBst) (H1 : Heap) (locs1 : List Loc), Wd D dA A s (HBx dA a b B wr σ1) H1 locs1 → k r σ1 = some q → W p l e R s m args below meth c H1 locs1 cells slots Q (F0 m (pc + 3) ls (.int r :: rest))) : W p l e R s m args below meth c H locs cells slots Q (F0 m pc ls (.int x1 :: .ref a :: rest)) := by
  obtain ⟨r1, h1, hf⟩ := bnd (bnd2_eq hf)
  have hW2 := HB_in hW
  refine w_Vi (C := RX3) (As := [.int x1]) (rest := rest) (n := 1) (wr := []) FX (mX3_bringForth h1) (cwV 1 FX.2.2.2.2 (lw_V q1291 q1293 qs39 q129 q1294) rfl rfl rfl (by decide +kernel) hR) (va_recv hW2.2.2.2.1 hW2.1 (ci := 3) (q0 := 0) rfl rfl) rfl hl rfl hrm ⟨Nat.le_trans (Nat.le_of_eq (Nat.add_zero cells)) hcs.1, Nat.le_trans (Nat.le_of_eq (Nat.add_zero slots)) hcs.2⟩ hdg hW2.nil ?_
  exact fun H1 locs1 hW1 => kk r1.1 ((r1.2, σ.2)) H1 locs1 (HB_out hW1.nil') hf
set_option maxHeartbeats 4000000 in
set_option maxRecDepth 100000 in
theorem kHBh_has {a : Nat} {b : Nat → Nat} {B : Bk} {wr : va_W} {α : Type} {q : α} {k : Int32 → Option α} {x1 : Int32} {σ : HBst} (FX : CallFix p m c cc nL s args lw_all RX3) (hR : rX3_has.frames + 1 ≤ R.frames ∧ 8 + (2 + 11) + rX3_has.locals ≤ R.locals) (hcs : cells ≤ R.cells ∧ slots ≤ R.slots) (hl : ls.size = nL) (hrm : (rest.map fun v => v.category).sum ≤ 8) (hW : Wd D dA A s (HBx dA a b B wr σ) H locs) (hf : (fX3_has x1 σ.1).bind k = some q) (hdg : decode cc pc = .ok (.invokevirtual 55, 3)) (kk : ∀ (r : Int32) (H1 : Heap) (locs1 : List Loc), Wd D dA A s (HBx dA a b B wr σ) H1 locs1 → k r = some q → W p l e R s m args below meth c H1 locs1 cells slots Q (F0 m (pc + 3) ls (.int r :: rest))) : W p l e R s m args below meth c H locs cells slots Q (F0 m pc ls (.int x1 :: .ref a :: rest)) := by
  obtain ⟨r1, h1, hf⟩ := bnd hf
  have hW2 := HB_in hW
  refine w_Vi (C := RX3) (As := [.int x1]) (rest := rest) (n := 1) (wr := []) FX (mX3_has h1) (cwV 1 FX.2.2.2.2 (lw_V q336 q337 q338 q129 q339) rfl rfl rfl (by decide +kernel) hR) (va_recv hW2.2.2.2.1 hW2.1 (ci := 3) (q0 := 0) rfl rfl) rfl hl rfl hrm ⟨Nat.le_trans (Nat.le_of_eq (Nat.add_zero cells)) hcs.1, Nat.le_trans (Nat.le_of_eq (Nat.add_zero slots)) hcs.2⟩ hdg hW2.nil ?_
  exact fun H1 locs1 hW1 => kk r1 H1 locs1 (HB_out hW1.nil') hf
set_option maxHeartbeats 4000000 in
set_option maxRecDepth 100000 in
theorem kHB_listens {a : Nat} {b : Nat → Nat} {B : Bk} {wr : va_W} {α : Type} {q : α} {k : HBst → Option α} {x2 : Int32} {σ : HBst} (FX : CallFix p m c cc nL s args lw_all RX3) (hR : rHB_listens.frames + 1 ≤ R.frames ∧ 8 + (3 + 11) + rHB_listens.locals ≤ R.locals) (hcs : cells ≤ R.cells ∧ slots ≤ R.slots) (hl : ls.size = nL) (hrm : (rest.map fun v => v.category).sum ≤ 8) (hW : Wd D dA A s (HBx dA a b B wr σ) H locs) (hf : (fHB_listens dA B x2 σ).bind k = some q) (hdg : decode cc pc = .ok (.invokevirtual 176, 3)) (kk : ∀ (σ1 : HBst) (H1 : Heap) (locs1 : List Loc), Wd D dA A s (HBx dA a b B wr σ1) H1 locs1 → k σ1 = some q → W p l e R s m args below meth c H1 locs1 cells slots Q (F0 m (pc + 3) ls (rest))) : W p l e R s m args below meth c H locs cells slots Q (F0 m pc ls (.int x2 :: .ref (bA B 0) :: .ref a :: rest)) := by
  obtain ⟨r1, h1, hf⟩ := bnd hf
  have hW2 := hW
  refine w_Vv (C := RX3) (As := [.ref (bA B 0), .int x2]) (rest := rest) (n := 2) (wr := []) FX (mHB_listens h1) (cwV 2 FX.2.2.2.2 (lw_V q1282 q1284 qs38 q129 q1285) rfl rfl rfl (by decide +kernel) hR) (va_recv hW2.2.2.2.1 hW2.1 (ci := 3) (q0 := 0) rfl rfl) rfl hl rfl hrm ⟨Nat.le_trans (Nat.le_of_eq (Nat.add_zero cells)) hcs.1, Nat.le_trans (Nat.le_of_eq (Nat.add_zero slots)) hcs.2⟩ hdg hW2.nil ?_
  exact fun H1 locs1 hW1 => kk _ H1 locs1 (hW1.nil') hf
/-! TrunkLitters$House.go(LTrunkLitters$Book;)I: kind W -/
def fHB_go_98 (dA : Nat → Nat) (B : Bk) : Nat → Int32 → Int32 → HBst → Option (Int32 × HBst)
  | 0, _, _, _ => none
  | n + 1, x2, x3, σ => (if (bI B 5) ≤ x3 then stp ((uF σ.1 10 ((hF σ.1 10) + (1 : Int32)), σ.2)) fun s1 => some (x2, s1) else bnd2 (fHB_isRipe dA B x3 σ) fun r2 s3 => (if r2 = 0 then fHB_go_98 dA B n x2 (x3 + (1 : Int32)) s3 else bnd2 (fX3_bringForth x3 s3.1) fun r4 t0 => stp ((t0, s3.2)) fun s5 => fHB_go_98 dA B n (x2 ||| r4) (x3 + (1 : Int32)) s5))
def fHB_go_32 (dA : Nat → Nat) (B : Bk) : Nat → Int32 → Int32 → HBst → Option (Int32 × HBst)
  | 0, _, _, _ => none
  | n + 1, x2, x3, σ => (if (8 : Int32) ≤ x3 then fHB_go_98 dA B FU x2 (0 : Int32) σ else (fX3_has x3 σ.1).bind fun r1 => (if r1 = 0 then fHB_go_32 dA B n x2 (x3 + (1 : Int32)) σ else ald 8 (hA σ.1 4) x3 fun v2 => (if v2 = 0 then ald 8 (hA σ.1 0) x3 fun v3 => (if (20 : Int32) ≤ v3 then fHB_go_32 dA B n x2 (x3 + (1 : Int32)) σ else ald 8 (hA σ.1 1) x3 fun v4 => (fHB_left dA B v4 σ).bind fun r5 => (if r5 ≤ 0 then fHB_go_32 dA B n x2 (x3 + (1 : Int32)) σ else ald 8 (hA σ.1 0) x3 fun v6 => ast 8 x3 (stp ((uA σ.1 0 x3 (v6 + (1 : Int32)), σ.2)) fun s7 => fHB_go_32 dA B n x2 (x3 + (1 : Int32)) s7))) else fHB_go_32 dA B n x2 (x3 + (1 : Int32)) σ)))
def fHB_go_4 (dA : Nat → Nat) (B : Bk) : Nat → Int32 → Int32 → HBst → Option (Int32 × HBst)
  | 0, _, _, _ => none
  | n + 1, x2, x3, σ => (if (8 : Int32) ≤ x3 then fHB_go_32 dA B FU x2 (0 : Int32) σ else (fX3_has x3 σ.1).bind fun r1 => (if r1 = 0 then fHB_go_4 dA B n x2 (x3 + (1 : Int32)) σ else (fHB_listens dA B x3 σ).bind fun s2 => fHB_go_4 dA B n x2 (x3 + (1 : Int32)) s2))
def fHB_go (dA : Nat → Nat) (B : Bk) (σ : HBst) : Option (Int32 × HBst) := fHB_go_4 dA B FU (0 : Int32) (0 : Int32) σ
abbrev rHB_go : Room := { frames := 67, cells := 0, slots := 0, locals := 2647 }
set_option maxHeartbeats 4000000 in
set_option maxRecDepth 100000 in
theorem wHB_go_98 {a : Nat} {b : Nat → Nat} {B : Bk} {wr : va_W} {q : (Int32 × HBst)} (FX : CallFix p m c cX3_go 4 s args lw_all RX3) (hr : meth.sig.returnType = (some .int)) (hlk : meth.locks = false) : ∀ n : Nat, ∀ (x2 : Int32) (x3 : Int32) (σ : HBst) (H : Heap) (locs : List Loc) (ls : Array Slot), lv_has ls 4 [(0, .ref a), (1, .ref (bA B 0)), (2, .int x2), (3, .int x3)] → Wd D dA A s (HBx dA a b B wr σ) H locs → fHB_go_98 dA B n x2 x3 σ = some q → W p l e rHB_go s m args below meth c H locs 0 0 (QI D dA A below args s 0 0 q.1 (HBx dA a b B wr q.2)) (F0 m 98 ls []) := by
  have hx := FX.1; have hb := FX.2.1; have hown := FX.2.2.2.1; have hts := FX.2.2.2.2
  intro n
  induction n with
  | zero =>
    intro x2 x3 σ H locs ls hl hW hf
    cases (show (none : Option (Int32 × HBst)) = some q from hf)
  | succ n ih =>
    intro x2 x3 σ H locs ls hl hW hf
    rw [fHB_go_98] at hf
    refine lv_iload_n hx hb dX3_go_98 rfl (lv_at hl 3 rfl) ?_
    refine lv_aload_n hx hb dX3_go_99 rfl (lv_at hl 1 rfl) ?_
    refine HBgX3_9_0 FX hW dX3_go_100 ?_
    refine HBszX3_11 FX ⟨Nat.le_of_ble_eq_true rfl, Nat.le_of_ble_eq_true rfl⟩ ⟨Nat.zero_le _, Nat.zero_le _⟩ hl.1 (Nat.le_of_ble_eq_true rfl) hW dX3_go_103 (fun H locs hW => ?_)
    refine lv_icmp_ge (tgt := 132) hx hb dX3_go_106 (by decide) (fun c106 => ?_) (fun c106 => ?_)
    · have hf := ifp c106 hf
      refine lv_aload_n hx hb dX3_go_132 rfl (lv_at hl 0 rfl) ?_
      refine lv_dup hx hb dX3_go_133 rfl ?_
      refine HBgX3_0_10 FX hW dX3_go_134 ?_
      refine lv_iconst (v := 1) hx hb dX3_go_137 (by decide) ?_
      refine lv_iadd hx hb dX3_go_138 ?_
      refine HBsX3_0_10 FX hW hf dX3_go_139 (fun s1 H locs hW hf => ?_)
      refine lv_iload_n hx hb dX3_go_142 rfl (lv_at hl 2 rfl) ?_
      obtain rfl := Option.some.inj hf
      exact g_iret FX hr hlk hW rfl dX3_go_143
    · have hf := ifn c106 hf
      refine lv_aload_n hx hb dX3_go_109 rfl (lv_at hl 0 rfl) ?_
      refine lv_aload_n hx hb dX3_go_110 rfl (lv_at hl 1 rfl) ?_
      refine lv_iload_n hx hb dX3_go_111 rfl (lv_at hl 3 rfl) ?_
      refine kHB_isRipe FX ⟨Nat.le_of_ble_eq_true rfl, Nat.le_of_ble_eq_true rfl⟩ ⟨Nat.zero_le _, Nat.zero_le _⟩ hl.1 (Nat.le_of_ble_eq_true rfl) hW hf dX3_go_112 (fun r2 s3 H locs hW hf => ?_)
      refine lv_if_eq (tgt := 126) hx hb dX3_go_115 (by decide) (fun c115 => ?_) (fun c115 => ?_)
      · have hf := ifp c115 hf
        refine lv_iinc (v := (x3 + (1 : Int32))) (lv' := [(3, .int (x3 + (1 : Int32))), (0, .ref a), (1, .ref (bA B 0)), (2, .int x2)]) hx hb dX3_go_126 hl (k := 3) rfl rfl (by decide) rfl (fun ls hl => ?_)
        refine lv_goto (tgt := 98) hx hb dX3_go_129 (by decide) ?_
        exact ih x2 (x3 + (1 : Int32)) s3 _ _ _ (lv_sub hl [1, 2, 3, 0] rfl) hW hf
      · have hf := ifn c115 hf
        refine lv_iload_n hx hb dX3_go_118 rfl (lv_at hl 2 rfl) ?_
        refine lv_aload_n hx hb dX3_go_119 rfl (lv_at hl 0 rfl) ?_
        refine lv_iload_n hx hb dX3_go_120 rfl (lv_at hl 3 rfl) ?_
        refine kHBh_bringForth FX ⟨Nat.le_of_ble_eq_true rfl, Nat.le_of_ble_eq_true rfl⟩ ⟨Nat.zero_le _, Nat.zero_le _⟩ hl.1 (Nat.le_of_ble_eq_true rfl) hW hf dX3_go_121 (fun r4 s5 H locs hW hf => ?_)
        refine lv_ior hx hb dX3_go_124 ?_
        refine lv_istore_n (lv' := [(2, .int (x2 ||| r4)), (0, .ref a), (1, .ref (bA B 0)), (3, .int x3)]) hx hb dX3_go_125 rfl hl (by decide) rfl (fun ls hl => ?_)
        refine lv_iinc (v := (x3 + (1 : Int32))) (lv' := [(3, .int (x3 + (1 : Int32))), (2, .int (x2 ||| r4)), (0, .ref a), (1, .ref (bA B 0))]) hx hb dX3_go_126 hl (k := 3) rfl rfl (by decide) rfl (fun ls hl => ?_)
        refine lv_goto (tgt := 98) hx hb dX3_go_129 (by decide) ?_
        exact ih (x2 ||| r4) (x3 + (1 : Int32)) s5 _ _ _ (lv_sub hl [2, 3, 1, 0] rfl) hW hf
set_option maxHeartbeats 4000000 in
set_option maxRecDepth 100000 in
theorem wHB_go_32 {a : Nat} {b : Nat → Nat} {B : Bk} {wr : va_W} {q : (Int32 × HBst)} (FX : CallFix p m c cX3_go 4 s args lw_all RX3) (hr : meth.sig.returnType = (some .int)) (hlk : meth.locks = false) : ∀ n : Nat, ∀ (x2 : Int32) (x3 : Int32) (σ : HBst) (H : Heap) (locs : List Loc) (ls : Array Slot), lv_has ls 4 [(0, .ref a), (1, .ref (bA B 0)), (2, .int x2), (3, .int x3)] → Wd D dA A s (HBx dA a b B wr σ) H locs → fHB_go_32 dA B n x2 x3 σ = some q → W p l e rHB_go s m args below meth c H locs 0 0 (QI D dA A below args s 0 0 q.1 (HBx dA a b B wr q.2)) (F0 m 32 ls []) := by
  have hx := FX.1; have hb := FX.2.1; have hown := FX.2.2.2.1; have hts := FX.2.2.2.2
  intro n
  induction n with
  | zero =>
    intro x2 x3 σ H locs ls hl hW hf
    cases (show (none : Option (Int32 × HBst)) = some q from hf)
  | succ n ih =>
    intro x2 x3 σ H locs ls hl hW hf
    rw [fHB_go_32] at hf
    refine lv_iload_n hx hb dX3_go_32 rfl (lv_at hl 3 rfl) ?_
    refine lv_bipush (v := 8) hx hb dX3_go_33 (by decide) ?_
    refine lv_icmp_ge (tgt := 96) hx hb dX3_go_35 (by decide) (fun c35 => ?_) (fun c35 => ?_)
    · have hf := ifp c35 hf
      refine lv_iconst (v := 0) hx hb dX3_go_96 (by decide) ?_
      refine lv_istore_n (lv' := [(3, .int (0 : Int32)), (0, .ref a), (1, .ref (bA B 0)), (2, .int x2)]) hx hb dX3_go_97 rfl hl (by decide) rfl (fun ls hl => ?_)
      exact wHB_go_98 FX hr hlk _ x2 (0 : Int32) σ _ _ _ (lv_sub hl [1, 2, 3, 0] rfl) hW hf
    · have hf := ifn c35 hf
      refine lv_aload_n hx hb dX3_go_38 rfl (lv_at hl 0 rfl) ?_
      refine lv_iload_n hx hb dX3_go_39 rfl (lv_at hl 3 rfl) ?_
      refine kHBh_has FX ⟨Nat.le_of_ble_eq_true rfl, Nat.le_of_ble_eq_true rfl⟩ ⟨Nat.zero_le _, Nat.zero_le _⟩ hl.1 (Nat.le_of_ble_eq_true rfl) hW hf dX3_go_40 (fun r1 H locs hW hf => ?_)
      refine lv_if_eq (tgt := 90) hx hb dX3_go_43 (by decide) (fun c43 => ?_) (fun c43 => ?_)
      · have hf := ifp c43 hf
        refine lv_iinc (v := (x3 + (1 : Int32))) (lv' := [(3, .int (x3 + (1 : Int32))), (0, .ref a), (1, .ref (bA B 0)), (2, .int x2)]) hx hb dX3_go_90 hl (k := 3) rfl rfl (by decide) rfl (fun ls hl => ?_)
        refine lv_goto (tgt := 32) hx hb dX3_go_93 (by decide) ?_
        exact ih x2 (x3 + (1 : Int32)) σ _ _ _ (lv_sub hl [1, 2, 3, 0] rfl) hW hf
      · have hf := ifn c43 hf
        refine lv_aload_n hx hb dX3_go_46 rfl (lv_at hl 0 rfl) ?_
        refine HBgX3_0_4 FX hW dX3_go_47 ?_
        refine lv_iload_n hx hb dX3_go_50 rfl (lv_at hl 3 rfl) ?_
        refine g_iald FX hW 5 HBp5 hf dX3_go_51 (fun v2 hf => ?_)
        refine lv_if_ne (tgt := 90) hx hb dX3_go_52 (by decide) (fun c52 => ?_) (fun c52 => ?_)
        · have hf := ifn c52 hf
          refine lv_iinc (v := (x3 + (1 : Int32))) (lv' := [(3, .int (x3 + (1 : Int32))), (0, .ref a), (1, .ref (bA B 0)), (2, .int x2)]) hx hb dX3_go_90 hl (k := 3) rfl rfl (by decide) rfl (fun ls hl => ?_)
          refine lv_goto (tgt := 32) hx hb dX3_go_93 (by decide) ?_
          exact ih x2 (x3 + (1 : Int32)) σ _ _ _ (lv_sub hl [1, 2, 3, 0] rfl) hW hf
        · have hf := ifp c52 hf
          refine lv_aload_n hx hb dX3_go_55 rfl (lv_at hl 0 rfl) ?_
          refine HBgX3_0_0 FX hW dX3_go_56 ?_
          refine lv_iload_n hx hb dX3_go_59 rfl (lv_at hl 3 rfl) ?_
          refine g_iald FX hW 1 HBp1 hf dX3_go_60 (fun v3 hf => ?_)
          refine lv_bipush (v := 20) hx hb dX3_go_61 (by decide) ?_
          refine lv_icmp_ge (tgt := 90) hx hb dX3_go_63 (by decide) (fun c63 => ?_) (fun c63 => ?_)
          · have hf := ifp c63 hf
            refine lv_iinc (v := (x3 + (1 : Int32))) (lv' := [(3, .int (x3 + (1 : Int32))), (0, .ref a), (1, .ref (bA B 0)), (2, .int x2)]) hx hb dX3_go_90 hl (k := 3) rfl rfl (by decide) rfl (fun ls hl => ?_)
            refine lv_goto (tgt := 32) hx hb dX3_go_93 (by decide) ?_
            exact ih x2 (x3 + (1 : Int32)) σ _ _ _ (lv_sub hl [1, 2, 3, 0] rfl) hW hf
          · have hf := ifn c63 hf
            refine lv_aload_n hx hb dX3_go_66 rfl (lv_at hl 0 rfl) ?_
            refine lv_aload_n hx hb dX3_go_67 rfl (lv_at hl 1 rfl) ?_
            refine lv_aload_n hx hb dX3_go_68 rfl (lv_at hl 0 rfl) ?_
            refine HBgX3_0_1 FX hW dX3_go_69 ?_
            refine lv_iload_n hx hb dX3_go_72 rfl (lv_at hl 3 rfl) ?_
            refine g_iald FX hW 2 HBp2 hf dX3_go_73 (fun v4 hf => ?_)
            refine kHB_left FX ⟨Nat.le_of_ble_eq_true rfl, Nat.le_of_ble_eq_true rfl⟩ ⟨Nat.zero_le _, Nat.zero_le _⟩ hl.1 (Nat.le_of_ble_eq_true rfl) hW hf dX3_go_74 (fun r5 H locs hW hf => ?_)
            refine lv_if_le (tgt := 90) hx hb dX3_go_77 (by decide) (fun c77 => ?_) (fun c77 => ?_)
            · have hf := ifp c77 hf
              refine lv_iinc (v := (x3 + (1 : Int32))) (lv' := [(3, .int (x3 + (1 : Int32))), (0, .ref a), (1, .ref (bA B 0)), (2, .int x2)]) hx hb dX3_go_90 hl (k := 3) rfl rfl (by decide) rfl (fun ls hl => ?_)
              refine lv_goto (tgt := 32) hx hb dX3_go_93 (by decide) ?_
              exact ih x2 (x3 + (1 : Int32)) σ _ _ _ (lv_sub hl [1, 2, 3, 0] rfl) hW hf
            · have hf := ifn c77 hf
              refine lv_aload_n hx hb dX3_go_80 rfl (lv_at hl 0 rfl) ?_
              refine HBgX3_0_0 FX hW dX3_go_81 ?_
              refine lv_iload_n hx hb dX3_go_84 rfl (lv_at hl 3 rfl) ?_
              refine lv_dup2_11 hx hb dX3_go_85 rfl rfl ?_
              refine g_iald FX hW 1 HBp1 hf dX3_go_86 (fun v6 hf => ?_)
              refine lv_iconst (v := 1) hx hb dX3_go_87 (by decide) ?_
              refine lv_iadd hx hb dX3_go_88 ?_
              refine g_iast FX hW 1 HBp1 (L := HBx dA a b B wr) (HBt1) hf dX3_go_89 (fun s7 H locs hW hf => ?_)
              refine lv_iinc (v := (x3 + (1 : Int32))) (lv' := [(3, .int (x3 + (1 : Int32))), (0, .ref a), (1, .ref (bA B 0)), (2, .int x2)]) hx hb dX3_go_90 hl (k := 3) rfl rfl (by decide) rfl (fun ls hl => ?_)
              refine lv_goto (tgt := 32) hx hb dX3_go_93 (by decide) ?_
              exact ih x2 (x3 + (1 : Int32)) s7 _ _ _ (lv_sub hl [1, 2, 3, 0] rfl) hW hf
set_option maxHeartbeats 4000000 in
set_option maxRecDepth 100000 in
theorem wHB_go_4 {a : Nat} {b : Nat → Nat} {B : Bk} {wr : va_W} {q : (Int32 × HBst)} (FX : CallFix p m c cX3_go 4 s args lw_all RX3) (hr : meth.sig.returnType = (some .int)) (hlk : meth.locks = false) : ∀ n : Nat, ∀ (x2 : Int32) (x3 : Int32) (σ : HBst) (H : Heap) (locs : List Loc) (ls : Array Slot), lv_has ls 4 [(0, .ref a), (1, .ref (bA B 0)), (2, .int x2), (3, .int x3)] → Wd D dA A s (HBx dA a b B wr σ) H locs → fHB_go_4 dA B n x2 x3 σ = some q → W p l e rHB_go s m args below meth c H locs 0 0 (QI D dA A below args s 0 0 q.1 (HBx dA a b B wr q.2)) (F0 m 4 ls []) := by
  have hx := FX.1; have hb := FX.2.1; have hown := FX.2.2.2.1; have hts := FX.2.2.2.2
  intro n
  induction n with
  | zero =>
    intro x2 x3 σ H locs ls hl hW hf
    cases (show (none : Option (Int32 × HBst)) = some q from hf)
  | succ n ih =>
    intro x2 x3 σ H locs ls hl hW hf
    rw [fHB_go_4] at hf
    refine lv_iload_n hx hb dX3_go_4 rfl (lv_at hl 3 rfl) ?_
    refine lv_bipush (v := 8) hx hb dX3_go_5 (by decide) ?_
    refine lv_icmp_ge (tgt := 30) hx hb dX3_go_7 (by decide) (fun c7 => ?_) (fun c7 => ?_)
    · have hf := ifp c7 hf
      refine lv_iconst (v := 0) hx hb dX3_go_30 (by decide) ?_
      refine lv_istore_n (lv' := [(3, .int (0 : Int32)), (0, .ref a), (1, .ref (bA B 0)), (2, .int x2)]) hx hb dX3_go_31 rfl hl (by decide) rfl (fun ls hl => ?_)
      exact wHB_go_32 FX hr hlk _ x2 (0 : Int32) σ _ _ _ (lv_sub hl [1, 2, 3, 0] rfl) hW hf
    · have hf := ifn c7 hf
      refine lv_aload_n hx hb dX3_go_10 rfl (lv_at hl 0 rfl) ?_
      refine lv_iload_n hx hb dX3_go_11 rfl (lv_at hl 3 rfl) ?_
      refine kHBh_has FX ⟨Nat.le_of_ble_eq_true rfl, Nat.le_of_ble_eq_true rfl⟩ ⟨Nat.zero_le _, Nat.zero_le _⟩ hl.1 (Nat.le_of_ble_eq_true rfl) hW hf dX3_go_12 (fun r1 H locs hW hf => ?_)
      refine lv_if_eq (tgt := 24) hx hb dX3_go_15 (by decide) (fun c15 => ?_) (fun c15 => ?_)
      · have hf := ifp c15 hf
        refine lv_iinc (v := (x3 + (1 : Int32))) (lv' := [(3, .int (x3 + (1 : Int32))), (0, .ref a), (1, .ref (bA B 0)), (2, .int x2)]) hx hb dX3_go_24 hl (k := 3) rfl rfl (by decide) rfl (fun ls hl => ?_)
        refine lv_goto (tgt := 4) hx hb dX3_go_27 (by decide) ?_
        exact ih x2 (x3 + (1 : Int32)) σ _ _ _ (lv_sub hl [1, 2, 3, 0] rfl) hW hf
      · have hf := ifn c15 hf
        refine lv_aload_n hx hb dX3_go_18 rfl (lv_at hl 0 rfl) ?_
        refine lv_aload_n hx hb dX3_go_19 rfl (lv_at hl 1 rfl) ?_
        refine lv_iload_n hx hb dX3_go_20 rfl (lv_at hl 3 rfl) ?_
        refine kHB_listens FX ⟨Nat.le_of_ble_eq_true rfl, Nat.le_of_ble_eq_true rfl⟩ ⟨Nat.zero_le _, Nat.zero_le _⟩ hl.1 (Nat.le_of_ble_eq_true rfl) hW hf dX3_go_21 (fun s2 H locs hW hf => ?_)
        refine lv_iinc (v := (x3 + (1 : Int32))) (lv' := [(3, .int (x3 + (1 : Int32))), (0, .ref a), (1, .ref (bA B 0)), (2, .int x2)]) hx hb dX3_go_24 hl (k := 3) rfl rfl (by decide) rfl (fun ls hl => ?_)
        refine lv_goto (tgt := 4) hx hb dX3_go_27 (by decide) ?_
        exact ih x2 (x3 + (1 : Int32)) s2 _ _ _ (lv_sub hl [1, 2, 3, 0] rfl) hW hf
set_option maxHeartbeats 4000000 in
set_option maxRecDepth 100000 in
theorem mHB_go {a : Nat} {b : Nat → Nat} {B : Bk} {wr : va_W}  {σ : HBst} {q : (Int32 × HBst)} (hf : fHB_go dA B σ = some q) : CtI l yX3_go cX3_go 4 (some .int) rHB_go D dA [.ref a, .ref (bA B 0)] (HBx dA a b B wr σ) q.1 (HBx dA a b B wr q.2) := by
  refine e_I (by decide) (Nat.le_of_ble_eq_true rfl) ?_
  intro p e s m below meth c ls A FX hr hlk hl hW
  have hx := FX.1; have hb := FX.2.1; have hown := FX.2.2.2.1; have hts := FX.2.2.2.2
  have hl : lv_has ls 4 [(0, .ref a), (1, .ref (bA B 0))] := hl
  rw [fHB_go] at hf
  refine lv_iconst (v := 0) hx hb dX3_go_0 (by decide) ?_
  refine lv_istore_n (lv' := [(2, .int (0 : Int32)), (0, .ref a), (1, .ref (bA B 0))]) hx hb dX3_go_1 rfl hl (by decide) rfl (fun ls hl => ?_)
  refine lv_iconst (v := 0) hx hb dX3_go_2 (by decide) ?_
  refine lv_istore_n (lv' := [(3, .int (0 : Int32)), (2, .int (0 : Int32)), (0, .ref a), (1, .ref (bA B 0))]) hx hb dX3_go_3 rfl hl (by decide) rfl (fun ls hl => ?_)
  exact wHB_go_4 FX hr hlk _ (0 : Int32) (0 : Int32) σ _ _ _ (lv_sub hl [2, 3, 1, 0] rfl) hW hf
theorem HBgX3_0_7 {a : Nat} {b : Nat → Nat} {B : Bk} {wr : va_W} {σ : HBst} (FX : CallFix p m c cc nL s args lw_all RX3) (hW : Wd D dA A s (HBx dA a b B wr σ) H locs) (hdg : decode cc pc = .ok (.getfield 33, 3)) (kk : W p l e R s m args below meth c H locs cells slots Q (F0 m (pc + 3) ls (.ref (b 7) :: rest))) : W p l e R s m args below meth c H locs cells slots Q (F0 m pc ls (.ref a :: rest)) :=
  g_get FX hW (C := RX3) (T := TX3) (N := 14) (ci := 3) in_X3 0 rfl rfl 7 (by decide) q285 (fun _ h => h) rfl hdg kk
theorem HBp8 {a : Nat} {b : Nat → Nat} {B : Bk} {wr : va_W} {σ : HBst} : (HBx dA a b B wr σ)[8]? = some ((b 7), .inl (dA 0, 8, .inl (hA σ.1 7))) := rfl
theorem HBt8 {a : Nat} {b : Nat → Nat} {B : Bk} {wr : va_W} {σ : HBst} {i v : Int32} : (HBx dA a b B wr σ).set 8 ((b 7), .inl (dA 0, 8, .inl (upd (hA σ.1 7) i.toNatClampNeg v))) = HBx dA a b B wr ((uA σ.1 7 i v, σ.2)) := rfl
theorem HBt3 {a : Nat} {b : Nat → Nat} {B : Bk} {wr : va_W} {σ : HBst} {i v : Int32} : (HBx dA a b B wr σ).set 3 ((b 2), .inl (dA 0, 8, .inl (upd (hA σ.1 2) i.toNatClampNeg v))) = HBx dA a b B wr ((uA σ.1 2 i v, σ.2)) := rfl
theorem HBgX3_9_1 {a : Nat} {b : Nat → Nat} {B : Bk} {wr : va_W} {σ : HBst} (FX : CallFix p m c cc nL s args lw_all RX3) (hW : Wd D dA A s (HBx dA a b B wr σ) H locs) (hdg : decode cc pc = .ok (.getfield 40, 3)) (kk : W p l e R s m args below meth c H locs cells slots Q (F0 m (pc + 3) ls (.ref (bA B 2) :: rest))) : W p l e R s m args below meth c H locs cells slots Q (F0 m pc ls (.ref (bA B 0) :: rest)) :=
  g_get FX hW (C := RX1) (T := TX1) (N := 8) (ci := 1) in_X1 9 rfl rfl 1 (by decide) q231 (fun _ h => h) rfl hdg kk
set_option maxHeartbeats 4000000 in
set_option maxRecDepth 100000 in
theorem HBgetX3_13 {a : Nat} {b : Nat → Nat} {B : Bk} {wr : va_W} {σ : HBst} {α : Type} {q : α} {i : Int32} {k : Nat → Option α} (FX : CallFix p m c cc nL s args lw_all RX3) (hR : rJ2_get.frames + 1 ≤ R.frames ∧ 8 + (2 + 11) + rJ2_get.locals ≤ R.locals) (hcs : cells ≤ R.cells ∧ slots ≤ R.slots) (hl : ls.size = nL) (hrm : (rest.map fun v => v.category).sum ≤ 8) (hW : Wd D dA A s (HBx dA a b B wr σ) H locs) (hf : lget (bA B 7) (bI B 7) (bT B) i k = some q) (hdg : decode cc pc = .ok (.invokevirtual 63, 3)) (kk : ∀ (x : Nat) (H1 : Heap) (locs1 : List Loc), Wd D dA A s (HBx dA a b B wr σ) H1 locs1 → k x = some q → W p l e R s m args below meth c H1 locs1 cells slots Q (F0 m (pc + 3) ls (.ref x :: rest))) : W p l e R s m args below meth c H locs cells slots Q (F0 m pc ls (.int i :: .ref (bA B 2) :: rest)) := by
  obtain ⟨h0, h1, h2, x, h3, hf⟩ := lget_some hf
  have hk : (HBx dA a b B wr σ)[13]? = some ((bA B 2), .inr (13, [.int (bI B 6), .ref (bA B 5), .int (bI B 7)])) := rfl
  have he : (HBx dA a b B wr σ)[14]? = some ((bA B 5), .inl (dA 4, (bA B 7), .inr (.inr (.inr (.inr (bT B)))))) := rfl
  refine w_VR (C := RJ2) (As := [.int i]) (rest := rest) (n := 1) (wr := []) FX (mJ2_get hk he h0 h1 h2 h3) (cwV 1 FX.2.2.2.2 (lw_V q344 q345 q346 q127 q347) rfl rfl rfl (by decide +kernel) hR) (va_recv hW.2.2.2.1 hW.1 (ci := 13) rfl hk) rfl hl rfl hrm ⟨Nat.le_trans (Nat.le_of_eq (Nat.add_zero cells)) hcs.1, Nat.le_trans (Nat.le_of_eq (Nat.add_zero slots)) hcs.2⟩ hdg hW.nil ?_
  exact fun H1 locs1 hW1 => kk x H1 locs1 hW1.nil' hf
theorem HBcstX3_X9 {a : Nat} {b : Nat → Nat} {B : Bk} {wr : va_W} {σ : HBst} {α : Type} {q : α} {x : Nat} {k : Option α} (FX : CallFix p m c cc nL s args lw_all RX3) (hW : Wd D dA A s (HBx dA a b B wr σ) H locs) (hf : pck (bP B) x 8 k = some q) (hdg : decode cc pc = .ok (.checkcast 67, 3)) (kk : k = some q → W p l e R s m args below meth c H locs cells slots Q (F0 m (pc + 3) ls (.ref x :: rest))) : W p l e R s m args below meth c H locs cells slots Q (F0 m pc ls (.ref x :: rest)) := by
  obtain ⟨⟨fs, hx⟩, hf⟩ := pck_some hf
  obtain ⟨j, hj⟩ := hlk_get hx
  obtain ⟨j2, hj2⟩ := pool_in (pre := [(a, .inr (3, [.ref (b 0), .ref (b 1), .ref (b 2), .ref (b 3), .ref (b 4), .ref (b 5), .ref (b 6), .ref (b 7), .int (hF σ.1 8), .int (hF σ.1 9), .int (hF σ.1 10), .int (hF σ.1 11), .int (hF σ.1 12), .int (hF σ.1 13)])), ((b 0), .inl (dA 0, 8, .inl (hA σ.1 0))), ((b 1), .inl (dA 0, 8, .inl (hA σ.1 1))), ((b 2), .inl (dA 0, 8, .inl (hA σ.1 2))), ((b 3), .inl (dA 0, 8, .inl (hA σ.1 3))), ((b 4), .inl (dA 0, 8, .inl (hA σ.1 4))), ((b 5), .inl (dA 0, 8, .inl (hA σ.1 5))), ((b 6), .inl (dA 0, 8, .inl (hA σ.1 6))), ((b 7), .inl (dA 0, 8, .inl (hA σ.1 7))), ((bA B 0), .inr (1, [.ref (bA B 1), .ref (bA B 2), .ref (bA B 3), va_rf (bN B), .int (bI B 0), .int (bI B 1), .int (bI B 2), .int (bI B 3)])), ((bA B 3), .inr (2, [.int (σ.2 0), .int (σ.2 1), .int (σ.2 2), .int (σ.2 3), .int (σ.2 4)])), ((bA B 1), .inr (13, [.int (bI B 4), .ref (bA B 4), .int (bI B 5)])), ((bA B 4), .inl (dA 4, (bA B 6), .inr (.inr (.inr (.inr (bR B)))))), ((bA B 2), .inr (13, [.int (bI B 6), .ref (bA B 5), .int (bI B 7)])), ((bA B 5), .inl (dA 4, (bA B 7), .inr (.inr (.inr (.inr (bT B))))))]) (wr := wr) hj
  exact g_castS FX hW (C := RX9) (T := TX9) (N := 5) (ci := 8) rfl q358 ⟨j2, fs, hj2⟩ hdg (kk hf)
theorem HBpgX3_X9_4 {a : Nat} {b : Nat → Nat} {B : Bk} {wr : va_W} {σ : HBst} {α : Type} {q : α} {x : Nat} {k : Int32 → Option α} (FX : CallFix p m c cc nL s args lw_all RX3) (hW : Wd D dA A s (HBx dA a b B wr σ) H locs) (hf : pgi (bP B) x 8 4 k = some q) (hdg : decode cc pc = .ok (.getfield 75, 3)) (kk : ∀ v : Int32, k v = some q → W p l e R s m args below meth c H locs cells slots Q (F0 m (pc + 3) ls (.int v :: rest))) : W p l e R s m args below meth c H locs cells slots Q (F0 m pc ls (.ref x :: rest)) := by
  obtain ⟨fs, v, hx, hv, hf⟩ := pgi_some hf
  obtain ⟨j, hj⟩ := hlk_get hx
  obtain ⟨j2, hj2⟩ := pool_in (pre := [(a, .inr (3, [.ref (b 0), .ref (b 1), .ref (b 2), .ref (b 3), .ref (b 4), .ref (b 5), .ref (b 6), .ref (b 7), .int (hF σ.1 8), .int (hF σ.1 9), .int (hF σ.1 10), .int (hF σ.1 11), .int (hF σ.1 12), .int (hF σ.1 13)])), ((b 0), .inl (dA 0, 8, .inl (hA σ.1 0))), ((b 1), .inl (dA 0, 8, .inl (hA σ.1 1))), ((b 2), .inl (dA 0, 8, .inl (hA σ.1 2))), ((b 3), .inl (dA 0, 8, .inl (hA σ.1 3))), ((b 4), .inl (dA 0, 8, .inl (hA σ.1 4))), ((b 5), .inl (dA 0, 8, .inl (hA σ.1 5))), ((b 6), .inl (dA 0, 8, .inl (hA σ.1 6))), ((b 7), .inl (dA 0, 8, .inl (hA σ.1 7))), ((bA B 0), .inr (1, [.ref (bA B 1), .ref (bA B 2), .ref (bA B 3), va_rf (bN B), .int (bI B 0), .int (bI B 1), .int (bI B 2), .int (bI B 3)])), ((bA B 3), .inr (2, [.int (σ.2 0), .int (σ.2 1), .int (σ.2 2), .int (σ.2 3), .int (σ.2 4)])), ((bA B 1), .inr (13, [.int (bI B 4), .ref (bA B 4), .int (bI B 5)])), ((bA B 4), .inl (dA 4, (bA B 6), .inr (.inr (.inr (.inr (bR B)))))), ((bA B 2), .inr (13, [.int (bI B 6), .ref (bA B 5), .int (bI B 7)])), ((bA B 5), .inl (dA 4, (bA B 7), .inr (.inr (.inr (.inr (bT B))))))]) (wr := wr) hj
  exact g_get FX hW (C := RX9) (T := TX9) (N := 5) (ci := 8) in_X9 j2 hj2 rfl 4 (by decide) q1003 (fun _ h => h) hv hdg (kk v hf)
theorem HBt2 {a : Nat} {b : Nat → Nat} {B : Bk} {wr : va_W} {σ : HBst} {i v : Int32} : (HBx dA a b B wr σ).set 2 ((b 1), .inl (dA 0, 8, .inl (upd (hA σ.1 1) i.toNatClampNeg v))) = HBx dA a b B wr ((uA σ.1 1 i v, σ.2)) := rfl
theorem HBpgX3_X9_3 {a : Nat} {b : Nat → Nat} {B : Bk} {wr : va_W} {σ : HBst} {α : Type} {q : α} {x : Nat} {k : Int32 → Option α} (FX : CallFix p m c cc nL s args lw_all RX3) (hW : Wd D dA A s (HBx dA a b B wr σ) H locs) (hf : pgi (bP B) x 8 3 k = some q) (hdg : decode cc pc = .ok (.getfield 73, 3)) (kk : ∀ v : Int32, k v = some q → W p l e R s m args below meth c H locs cells slots Q (F0 m (pc + 3) ls (.int v :: rest))) : W p l e R s m args below meth c H locs cells slots Q (F0 m pc ls (.ref x :: rest)) := by
  obtain ⟨fs, v, hx, hv, hf⟩ := pgi_some hf
  obtain ⟨j, hj⟩ := hlk_get hx
  obtain ⟨j2, hj2⟩ := pool_in (pre := [(a, .inr (3, [.ref (b 0), .ref (b 1), .ref (b 2), .ref (b 3), .ref (b 4), .ref (b 5), .ref (b 6), .ref (b 7), .int (hF σ.1 8), .int (hF σ.1 9), .int (hF σ.1 10), .int (hF σ.1 11), .int (hF σ.1 12), .int (hF σ.1 13)])), ((b 0), .inl (dA 0, 8, .inl (hA σ.1 0))), ((b 1), .inl (dA 0, 8, .inl (hA σ.1 1))), ((b 2), .inl (dA 0, 8, .inl (hA σ.1 2))), ((b 3), .inl (dA 0, 8, .inl (hA σ.1 3))), ((b 4), .inl (dA 0, 8, .inl (hA σ.1 4))), ((b 5), .inl (dA 0, 8, .inl (hA σ.1 5))), ((b 6), .inl (dA 0, 8, .inl (hA σ.1 6))), ((b 7), .inl (dA 0, 8, .inl (hA σ.1 7))), ((bA B 0), .inr (1, [.ref (bA B 1), .ref (bA B 2), .ref (bA B 3), va_rf (bN B), .int (bI B 0), .int (bI B 1), .int (bI B 2), .int (bI B 3)])), ((bA B 3), .inr (2, [.int (σ.2 0), .int (σ.2 1), .int (σ.2 2), .int (σ.2 3), .int (σ.2 4)])), ((bA B 1), .inr (13, [.int (bI B 4), .ref (bA B 4), .int (bI B 5)])), ((bA B 4), .inl (dA 4, (bA B 6), .inr (.inr (.inr (.inr (bR B)))))), ((bA B 2), .inr (13, [.int (bI B 6), .ref (bA B 5), .int (bI B 7)])), ((bA B 5), .inl (dA 4, (bA B 7), .inr (.inr (.inr (.inr (bT B))))))]) (wr := wr) hj
  exact g_get FX hW (C := RX9) (T := TX9) (N := 5) (ci := 8) in_X9 j2 hj2 rfl 3 (by decide) q1000 (fun _ h => h) hv hdg (kk v hf)
theorem HBpgX3_X9_2 {a : Nat} {b : Nat → Nat} {B : Bk} {wr : va_W} {σ : HBst} {α : Type} {q : α} {x : Nat} {k : Int32 → Option α} (FX : CallFix p m c cc nL s args lw_all RX3) (hW : Wd D dA A s (HBx dA a b B wr σ) H locs) (hf : pgi (bP B) x 8 2 k = some q) (hdg : decode cc pc = .ok (.getfield 71, 3)) (kk : ∀ v : Int32, k v = some q → W p l e R s m args below meth c H locs cells slots Q (F0 m (pc + 3) ls (.int v :: rest))) : W p l e R s m args below meth c H locs cells slots Q (F0 m pc ls (.ref x :: rest)) := by
  obtain ⟨fs, v, hx, hv, hf⟩ := pgi_some hf
  obtain ⟨j, hj⟩ := hlk_get hx
  obtain ⟨j2, hj2⟩ := pool_in (pre := [(a, .inr (3, [.ref (b 0), .ref (b 1), .ref (b 2), .ref (b 3), .ref (b 4), .ref (b 5), .ref (b 6), .ref (b 7), .int (hF σ.1 8), .int (hF σ.1 9), .int (hF σ.1 10), .int (hF σ.1 11), .int (hF σ.1 12), .int (hF σ.1 13)])), ((b 0), .inl (dA 0, 8, .inl (hA σ.1 0))), ((b 1), .inl (dA 0, 8, .inl (hA σ.1 1))), ((b 2), .inl (dA 0, 8, .inl (hA σ.1 2))), ((b 3), .inl (dA 0, 8, .inl (hA σ.1 3))), ((b 4), .inl (dA 0, 8, .inl (hA σ.1 4))), ((b 5), .inl (dA 0, 8, .inl (hA σ.1 5))), ((b 6), .inl (dA 0, 8, .inl (hA σ.1 6))), ((b 7), .inl (dA 0, 8, .inl (hA σ.1 7))), ((bA B 0), .inr (1, [.ref (bA B 1), .ref (bA B 2), .ref (bA B 3), va_rf (bN B), .int (bI B 0), .int (bI B 1), .int (bI B 2), .int (bI B 3)])), ((bA B 3), .inr (2, [.int (σ.2 0), .int (σ.2 1), .int (σ.2 2), .int (σ.2 3), .int (σ.2 4)])), ((bA B 1), .inr (13, [.int (bI B 4), .ref (bA B 4), .int (bI B 5)])), ((bA B 4), .inl (dA 4, (bA B 6), .inr (.inr (.inr (.inr (bR B)))))), ((bA B 2), .inr (13, [.int (bI B 6), .ref (bA B 5), .int (bI B 7)])), ((bA B 5), .inl (dA 4, (bA B 7), .inr (.inr (.inr (.inr (bT B))))))]) (wr := wr) hj
  exact g_get FX hW (C := RX9) (T := TX9) (N := 5) (ci := 8) in_X9 j2 hj2 rfl 2 (by decide) q998 (fun _ h => h) hv hdg (kk v hf)
theorem HBsX3_0_12 {a : Nat} {b : Nat → Nat} {B : Bk} {wr : va_W} {σ : HBst} {α : Type} {q : α} {v : Int32} {k : HBst → Option α} (FX : CallFix p m c cc nL s args lw_all RX3) (hW : Wd D dA A s (HBx dA a b B wr σ) H locs) (hf : stp ((uF σ.1 12 v, σ.2)) k = some q) (hdg : decode cc pc = .ok (.putfield 77, 3)) (kk : ∀ (σ1 : HBst) (H1 : Heap) (locs1 : List Loc), Wd D dA A s (HBx dA a b B wr σ1) H1 locs1 → k σ1 = some q → W p l e R s m args below meth c H1 locs1 cells slots Q (F0 m (pc + 3) ls rest)) : W p l e R s m args below meth c H locs cells slots Q (F0 m pc ls (.int v :: .ref a :: rest)) :=
  g_put FX hW (C := RX3) (T := TX3) (N := 14) (ci := 3) (ty := .int) in_X3 tyX3 tyX3_ok nmX3 0 rfl rfl 12 (by decide) q295 (fun _ h => h) rfl (by decide +kernel) rfl rfl (Nat.le_of_ble_eq_true rfl) (ws' := HBx dA a b B wr ((uF σ.1 12 v, σ.2))) rfl hdg (fun H1 locs1 hW1 => kk _ H1 locs1 hW1 hf)
theorem HBgX3_9_5 {a : Nat} {b : Nat → Nat} {B : Bk} {wr : va_W} {σ : HBst} (FX : CallFix p m c cc nL s args lw_all RX3) (hW : Wd D dA A s (HBx dA a b B wr σ) H locs) (hdg : decode cc pc = .ok (.getfield 80, 3)) (kk : W p l e R s m args below meth c H locs cells slots Q (F0 m (pc + 3) ls (.int (bI B 1) :: rest))) : W p l e R s m args below meth c H locs cells slots Q (F0 m pc ls (.ref (bA B 0) :: rest)) :=
  g_get FX hW (C := RX1) (T := TX1) (N := 8) (ci := 1) in_X1 9 rfl rfl 5 (by decide) q242 (fun _ h => h) rfl hdg kk
theorem HBsX3_0_9 {a : Nat} {b : Nat → Nat} {B : Bk} {wr : va_W} {σ : HBst} {α : Type} {q : α} {v : Int32} {k : HBst → Option α} (FX : CallFix p m c cc nL s args lw_all RX3) (hW : Wd D dA A s (HBx dA a b B wr σ) H locs) (hf : stp ((uF σ.1 9 v, σ.2)) k = some q) (hdg : decode cc pc = .ok (.putfield 83, 3)) (kk : ∀ (σ1 : HBst) (H1 : Heap) (locs1 : List Loc), Wd D dA A s (HBx dA a b B wr σ1) H1 locs1 → k σ1 = some q → W p l e R s m args below meth c H1 locs1 cells slots Q (F0 m (pc + 3) ls rest)) : W p l e R s m args below meth c H locs cells slots Q (F0 m pc ls (.int v :: .ref a :: rest)) :=
  g_put FX hW (C := RX3) (T := TX3) (N := 14) (ci := 3) (ty := .int) in_X3 tyX3 tyX3_ok nmX3 0 rfl rfl 9 (by decide) q289 (fun _ h => h) rfl (by decide +kernel) rfl rfl (Nat.le_of_ble_eq_true rfl) (ws' := HBx dA a b B wr ((uF σ.1 9 v, σ.2))) rfl hdg (fun H1 locs1 hW1 => kk _ H1 locs1 hW1 hf)
theorem HBgX3_9_6 {a : Nat} {b : Nat → Nat} {B : Bk} {wr : va_W} {σ : HBst} (FX : CallFix p m c cc nL s args lw_all RX3) (hW : Wd D dA A s (HBx dA a b B wr σ) H locs) (hdg : decode cc pc = .ok (.getfield 87, 3)) (kk : W p l e R s m args below meth c H locs cells slots Q (F0 m (pc + 3) ls (.int (bI B 2) :: rest))) : W p l e R s m args below meth c H locs cells slots Q (F0 m pc ls (.ref (bA B 0) :: rest)) :=
  g_get FX hW (C := RX1) (T := TX1) (N := 8) (ci := 1) in_X1 9 rfl rfl 6 (by decide) q244 (fun _ h => h) rfl hdg kk
theorem HBsX3_0_11 {a : Nat} {b : Nat → Nat} {B : Bk} {wr : va_W} {σ : HBst} {α : Type} {q : α} {v : Int32} {k : HBst → Option α} (FX : CallFix p m c cc nL s args lw_all RX3) (hW : Wd D dA A s (HBx dA a b B wr σ) H locs) (hf : stp ((uF σ.1 11 v, σ.2)) k = some q) (hdg : decode cc pc = .ok (.putfield 90, 3)) (kk : ∀ (σ1 : HBst) (H1 : Heap) (locs1 : List Loc), Wd D dA A s (HBx dA a b B wr σ1) H1 locs1 → k σ1 = some q → W p l e R s m args below meth c H1 locs1 cells slots Q (F0 m (pc + 3) ls rest)) : W p l e R s m args below meth c H locs cells slots Q (F0 m pc ls (.int v :: .ref a :: rest)) :=
  g_put FX hW (C := RX3) (T := TX3) (N := 14) (ci := 3) (ty := .int) in_X3 tyX3 tyX3_ok nmX3 0 rfl rfl 11 (by decide) q293 (fun _ h => h) rfl (by decide +kernel) rfl rfl (Nat.le_of_ble_eq_true rfl) (ws' := HBx dA a b B wr ((uF σ.1 11 v, σ.2))) rfl hdg (fun H1 locs1 hW1 => kk _ H1 locs1 hW1 hf)
theorem HBsX3_0_13 {a : Nat} {b : Nat → Nat} {B : Bk} {wr : va_W} {σ : HBst} {α : Type} {q : α} {v : Int32} {k : HBst → Option α} (FX : CallFix p m c cc nL s args lw_all RX3) (hW : Wd D dA A s (HBx dA a b B wr σ) H locs) (hf : stp ((uF σ.1 13 v, σ.2)) k = some q) (hdg : decode cc pc = .ok (.putfield 36, 3)) (kk : ∀ (σ1 : HBst) (H1 : Heap) (locs1 : List Loc), Wd D dA A s (HBx dA a b B wr σ1) H1 locs1 → k σ1 = some q → W p l e R s m args below meth c H1 locs1 cells slots Q (F0 m (pc + 3) ls rest)) : W p l e R s m args below meth c H locs cells slots Q (F0 m pc ls (.int v :: .ref a :: rest)) :=
  g_put FX hW (C := RX3) (T := TX3) (N := 14) (ci := 3) (ty := .int) in_X3 tyX3 tyX3_ok nmX3 0 rfl rfl 13 (by decide) q296 (fun _ h => h) rfl (by decide +kernel) rfl rfl (Nat.le_of_ble_eq_true rfl) (ws' := HBx dA a b B wr ((uF σ.1 13 v, σ.2))) rfl hdg (fun H1 locs1 hW1 => kk _ H1 locs1 hW1 hf)
theorem HBpgX3_X9_1 {a : Nat} {b : Nat → Nat} {B : Bk} {wr : va_W} {σ : HBst} {α : Type} {q : α} {x : Nat} {k : Int32 → Option α} (FX : CallFix p m c cc nL s args lw_all RX3) (hW : Wd D dA A s (HBx dA a b B wr σ) H locs) (hf : pgi (bP B) x 8 1 k = some q) (hdg : decode cc pc = .ok (.getfield 69, 3)) (kk : ∀ v : Int32, k v = some q → W p l e R s m args below meth c H locs cells slots Q (F0 m (pc + 3) ls (.int v :: rest))) : W p l e R s m args below meth c H locs cells slots Q (F0 m pc ls (.ref x :: rest)) := by
  obtain ⟨fs, v, hx, hv, hf⟩ := pgi_some hf
  obtain ⟨j, hj⟩ := hlk_get hx
  obtain ⟨j2, hj2⟩ := pool_in (pre := [(a, .inr (3, [.ref (b 0), .ref (b 1), .ref (b 2), .ref (b 3), .ref (b 4), .ref (b 5), .ref (b 6), .ref (b 7), .int (hF σ.1 8), .int (hF σ.1 9), .int (hF σ.1 10), .int (hF σ.1 11), .int (hF σ.1 12), .int (hF σ.1 13)])), ((b 0), .inl (dA 0, 8, .inl (hA σ.1 0))), ((b 1), .inl (dA 0, 8, .inl (hA σ.1 1))), ((b 2), .inl (dA 0, 8, .inl (hA σ.1 2))), ((b 3), .inl (dA 0, 8, .inl (hA σ.1 3))), ((b 4), .inl (dA 0, 8, .inl (hA σ.1 4))), ((b 5), .inl (dA 0, 8, .inl (hA σ.1 5))), ((b 6), .inl (dA 0, 8, .inl (hA σ.1 6))), ((b 7), .inl (dA 0, 8, .inl (hA σ.1 7))), ((bA B 0), .inr (1, [.ref (bA B 1), .ref (bA B 2), .ref (bA B 3), va_rf (bN B), .int (bI B 0), .int (bI B 1), .int (bI B 2), .int (bI B 3)])), ((bA B 3), .inr (2, [.int (σ.2 0), .int (σ.2 1), .int (σ.2 2), .int (σ.2 3), .int (σ.2 4)])), ((bA B 1), .inr (13, [.int (bI B 4), .ref (bA B 4), .int (bI B 5)])), ((bA B 4), .inl (dA 4, (bA B 6), .inr (.inr (.inr (.inr (bR B)))))), ((bA B 2), .inr (13, [.int (bI B 6), .ref (bA B 5), .int (bI B 7)])), ((bA B 5), .inl (dA 4, (bA B 7), .inr (.inr (.inr (.inr (bT B))))))]) (wr := wr) hj
  exact g_get FX hW (C := RX9) (T := TX9) (N := 5) (ci := 8) in_X9 j2 hj2 rfl 1 (by decide) q996 (fun _ h => h) hv hdg (kk v hf)
set_option maxHeartbeats 4000000 in
set_option maxRecDepth 100000 in
theorem HBszX3_13 {a : Nat} {b : Nat → Nat} {B : Bk} {wr : va_W} {σ : HBst} (FX : CallFix p m c cc nL s args lw_all RX3) (hR : rJ2_size.frames + 1 ≤ R.frames ∧ 8 + (1 + 11) + rJ2_size.locals ≤ R.locals) (hcs : cells ≤ R.cells ∧ slots ≤ R.slots) (hl : ls.size = nL) (hrm : (rest.map fun v => v.category).sum ≤ 8) (hW : Wd D dA A s (HBx dA a b B wr σ) H locs) (hdg : decode cc pc = .ok (.invokevirtual 46, 3)) (kk : ∀ (H1 : Heap) (locs1 : List Loc), Wd D dA A s (HBx dA a b B wr σ) H1 locs1 → W p l e R s m args below meth c H1 locs1 cells slots Q (F0 m (pc + 3) ls (.int (bI B 7) :: rest))) : W p l e R s m args below meth c H locs cells slots Q (F0 m pc ls (.ref (bA B 2) :: rest)) := by
  have hk : (HBx dA a b B wr σ)[13]? = some ((bA B 2), .inr (13, [.int (bI B 6), .ref (bA B 5), .int (bI B 7)])) := rfl
  refine w_Vi (C := RJ2) (As := []) (rest := rest) (n := 0) (wr := []) FX (mJ2_size hk) (cwV 0 FX.2.2.2.2 (lw_V q332 q333 q334 q127 q335) rfl rfl rfl (by decide +kernel) hR) (va_recv hW.2.2.2.1 hW.1 (ci := 13) rfl hk) rfl hl rfl hrm ⟨Nat.le_trans (Nat.le_of_eq (Nat.add_zero cells)) hcs.1, Nat.le_trans (Nat.le_of_eq (Nat.add_zero slots)) hcs.2⟩ hdg hW.nil ?_
  exact fun H1 locs1 hW1 => kk H1 locs1 hW1.nil'
theorem HBsX3_0_8 {a : Nat} {b : Nat → Nat} {B : Bk} {wr : va_W} {σ : HBst} {α : Type} {q : α} {v : Int32} {k : HBst → Option α} (FX : CallFix p m c cc nL s args lw_all RX3) (hW : Wd D dA A s (HBx dA a b B wr σ) H locs) (hf : stp ((uF σ.1 8 v, σ.2)) k = some q) (hdg : decode cc pc = .ok (.putfield 52, 3)) (kk : ∀ (σ1 : HBst) (H1 : Heap) (locs1 : List Loc), Wd D dA A s (HBx dA a b B wr σ1) H1 locs1 → k σ1 = some q → W p l e R s m args below meth c H1 locs1 cells slots Q (F0 m (pc + 3) ls rest)) : W p l e R s m args below meth c H locs cells slots Q (F0 m pc ls (.int v :: .ref a :: rest)) :=
  g_put FX hW (C := RX3) (T := TX3) (N := 14) (ci := 3) (ty := .int) in_X3 tyX3 tyX3_ok nmX3 0 rfl rfl 8 (by decide) q287 (fun _ h => h) rfl (by decide +kernel) rfl rfl (Nat.le_of_ble_eq_true rfl) (ws' := HBx dA a b B wr ((uF σ.1 8 v, σ.2))) rfl hdg (fun H1 locs1 hW1 => kk _ H1 locs1 hW1 hf)
set_option maxHeartbeats 4000000 in
set_option maxRecDepth 100000 in
theorem kHBh_clear {a : Nat} {b : Nat → Nat} {B : Bk} {wr : va_W} {α : Type} {q : α} {k : HBst → Option α} {x1 : Int32} {σ : HBst} (FX : CallFix p m c cc nL s args lw_all RX3) (hR : rX3_clear.frames + 1 ≤ R.frames ∧ 8 + (2 + 11) + rX3_clear.locals ≤ R.locals) (hcs : cells ≤ R.cells ∧ slots ≤ R.slots) (hl : ls.size = nL) (hrm : (rest.map fun v => v.category).sum ≤ 8) (hW : Wd D dA A s (HBx dA a b B wr σ) H locs) (hf : (fX3_clear x1 σ.1).bind (fun t0 => stp ((t0, σ.2)) k) = some q) (hdg : decode cc pc = .ok (.invokevirtual 59, 3)) (kk : ∀ (σ1 : HBst) (H1 : Heap) (locs1 : List Loc), Wd D dA A s (HBx dA a b B wr σ1) H1 locs1 → k σ1 = some q → W p l e R s m args below meth c H1 locs1 cells slots Q (F0 m (pc + 3) ls (rest))) : W p l e R s m args below meth c H locs cells slots Q (F0 m pc ls (.int x1 :: .ref a :: rest)) := by
  obtain ⟨r1, h1, hf⟩ := bnd hf
  have hW2 := HB_in hW
  refine w_Vv (C := RX3) (As := [.int x1]) (rest := rest) (n := 1) (wr := []) FX (mX3_clear h1) (cwV 1 FX.2.2.2.2 (lw_V q340 q342 qs0 q129 q343) rfl rfl rfl (by decide +kernel) hR) (va_recv hW2.2.2.2.1 hW2.1 (ci := 3) (q0 := 0) rfl rfl) rfl hl rfl hrm ⟨Nat.le_trans (Nat.le_of_eq (Nat.add_zero cells)) hcs.1, Nat.le_trans (Nat.le_of_eq (Nat.add_zero slots)) hcs.2⟩ hdg hW2.nil ?_
  exact fun H1 locs1 hW1 => kk ((r1, σ.2)) H1 locs1 (HB_out hW1.nil') hf
/-! TrunkLitters$House.begin(LTrunkLitters$Book;)LTrunkLitters$House;: kind W -/
def fHB_begin_145 (dA : Nat → Nat) (B : Bk) (k17 : Int32 → HBst → Option HBst) (x2 : Int32) (y1 : Int32) (y2 : Int32) (σ : HBst) : Option HBst := ast 8 y1 (stp ((uA σ.1 3 y1 y2, σ.2)) fun s1 => ast 8 x2 (stp ((uA s1.1 7 x2 x2, s1.2)) fun s2 => k17 (x2 + (1 : Int32)) s2))
def fHB_begin_117 (dA : Nat → Nat) (B : Bk) (k17 : Int32 → HBst → Option HBst) (x2 : Int32) (x3 : Int32) (y1 : Int32) (y2 : Int32) (σ : HBst) : Option HBst := ast 8 y1 (stp ((uA σ.1 2 y1 y2, σ.2)) fun s1 => (if x3 = 0 then fHB_begin_145 dA B k17 x2 x2 (0 : Int32) s1 else lget (bA B 7) (bI B 7) (bT B) x2 fun a2 => pck (bP B) a2 8 (pgi (bP B) a2 8 4 fun v3 => fHB_begin_145 dA B k17 x2 x2 v3 s1)))
def fHB_begin_89 (dA : Nat → Nat) (B : Bk) (k17 : Int32 → HBst → Option HBst) (x2 : Int32) (x3 : Int32) (y1 : Int32) (y2 : Int32) (σ : HBst) : Option HBst := ast 8 y1 (stp ((uA σ.1 1 y1 y2, σ.2)) fun s1 => (if x3 = 0 then fHB_begin_117 dA B k17 x2 x3 x2 (0 : Int32) s1 else lget (bA B 7) (bI B 7) (bT B) x2 fun a2 => pck (bP B) a2 8 (pgi (bP B) a2 8 3 fun v3 => fHB_begin_117 dA B k17 x2 x3 x2 v3 s1)))
def fHB_begin_61 (dA : Nat → Nat) (B : Bk) (k17 : Int32 → HBst → Option HBst) (x2 : Int32) (x3 : Int32) (y1 : Int32) (y2 : Int32) (σ : HBst) : Option HBst := ast 8 y1 (stp ((uA σ.1 0 y1 y2, σ.2)) fun s1 => (if x3 = 0 then fHB_begin_89 dA B k17 x2 x3 x2 (-1 : Int32) s1 else lget (bA B 7) (bI B 7) (bT B) x2 fun a2 => pck (bP B) a2 8 (pgi (bP B) a2 8 2 fun v3 => fHB_begin_89 dA B k17 x2 x3 x2 v3 s1)))
def fHB_begin_17 (dA : Nat → Nat) (B : Bk) : Nat → Int32 → HBst → Option HBst
  | 0, _, _ => none
  | n + 1, x2, σ => (if (8 : Int32) ≤ x2 then stp ((uF σ.1 12 (8 : Int32), σ.2)) fun s1 => stp ((uF s1.1 9 (bI B 1), s1.2)) fun s2 => stp ((uF s2.1 10 (0 : Int32), s2.2)) fun s3 => stp ((uF s3.1 11 (bI B 2), s3.2)) fun s4 => stp ((uF s4.1 13 (-1 : Int32), s4.2)) fun s5 => some s5 else (fX3_has x2 σ.1).bind fun r6 => (fX3_clear x2 σ.1).bind fun t0 => stp ((t0, σ.2)) fun s7 => (if r6 = 0 then fHB_begin_61 dA B (fHB_begin_17 dA B n) x2 r6 x2 (0 : Int32) s7 else lget (bA B 7) (bI B 7) (bT B) x2 fun a8 => pck (bP B) a8 8 (pgi (bP B) a8 8 1 fun v9 => fHB_begin_61 dA B (fHB_begin_17 dA B n) x2 r6 x2 v9 s7)))
def fHB_begin (dA : Nat → Nat) (B : Bk) (σ : HBst) : Option HBst := stp ((uF σ.1 8 (((1 : Int32) <<< ((bI B 7) &&& 31)) - (1 : Int32)), σ.2)) fun s1 => fHB_begin_17 dA B FU (0 : Int32) s1
abbrev rHB_begin : Room := { frames := 4, cells := 0, slots := 0, locals := 91 }
set_option maxHeartbeats 4000000 in
set_option maxRecDepth 100000 in
theorem wHB_begin_145 {a : Nat} {b : Nat → Nat} {B : Bk} {wr : va_W} {q : HBst} (FX : CallFix p m c cX3_begin 4 s args lw_all RX3) (hr : meth.sig.returnType = (some (Jvm.ClassFile.FieldType.object "TrunkLitters$House"))) (hlk : meth.locks = false) {k17 : Int32 → HBst → Option HBst} (hk17 : ∀ (x2 : Int32) (σ : HBst) (H : Heap) (locs : List Loc) (ls : Array Slot), lv_has ls 4 [(0, .ref a), (1, .ref (bA B 0)), (2, .int x2)] → Wd D dA A s (HBx dA a b B wr σ) H locs → k17 x2 σ = some q → W p l e rHB_begin s m args below meth c H locs 0 0 (QR D dA A below args s 0 0 a (HBx dA a b B wr q)) (F0 m 17 ls [])) : ∀ (x2 : Int32) (y1 : Int32) (y2 : Int32) (σ : HBst) (H : Heap) (locs : List Loc) (ls : Array Slot), lv_has ls 4 [(0, .ref a), (1, .ref (bA B 0)), (2, .int x2)] → Wd D dA A s (HBx dA a b B wr σ) H locs → fHB_begin_145 dA B k17 x2 y1 y2 σ = some q → W p l e rHB_begin s m args below meth c H locs 0 0 (QR D dA A below args s 0 0 a (HBx dA a b B wr q)) (F0 m 145 ls [.int y2, .int y1, .ref (b 3)]) := by
  have hx := FX.1; have hb := FX.2.1; have hown := FX.2.2.2.1; have hts := FX.2.2.2.2
  intro x2 y1 y2 σ H locs ls hl hW hf
  rw [fHB_begin_145] at hf
  refine g_iast FX hW 4 HBp4 (L := HBx dA a b B wr) (HBt4) hf dX3_begin_145 (fun s1 H locs hW hf => ?_)
  refine lv_aload_n hx hb dX3_begin_146 rfl (lv_at hl 0 rfl) ?_
  refine HBgX3_0_7 FX hW dX3_begin_147 ?_
  refine lv_iload_n hx hb dX3_begin_150 rfl (lv_at hl 2 rfl) ?_
  refine lv_iload_n hx hb dX3_begin_151 rfl (lv_at hl 2 rfl) ?_
  refine g_iast FX hW 8 HBp8 (L := HBx dA a b B wr) (HBt8) hf dX3_begin_152 (fun s2 H locs hW hf => ?_)
  refine lv_iinc (v := (x2 + (1 : Int32))) (lv' := [(2, .int (x2 + (1 : Int32))), (0, .ref a), (1, .ref (bA B 0))]) hx hb dX3_begin_153 hl (k := 2) rfl rfl (by decide) rfl (fun ls hl => ?_)
  refine lv_goto (tgt := 17) hx hb dX3_begin_156 (by decide) ?_
  exact hk17 (x2 + (1 : Int32)) s2 _ _ _ (lv_sub hl [1, 2, 0] rfl) hW hf
set_option maxHeartbeats 4000000 in
set_option maxRecDepth 100000 in
theorem wHB_begin_117 {a : Nat} {b : Nat → Nat} {B : Bk} {wr : va_W} {q : HBst} (FX : CallFix p m c cX3_begin 4 s args lw_all RX3) (hr : meth.sig.returnType = (some (Jvm.ClassFile.FieldType.object "TrunkLitters$House"))) (hlk : meth.locks = false) {k17 : Int32 → HBst → Option HBst} (hk17 : ∀ (x2 : Int32) (σ : HBst) (H : Heap) (locs : List Loc) (ls : Array Slot), lv_has ls 4 [(0, .ref a), (1, .ref (bA B 0)), (2, .int x2)] → Wd D dA A s (HBx dA a b B wr σ) H locs → k17 x2 σ = some q → W p l e rHB_begin s m args below meth c H locs 0 0 (QR D dA A below args s 0 0 a (HBx dA a b B wr q)) (F0 m 17 ls [])) : ∀ (x2 : Int32) (x3 : Int32) (y1 : Int32) (y2 : Int32) (σ : HBst) (H : Heap) (locs : List Loc) (ls : Array Slot), lv_has ls 4 [(0, .ref a), (1, .ref (bA B 0)), (2, .int x2), (3, .int x3)] → Wd D dA A s (HBx dA a b B wr σ) H locs → fHB_begin_117 dA B k17 x2 x3 y1 y2 σ = some q → W p l e rHB_begin s m args below meth c H locs 0 0 (QR D dA A below args s 0 0 a (HBx dA a b B wr q)) (F0 m 117 ls [.int y2, .int y1, .ref (b 2)]) := by
  have hx := FX.1; have hb := FX.2.1; have hown := FX.2.2.2.1; have hts := FX.2.2.2.2
  intro x2 x3 y1 y2 σ H locs ls hl hW hf
  rw [fHB_begin_117] at hf
  refine g_iast FX hW 3 HBp3 (L := HBx dA a b B wr) (HBt3) hf dX3_begin_117 (fun s1 H locs hW hf => ?_)
  refine lv_aload_n hx hb dX3_begin_118 rfl (lv_at hl 0 rfl) ?_
  refine HBgX3_0_3 FX hW dX3_begin_119 ?_
  refine lv_iload_n hx hb dX3_begin_122 rfl (lv_at hl 2 rfl) ?_
  refine lv_iload_n hx hb dX3_begin_123 rfl (lv_at hl 3 rfl) ?_
  refine lv_if_eq (tgt := 144) hx hb dX3_begin_124 (by decide) (fun c124 => ?_) (fun c124 => ?_)
  · have hf := ifp c124 hf
    refine lv_iconst (v := 0) hx hb dX3_begin_144 (by decide) ?_
    exact wHB_begin_145 FX hr hlk hk17 x2 x2 (0 : Int32) s1 _ _ _ (lv_sub hl [0, 1, 2] rfl) hW hf
  · have hf := ifn c124 hf
    refine lv_aload_n hx hb dX3_begin_127 rfl (lv_at hl 1 rfl) ?_
    refine HBgX3_9_1 FX hW dX3_begin_128 ?_
    refine lv_iload_n hx hb dX3_begin_131 rfl (lv_at hl 2 rfl) ?_
    refine HBgetX3_13 FX ⟨Nat.le_of_ble_eq_true rfl, Nat.le_of_ble_eq_true rfl⟩ ⟨Nat.zero_le _, Nat.zero_le _⟩ hl.1 (Nat.le_of_ble_eq_true rfl) hW hf dX3_begin_132 (fun a2 H locs hW hf => ?_)
    refine HBcstX3_X9 FX hW hf dX3_begin_135 (fun hf => ?_)
    refine HBpgX3_X9_4 FX hW hf dX3_begin_138 (fun v3 hf => ?_)
    refine lv_goto (tgt := 145) hx hb dX3_begin_141 (by decide) ?_
    exact wHB_begin_145 FX hr hlk hk17 x2 x2 v3 s1 _ _ _ (lv_sub hl [0, 1, 2] rfl) hW hf
set_option maxHeartbeats 4000000 in
set_option maxRecDepth 100000 in
theorem wHB_begin_89 {a : Nat} {b : Nat → Nat} {B : Bk} {wr : va_W} {q : HBst} (FX : CallFix p m c cX3_begin 4 s args lw_all RX3) (hr : meth.sig.returnType = (some (Jvm.ClassFile.FieldType.object "TrunkLitters$House"))) (hlk : meth.locks = false) {k17 : Int32 → HBst → Option HBst} (hk17 : ∀ (x2 : Int32) (σ : HBst) (H : Heap) (locs : List Loc) (ls : Array Slot), lv_has ls 4 [(0, .ref a), (1, .ref (bA B 0)), (2, .int x2)] → Wd D dA A s (HBx dA a b B wr σ) H locs → k17 x2 σ = some q → W p l e rHB_begin s m args below meth c H locs 0 0 (QR D dA A below args s 0 0 a (HBx dA a b B wr q)) (F0 m 17 ls [])) : ∀ (x2 : Int32) (x3 : Int32) (y1 : Int32) (y2 : Int32) (σ : HBst) (H : Heap) (locs : List Loc) (ls : Array Slot), lv_has ls 4 [(0, .ref a), (1, .ref (bA B 0)), (2, .int x2), (3, .int x3)] → Wd D dA A s (HBx dA a b B wr σ) H locs → fHB_begin_89 dA B k17 x2 x3 y1 y2 σ = some q → W p l e rHB_begin s m args below meth c H locs 0 0 (QR D dA A below args s 0 0 a (HBx dA a b B wr q)) (F0 m 89 ls [.int y2, .int y1, .ref (b 1)]) := by
  have hx := FX.1; have hb := FX.2.1; have hown := FX.2.2.2.1; have hts := FX.2.2.2.2
  intro x2 x3 y1 y2 σ H locs ls hl hW hf
  rw [fHB_begin_89] at hf
  refine g_iast FX hW 2 HBp2 (L := HBx dA a b B wr) (HBt2) hf dX3_begin_89 (fun s1 H locs hW hf => ?_)
  refine lv_aload_n hx hb dX3_begin_90 rfl (lv_at hl 0 rfl) ?_
  refine HBgX3_0_2 FX hW dX3_begin_91 ?_
  refine lv_iload_n hx hb dX3_begin_94 rfl (lv_at hl 2 rfl) ?_
  refine lv_iload_n hx hb dX3_begin_95 rfl (lv_at hl 3 rfl) ?_
  refine lv_if_eq (tgt := 116) hx hb dX3_begin_96 (by decide) (fun c96 => ?_) (fun c96 => ?_)
  · have hf := ifp c96 hf
    refine lv_iconst (v := 0) hx hb dX3_begin_116 (by decide) ?_
    exact wHB_begin_117 FX hr hlk hk17 x2 x3 x2 (0 : Int32) s1 _ _ _ (lv_sub hl [0, 1, 2, 3] rfl) hW hf
  · have hf := ifn c96 hf
    refine lv_aload_n hx hb dX3_begin_99 rfl (lv_at hl 1 rfl) ?_
    refine HBgX3_9_1 FX hW dX3_begin_100 ?_
    refine lv_iload_n hx hb dX3_begin_103 rfl (lv_at hl 2 rfl) ?_
    refine HBgetX3_13 FX ⟨Nat.le_of_ble_eq_true rfl, Nat.le_of_ble_eq_true rfl⟩ ⟨Nat.zero_le _, Nat.zero_le _⟩ hl.1 (Nat.le_of_ble_eq_true rfl) hW hf dX3_begin_104 (fun a2 H locs hW hf => ?_)
    refine HBcstX3_X9 FX hW hf dX3_begin_107 (fun hf => ?_)
    refine HBpgX3_X9_3 FX hW hf dX3_begin_110 (fun v3 hf => ?_)
    refine lv_goto (tgt := 117) hx hb dX3_begin_113 (by decide) ?_
    exact wHB_begin_117 FX hr hlk hk17 x2 x3 x2 v3 s1 _ _ _ (lv_sub hl [0, 1, 2, 3] rfl) hW hf
set_option maxHeartbeats 4000000 in
set_option maxRecDepth 100000 in
theorem wHB_begin_61 {a : Nat} {b : Nat → Nat} {B : Bk} {wr : va_W} {q : HBst} (FX : CallFix p m c cX3_begin 4 s args lw_all RX3) (hr : meth.sig.returnType = (some (Jvm.ClassFile.FieldType.object "TrunkLitters$House"))) (hlk : meth.locks = false) {k17 : Int32 → HBst → Option HBst} (hk17 : ∀ (x2 : Int32) (σ : HBst) (H : Heap) (locs : List Loc) (ls : Array Slot), lv_has ls 4 [(0, .ref a), (1, .ref (bA B 0)), (2, .int x2)] → Wd D dA A s (HBx dA a b B wr σ) H locs → k17 x2 σ = some q → W p l e rHB_begin s m args below meth c H locs 0 0 (QR D dA A below args s 0 0 a (HBx dA a b B wr q)) (F0 m 17 ls [])) : ∀ (x2 : Int32) (x3 : Int32) (y1 : Int32) (y2 : Int32) (σ : HBst) (H : Heap) (locs : List Loc) (ls : Array Slot), lv_has ls 4 [(0, .ref a), (1, .ref (bA B 0)), (2, .int x2), (3, .int x3)] → Wd D dA A s (HBx dA a b B wr σ) H locs → fHB_begin_61 dA B k17 x2 x3 y1 y2 σ = some q → W p l e rHB_begin s m args below meth c H locs 0 0 (QR D dA A below args s 0 0 a (HBx dA a b B wr q)) (F0 m 61 ls [.int y2, .int y1, .ref (b 0)]) := by
  have hx := FX.1; have hb := FX.2.1; have hown := FX.2.2.2.1; have hts := FX.2.2.2.2
  intro x2 x3 y1 y2 σ H locs ls hl hW hf
  rw [fHB_begin_61] at hf
  refine g_iast FX hW 1 HBp1 (L := HBx dA a b B wr) (HBt1) hf dX3_begin_61 (fun s1 H locs hW hf => ?_)
  refine lv_aload_n hx hb dX3_begin_62 rfl (lv_at hl 0 rfl) ?_
  refine HBgX3_0_1 FX hW dX3_begin_63 ?_
  refine lv_iload_n hx hb dX3_begin_66 rfl (lv_at hl 2 rfl) ?_
  refine lv_iload_n hx hb dX3_begin_67 rfl (lv_at hl 3 rfl) ?_
  refine lv_if_eq (tgt := 88) hx hb dX3_begin_68 (by decide) (fun c68 => ?_) (fun c68 => ?_)
  · have hf := ifp c68 hf
    refine lv_iconst (v := -1) hx hb dX3_begin_88 (by decide) ?_
    exact wHB_begin_89 FX hr hlk hk17 x2 x3 x2 (-1 : Int32) s1 _ _ _ (lv_sub hl [0, 1, 2, 3] rfl) hW hf
  · have hf := ifn c68 hf
    refine lv_aload_n hx hb dX3_begin_71 rfl (lv_at hl 1 rfl) ?_
    refine HBgX3_9_1 FX hW dX3_begin_72 ?_
    refine lv_iload_n hx hb dX3_begin_75 rfl (lv_at hl 2 rfl) ?_
    refine HBgetX3_13 FX ⟨Nat.le_of_ble_eq_true rfl, Nat.le_of_ble_eq_true rfl⟩ ⟨Nat.zero_le _, Nat.zero_le _⟩ hl.1 (Nat.le_of_ble_eq_true rfl) hW hf dX3_begin_76 (fun a2 H locs hW hf => ?_)
    refine HBcstX3_X9 FX hW hf dX3_begin_79 (fun hf => ?_)
    refine HBpgX3_X9_2 FX hW hf dX3_begin_82 (fun v3 hf => ?_)
    refine lv_goto (tgt := 89) hx hb dX3_begin_85 (by decide) ?_
    exact wHB_begin_89 FX hr hlk hk17 x2 x3 x2 v3 s1 _ _ _ (lv_sub hl [0, 1, 2, 3] rfl) hW hf
set_option maxHeartbeats 4000000 in
set_option maxRecDepth 100000 in
theorem wHB_begin_17 {a : Nat} {b : Nat → Nat} {B : Bk} {wr : va_W} {q : HBst} (FX : CallFix p m c cX3_begin 4 s args lw_all RX3) (hr : meth.sig.returnType = (some (Jvm.ClassFile.FieldType.object "TrunkLitters$House"))) (hlk : meth.locks = false) : ∀ n : Nat, ∀ (x2 : Int32) (σ : HBst) (H : Heap) (locs : List Loc) (ls : Array Slot), lv_has ls 4 [(0, .ref a), (1, .ref (bA B 0)), (2, .int x2)] → Wd D dA A s (HBx dA a b B wr σ) H locs → fHB_begin_17 dA B n x2 σ = some q → W p l e rHB_begin s m args below meth c H locs 0 0 (QR D dA A below args s 0 0 a (HBx dA a b B wr q)) (F0 m 17 ls []) := by
  have hx := FX.1; have hb := FX.2.1; have hown := FX.2.2.2.1; have hts := FX.2.2.2.2
  intro n
  induction n with
  | zero =>
    intro x2 σ H locs ls hl hW hf
    cases (show (none : Option HBst) = some q from hf)
  | succ n ih =>
    intro x2 σ H locs ls hl hW hf
    rw [fHB_begin_17] at hf
    refine lv_iload_n hx hb dX3_begin_17 rfl (lv_at hl 2 rfl) ?_
    refine lv_bipush (v := 8) hx hb dX3_begin_18 (by decide) ?_
    refine lv_icmp_ge (tgt := 159) hx hb dX3_begin_20 (by decide) (fun c20 => ?_) (fun c20 => ?_)
    · have hf := ifp c20 hf
      refine lv_aload_n hx hb dX3_begin_159 rfl (lv_at hl 0 rfl) ?_
      refine lv_bipush (v := 8) hx hb dX3_begin_160 (by decide) ?_
      refine HBsX3_0_12 FX hW hf dX3_begin_162 (fun s1 H locs hW hf => ?_)
      refine lv_aload_n hx hb dX3_begin_165 rfl (lv_at hl 0 rfl) ?_
      refine lv_aload_n hx hb dX3_begin_166 rfl (lv_at hl 1 rfl) ?_
      refine HBgX3_9_5 FX hW dX3_begin_167 ?_
      refine HBsX3_0_9 FX hW hf dX3_begin_170 (fun s2 H locs hW hf => ?_)
      refine lv_aload_n hx hb dX3_begin_173 rfl (lv_at hl 0 rfl) ?_
      refine lv_iconst (v := 0) hx hb dX3_begin_174 (by decide) ?_
      refine HBsX3_0_10 FX hW hf dX3_begin_175 (fun s3 H locs hW hf => ?_)
      refine lv_aload_n hx hb dX3_begin_178 rfl (lv_at hl 0 rfl) ?_
      refine lv_aload_n hx hb dX3_begin_179 rfl (lv_at hl 1 rfl) ?_
      refine HBgX3_9_6 FX hW dX3_begin_180 ?_
      refine HBsX3_0_11 FX hW hf dX3_begin_183 (fun s4 H locs hW hf => ?_)
      refine lv_aload_n hx hb dX3_begin_186 rfl (lv_at hl 0 rfl) ?_
      refine lv_iconst (v := -1) hx hb dX3_begin_187 (by decide) ?_
      refine HBsX3_0_13 FX hW hf dX3_begin_188 (fun s5 H locs hW hf => ?_)
      refine lv_aload_n hx hb dX3_begin_191 rfl (lv_at hl 0 rfl) ?_
      obtain rfl := Option.some.inj hf
      exact g_aret FX hr hlk hW rfl dX3_begin_192
    · have hf := ifn c20 hf
      refine lv_aload_n hx hb dX3_begin_23 rfl (lv_at hl 0 rfl) ?_
      refine lv_iload_n hx hb dX3_begin_24 rfl (lv_at hl 2 rfl) ?_
      refine kHBh_has FX ⟨Nat.le_of_ble_eq_true rfl, Nat.le_of_ble_eq_true rfl⟩ ⟨Nat.zero_le _, Nat.zero_le _⟩ hl.1 (Nat.le_of_ble_eq_true rfl) hW hf dX3_begin_25 (fun r6 H locs hW hf => ?_)
      refine lv_istore_n (lv' := [(3, .int r6), (0, .ref a), (1, .ref (bA B 0)), (2, .int x2)]) hx hb dX3_begin_28 rfl hl (by decide) rfl (fun ls hl => ?_)
      refine lv_aload_n hx hb dX3_begin_29 rfl (lv_at hl 1 rfl) ?_
      refine lv_iload_n hx hb dX3_begin_30 rfl (lv_at hl 3 rfl) ?_
      refine kHBh_clear FX ⟨Nat.le_of_ble_eq_true rfl, Nat.le_of_ble_eq_true rfl⟩ ⟨Nat.zero_le _, Nat.zero_le _⟩ hl.1 (Nat.le_of_ble_eq_true rfl) hW hf dX3_begin_31 (fun s7 H locs hW hf => ?_)
      refine lv_aload_n hx hb dX3_begin_34 rfl (lv_at hl 1 rfl) ?_
      refine HBgX3_0_0 FX hW dX3_begin_35 ?_
      refine lv_iload_n hx hb dX3_begin_38 rfl (lv_at hl 3 rfl) ?_
      refine lv_iload_n hx hb dX3_begin_39 rfl (lv_at hl 0 rfl) ?_
      refine lv_if_eq (tgt := 60) hx hb dX3_begin_40 (by decide) (fun c40 => ?_) (fun c40 => ?_)
      · have hf := ifp c40 hf
        refine lv_iconst (v := 0) hx hb dX3_begin_60 (by decide) ?_
        exact wHB_begin_61 FX hr hlk (ih) x2 r6 x2 (0 : Int32) s7 _ _ _ (lv_sub hl [1, 2, 3, 0] rfl) hW hf
      · have hf := ifn c40 hf
        refine lv_aload_n hx hb dX3_begin_43 rfl (lv_at hl 2 rfl) ?_
        refine HBgX3_9_1 FX hW dX3_begin_44 ?_
        refine lv_iload_n hx hb dX3_begin_47 rfl (lv_at hl 3 rfl) ?_
        refine HBgetX3_13 FX ⟨Nat.le_of_ble_eq_true rfl, Nat.le_of_ble_eq_true rfl⟩ ⟨Nat.zero_le _, Nat.zero_le _⟩ hl.1 (Nat.le_of_ble_eq_true rfl) hW hf dX3_begin_48 (fun a8 H locs hW hf => ?_)
        refine HBcstX3_X9 FX hW hf dX3_begin_51 (fun hf => ?_)
        refine HBpgX3_X9_1 FX hW hf dX3_begin_54 (fun v9 hf => ?_)
        refine lv_goto (tgt := 61) hx hb dX3_begin_57 (by decide) ?_
        exact wHB_begin_61 FX hr hlk (ih) x2 r6 x2 v9 s7 _ _ _ (lv_sub hl [1, 2, 3, 0] rfl) hW hf
set_option maxHeartbeats 4000000 in
set_option maxRecDepth 100000 in
theorem mHB_begin {a : Nat} {b : Nat → Nat} {B : Bk} {wr : va_W}  {σ : HBst} {q : HBst} (hf : fHB_begin dA B σ = some q) : CtR l yX3_begin cX3_begin 4 (some (Jvm.ClassFile.FieldType.object "TrunkLitters$House")) rHB_begin D dA [.ref a, .ref (bA B 0)] (HBx dA a b B wr σ) a (HBx dA a b B wr q) := by
  refine e_R (by decide) (Nat.le_of_ble_eq_true rfl) ?_
  intro p e s m below meth c ls A FX hr hlk hl hW
  have hx := FX.1; have hb := FX.2.1; have hown := FX.2.2.2.1; have hts := FX.2.2.2.2
  have hl : lv_has ls 4 [(0, .ref a), (1, .ref (bA B 0))] := hl
  rw [fHB_begin] at hf
  refine lv_aload_n hx hb dX3_begin_0 rfl (lv_at hl 0 rfl) ?_
  refine lv_iconst (v := 1) hx hb dX3_begin_1 (by decide) ?_
  refine lv_aload_n hx hb dX3_begin_2 rfl (lv_at hl 1 rfl) ?_
  refine HBgX3_9_1 FX hW dX3_begin_3 ?_
  refine HBszX3_13 FX ⟨Nat.le_of_ble_eq_true rfl, Nat.le_of_ble_eq_true rfl⟩ ⟨Nat.zero_le _, Nat.zero_le _⟩ hl.1 (Nat.le_of_ble_eq_true rfl) hW dX3_begin_6 (fun H locs hW => ?_)
  refine lv_ishl hx hb dX3_begin_9 ?_
  refine lv_iconst (v := 1) hx hb dX3_begin_10 (by decide) ?_
  refine lv_isub hx hb dX3_begin_11 ?_
  refine HBsX3_0_8 FX hW hf dX3_begin_12 (fun s1 H locs hW hf => ?_)
  refine lv_iconst (v := 0) hx hb dX3_begin_15 (by decide) ?_
  refine lv_istore_n (lv' := [(2, .int (0 : Int32)), (0, .ref a), (1, .ref (bA B 0))]) hx hb dX3_begin_16 rfl hl (by decide) rfl (fun ls hl => ?_)
  exact wHB_begin_17 FX hr hlk _ (0 : Int32) s1 _ _ _ (lv_sub hl [1, 2, 0] rfl) hW hf
end HBS
