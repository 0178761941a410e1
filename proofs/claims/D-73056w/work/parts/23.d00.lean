section D00
variable {p : Program} {l : Launch} {e : Env} {R : Room} {s : State} {m : MethodId} {args : Array Value} {below : List Frame} {meth : Method} {c : Code} {H : Heap} {locs : List Loc} {cells slots : Nat} {Q : State → Prop}
variable {cc : ByteArray} {pc nL : Nat} {ls : Array Slot} {rest : List Value} {D : va_G} {dA : Nat → ClassId} {A : Nat → Prop}
theorem DgX0_0_1 {t0 : Nat} {ad : Nat → Nat} {B : Bk} {wr : va_W} {σ : Dst} (FX : CallFix p m c cc nL s args lw_all RX0) (hW : Wd D dA A s (Dx dA t0 ad B wr σ) H locs) (hdg : decode cc pc = .ok (.getfield 111, 3)) (kk : W p l e R s m args below meth c H locs cells slots Q (F0 m (pc + 3) ls (.int (tF σ 1) :: rest))) : W p l e R s m args below meth c H locs cells slots Q (F0 m pc ls (.ref t0 :: rest)) :=
  g_get FX hW (C := RX0) (T := TX0) (N := 26) (ci := 0) in_X0 0 rfl rfl 1 (by decide) q367 (fun _ h => h) rfl hdg kk
theorem DsX0_0_1 {t0 : Nat} {ad : Nat → Nat} {B : Bk} {wr : va_W} {σ : Dst} {α : Type} {q : α} {v : Int32} {k : Dst → Option α} (FX : CallFix p m c cc nL s args lw_all RX0) (hW : Wd D dA A s (Dx dA t0 ad B wr σ) H locs) (hf : stp (xF σ 1 v) k = some q) (hdg : decode cc pc = .ok (.putfield 111, 3)) (kk : ∀ (σ1 : Dst) (H1 : Heap) (locs1 : List Loc), Wd D dA A s (Dx dA t0 ad B wr σ1) H1 locs1 → k σ1 = some q → W p l e R s m args below meth c H1 locs1 cells slots Q (F0 m (pc + 3) ls rest)) : W p l e R s m args below meth c H locs cells slots Q (F0 m pc ls (.int v :: .ref t0 :: rest)) :=
  g_put FX hW (C := RX0) (T := TX0) (N := 26) (ci := 0) (ty := .int) in_X0 tyX0 tyX0_ok nmX0 0 rfl rfl 1 (by decide) q367 (fun _ h => h) rfl (by decide +kernel) rfl rfl (Nat.le_of_ble_eq_true rfl) (ws' := Dx dA t0 ad B wr (xF σ 1 v)) rfl hdg (fun H1 locs1 hW1 => kk _ H1 locs1 hW1 hf)

/-! TrunkLitters.end(I)I: kind W -/
def fD_end (dA : Nat → Nat) (B : Bk) (x1 : Int32) (σ : Dst) : Option (Int32 × Dst) := (if x1 < 0 then some ((-1 : Int32), σ) else (if x1 ≤ (tF σ 1) then stp (xF σ 1 x1) fun s1 => some (x1, s1) else some ((-1 : Int32), σ)))
abbrev rD_end : Room := { frames := 0, cells := 0, slots := 0, locals := 0 }
set_option maxHeartbeats 4000000 in
set_option maxRecDepth 100000 in
theorem mD_end {t0 : Nat} {ad : Nat → Nat} {B : Bk} {wr : va_W}  {x1 : Int32} {σ : Dst} {q : (Int32 × Dst)} (hf : fD_end dA B x1 σ = some q) : CtI l yX0_end cX0_end 2 (some .int) rD_end D dA [.ref t0, .int x1] (Dx dA t0 ad B wr σ) q.1 (Dx dA t0 ad B wr q.2) := by
  refine e_I (by decide) (Nat.le_of_ble_eq_true rfl) ?_
  intro p e s m below meth c ls A FX hr hlk hl hW
  have hx := FX.1; have hb := FX.2.1; have hown := FX.2.2.2.1; have hts := FX.2.2.2.2
  have hl : lv_has ls 2 [(0, .ref t0), (1, .int x1)] := hl
  rw [fD_end] at hf
  refine lv_iload_n hx hb dX0_end_0 rfl (lv_at hl 1 rfl) ?_
  refine lv_if_lt (tgt := 12) hx hb dX0_end_1 (by decide) (fun c1 => ?_) (fun c1 => ?_)
  · have hf := ifp c1 hf
    refine lv_iconst (v := -1) hx hb dX0_end_12 (by decide) ?_
    obtain rfl := Option.some.inj hf
    exact g_iret FX hr hlk hW rfl dX0_end_13
  · have hf := ifn c1 hf
    refine lv_iload_n hx hb dX0_end_4 rfl (lv_at hl 1 rfl) ?_
    refine lv_aload_n hx hb dX0_end_5 rfl (lv_at hl 0 rfl) ?_
    refine DgX0_0_1 FX hW dX0_end_6 ?_
    refine lv_icmp_le (tgt := 14) hx hb dX0_end_9 (by decide) (fun c9 => ?_) (fun c9 => ?_)
    · have hf := ifp c9 hf
      refine lv_aload_n hx hb dX0_end_14 rfl (lv_at hl 0 rfl) ?_
      refine lv_iload_n hx hb dX0_end_15 rfl (lv_at hl 1 rfl) ?_
      refine DsX0_0_1 FX hW hf dX0_end_16 (fun s1 H locs hW hf => ?_)
      refine lv_iload_n hx hb dX0_end_19 rfl (lv_at hl 1 rfl) ?_
      obtain rfl := Option.some.inj hf
      exact g_iret FX hr hlk hW rfl dX0_end_20
    · have hf := ifn c9 hf
      refine lv_iconst (v := -1) hx hb dX0_end_12 (by decide) ?_
      obtain rfl := Option.some.inj hf
      exact g_iret FX hr hlk hW rfl dX0_end_13
theorem DgX0_0_3 {t0 : Nat} {ad : Nat → Nat} {B : Bk} {wr : va_W} {σ : Dst} (FX : CallFix p m c cc nL s args lw_all RX0) (hW : Wd D dA A s (Dx dA t0 ad B wr σ) H locs) (hdg : decode cc pc = .ok (.getfield 41, 3)) (kk : W p l e R s m args below meth c H locs cells slots Q (F0 m (pc + 3) ls (.int (tF σ 3) :: rest))) : W p l e R s m args below meth c H locs cells slots Q (F0 m pc ls (.ref t0 :: rest)) :=
  g_get FX hW (C := RX0) (T := TX0) (N := 26) (ci := 0) in_X0 0 rfl rfl 3 (by decide) q369 (fun _ h => h) rfl hdg kk
theorem DgX0_0_2 {t0 : Nat} {ad : Nat → Nat} {B : Bk} {wr : va_W} {σ : Dst} (FX : CallFix p m c cc nL s args lw_all RX0) (hW : Wd D dA A s (Dx dA t0 ad B wr σ) H locs) (hdg : decode cc pc = .ok (.getfield 140, 3)) (kk : W p l e R s m args below meth c H locs cells slots Q (F0 m (pc + 3) ls (.int (tF σ 2) :: rest))) : W p l e R s m args below meth c H locs cells slots Q (F0 m pc ls (.ref t0 :: rest)) :=
  g_get FX hW (C := RX0) (T := TX0) (N := 26) (ci := 0) in_X0 0 rfl rfl 2 (by decide) q368 (fun _ h => h) rfl hdg kk

/-! TrunkLitters.fault(I)I: kind R -/
def fD_fault (dA : Nat → Nat) (B : Bk) (x1 : Int32) (σ : Dst) : Option Int32 := (if x1 = 0 then some (tF σ 2) else (if x1 = (1 : Int32) then some (tF σ 3) else some (-1 : Int32)))
abbrev rD_fault : Room := { frames := 0, cells := 0, slots := 0, locals := 0 }
set_option maxHeartbeats 4000000 in
set_option maxRecDepth 100000 in
theorem mD_fault {t0 : Nat} {ad : Nat → Nat} {B : Bk} {wr : va_W}  {x1 : Int32} {σ : Dst} {q : Int32} (hf : fD_fault dA B x1 σ = some q) : CtI l yX0_fault cX0_fault 2 (some .int) rD_fault D dA [.ref t0, .int x1] (Dx dA t0 ad B wr σ) q (Dx dA t0 ad B wr σ) := by
  refine e_I (by decide) (Nat.le_of_ble_eq_true rfl) ?_
  intro p e s m below meth c ls A FX hr hlk hl hW
  have hx := FX.1; have hb := FX.2.1; have hown := FX.2.2.2.1; have hts := FX.2.2.2.2
  have hl : lv_has ls 2 [(0, .ref t0), (1, .int x1)] := hl
  rw [fD_fault] at hf
  refine lv_iload_n hx hb dX0_fault_0 rfl (lv_at hl 1 rfl) ?_
  refine lv_if_ne (tgt := 11) hx hb dX0_fault_1 (by decide) (fun c1 => ?_) (fun c1 => ?_)
  · have hf := ifn c1 hf
    refine lv_iload_n hx hb dX0_fault_11 rfl (lv_at hl 1 rfl) ?_
    refine lv_iconst (v := 1) hx hb dX0_fault_12 (by decide) ?_
    refine lv_icmp_ne (tgt := 23) hx hb dX0_fault_13 (by decide) (fun c13 => ?_) (fun c13 => ?_)
    · have hf := ifn c13 hf
      refine lv_iconst (v := -1) hx hb dX0_fault_23 (by decide) ?_
      exact g_iret FX hr hlk hW (Option.some.inj hf) dX0_fault_24
    · have hf := ifp c13 hf
      refine lv_aload_n hx hb dX0_fault_16 rfl (lv_at hl 0 rfl) ?_
      refine DgX0_0_3 FX hW dX0_fault_17 ?_
      refine lv_goto (tgt := 24) hx hb dX0_fault_20 (by decide) ?_
      exact g_iret FX hr hlk hW (Option.some.inj hf) dX0_fault_24
  · have hf := ifp c1 hf
    refine lv_aload_n hx hb dX0_fault_4 rfl (lv_at hl 0 rfl) ?_
    refine DgX0_0_2 FX hW dX0_fault_5 ?_
    refine lv_goto (tgt := 24) hx hb dX0_fault_8 (by decide) ?_
    exact g_iret FX hr hlk hW (Option.some.inj hf) dX0_fault_24
theorem DgX0_0_4 {t0 : Nat} {ad : Nat → Nat} {B : Bk} {wr : va_W} {σ : Dst} (FX : CallFix p m c cc nL s args lw_all RX0) (hW : Wd D dA A s (Dx dA t0 ad B wr σ) H locs) (hdg : decode cc pc = .ok (.getfield 48, 3)) (kk : W p l e R s m args below meth c H locs cells slots Q (F0 m (pc + 3) ls (.ref (bA B 0) :: rest))) : W p l e R s m args below meth c H locs cells slots Q (F0 m pc ls (.ref t0 :: rest)) :=
  g_get FX hW (C := RX0) (T := TX0) (N := 26) (ci := 0) in_X0 0 rfl rfl 4 (by decide) q370 (fun _ h => h) rfl hdg kk
theorem DgX0_45_0 {t0 : Nat} {ad : Nat → Nat} {B : Bk} {wr : va_W} {σ : Dst} (FX : CallFix p m c cc nL s args lw_all RX0) (hW : Wd D dA A s (Dx dA t0 ad B wr σ) H locs) (hdg : decode cc pc = .ok (.getfield 149, 3)) (kk : W p l e R s m args below meth c H locs cells slots Q (F0 m (pc + 3) ls (.ref (bA B 1) :: rest))) : W p l e R s m args below meth c H locs cells slots Q (F0 m pc ls (.ref (bA B 0) :: rest)) :=
  g_get FX hW (C := RX1) (T := TX1) (N := 8) (ci := 1) in_X1 45 rfl rfl 0 (by decide) q228 (fun _ h => h) rfl hdg kk
set_option maxHeartbeats 4000000 in
set_option maxRecDepth 100000 in
theorem DszX0_47 {t0 : Nat} {ad : Nat → Nat} {B : Bk} {wr : va_W} {σ : Dst} (FX : CallFix p m c cc nL s args lw_all RX0) (hR : rJ2_size.frames + 1 ≤ R.frames ∧ 8 + (1 + 11) + rJ2_size.locals ≤ R.locals) (hcs : cells ≤ R.cells ∧ slots ≤ R.slots) (hl : ls.size = nL) (hrm : (rest.map fun v => v.category).sum ≤ 8) (hW : Wd D dA A s (Dx dA t0 ad B wr σ) H locs) (hdg : decode cc pc = .ok (.invokevirtual 3, 3)) (kk : ∀ (H1 : Heap) (locs1 : List Loc), Wd D dA A s (Dx dA t0 ad B wr σ) H1 locs1 → W p l e R s m args below meth c H1 locs1 cells slots Q (F0 m (pc + 3) ls (.int (bI B 5) :: rest))) : W p l e R s m args below meth c H locs cells slots Q (F0 m pc ls (.ref (bA B 1) :: rest)) := by
  have hk : (Dx dA t0 ad B wr σ)[47]? = some ((bA B 1), .inr (13, [.int (bI B 4), .ref (bA B 4), .int (bI B 5)])) := rfl
  refine w_Vi (C := RJ2) (As := []) (rest := rest) (n := 0) (wr := []) FX (mJ2_size hk) (cwV 0 FX.2.2.2.2 (lw_V q892 q333 q334 q127 q335) rfl rfl rfl (by decide +kernel) hR) (va_recv hW.2.2.2.1 hW.1 (ci := 13) rfl hk) rfl hl rfl hrm ⟨Nat.le_trans (Nat.le_of_eq (Nat.add_zero cells)) hcs.1, Nat.le_trans (Nat.le_of_eq (Nat.add_zero slots)) hcs.2⟩ hdg hW.nil ?_
  exact fun H1 locs1 hW1 => kk H1 locs1 hW1.nil'

/-! TrunkLitters.rooms()I: kind R -/
def fD_rooms (dA : Nat → Nat) (B : Bk) (σ : Dst) : Option Int32 := some (bI B 5)
abbrev rD_rooms : Room := { frames := 1, cells := 0, slots := 0, locals := 20 }
set_option maxHeartbeats 4000000 in
set_option maxRecDepth 100000 in
theorem mD_rooms {t0 : Nat} {ad : Nat → Nat} {B : Bk} {wr : va_W}  {σ : Dst} {q : Int32} (hf : fD_rooms dA B σ = some q) : CtI l yX0_rooms cX0_rooms 1 (some .int) rD_rooms D dA [.ref t0] (Dx dA t0 ad B wr σ) q (Dx dA t0 ad B wr σ) := by
  refine e_I (by decide) (Nat.le_of_ble_eq_true rfl) ?_
  intro p e s m below meth c ls A FX hr hlk hl hW
  have hx := FX.1; have hb := FX.2.1; have hown := FX.2.2.2.1; have hts := FX.2.2.2.2
  have hl : lv_has ls 1 [(0, .ref t0)] := hl
  rw [fD_rooms] at hf
  refine lv_aload_n hx hb dX0_rooms_0 rfl (lv_at hl 0 rfl) ?_
  refine DgX0_0_4 FX hW dX0_rooms_1 ?_
  refine DgX0_45_0 FX hW dX0_rooms_4 ?_
  refine DszX0_47 FX ⟨Nat.le_of_ble_eq_true rfl, Nat.le_of_ble_eq_true rfl⟩ ⟨Nat.zero_le _, Nat.zero_le _⟩ hl.1 (Nat.le_of_ble_eq_true rfl) hW dX0_rooms_7 (fun H locs hW => ?_)
  exact g_iret FX hr hlk hW (Option.some.inj hf) dX0_rooms_10

set_option maxHeartbeats 4000000 in
set_option maxRecDepth 100000 in
theorem kD_rooms {t0 : Nat} {ad : Nat → Nat} {B : Bk} {wr : va_W} {α : Type} {q : α} {k : Int32 → Option α} {σ : Dst} (FX : CallFix p m c cc nL s args lw_all RX0) (hR : rD_rooms.frames + 1 ≤ R.frames ∧ 8 + (1 + 11) + rD_rooms.locals ≤ R.locals) (hcs : cells ≤ R.cells ∧ slots ≤ R.slots) (hl : ls.size = nL) (hrm : (rest.map fun v => v.category).sum ≤ 8) (hW : Wd D dA A s (Dx dA t0 ad B wr σ) H locs) (hf : (fD_rooms dA B σ).bind k = some q) (hdg : decode cc pc = .ok (.invokevirtual 152, 3)) (kk : ∀ (r : Int32) (H1 : Heap) (locs1 : List Loc), Wd D dA A s (Dx dA t0 ad B wr σ) H1 locs1 → k r = some q → W p l e R s m args below meth c H1 locs1 cells slots Q (F0 m (pc + 3) ls (.int r :: rest))) : W p l e R s m args below meth c H locs cells slots Q (F0 m pc ls (.ref t0 :: rest)) := by
  obtain ⟨r1, h1, hf⟩ := bnd hf
  have hW2 := hW
  refine w_Vi (C := RX0) (As := []) (rest := rest) (n := 0) (wr := []) FX (mD_rooms h1) (cwV 0 FX.2.2.2.2 (lw_V q1126 q1128 qs33 q123 q1129) rfl rfl rfl (by decide +kernel) hR) (va_recv hW2.2.2.2.1 hW2.1 (ci := 0) (q0 := 0) rfl rfl) rfl hl rfl hrm ⟨Nat.le_trans (Nat.le_of_eq (Nat.add_zero cells)) hcs.1, Nat.le_trans (Nat.le_of_eq (Nat.add_zero slots)) hcs.2⟩ hdg hW2.nil ?_
  exact fun H1 locs1 hW1 => kk r1 H1 locs1 (hW1.nil') hf
set_option maxHeartbeats 4000000 in
set_option maxRecDepth 100000 in
theorem kX0_X0_isIn {α : Type} {q : α} {k : Int32 → Option α} {x0 : Int32} {x1 : Int32} {x2 : Int32} {ws : va_W} (FX : CallFix p m c cc nL s args lw_all RX0) (hR : rX0_isIn.frames + 1 ≤ R.frames ∧ 8 + (3 + 11) + rX0_isIn.locals ≤ R.locals) (hcs : cells ≤ R.cells ∧ slots ≤ R.slots) (hl : ls.size = nL) (hrm : (rest.map fun v => v.category).sum ≤ 8) (hW : Wd D dA A s ws H locs) (hf : (fX0_isIn x0 x1 x2).bind k = some q) (hdg : decode cc pc = .ok (.invokestatic 154, 3)) (kk : ∀ (r : Int32) (H1 : Heap) (locs1 : List Loc), Wd D dA A s ws H1 locs1 → k r = some q → W p l e R s m args below meth c H1 locs1 cells slots Q (F0 m (pc + 3) ls (.int r :: rest))) : W p l e R s m args below meth c H locs cells slots Q (F0 m pc ls (.int x2 :: .int x1 :: .int x0 :: rest)) := by
  obtain ⟨r1, h1, hf⟩ := bnd hf
  have hW2 := hW
  refine w_Si (As := [.int x0, .int x1, .int x2]) (rest := rest) (n := 3) (wr := ws) FX (mX0_isIn h1) (va_cwS 3 FX.2.2.2.2 (lw_S q1130 q1131 q123 q1132) rfl rfl rfl (by decide +kernel) hR) rfl hl rfl hrm ⟨Nat.le_trans (Nat.le_of_eq (Nat.add_zero cells)) hcs.1, Nat.le_trans (Nat.le_of_eq (Nat.add_zero slots)) hcs.2⟩ hdg hW ?_
  exact fun H1 locs1 hW1 => kk r1 H1 locs1 hW1 hf
/-! TrunkLitters.isRoom(I)Z: kind R -/
def fD_isRoom (dA : Nat → Nat) (B : Bk) (x1 : Int32) (σ : Dst) : Option Int32 := (fD_rooms dA B σ).bind fun r1 => (fX0_isIn x1 (0 : Int32) (r1 - (1 : Int32))).bind fun r2 => zrt r2 r2
abbrev rD_isRoom : Room := { frames := 2, cells := 0, slots := 0, locals := 40 }
set_option maxHeartbeats 4000000 in
set_option maxRecDepth 100000 in
theorem mD_isRoom {t0 : Nat} {ad : Nat → Nat} {B : Bk} {wr : va_W}  {x1 : Int32} {σ : Dst} {q : Int32} (hf : fD_isRoom dA B x1 σ = some q) : CtI l yX0_isRoom cX0_isRoom 2 (some .boolean) rD_isRoom D dA [.ref t0, .int x1] (Dx dA t0 ad B wr σ) q (Dx dA t0 ad B wr σ) := by
  refine e_I (by decide) (Nat.le_of_ble_eq_true rfl) ?_
  intro p e s m below meth c ls A FX hr hlk hl hW
  have hx := FX.1; have hb := FX.2.1; have hown := FX.2.2.2.1; have hts := FX.2.2.2.2
  have hl : lv_has ls 2 [(0, .ref t0), (1, .int x1)] := hl
  rw [fD_isRoom] at hf
  refine lv_iload_n hx hb dX0_isRoom_0 rfl (lv_at hl 1 rfl) ?_
  refine lv_iconst (v := 0) hx hb dX0_isRoom_1 (by decide) ?_
  refine lv_aload_n hx hb dX0_isRoom_2 rfl (lv_at hl 0 rfl) ?_
  refine kD_rooms FX ⟨Nat.le_of_ble_eq_true rfl, Nat.le_of_ble_eq_true rfl⟩ ⟨Nat.zero_le _, Nat.zero_le _⟩ hl.1 (Nat.le_of_ble_eq_true rfl) hW hf dX0_isRoom_3 (fun r1 H locs hW hf => ?_)
  refine lv_iconst (v := 1) hx hb dX0_isRoom_6 (by decide) ?_
  refine lv_isub hx hb dX0_isRoom_7 ?_
  refine kX0_X0_isIn FX ⟨Nat.le_of_ble_eq_true rfl, Nat.le_of_ble_eq_true rfl⟩ ⟨Nat.zero_le _, Nat.zero_le _⟩ hl.1 (Nat.le_of_ble_eq_true rfl) hW hf dX0_isRoom_8 (fun r2 H locs hW hf => ?_)
  exact g_zret FX hr hlk hW (zrt_some hf).1 (zrt_some hf).2 dX0_isRoom_11
theorem DgX0_0_5 {t0 : Nat} {ad : Nat → Nat} {B : Bk} {wr : va_W} {σ : Dst} (FX : CallFix p m c cc nL s args lw_all RX0) (hW : Wd D dA A s (Dx dA t0 ad B wr σ) H locs) (hdg : decode cc pc = .ok (.getfield 59, 3)) (kk : W p l e R s m args below meth c H locs cells slots Q (F0 m (pc + 3) ls (.ref (ad 5) :: rest))) : W p l e R s m args below meth c H locs cells slots Q (F0 m pc ls (.ref t0 :: rest)) :=
  g_get FX hW (C := RX0) (T := TX0) (N := 26) (ci := 0) in_X0 0 rfl rfl 5 (by decide) q371 (fun _ h => h) rfl hdg kk
set_option maxHeartbeats 4000000 in
set_option maxRecDepth 100000 in
theorem kD_now_has {t0 : Nat} {ad : Nat → Nat} {B : Bk} {wr : va_W} {α : Type} {q : α} {k : Int32 → Option α} {x1 : Int32} {σ : Dst} (FX : CallFix p m c cc nL s args lw_all RX0) (hR : rX3_has.frames + 1 ≤ R.frames ∧ 8 + (2 + 11) + rX3_has.locals ≤ R.locals) (hcs : cells ≤ R.cells ∧ slots ≤ R.slots) (hl : ls.size = nL) (hrm : (rest.map fun v => v.category).sum ≤ 8) (hW : Wd D dA A s (Dx dA t0 ad B wr σ) H locs) (hf : (fX3_has x1 (tN σ)).bind k = some q) (hdg : decode cc pc = .ok (.invokevirtual 158, 3)) (kk : ∀ (r : Int32) (H1 : Heap) (locs1 : List Loc), Wd D dA A s (Dx dA t0 ad B wr σ) H1 locs1 → k r = some q → W p l e R s m args below meth c H1 locs1 cells slots Q (F0 m (pc + 3) ls (.int r :: rest))) : W p l e R s m args below meth c H locs cells slots Q (F0 m pc ls (.int x1 :: .ref (ad 5) :: rest)) := by
  obtain ⟨r1, h1, hf⟩ := bnd hf
  have hW2 := HB_in (D_now_in hW)
  refine w_Vi (C := RX3) (As := [.int x1]) (rest := rest) (n := 1) (wr := []) FX (mX3_has h1) (cwV 1 FX.2.2.2.2 (lw_V q1156 q337 q338 q129 q339) rfl rfl rfl (by decide +kernel) hR) (va_recv hW2.2.2.2.1 hW2.1 (ci := 3) (q0 := 0) rfl rfl) rfl hl rfl hrm ⟨Nat.le_trans (Nat.le_of_eq (Nat.add_zero cells)) hcs.1, Nat.le_trans (Nat.le_of_eq (Nat.add_zero slots)) hcs.2⟩ hdg hW2.nil ?_
  exact fun H1 locs1 hW1 => kk r1 H1 locs1 (D_now_outR (HB_out hW1.nil')) hf
/-! TrunkLitters.isTrunk(I)Z: kind R -/
def fD_isTrunk (dA : Nat → Nat) (B : Bk) (x1 : Int32) (σ : Dst) : Option Int32 := (fX0_isIn x1 (0 : Int32) (7 : Int32)).bind fun r1 => (if r1 = 0 then some (0 : Int32) else (fX3_has x1 (tN σ)).bind fun r2 => (if r2 = 0 then some (0 : Int32) else some (1 : Int32)))
abbrev rD_isTrunk : Room := { frames := 1, cells := 0, slots := 0, locals := 22 }
set_option maxHeartbeats 4000000 in
set_option maxRecDepth 100000 in
theorem mD_isTrunk {t0 : Nat} {ad : Nat → Nat} {B : Bk} {wr : va_W}  {x1 : Int32} {σ : Dst} {q : Int32} (hf : fD_isTrunk dA B x1 σ = some q) : CtI l yX0_isTrunk cX0_isTrunk 2 (some .boolean) rD_isTrunk D dA [.ref t0, .int x1] (Dx dA t0 ad B wr σ) q (Dx dA t0 ad B wr σ) := by
  refine e_I (by decide) (Nat.le_of_ble_eq_true rfl) ?_
  intro p e s m below meth c ls A FX hr hlk hl hW
  have hx := FX.1; have hb := FX.2.1; have hown := FX.2.2.2.1; have hts := FX.2.2.2.2
  have hl : lv_has ls 2 [(0, .ref t0), (1, .int x1)] := hl
  rw [fD_isTrunk] at hf
  refine lv_iload_n hx hb dX0_isTrunk_0 rfl (lv_at hl 1 rfl) ?_
  refine lv_iconst (v := 0) hx hb dX0_isTrunk_1 (by decide) ?_
  refine lv_bipush (v := 7) hx hb dX0_isTrunk_2 (by decide) ?_
  refine kX0_X0_isIn FX ⟨Nat.le_of_ble_eq_true rfl, Nat.le_of_ble_eq_true rfl⟩ ⟨Nat.zero_le _, Nat.zero_le _⟩ hl.1 (Nat.le_of_ble_eq_true rfl) hW hf dX0_isTrunk_4 (fun r1 H locs hW hf => ?_)
  refine lv_if_eq (tgt := 25) hx hb dX0_isTrunk_7 (by decide) (fun c7 => ?_) (fun c7 => ?_)
  · have hf := ifp c7 hf
    refine lv_iconst (v := 0) hx hb dX0_isTrunk_25 (by decide) ?_
    exact g_zret FX hr hlk hW rfl (Option.some.inj hf) dX0_isTrunk_26
  · have hf := ifn c7 hf
    refine lv_aload_n hx hb dX0_isTrunk_10 rfl (lv_at hl 0 rfl) ?_
    refine DgX0_0_5 FX hW dX0_isTrunk_11 ?_
    refine lv_iload_n hx hb dX0_isTrunk_14 rfl (lv_at hl 1 rfl) ?_
    refine kD_now_has FX ⟨Nat.le_of_ble_eq_true rfl, Nat.le_of_ble_eq_true rfl⟩ ⟨Nat.zero_le _, Nat.zero_le _⟩ hl.1 (Nat.le_of_ble_eq_true rfl) hW hf dX0_isTrunk_15 (fun r2 H locs hW hf => ?_)
    refine lv_if_eq (tgt := 25) hx hb dX0_isTrunk_18 (by decide) (fun c18 => ?_) (fun c18 => ?_)
    · have hf := ifp c18 hf
      refine lv_iconst (v := 0) hx hb dX0_isTrunk_25 (by decide) ?_
      exact g_zret FX hr hlk hW rfl (Option.some.inj hf) dX0_isTrunk_26
    · have hf := ifn c18 hf
      refine lv_iconst (v := 1) hx hb dX0_isTrunk_21 (by decide) ?_
      refine lv_goto (tgt := 26) hx hb dX0_isTrunk_22 (by decide) ?_
      exact g_zret FX hr hlk hW rfl (Option.some.inj hf) dX0_isTrunk_26
set_option maxHeartbeats 4000000 in
set_option maxRecDepth 100000 in
theorem DgetX0_47 {t0 : Nat} {ad : Nat → Nat} {B : Bk} {wr : va_W} {σ : Dst} {α : Type} {q : α} {i : Int32} {k : Nat → Option α} (FX : CallFix p m c cc nL s args lw_all RX0) (hR : rJ2_get.frames + 1 ≤ R.frames ∧ 8 + (2 + 11) + rJ2_get.locals ≤ R.locals) (hcs : cells ≤ R.cells ∧ slots ≤ R.slots) (hl : ls.size = nL) (hrm : (rest.map fun v => v.category).sum ≤ 8) (hW : Wd D dA A s (Dx dA t0 ad B wr σ) H locs) (hf : lget (bA B 6) (bI B 5) (bR B) i k = some q) (hdg : decode cc pc = .ok (.invokevirtual 9, 3)) (kk : ∀ (x : Nat) (H1 : Heap) (locs1 : List Loc), Wd D dA A s (Dx dA t0 ad B wr σ) H1 locs1 → k x = some q → W p l e R s m args below meth c H1 locs1 cells slots Q (F0 m (pc + 3) ls (.ref x :: rest))) : W p l e R s m args below meth c H locs cells slots Q (F0 m pc ls (.int i :: .ref (bA B 1) :: rest)) := by
  obtain ⟨h0, h1, h2, x, h3, hf⟩ := lget_some hf
  have hk : (Dx dA t0 ad B wr σ)[47]? = some ((bA B 1), .inr (13, [.int (bI B 4), .ref (bA B 4), .int (bI B 5)])) := rfl
  have he : (Dx dA t0 ad B wr σ)[48]? = some ((bA B 4), .inl (dA 4, (bA B 6), .inr (.inr (.inr (.inr (bR B)))))) := rfl
  refine w_VR (C := RJ2) (As := [.int i]) (rest := rest) (n := 1) (wr := []) FX (mJ2_get hk he h0 h1 h2 h3) (cwV 1 FX.2.2.2.2 (lw_V q893 q345 q346 q127 q347) rfl rfl rfl (by decide +kernel) hR) (va_recv hW.2.2.2.1 hW.1 (ci := 13) rfl hk) rfl hl rfl hrm ⟨Nat.le_trans (Nat.le_of_eq (Nat.add_zero cells)) hcs.1, Nat.le_trans (Nat.le_of_eq (Nat.add_zero slots)) hcs.2⟩ hdg hW.nil ?_
  exact fun H1 locs1 hW1 => kk x H1 locs1 hW1.nil' hf
theorem DcstX0_X7 {t0 : Nat} {ad : Nat → Nat} {B : Bk} {wr : va_W} {σ : Dst} {α : Type} {q : α} {x : Nat} {k : Option α} (FX : CallFix p m c cc nL s args lw_all RX0) (hW : Wd D dA A s (Dx dA t0 ad B wr σ) H locs) (hf : pck (bP B) x 6 k = some q) (hdg : decode cc pc = .ok (.checkcast 165, 3)) (kk : k = some q → W p l e R s m args below meth c H locs cells slots Q (F0 m (pc + 3) ls (.ref x :: rest))) : W p l e R s m args below meth c H locs cells slots Q (F0 m pc ls (.ref x :: rest)) := by
  obtain ⟨⟨fs, hx⟩, hf⟩ := pck_some hf
  obtain ⟨j, hj⟩ := hlk_get hx
  obtain ⟨j2, hj2⟩ := pool_in (pre := [(t0, .inr (0, [.ref (ad 0), .int (tF σ 1), .int (tF σ 2), .int (tF σ 3), .ref (bA B 0), .ref (ad 5), .ref (ad 6), .ref (ad 7), .int (tF σ 8), .ref (ad 9), .int (tF σ 10), .int (tF σ 11), .ref (ad 12), .ref (ad 13), .ref (ad 14), .int (tF σ 15), .int (tF σ 16), .ref (ad 17), .ref (ad 18), .int (tF σ 19), .int (tF σ 20), .ref (ad 21), .ref (ad 22), .ref (ad 23), .ref (ad 24), .ref (ad 25)])), ((ad 0), .inl (dA 1, 1600, .inl (tA σ 0))), ((ad 12), .inl (dA 0, 8, .inl (tA σ 12))), ((ad 13), .inl (dA 0, 8, .inl (tA σ 13))), ((ad 14), .inl (dA 0, 4, .inl (tA σ 14))), ((ad 22), .inl (dA 2, 64, .inl (tA σ 22))), ((ad 23), .inl (dA 0, 7, .inl (tA σ 23))), ((ad 25), .inl (dA 2, 3, .inl (tA σ 25))), ((ad 17), .inl (dA 6, 4, .inr (.inr (.inr (.inr (gR ad 170)))))), ((ad 170), .inl (dA 0, 4, .inl (tA σ 170))), ((ad 171), .inl (dA 0, 4, .inl (tA σ 171))), ((ad 172), .inl (dA 0, 4, .inl (tA σ 172))), ((ad 173), .inl (dA 0, 4, .inl (tA σ 173))), ((ad 18), .inl (dA 6, 4, .inr (.inr (.inr (.inr (gR ad 180)))))), ((ad 180), .inl (dA 0, 4, .inl (tA σ 180))), ((ad 181), .inl (dA 0, 4, .inl (tA σ 181))), ((ad 182), .inl (dA 0, 4, .inl (tA σ 182))), ((ad 183), .inl (dA 0, 4, .inl (tA σ 183))), ((ad 5), .inr (3, [.ref (ad 50), .ref (ad 51), .ref (ad 52), .ref (ad 53), .ref (ad 54), .ref (ad 55), .ref (ad 56), .ref (ad 57), .int (hF (tN σ) 8), .int (hF (tN σ) 9), .int (hF (tN σ) 10), .int (hF (tN σ) 11), .int (hF (tN σ) 12), .int (hF (tN σ) 13)])), ((ad 50), .inl (dA 0, 8, .inl (hA (tN σ) 0))), ((ad 51), .inl (dA 0, 8, .inl (hA (tN σ) 1))), ((ad 52), .inl (dA 0, 8, .inl (hA (tN σ) 2))), ((ad 53), .inl (dA 0, 8, .inl (hA (tN σ) 3))), ((ad 54), .inl (dA 0, 8, .inl (hA (tN σ) 4))), ((ad 55), .inl (dA 0, 8, .inl (hA (tN σ) 5))), ((ad 56), .inl (dA 0, 8, .inl (hA (tN σ) 6))), ((ad 57), .inl (dA 0, 8, .inl (hA (tN σ) 7))), ((ad 7), .inr (3, [.ref (ad 70), .ref (ad 71), .ref (ad 72), .ref (ad 73), .ref (ad 74), .ref (ad 75), .ref (ad 76), .ref (ad 77), .int (hF (tT σ) 8), .int (hF (tT σ) 9), .int (hF (tT σ) 10), .int (hF (tT σ) 11), .int (hF (tT σ) 12), .int (hF (tT σ) 13)])), ((ad 70), .inl (dA 0, 8, .inl (hA (tT σ) 0))), ((ad 71), .inl (dA 0, 8, .inl (hA (tT σ) 1))), ((ad 72), .inl (dA 0, 8, .inl (hA (tT σ) 2))), ((ad 73), .inl (dA 0, 8, .inl (hA (tT σ) 3))), ((ad 74), .inl (dA 0, 8, .inl (hA (tT σ) 4))), ((ad 75), .inl (dA 0, 8, .inl (hA (tT σ) 5))), ((ad 76), .inl (dA 0, 8, .inl (hA (tT σ) 6))), ((ad 77), .inl (dA 0, 8, .inl (hA (tT σ) 7))), ((ad 6), .inr (3, [.ref (ad 60), .ref (ad 61), .ref (ad 62), .ref (ad 63), .ref (ad 64), .ref (ad 65), .ref (ad 66), .ref (ad 67), .int (hF (tS σ) 8), .int (hF (tS σ) 9), .int (hF (tS σ) 10), .int (hF (tS σ) 11), .int (hF (tS σ) 12), .int (hF (tS σ) 13)])), ((ad 60), .inl (dA 0, 8, .inl (hA (tS σ) 0))), ((ad 61), .inl (dA 0, 8, .inl (hA (tS σ) 1))), ((ad 62), .inl (dA 0, 8, .inl (hA (tS σ) 2))), ((ad 63), .inl (dA 0, 8, .inl (hA (tS σ) 3))), ((ad 64), .inl (dA 0, 8, .inl (hA (tS σ) 4))), ((ad 65), .inl (dA 0, 8, .inl (hA (tS σ) 5))), ((ad 66), .inl (dA 0, 8, .inl (hA (tS σ) 6))), ((ad 67), .inl (dA 0, 8, .inl (hA (tS σ) 7))), ((bA B 0), .inr (1, [.ref (bA B 1), .ref (bA B 2), .ref (bA B 3), va_rf (bN B), .int (bI B 0), .int (bI B 1), .int (bI B 2), .int (bI B 3)])), ((bA B 3), .inr (2, [.int (tU σ 0), .int (tU σ 1), .int (tU σ 2), .int (tU σ 3), .int (tU σ 4)])), ((bA B 1), .inr (13, [.int (bI B 4), .ref (bA B 4), .int (bI B 5)])), ((bA B 4), .inl (dA 4, (bA B 6), .inr (.inr (.inr (.inr (bR B)))))), ((bA B 2), .inr (13, [.int (bI B 6), .ref (bA B 5), .int (bI B 7)])), ((bA B 5), .inl (dA 4, (bA B 7), .inr (.inr (.inr (.inr (bT B))))))]) (wr := wr) hj
  exact g_castS FX hW (C := RX7) (T := TX7) (N := 3) (ci := 6) rfl q1133 ⟨j2, fs, hj2⟩ hdg (kk hf)
theorem DpgX0_X7_1 {t0 : Nat} {ad : Nat → Nat} {B : Bk} {wr : va_W} {σ : Dst} {α : Type} {q : α} {x : Nat} {k : Int32 → Option α} (FX : CallFix p m c cc nL s args lw_all RX0) (hW : Wd D dA A s (Dx dA t0 ad B wr σ) H locs) (hf : pgi (bP B) x 6 1 k = some q) (hdg : decode cc pc = .ok (.getfield 167, 3)) (kk : ∀ v : Int32, k v = some q → W p l e R s m args below meth c H locs cells slots Q (F0 m (pc + 3) ls (.int v :: rest))) : W p l e R s m args below meth c H locs cells slots Q (F0 m pc ls (.ref x :: rest)) := by
  obtain ⟨fs, v, hx, hv, hf⟩ := pgi_some hf
  obtain ⟨j, hj⟩ := hlk_get hx
  obtain ⟨j2, hj2⟩ := pool_in (pre := [(t0, .inr (0, [.ref (ad 0), .int (tF σ 1), .int (tF σ 2), .int (tF σ 3), .ref (bA B 0), .ref (ad 5), .ref (ad 6), .ref (ad 7), .int (tF σ 8), .ref (ad 9), .int (tF σ 10), .int (tF σ 11), .ref (ad 12), .ref (ad 13), .ref (ad 14), .int (tF σ 15), .int (tF σ 16), .ref (ad 17), .ref (ad 18), .int (tF σ 19), .int (tF σ 20), .ref (ad 21), .ref (ad 22), .ref (ad 23), .ref (ad 24), .ref (ad 25)])), ((ad 0), .inl (dA 1, 1600, .inl (tA σ 0))), ((ad 12), .inl (dA 0, 8, .inl (tA σ 12))), ((ad 13), .inl (dA 0, 8, .inl (tA σ 13))), ((ad 14), .inl (dA 0, 4, .inl (tA σ 14))), ((ad 22), .inl (dA 2, 64, .inl (tA σ 22))), ((ad 23), .inl (dA 0, 7, .inl (tA σ 23))), ((ad 25), .inl (dA 2, 3, .inl (tA σ 25))), ((ad 17), .inl (dA 6, 4, .inr (.inr (.inr (.inr (gR ad 170)))))), ((ad 170), .inl (dA 0, 4, .inl (tA σ 170))), ((ad 171), .inl (dA 0, 4, .inl (tA σ 171))), ((ad 172), .inl (dA 0, 4, .inl (tA σ 172))), ((ad 173), .inl (dA 0, 4, .inl (tA σ 173))), ((ad 18), .inl (dA 6, 4, .inr (.inr (.inr (.inr (gR ad 180)))))), ((ad 180), .inl (dA 0, 4, .inl (tA σ 180))), ((ad 181), .inl (dA 0, 4, .inl (tA σ 181))), ((ad 182), .inl (dA 0, 4, .inl (tA σ 182))), ((ad 183), .inl (dA 0, 4, .inl (tA σ 183))), ((ad 5), .inr (3, [.ref (ad 50), .ref (ad 51), .ref (ad 52), .ref (ad 53), .ref (ad 54), .ref (ad 55), .ref (ad 56), .ref (ad 57), .int (hF (tN σ) 8), .int (hF (tN σ) 9), .int (hF (tN σ) 10), .int (hF (tN σ) 11), .int (hF (tN σ) 12), .int (hF (tN σ) 13)])), ((ad 50), .inl (dA 0, 8, .inl (hA (tN σ) 0))), ((ad 51), .inl (dA 0, 8, .inl (hA (tN σ) 1))), ((ad 52), .inl (dA 0, 8, .inl (hA (tN σ) 2))), ((ad 53), .inl (dA 0, 8, .inl (hA (tN σ) 3))), ((ad 54), .inl (dA 0, 8, .inl (hA (tN σ) 4))), ((ad 55), .inl (dA 0, 8, .inl (hA (tN σ) 5))), ((ad 56), .inl (dA 0, 8, .inl (hA (tN σ) 6))), ((ad 57), .inl (dA 0, 8, .inl (hA (tN σ) 7))), ((ad 7), .inr (3, [.ref (ad 70), .ref (ad 71), .ref (ad 72), .ref (ad 73), .ref (ad 74), .ref (ad 75), .ref (ad 76), .ref (ad 77), .int (hF (tT σ) 8), .int (hF (tT σ) 9), .int (hF (tT σ) 10), .int (hF (tT σ) 11), .int (hF (tT σ) 12), .int (hF (tT σ) 13)])), ((ad 70), .inl (dA 0, 8, .inl (hA (tT σ) 0))), ((ad 71), .inl (dA 0, 8, .inl (hA (tT σ) 1))), ((ad 72), .inl (dA 0, 8, .inl (hA (tT σ) 2))), ((ad 73), .inl (dA 0, 8, .inl (hA (tT σ) 3))), ((ad 74), .inl (dA 0, 8, .inl (hA (tT σ) 4))), ((ad 75), .inl (dA 0, 8, .inl (hA (tT σ) 5))), ((ad 76), .inl (dA 0, 8, .inl (hA (tT σ) 6))), ((ad 77), .inl (dA 0, 8, .inl (hA (tT σ) 7))), ((ad 6), .inr (3, [.ref (ad 60), .ref (ad 61), .ref (ad 62), .ref (ad 63), .ref (ad 64), .ref (ad 65), .ref (ad 66), .ref (ad 67), .int (hF (tS σ) 8), .int (hF (tS σ) 9), .int (hF (tS σ) 10), .int (hF (tS σ) 11), .int (hF (tS σ) 12), .int (hF (tS σ) 13)])), ((ad 60), .inl (dA 0, 8, .inl (hA (tS σ) 0))), ((ad 61), .inl (dA 0, 8, .inl (hA (tS σ) 1))), ((ad 62), .inl (dA 0, 8, .inl (hA (tS σ) 2))), ((ad 63), .inl (dA 0, 8, .inl (hA (tS σ) 3))), ((ad 64), .inl (dA 0, 8, .inl (hA (tS σ) 4))), ((ad 65), .inl (dA 0, 8, .inl (hA (tS σ) 5))), ((ad 66), .inl (dA 0, 8, .inl (hA (tS σ) 6))), ((ad 67), .inl (dA 0, 8, .inl (hA (tS σ) 7))), ((bA B 0), .inr (1, [.ref (bA B 1), .ref (bA B 2), .ref (bA B 3), va_rf (bN B), .int (bI B 0), .int (bI B 1), .int (bI B 2), .int (bI B 3)])), ((bA B 3), .inr (2, [.int (tU σ 0), .int (tU σ 1), .int (tU σ 2), .int (tU σ 3), .int (tU σ 4)])), ((bA B 1), .inr (13, [.int (bI B 4), .ref (bA B 4), .int (bI B 5)])), ((bA B 4), .inl (dA 4, (bA B 6), .inr (.inr (.inr (.inr (bR B)))))), ((bA B 2), .inr (13, [.int (bI B 6), .ref (bA B 5), .int (bI B 7)])), ((bA B 5), .inl (dA 4, (bA B 7), .inr (.inr (.inr (.inr (bT B))))))]) (wr := wr) hj
  exact g_get FX hW (C := RX7) (T := TX7) (N := 3) (ci := 6) in_X7 j2 hj2 rfl 1 (by decide) q904 (fun _ h => h) hv hdg (kk v hf)
set_option maxHeartbeats 4000000 in
set_option maxRecDepth 100000 in
theorem kD_isRoom {t0 : Nat} {ad : Nat → Nat} {B : Bk} {wr : va_W} {α : Type} {q : α} {k : Int32 → Option α} {x1 : Int32} {σ : Dst} (FX : CallFix p m c cc nL s args lw_all RX0) (hR : rD_isRoom.frames + 1 ≤ R.frames ∧ 8 + (2 + 11) + rD_isRoom.locals ≤ R.locals) (hcs : cells ≤ R.cells ∧ slots ≤ R.slots) (hl : ls.size = nL) (hrm : (rest.map fun v => v.category).sum ≤ 8) (hW : Wd D dA A s (Dx dA t0 ad B wr σ) H locs) (hf : (fD_isRoom dA B x1 σ).bind k = some q) (hdg : decode cc pc = .ok (.invokevirtual 162, 3)) (kk : ∀ (r : Int32) (H1 : Heap) (locs1 : List Loc), Wd D dA A s (Dx dA t0 ad B wr σ) H1 locs1 → k r = some q → W p l e R s m args below meth c H1 locs1 cells slots Q (F0 m (pc + 3) ls (.int r :: rest))) : W p l e R s m args below meth c H locs cells slots Q (F0 m pc ls (.int x1 :: .ref t0 :: rest)) := by
  obtain ⟨r1, h1, hf⟩ := bnd hf
  have hW2 := hW
  refine w_Vi (C := RX0) (As := [.int x1]) (rest := rest) (n := 1) (wr := []) FX (mD_isRoom h1) (cwV 1 FX.2.2.2.2 (lw_V q1122 q1124 qs32 q123 q1125) rfl rfl rfl (by decide +kernel) hR) (va_recv hW2.2.2.2.1 hW2.1 (ci := 0) (q0 := 0) rfl rfl) rfl hl rfl hrm ⟨Nat.le_trans (Nat.le_of_eq (Nat.add_zero cells)) hcs.1, Nat.le_trans (Nat.le_of_eq (Nat.add_zero slots)) hcs.2⟩ hdg hW2.nil ?_
  exact fun H1 locs1 hW1 => kk r1 H1 locs1 (hW1.nil') hf
set_option maxHeartbeats 4000000 in
set_option maxRecDepth 100000 in
theorem kD_now_left {t0 : Nat} {ad : Nat → Nat} {B : Bk} {wr : va_W} {α : Type} {q : α} {k : Int32 → Option α} {x2 : Int32} {σ : Dst} (FX : CallFix p m c cc nL s args lw_all RX0) (hR : rHB_left.frames + 1 ≤ R.frames ∧ 8 + (3 + 11) + rHB_left.locals ≤ R.locals) (hcs : cells ≤ R.cells ∧ slots ≤ R.slots) (hl : ls.size = nL) (hrm : (rest.map fun v => v.category).sum ≤ 8) (hW : Wd D dA A s (Dx dA t0 ad B wr σ) H locs) (hf : (fHB_left dA B x2 ((tN σ), tU σ)).bind k = some q) (hdg : decode cc pc = .ok (.invokevirtual 170, 3)) (kk : ∀ (r : Int32) (H1 : Heap) (locs1 : List Loc), Wd D dA A s (Dx dA t0 ad B wr σ) H1 locs1 → k r = some q → W p l e R s m args below meth c H1 locs1 cells slots Q (F0 m (pc + 3) ls (.int r :: rest))) : W p l e R s m args below meth c H locs cells slots Q (F0 m pc ls (.int x2 :: .ref (bA B 0) :: .ref (ad 5) :: rest)) := by
  obtain ⟨r1, h1, hf⟩ := bnd hf
  have hW2 := D_now_in hW
  refine w_Vi (C := RX3) (As := [.ref (bA B 0), .int x2]) (rest := rest) (n := 2) (wr := []) FX (mHB_left h1) (cwV 2 FX.2.2.2.2 (lw_V q1134 q1135 q1136 q129 q1137) rfl rfl rfl (by decide +kernel) hR) (va_recv hW2.2.2.2.1 hW2.1 (ci := 3) (q0 := 0) rfl rfl) rfl hl rfl hrm ⟨Nat.le_trans (Nat.le_of_eq (Nat.add_zero cells)) hcs.1, Nat.le_trans (Nat.le_of_eq (Nat.add_zero slots)) hcs.2⟩ hdg hW2.nil ?_
  exact fun H1 locs1 hW1 => kk r1 H1 locs1 (D_now_outR hW1.nil') hf
set_option maxHeartbeats 4000000 in
set_option maxRecDepth 100000 in
theorem kD_now_in {t0 : Nat} {ad : Nat → Nat} {B : Bk} {wr : va_W} {α : Type} {q : α} {k : Int32 → Option α} {x1 : Int32} {σ : Dst} (FX : CallFix p m c cc nL s args lw_all RX0) (hR : rX3_in.frames + 1 ≤ R.frames ∧ 8 + (4 + 11) + rX3_in.locals ≤ R.locals) (hcs : cells ≤ R.cells ∧ slots ≤ R.slots) (hl : ls.size = nL) (hrm : (rest.map fun v => v.category).sum ≤ 8) (hW : Wd D dA A s (Dx dA t0 ad B wr σ) H locs) (hf : (fX3_in x1 (tN σ)).bind k = some q) (hdg : decode cc pc = .ok (.invokevirtual 174, 3)) (kk : ∀ (r : Int32) (H1 : Heap) (locs1 : List Loc), Wd D dA A s (Dx dA t0 ad B wr σ) H1 locs1 → k r = some q → W p l e R s m args below meth c H1 locs1 cells slots Q (F0 m (pc + 3) ls (.int r :: rest))) : W p l e R s m args below meth c H locs cells slots Q (F0 m pc ls (.int x1 :: .ref (ad 5) :: rest)) := by
  obtain ⟨r1, h1, hf⟩ := bnd hf
  have hW2 := HB_in (D_now_in hW)
  refine w_Vi (C := RX3) (As := [.int x1]) (rest := rest) (n := 1) (wr := []) FX (mX3_in h1) (cwV 1 FX.2.2.2.2 (lw_V q1147 q1140 q1141 q129 q1142) rfl rfl rfl (by decide +kernel) hR) (va_recv hW2.2.2.2.1 hW2.1 (ci := 3) (q0 := 0) rfl rfl) rfl hl rfl hrm ⟨Nat.le_trans (Nat.le_of_eq (Nat.add_zero cells)) hcs.1, Nat.le_trans (Nat.le_of_eq (Nat.add_zero slots)) hcs.2⟩ hdg hW2.nil ?_
  exact fun H1 locs1 hW1 => kk r1 H1 locs1 (D_now_outR (HB_out hW1.nil')) hf
/-! TrunkLitters.room(II)I: kind R -/
def fD_room (dA : Nat → Nat) (B : Bk) (x1 : Int32) (x2 : Int32) (σ : Dst) : Option Int32 := (fD_isRoom dA B x1 σ).bind fun r1 => (if r1 = 0 then some (-1 : Int32) else (if x2 = (0 : Int32) then lget (bA B 6) (bI B 5) (bR B) x1 fun a2 => pck (bP B) a2 6 (pgi (bP B) a2 6 1 fun v3 => some v3) else (if x2 = (1 : Int32) then (fHB_left dA B x1 ((tN σ), tU σ)).bind fun r4 => some r4 else (if x2 = (2 : Int32) then (fX3_in x1 (tN σ)).bind fun r5 => some r5 else some (-1 : Int32)))))
abbrev rD_room : Room := { frames := 5, cells := 0, slots := 0, locals := 113 }
set_option maxHeartbeats 4000000 in
set_option maxRecDepth 100000 in
theorem mD_room {t0 : Nat} {ad : Nat → Nat} {B : Bk} {wr : va_W}  {x1 : Int32} {x2 : Int32} {σ : Dst} {q : Int32} (hf : fD_room dA B x1 x2 σ = some q) : CtI l yX0_room cX0_room 3 (some .int) rD_room D dA [.ref t0, .int x1, .int x2] (Dx dA t0 ad B wr σ) q (Dx dA t0 ad B wr σ) := by
  refine e_I (by decide) (Nat.le_of_ble_eq_true rfl) ?_
  intro p e s m below meth c ls A FX hr hlk hl hW
  have hx := FX.1; have hb := FX.2.1; have hown := FX.2.2.2.1; have hts := FX.2.2.2.2
  have hl : lv_has ls 3 [(0, .ref t0), (1, .int x1), (2, .int x2)] := hl
  rw [fD_room] at hf
  refine lv_aload_n hx hb dX0_room_0 rfl (lv_at hl 0 rfl) ?_
  refine lv_iload_n hx hb dX0_room_1 rfl (lv_at hl 1 rfl) ?_
  refine kD_isRoom FX ⟨Nat.le_of_ble_eq_true rfl, Nat.le_of_ble_eq_true rfl⟩ ⟨Nat.zero_le _, Nat.zero_le _⟩ hl.1 (Nat.le_of_ble_eq_true rfl) hW hf dX0_room_2 (fun r1 H locs hW hf => ?_)
  refine lv_if_ne (tgt := 10) hx hb dX0_room_5 (by decide) (fun c5 => ?_) (fun c5 => ?_)
  · have hf := ifn c5 hf
    refine lv_iload_n hx hb dX0_room_10 rfl (lv_at hl 2 rfl) ?_
    by_cases c11_0 : x2 = (0 : Int32)
    · have hf := ifp c11_0 hf
      refine g_tabC (tgt := 36) FX (0 : Int32) c11_0 (by decide) (by decide) rfl (by decide) dX0_room_11 ?_
      refine lv_aload_n hx hb dX0_room_36 rfl (lv_at hl 0 rfl) ?_
      refine DgX0_0_4 FX hW dX0_room_37 ?_
      refine DgX0_45_0 FX hW dX0_room_40 ?_
      refine lv_iload_n hx hb dX0_room_43 rfl (lv_at hl 1 rfl) ?_
      refine DgetX0_47 FX ⟨Nat.le_of_ble_eq_true rfl, Nat.le_of_ble_eq_true rfl⟩ ⟨Nat.zero_le _, Nat.zero_le _⟩ hl.1 (Nat.le_of_ble_eq_true rfl) hW hf dX0_room_44 (fun a2 H locs hW hf => ?_)
      refine DcstX0_X7 FX hW hf dX0_room_47 (fun hf => ?_)
      refine DpgX0_X7_1 FX hW hf dX0_room_50 (fun v3 hf => ?_)
      exact g_iret FX hr hlk hW (Option.some.inj hf) dX0_room_53
    have hf := ifn c11_0 hf
    by_cases c11_1 : x2 = (1 : Int32)
    · have hf := ifp c11_1 hf
      refine g_tabC (tgt := 54) FX (1 : Int32) c11_1 (by decide) (by decide) rfl (by decide) dX0_room_11 ?_
      refine lv_aload_n hx hb dX0_room_54 rfl (lv_at hl 0 rfl) ?_
      refine DgX0_0_5 FX hW dX0_room_55 ?_
      refine lv_aload_n hx hb dX0_room_58 rfl (lv_at hl 0 rfl) ?_
      refine DgX0_0_4 FX hW dX0_room_59 ?_
      refine lv_iload_n hx hb dX0_room_62 rfl (lv_at hl 1 rfl) ?_
      refine kD_now_left FX ⟨Nat.le_of_ble_eq_true rfl, Nat.le_of_ble_eq_true rfl⟩ ⟨Nat.zero_le _, Nat.zero_le _⟩ hl.1 (Nat.le_of_ble_eq_true rfl) hW hf dX0_room_63 (fun r4 H locs hW hf => ?_)
      exact g_iret FX hr hlk hW (Option.some.inj hf) dX0_room_66
    have hf := ifn c11_1 hf
    by_cases c11_2 : x2 = (2 : Int32)
    · have hf := ifp c11_2 hf
      refine g_tabC (tgt := 67) FX (2 : Int32) c11_2 (by decide) (by decide) rfl (by decide) dX0_room_11 ?_
      refine lv_aload_n hx hb dX0_room_67 rfl (lv_at hl 0 rfl) ?_
      refine DgX0_0_5 FX hW dX0_room_68 ?_
      refine lv_iload_n hx hb dX0_room_71 rfl (lv_at hl 1 rfl) ?_
      refine kD_now_in FX ⟨Nat.le_of_ble_eq_true rfl, Nat.le_of_ble_eq_true rfl⟩ ⟨Nat.zero_le _, Nat.zero_le _⟩ hl.1 (Nat.le_of_ble_eq_true rfl) hW hf dX0_room_72 (fun r5 H locs hW hf => ?_)
      exact g_iret FX hr hlk hW (Option.some.inj hf) dX0_room_75
    have hf := ifn c11_2 hf
    have n11_0 := lv_neT (a := 0) c11_0 (by decide)
    have n11_1 := lv_neT (a := 1) c11_1 (by decide)
    have n11_2 := lv_neT (a := 2) c11_2 (by decide)
    refine lv_tableOut (tgt := 76) hx hb dX0_room_11 (by omega) (by decide) ?_
    refine lv_iconst (v := -1) hx hb dX0_room_76 (by decide) ?_
    exact g_iret FX hr hlk hW (Option.some.inj hf) dX0_room_77
  · have hf := ifp c5 hf
    refine lv_iconst (v := -1) hx hb dX0_room_8 (by decide) ?_
    exact g_iret FX hr hlk hW (Option.some.inj hf) dX0_room_9
theorem DgX0_18_0 {t0 : Nat} {ad : Nat → Nat} {B : Bk} {wr : va_W} {σ : Dst} (FX : CallFix p m c cc nL s args lw_all RX0) (hW : Wd D dA A s (Dx dA t0 ad B wr σ) H locs) (hdg : decode cc pc = .ok (.getfield 180, 3)) (kk : W p l e R s m args below meth c H locs cells slots Q (F0 m (pc + 3) ls (.ref (ad 50) :: rest))) : W p l e R s m args below meth c H locs cells slots Q (F0 m pc ls (.ref (ad 5) :: rest)) :=
  g_get FX hW (C := RX3) (T := TX3) (N := 14) (ci := 3) in_X3 18 rfl rfl 0 (by decide) q272 (fun _ h => h) rfl hdg kk
theorem Dp19 {t0 : Nat} {ad : Nat → Nat} {B : Bk} {wr : va_W} {σ : Dst} : (Dx dA t0 ad B wr σ)[19]? = some ((ad 50), .inl (dA 0, 8, .inl (hA (tN σ) 0))) := rfl
theorem DgX0_18_1 {t0 : Nat} {ad : Nat → Nat} {B : Bk} {wr : va_W} {σ : Dst} (FX : CallFix p m c cc nL s args lw_all RX0) (hW : Wd D dA A s (Dx dA t0 ad B wr σ) H locs) (hdg : decode cc pc = .ok (.getfield 183, 3)) (kk : W p l e R s m args below meth c H locs cells slots Q (F0 m (pc + 3) ls (.ref (ad 51) :: rest))) : W p l e R s m args below meth c H locs cells slots Q (F0 m pc ls (.ref (ad 5) :: rest)) :=
  g_get FX hW (C := RX3) (T := TX3) (N := 14) (ci := 3) in_X3 18 rfl rfl 1 (by decide) q274 (fun _ h => h) rfl hdg kk
theorem Dp20 {t0 : Nat} {ad : Nat → Nat} {B : Bk} {wr : va_W} {σ : Dst} : (Dx dA t0 ad B wr σ)[20]? = some ((ad 51), .inl (dA 0, 8, .inl (hA (tN σ) 1))) := rfl
theorem DgX0_18_2 {t0 : Nat} {ad : Nat → Nat} {B : Bk} {wr : va_W} {σ : Dst} (FX : CallFix p m c cc nL s args lw_all RX0) (hW : Wd D dA A s (Dx dA t0 ad B wr σ) H locs) (hdg : decode cc pc = .ok (.getfield 186, 3)) (kk : W p l e R s m args below meth c H locs cells slots Q (F0 m (pc + 3) ls (.ref (ad 52) :: rest))) : W p l e R s m args below meth c H locs cells slots Q (F0 m pc ls (.ref (ad 5) :: rest)) :=
  g_get FX hW (C := RX3) (T := TX3) (N := 14) (ci := 3) in_X3 18 rfl rfl 2 (by decide) q276 (fun _ h => h) rfl hdg kk
theorem Dp21 {t0 : Nat} {ad : Nat → Nat} {B : Bk} {wr : va_W} {σ : Dst} : (Dx dA t0 ad B wr σ)[21]? = some ((ad 52), .inl (dA 0, 8, .inl (hA (tN σ) 2))) := rfl
theorem DgX0_18_3 {t0 : Nat} {ad : Nat → Nat} {B : Bk} {wr : va_W} {σ : Dst} (FX : CallFix p m c cc nL s args lw_all RX0) (hW : Wd D dA A s (Dx dA t0 ad B wr σ) H locs) (hdg : decode cc pc = .ok (.getfield 189, 3)) (kk : W p l e R s m args below meth c H locs cells slots Q (F0 m (pc + 3) ls (.ref (ad 53) :: rest))) : W p l e R s m args below meth c H locs cells slots Q (F0 m pc ls (.ref (ad 5) :: rest)) :=
  g_get FX hW (C := RX3) (T := TX3) (N := 14) (ci := 3) in_X3 18 rfl rfl 3 (by decide) q278 (fun _ h => h) rfl hdg kk
theorem Dp22 {t0 : Nat} {ad : Nat → Nat} {B : Bk} {wr : va_W} {σ : Dst} : (Dx dA t0 ad B wr σ)[22]? = some ((ad 53), .inl (dA 0, 8, .inl (hA (tN σ) 3))) := rfl
theorem DgX0_18_4 {t0 : Nat} {ad : Nat → Nat} {B : Bk} {wr : va_W} {σ : Dst} (FX : CallFix p m c cc nL s args lw_all RX0) (hW : Wd D dA A s (Dx dA t0 ad B wr σ) H locs) (hdg : decode cc pc = .ok (.getfield 192, 3)) (kk : W p l e R s m args below meth c H locs cells slots Q (F0 m (pc + 3) ls (.ref (ad 54) :: rest))) : W p l e R s m args below meth c H locs cells slots Q (F0 m pc ls (.ref (ad 5) :: rest)) :=
  g_get FX hW (C := RX3) (T := TX3) (N := 14) (ci := 3) in_X3 18 rfl rfl 4 (by decide) q280 (fun _ h => h) rfl hdg kk
theorem Dp23 {t0 : Nat} {ad : Nat → Nat} {B : Bk} {wr : va_W} {σ : Dst} : (Dx dA t0 ad B wr σ)[23]? = some ((ad 54), .inl (dA 0, 8, .inl (hA (tN σ) 4))) := rfl
theorem DgX0_18_5 {t0 : Nat} {ad : Nat → Nat} {B : Bk} {wr : va_W} {σ : Dst} (FX : CallFix p m c cc nL s args lw_all RX0) (hW : Wd D dA A s (Dx dA t0 ad B wr σ) H locs) (hdg : decode cc pc = .ok (.getfield 195, 3)) (kk : W p l e R s m args below meth c H locs cells slots Q (F0 m (pc + 3) ls (.ref (ad 55) :: rest))) : W p l e R s m args below meth c H locs cells slots Q (F0 m pc ls (.ref (ad 5) :: rest)) :=
  g_get FX hW (C := RX3) (T := TX3) (N := 14) (ci := 3) in_X3 18 rfl rfl 5 (by decide) q282 (fun _ h => h) rfl hdg kk
theorem Dp24 {t0 : Nat} {ad : Nat → Nat} {B : Bk} {wr : va_W} {σ : Dst} : (Dx dA t0 ad B wr σ)[24]? = some ((ad 55), .inl (dA 0, 8, .inl (hA (tN σ) 5))) := rfl
theorem DgX0_18_6 {t0 : Nat} {ad : Nat → Nat} {B : Bk} {wr : va_W} {σ : Dst} (FX : CallFix p m c cc nL s args lw_all RX0) (hW : Wd D dA A s (Dx dA t0 ad B wr σ) H locs) (hdg : decode cc pc = .ok (.getfield 198, 3)) (kk : W p l e R s m args below meth c H locs cells slots Q (F0 m (pc + 3) ls (.ref (ad 56) :: rest))) : W p l e R s m args below meth c H locs cells slots Q (F0 m pc ls (.ref (ad 5) :: rest)) :=
  g_get FX hW (C := RX3) (T := TX3) (N := 14) (ci := 3) in_X3 18 rfl rfl 6 (by decide) q284 (fun _ h => h) rfl hdg kk
theorem Dp25 {t0 : Nat} {ad : Nat → Nat} {B : Bk} {wr : va_W} {σ : Dst} : (Dx dA t0 ad B wr σ)[25]? = some ((ad 56), .inl (dA 0, 8, .inl (hA (tN σ) 6))) := rfl
set_option maxHeartbeats 4000000 in
set_option maxRecDepth 100000 in
theorem kD_isTrunk {t0 : Nat} {ad : Nat → Nat} {B : Bk} {wr : va_W} {α : Type} {q : α} {k : Int32 → Option α} {x1 : Int32} {σ : Dst} (FX : CallFix p m c cc nL s args lw_all RX0) (hR : rD_isTrunk.frames + 1 ≤ R.frames ∧ 8 + (2 + 11) + rD_isTrunk.locals ≤ R.locals) (hcs : cells ≤ R.cells ∧ slots ≤ R.slots) (hl : ls.size = nL) (hrm : (rest.map fun v => v.category).sum ≤ 8) (hW : Wd D dA A s (Dx dA t0 ad B wr σ) H locs) (hf : (fD_isTrunk dA B x1 σ).bind k = some q) (hdg : decode cc pc = .ok (.invokevirtual 177, 3)) (kk : ∀ (r : Int32) (H1 : Heap) (locs1 : List Loc), Wd D dA A s (Dx dA t0 ad B wr σ) H1 locs1 → k r = some q → W p l e R s m args below meth c H1 locs1 cells slots Q (F0 m (pc + 3) ls (.int r :: rest))) : W p l e R s m args below meth c H locs cells slots Q (F0 m pc ls (.int x1 :: .ref t0 :: rest)) := by
  obtain ⟨r1, h1, hf⟩ := bnd hf
  have hW2 := hW
  refine w_Vi (C := RX0) (As := [.int x1]) (rest := rest) (n := 1) (wr := []) FX (mD_isTrunk h1) (cwV 1 FX.2.2.2.2 (lw_V q1152 q1154 qs34 q123 q1155) rfl rfl rfl (by decide +kernel) hR) (va_recv hW2.2.2.2.1 hW2.1 (ci := 0) (q0 := 0) rfl rfl) rfl hl rfl hrm ⟨Nat.le_trans (Nat.le_of_eq (Nat.add_zero cells)) hcs.1, Nat.le_trans (Nat.le_of_eq (Nat.add_zero slots)) hcs.2⟩ hdg hW2.nil ?_
  exact fun H1 locs1 hW1 => kk r1 H1 locs1 (hW1.nil') hf
/-! TrunkLitters.trunk(II)I: kind R -/
def fD_trunk (dA : Nat → Nat) (B : Bk) (x1 : Int32) (x2 : Int32) (σ : Dst) : Option Int32 := (fD_isTrunk dA B x1 σ).bind fun r1 => (if r1 = 0 then some (-2 : Int32) else (if x2 = (0 : Int32) then ald 8 (hA (tN σ) 0) x1 fun v2 => some v2 else (if x2 = (1 : Int32) then ald 8 (hA (tN σ) 1) x1 fun v3 => some v3 else (if x2 = (2 : Int32) then ald 8 (hA (tN σ) 2) x1 fun v4 => some v4 else (if x2 = (3 : Int32) then ald 8 (hA (tN σ) 3) x1 fun v5 => some v5 else (if x2 = (4 : Int32) then ald 8 (hA (tN σ) 4) x1 fun v6 => some v6 else (if x2 = (5 : Int32) then ald 8 (hA (tN σ) 5) x1 fun v7 => some v7 else (if x2 = (6 : Int32) then ald 8 (hA (tN σ) 6) x1 fun v8 => some v8 else some (-2 : Int32)))))))))
abbrev rD_trunk : Room := { frames := 2, cells := 0, slots := 0, locals := 43 }
set_option maxHeartbeats 4000000 in
set_option maxRecDepth 100000 in
theorem mD_trunk {t0 : Nat} {ad : Nat → Nat} {B : Bk} {wr : va_W}  {x1 : Int32} {x2 : Int32} {σ : Dst} {q : Int32} (hf : fD_trunk dA B x1 x2 σ = some q) : CtI l yX0_trunk cX0_trunk 3 (some .int) rD_trunk D dA [.ref t0, .int x1, .int x2] (Dx dA t0 ad B wr σ) q (Dx dA t0 ad B wr σ) := by
  refine e_I (by decide) (Nat.le_of_ble_eq_true rfl) ?_
  intro p e s m below meth c ls A FX hr hlk hl hW
  have hx := FX.1; have hb := FX.2.1; have hown := FX.2.2.2.1; have hts := FX.2.2.2.2
  have hl : lv_has ls 3 [(0, .ref t0), (1, .int x1), (2, .int x2)] := hl
  rw [fD_trunk] at hf
  refine lv_aload_n hx hb dX0_trunk_0 rfl (lv_at hl 0 rfl) ?_
  refine lv_iload_n hx hb dX0_trunk_1 rfl (lv_at hl 1 rfl) ?_
  refine kD_isTrunk FX ⟨Nat.le_of_ble_eq_true rfl, Nat.le_of_ble_eq_true rfl⟩ ⟨Nat.zero_le _, Nat.zero_le _⟩ hl.1 (Nat.le_of_ble_eq_true rfl) hW hf dX0_trunk_2 (fun r1 H locs hW hf => ?_)
  refine lv_if_ne (tgt := 11) hx hb dX0_trunk_5 (by decide) (fun c5 => ?_) (fun c5 => ?_)
  · have hf := ifn c5 hf
    refine lv_iload_n hx hb dX0_trunk_11 rfl (lv_at hl 2 rfl) ?_
    by_cases c12_0 : x2 = (0 : Int32)
    · have hf := ifp c12_0 hf
      refine g_tabC (tgt := 56) FX (0 : Int32) c12_0 (by decide) (by decide) rfl (by decide) dX0_trunk_12 ?_
      refine lv_aload_n hx hb dX0_trunk_56 rfl (lv_at hl 0 rfl) ?_
      refine DgX0_0_5 FX hW dX0_trunk_57 ?_
      refine DgX0_18_0 FX hW dX0_trunk_60 ?_
      refine lv_iload_n hx hb dX0_trunk_63 rfl (lv_at hl 1 rfl) ?_
      refine g_iald FX hW 19 Dp19 hf dX0_trunk_64 (fun v2 hf => ?_)
      exact g_iret FX hr hlk hW (Option.some.inj hf) dX0_trunk_65
    have hf := ifn c12_0 hf
    by_cases c12_1 : x2 = (1 : Int32)
    · have hf := ifp c12_1 hf
      refine g_tabC (tgt := 66) FX (1 : Int32) c12_1 (by decide) (by decide) rfl (by decide) dX0_trunk_12 ?_
      refine lv_aload_n hx hb dX0_trunk_66 rfl (lv_at hl 0 rfl) ?_
      refine DgX0_0_5 FX hW dX0_trunk_67 ?_
      refine DgX0_18_1 FX hW dX0_trunk_70 ?_
      refine lv_iload_n hx hb dX0_trunk_73 rfl (lv_at hl 1 rfl) ?_
      refine g_iald FX hW 20 Dp20 hf dX0_trunk_74 (fun v3 hf => ?_)
      exact g_iret FX hr hlk hW (Option.some.inj hf) dX0_trunk_75
    have hf := ifn c12_1 hf
    by_cases c12_2 : x2 = (2 : Int32)
    · have hf := ifp c12_2 hf
      refine g_tabC (tgt := 76) FX (2 : Int32) c12_2 (by decide) (by decide) rfl (by decide) dX0_trunk_12 ?_
      refine lv_aload_n hx hb dX0_trunk_76 rfl (lv_at hl 0 rfl) ?_
      refine DgX0_0_5 FX hW dX0_trunk_77 ?_
      refine DgX0_18_2 FX hW dX0_trunk_80 ?_
      refine lv_iload_n hx hb dX0_trunk_83 rfl (lv_at hl 1 rfl) ?_
      refine g_iald FX hW 21 Dp21 hf dX0_trunk_84 (fun v4 hf => ?_)
      exact g_iret FX hr hlk hW (Option.some.inj hf) dX0_trunk_85
    have hf := ifn c12_2 hf
    by_cases c12_3 : x2 = (3 : Int32)
    · have hf := ifp c12_3 hf
      refine g_tabC (tgt := 86) FX (3 : Int32) c12_3 (by decide) (by decide) rfl (by decide) dX0_trunk_12 ?_
      refine lv_aload_n hx hb dX0_trunk_86 rfl (lv_at hl 0 rfl) ?_
      refine DgX0_0_5 FX hW dX0_trunk_87 ?_
      refine DgX0_18_3 FX hW dX0_trunk_90 ?_
      refine lv_iload_n hx hb dX0_trunk_93 rfl (lv_at hl 1 rfl) ?_
      refine g_iald FX hW 22 Dp22 hf dX0_trunk_94 (fun v5 hf => ?_)
      exact g_iret FX hr hlk hW (Option.some.inj hf) dX0_trunk_95
    have hf := ifn c12_3 hf
    by_cases c12_4 : x2 = (4 : Int32)
    · have hf := ifp c12_4 hf
      refine g_tabC (tgt := 96) FX (4 : Int32) c12_4 (by decide) (by decide) rfl (by decide) dX0_trunk_12 ?_
      refine lv_aload_n hx hb dX0_trunk_96 rfl (lv_at hl 0 rfl) ?_
      refine DgX0_0_5 FX hW dX0_trunk_97 ?_
      refine DgX0_18_4 FX hW dX0_trunk_100 ?_
      refine lv_iload_n hx hb dX0_trunk_103 rfl (lv_at hl 1 rfl) ?_
      refine g_iald FX hW 23 Dp23 hf dX0_trunk_104 (fun v6 hf => ?_)
      exact g_iret FX hr hlk hW (Option.some.inj hf) dX0_trunk_105
    have hf := ifn c12_4 hf
    by_cases c12_5 : x2 = (5 : Int32)
    · have hf := ifp c12_5 hf
      refine g_tabC (tgt := 106) FX (5 : Int32) c12_5 (by decide) (by decide) rfl (by decide) dX0_trunk_12 ?_
      refine lv_aload_n hx hb dX0_trunk_106 rfl (lv_at hl 0 rfl) ?_
      refine DgX0_0_5 FX hW dX0_trunk_107 ?_
      refine DgX0_18_5 FX hW dX0_trunk_110 ?_
      refine lv_iload_n hx hb dX0_trunk_113 rfl (lv_at hl 1 rfl) ?_
      refine g_iald FX hW 24 Dp24 hf dX0_trunk_114 (fun v7 hf => ?_)
      exact g_iret FX hr hlk hW (Option.some.inj hf) dX0_trunk_115
    have hf := ifn c12_5 hf
    by_cases c12_6 : x2 = (6 : Int32)
    · have hf := ifp c12_6 hf
      refine g_tabC (tgt := 116) FX (6 : Int32) c12_6 (by decide) (by decide) rfl (by decide) dX0_trunk_12 ?_
      refine lv_aload_n hx hb dX0_trunk_116 rfl (lv_at hl 0 rfl) ?_
      refine DgX0_0_5 FX hW dX0_trunk_117 ?_
      refine DgX0_18_6 FX hW dX0_trunk_120 ?_
      refine lv_iload_n hx hb dX0_trunk_123 rfl (lv_at hl 1 rfl) ?_
      refine g_iald FX hW 25 Dp25 hf dX0_trunk_124 (fun v8 hf => ?_)
      exact g_iret FX hr hlk hW (Option.some.inj hf) dX0_trunk_125
    have hf := ifn c12_6 hf
    have n12_0 := lv_neT (a := 0) c12_0 (by decide)
    have n12_1 := lv_neT (a := 1) c12_1 (by decide)
    have n12_2 := lv_neT (a := 2) c12_2 (by decide)
    have n12_3 := lv_neT (a := 3) c12_3 (by decide)
    have n12_4 := lv_neT (a := 4) c12_4 (by decide)
    have n12_5 := lv_neT (a := 5) c12_5 (by decide)
    have n12_6 := lv_neT (a := 6) c12_6 (by decide)
    refine lv_tableOut (tgt := 126) hx hb dX0_trunk_12 (by omega) (by decide) ?_
    refine lv_bipush (v := -2) hx hb dX0_trunk_126 (by decide) ?_
    exact g_iret FX hr hlk hW (Option.some.inj hf) dX0_trunk_128
  · have hf := ifp c5 hf
    refine lv_bipush (v := -2) hx hb dX0_trunk_8 (by decide) ?_
    exact g_iret FX hr hlk hW (Option.some.inj hf) dX0_trunk_10

set_option maxHeartbeats 4000000 in
set_option maxRecDepth 100000 in
theorem kD_now_broodOf {t0 : Nat} {ad : Nat → Nat} {B : Bk} {wr : va_W} {α : Type} {q : α} {k : Int32 → Dst → Option α} {x2 : Int32} {x3 : Int32} {σ : Dst} (FX : CallFix p m c cc nL s args lw_all RX0) (hR : rHB_broodOf.frames + 1 ≤ R.frames ∧ 8 + (5 + 11) + rHB_broodOf.locals ≤ R.locals) (hcs : cells ≤ R.cells ∧ slots ≤ R.slots) (hl : ls.size = nL) (hrm : (rest.map fun v => v.category).sum ≤ 8) (hW : Wd D dA A s (Dx dA t0 ad B wr σ) H locs) (hf : bnd2 (fHB_broodOf dA B x2 x3 ((tN σ), tU σ)) (fun r t0 => stp (xU (xN σ t0.1) t0.2) (k r)) = some q) (hdg : decode cc pc = .ok (.invokevirtual 201, 3)) (kk : ∀ (r : Int32) (σ1 : Dst) (H1 : Heap) (locs1 : List Loc), Wd D dA A s (Dx dA t0 ad B wr σ1) H1 locs1 → k r σ1 = some q → W p l e R s m args below meth c H1 locs1 cells slots Q (F0 m (pc + 3) ls (.int r :: rest))) : W p l e R s m args below meth c H locs cells slots Q (F0 m pc ls (.int x3 :: .int x2 :: .ref (bA B 0) :: .ref (ad 5) :: rest)) := by
  obtain ⟨r1, h1, hf⟩ := bnd (bnd2_eq hf)
  have hW2 := D_now_in hW
  refine w_Vi (C := RX3) (As := [.ref (bA B 0), .int x2, .int x3]) (rest := rest) (n := 3) (wr := []) FX (mHB_broodOf h1) (cwV 3 FX.2.2.2.2 (lw_V q1161 q1162 q1163 q129 q1164) rfl rfl rfl (by decide +kernel) hR) (va_recv hW2.2.2.2.1 hW2.1 (ci := 3) (q0 := 0) rfl rfl) rfl hl rfl hrm ⟨Nat.le_trans (Nat.le_of_eq (Nat.add_zero cells)) hcs.1, Nat.le_trans (Nat.le_of_eq (Nat.add_zero slots)) hcs.2⟩ hdg hW2.nil ?_
  exact fun H1 locs1 hW1 => kk r1.1 (xU (xN σ r1.2.1) r1.2.2) H1 locs1 (D_now_out hW1.nil') hf
/-! TrunkLitters.brood(II)I: kind W -/
def fD_brood (dA : Nat → Nat) (B : Bk) (x1 : Int32) (x2 : Int32) (σ : Dst) : Option (Int32 × Dst) := (fD_isTrunk dA B x1 σ).bind fun r1 => (if r1 = 0 then some ((-1000000000 : Int32), σ) else (fD_isTrunk dA B x2 σ).bind fun r2 => (if r2 = 0 then some ((-1000000000 : Int32), σ) else (if x1 = x2 then some ((-1000000000 : Int32), σ) else ald 8 (hA (tN σ) 1) x1 fun v3 => ald 8 (hA (tN σ) 1) x2 fun v4 => (if v3 = v4 then bnd2 (fHB_broodOf dA B x1 x2 ((tN σ), tU σ)) fun r5 t0 => stp (xU (xN σ t0.1) t0.2) fun s6 => some (r5, s6) else some ((-1000000000 : Int32), σ)))))
abbrev rD_brood : Room := { frames := 66, cells := 0, slots := 0, locals := 2624 }
set_option maxHeartbeats 4000000 in
set_option maxRecDepth 100000 in
theorem mD_brood {t0 : Nat} {ad : Nat → Nat} {B : Bk} {wr : va_W}  {x1 : Int32} {x2 : Int32} {σ : Dst} {q : (Int32 × Dst)} (hf : fD_brood dA B x1 x2 σ = some q) : CtI l yX0_brood cX0_brood 3 (some .int) rD_brood D dA [.ref t0, .int x1, .int x2] (Dx dA t0 ad B wr σ) q.1 (Dx dA t0 ad B wr q.2) := by
  refine e_I (by decide) (Nat.le_of_ble_eq_true rfl) ?_
  intro p e s m below meth c ls A FX hr hlk hl hW
  have hx := FX.1; have hb := FX.2.1; have hown := FX.2.2.2.1; have hts := FX.2.2.2.2
  have hl : lv_has ls 3 [(0, .ref t0), (1, .int x1), (2, .int x2)] := hl
  rw [fD_brood] at hf
  refine lv_aload_n hx hb dX0_brood_0 rfl (lv_at hl 0 rfl) ?_
  refine lv_iload_n hx hb dX0_brood_1 rfl (lv_at hl 1 rfl) ?_
  refine kD_isTrunk FX ⟨Nat.le_of_ble_eq_true rfl, Nat.le_of_ble_eq_true rfl⟩ ⟨Nat.zero_le _, Nat.zero_le _⟩ hl.1 (Nat.le_of_ble_eq_true rfl) hW hf dX0_brood_2 (fun r1 H locs hW hf => ?_)
  refine lv_if_eq (tgt := 58) hx hb dX0_brood_5 (by decide) (fun c5 => ?_) (fun c5 => ?_)
  · have hf := ifp c5 hf
    refine lv_ldc (v := -1000000000) hx hb hown (hts _ q1232) dX0_brood_58 ?_
    obtain rfl := Option.some.inj hf
    exact g_iret FX hr hlk hW rfl dX0_brood_60
  · have hf := ifn c5 hf
    refine lv_aload_n hx hb dX0_brood_8 rfl (lv_at hl 0 rfl) ?_
    refine lv_iload_n hx hb dX0_brood_9 rfl (lv_at hl 2 rfl) ?_
    refine kD_isTrunk FX ⟨Nat.le_of_ble_eq_true rfl, Nat.le_of_ble_eq_true rfl⟩ ⟨Nat.zero_le _, Nat.zero_le _⟩ hl.1 (Nat.le_of_ble_eq_true rfl) hW hf dX0_brood_10 (fun r2 H locs hW hf => ?_)
    refine lv_if_eq (tgt := 58) hx hb dX0_brood_13 (by decide) (fun c13 => ?_) (fun c13 => ?_)
    · have hf := ifp c13 hf
      refine lv_ldc (v := -1000000000) hx hb hown (hts _ q1232) dX0_brood_58 ?_
      obtain rfl := Option.some.inj hf
      exact g_iret FX hr hlk hW rfl dX0_brood_60
    · have hf := ifn c13 hf
      refine lv_iload_n hx hb dX0_brood_16 rfl (lv_at hl 1 rfl) ?_
      refine lv_iload_n hx hb dX0_brood_17 rfl (lv_at hl 2 rfl) ?_
      refine lv_icmp_eq (tgt := 58) hx hb dX0_brood_18 (by decide) (fun c18 => ?_) (fun c18 => ?_)
      · have hf := ifp c18 hf
        refine lv_ldc (v := -1000000000) hx hb hown (hts _ q1232) dX0_brood_58 ?_
        obtain rfl := Option.some.inj hf
        exact g_iret FX hr hlk hW rfl dX0_brood_60
      · have hf := ifn c18 hf
        refine lv_aload_n hx hb dX0_brood_21 rfl (lv_at hl 0 rfl) ?_
        refine DgX0_0_5 FX hW dX0_brood_22 ?_
        refine DgX0_18_1 FX hW dX0_brood_25 ?_
        refine lv_iload_n hx hb dX0_brood_28 rfl (lv_at hl 1 rfl) ?_
        refine g_iald FX hW 20 Dp20 hf dX0_brood_29 (fun v3 hf => ?_)
        refine lv_aload_n hx hb dX0_brood_30 rfl (lv_at hl 0 rfl) ?_
        refine DgX0_0_5 FX hW dX0_brood_31 ?_
        refine DgX0_18_1 FX hW dX0_brood_34 ?_
        refine lv_iload_n hx hb dX0_brood_37 rfl (lv_at hl 2 rfl) ?_
        refine g_iald FX hW 20 Dp20 hf dX0_brood_38 (fun v4 hf => ?_)
        refine lv_icmp_ne (tgt := 58) hx hb dX0_brood_39 (by decide) (fun c39 => ?_) (fun c39 => ?_)
        · have hf := ifn c39 hf
          refine lv_ldc (v := -1000000000) hx hb hown (hts _ q1232) dX0_brood_58 ?_
          obtain rfl := Option.some.inj hf
          exact g_iret FX hr hlk hW rfl dX0_brood_60
        · have hf := ifp c39 hf
          refine lv_aload_n hx hb dX0_brood_42 rfl (lv_at hl 0 rfl) ?_
          refine DgX0_0_5 FX hW dX0_brood_43 ?_
          refine lv_aload_n hx hb dX0_brood_46 rfl (lv_at hl 0 rfl) ?_
          refine DgX0_0_4 FX hW dX0_brood_47 ?_
          refine lv_iload_n hx hb dX0_brood_50 rfl (lv_at hl 1 rfl) ?_
          refine lv_iload_n hx hb dX0_brood_51 rfl (lv_at hl 2 rfl) ?_
          refine kD_now_broodOf FX ⟨Nat.le_of_ble_eq_true rfl, Nat.le_of_ble_eq_true rfl⟩ ⟨Nat.zero_le _, Nat.zero_le _⟩ hl.1 (Nat.le_of_ble_eq_true rfl) hW hf dX0_brood_52 (fun r5 s6 H locs hW hf => ?_)
          refine lv_goto (tgt := 60) hx hb dX0_brood_55 (by decide) ?_
          obtain rfl := Option.some.inj hf
          exact g_iret FX hr hlk hW rfl dX0_brood_60

set_option maxHeartbeats 4000000 in
set_option maxRecDepth 100000 in
theorem kD_now_coupleOf {t0 : Nat} {ad : Nat → Nat} {B : Bk} {wr : va_W} {α : Type} {q : α} {k : Int32 → Option α} {x1 : Int32} {σ : Dst} (FX : CallFix p m c cc nL s args lw_all RX0) (hR : rX3_coupleOf.frames + 1 ≤ R.frames ∧ 8 + (5 + 11) + rX3_coupleOf.locals ≤ R.locals) (hcs : cells ≤ R.cells ∧ slots ≤ R.slots) (hl : ls.size = nL) (hrm : (rest.map fun v => v.category).sum ≤ 8) (hW : Wd D dA A s (Dx dA t0 ad B wr σ) H locs) (hf : (fX3_coupleOf x1 (tN σ)).bind k = some q) (hdg : decode cc pc = .ok (.invokevirtual 206, 3)) (kk : ∀ (r : Int32) (H1 : Heap) (locs1 : List Loc), Wd D dA A s (Dx dA t0 ad B wr σ) H1 locs1 → k r = some q → W p l e R s m args below meth c H1 locs1 cells slots Q (F0 m (pc + 3) ls (.int r :: rest))) : W p l e R s m args below meth c H locs cells slots Q (F0 m pc ls (.int x1 :: .ref (ad 5) :: rest)) := by
  obtain ⟨r1, h1, hf⟩ := bnd hf
  have hW2 := HB_in (D_now_in hW)
  refine w_Vi (C := RX3) (As := [.int x1]) (rest := rest) (n := 1) (wr := []) FX (mX3_coupleOf h1) (cwV 1 FX.2.2.2.2 (lw_V q1237 q1238 q1239 q129 q1240) rfl rfl rfl (by decide +kernel) hR) (va_recv hW2.2.2.2.1 hW2.1 (ci := 3) (q0 := 0) rfl rfl) rfl hl rfl hrm ⟨Nat.le_trans (Nat.le_of_eq (Nat.add_zero cells)) hcs.1, Nat.le_trans (Nat.le_of_eq (Nat.add_zero slots)) hcs.2⟩ hdg hW2.nil ?_
  exact fun H1 locs1 hW1 => kk r1 H1 locs1 (D_now_outR (HB_out hW1.nil')) hf
/-! TrunkLitters.couple(I)I: kind R -/
def fD_couple (dA : Nat → Nat) (B : Bk) (x1 : Int32) (σ : Dst) : Option Int32 := (fD_isRoom dA B x1 σ).bind fun r1 => (if r1 = 0 then some (-1 : Int32) else (fX3_coupleOf x1 (tN σ)).bind fun r2 => some r2)
abbrev rD_couple : Room := { frames := 3, cells := 0, slots := 0, locals := 68 }
set_option maxHeartbeats 4000000 in
set_option maxRecDepth 100000 in
theorem mD_couple {t0 : Nat} {ad : Nat → Nat} {B : Bk} {wr : va_W}  {x1 : Int32} {σ : Dst} {q : Int32} (hf : fD_couple dA B x1 σ = some q) : CtI l yX0_couple cX0_couple 2 (some .int) rD_couple D dA [.ref t0, .int x1] (Dx dA t0 ad B wr σ) q (Dx dA t0 ad B wr σ) := by
  refine e_I (by decide) (Nat.le_of_ble_eq_true rfl) ?_
  intro p e s m below meth c ls A FX hr hlk hl hW
  have hx := FX.1; have hb := FX.2.1; have hown := FX.2.2.2.1; have hts := FX.2.2.2.2
  have hl : lv_has ls 2 [(0, .ref t0), (1, .int x1)] := hl
  rw [fD_couple] at hf
  refine lv_aload_n hx hb dX0_couple_0 rfl (lv_at hl 0 rfl) ?_
  refine lv_iload_n hx hb dX0_couple_1 rfl (lv_at hl 1 rfl) ?_
  refine kD_isRoom FX ⟨Nat.le_of_ble_eq_true rfl, Nat.le_of_ble_eq_true rfl⟩ ⟨Nat.zero_le _, Nat.zero_le _⟩ hl.1 (Nat.le_of_ble_eq_true rfl) hW hf dX0_couple_2 (fun r1 H locs hW hf => ?_)
  refine lv_if_eq (tgt := 19) hx hb dX0_couple_5 (by decide) (fun c5 => ?_) (fun c5 => ?_)
  · have hf := ifp c5 hf
    refine lv_iconst (v := -1) hx hb dX0_couple_19 (by decide) ?_
    exact g_iret FX hr hlk hW (Option.some.inj hf) dX0_couple_20
  · have hf := ifn c5 hf
    refine lv_aload_n hx hb dX0_couple_8 rfl (lv_at hl 0 rfl) ?_
    refine DgX0_0_5 FX hW dX0_couple_9 ?_
    refine lv_iload_n hx hb dX0_couple_12 rfl (lv_at hl 1 rfl) ?_
    refine kD_now_coupleOf FX ⟨Nat.le_of_ble_eq_true rfl, Nat.le_of_ble_eq_true rfl⟩ ⟨Nat.zero_le _, Nat.zero_le _⟩ hl.1 (Nat.le_of_ble_eq_true rfl) hW hf dX0_couple_13 (fun r2 H locs hW hf => ?_)
    refine lv_goto (tgt := 20) hx hb dX0_couple_16 (by decide) ?_
    exact g_iret FX hr hlk hW (Option.some.inj hf) dX0_couple_20

set_option maxHeartbeats 4000000 in
set_option maxRecDepth 100000 in
theorem kD_now_isRipe {t0 : Nat} {ad : Nat → Nat} {B : Bk} {wr : va_W} {α : Type} {q : α} {k : Int32 → Dst → Option α} {x2 : Int32} {σ : Dst} (FX : CallFix p m c cc nL s args lw_all RX0) (hR : rHB_isRipe.frames + 1 ≤ R.frames ∧ 8 + (4 + 11) + rHB_isRipe.locals ≤ R.locals) (hcs : cells ≤ R.cells ∧ slots ≤ R.slots) (hl : ls.size = nL) (hrm : (rest.map fun v => v.category).sum ≤ 8) (hW : Wd D dA A s (Dx dA t0 ad B wr σ) H locs) (hf : bnd2 (fHB_isRipe dA B x2 ((tN σ), tU σ)) (fun r t0 => stp (xU (xN σ t0.1) t0.2) (k r)) = some q) (hdg : decode cc pc = .ok (.invokevirtual 209, 3)) (kk : ∀ (r : Int32) (σ1 : Dst) (H1 : Heap) (locs1 : List Loc), Wd D dA A s (Dx dA t0 ad B wr σ1) H1 locs1 → k r σ1 = some q → W p l e R s m args below meth c H1 locs1 cells slots Q (F0 m (pc + 3) ls (.int r :: rest))) : W p l e R s m args below meth c H locs cells slots Q (F0 m pc ls (.int x2 :: .ref (bA B 0) :: .ref (ad 5) :: rest)) := by
  obtain ⟨r1, h1, hf⟩ := bnd (bnd2_eq hf)
  have hW2 := D_now_in hW
  refine w_Vi (C := RX3) (As := [.ref (bA B 0), .int x2]) (rest := rest) (n := 2) (wr := []) FX (mHB_isRipe h1) (cwV 2 FX.2.2.2.2 (lw_V q1249 q1250 q1251 q129 q1252) rfl rfl rfl (by decide +kernel) hR) (va_recv hW2.2.2.2.1 hW2.1 (ci := 3) (q0 := 0) rfl rfl) rfl hl rfl hrm ⟨Nat.le_trans (Nat.le_of_eq (Nat.add_zero cells)) hcs.1, Nat.le_trans (Nat.le_of_eq (Nat.add_zero slots)) hcs.2⟩ hdg hW2.nil ?_
  exact fun H1 locs1 hW1 => kk r1.1 (xU (xN σ r1.2.1) r1.2.2) H1 locs1 (D_now_out hW1.nil') hf
/-! TrunkLitters.ripe()I: kind W -/
def fD_ripe_4 (dA : Nat → Nat) (B : Bk) : Nat → Int32 → Int32 → Dst → Option (Int32 × Dst)
  | 0, _, _, _ => none
  | n + 1, x1, x2, σ => (fD_rooms dA B σ).bind fun r1 => (if r1 ≤ x2 then some (x1, σ) else bnd2 (fHB_isRipe dA B x2 ((tN σ), tU σ)) fun r2 t0 => stp (xU (xN σ t0.1) t0.2) fun s3 => (if r2 = 0 then fD_ripe_4 dA B n (x1 ||| (0 : Int32)) (x2 + (1 : Int32)) s3 else fD_ripe_4 dA B n (x1 ||| ((1 : Int32) <<< (x2 &&& 31))) (x2 + (1 : Int32)) s3))
def fD_ripe (dA : Nat → Nat) (B : Bk) (σ : Dst) : Option (Int32 × Dst) := fD_ripe_4 dA B FU (0 : Int32) (0 : Int32) σ
abbrev rD_ripe : Room := { frames := 67, cells := 0, slots := 0, locals := 2647 }
set_option maxHeartbeats 4000000 in
set_option maxRecDepth 100000 in
theorem wD_ripe_4 {t0 : Nat} {ad : Nat → Nat} {B : Bk} {wr : va_W} {q : (Int32 × Dst)} (FX : CallFix p m c cX0_ripe 3 s args lw_all RX0) (hr : meth.sig.returnType = (some .int)) (hlk : meth.locks = false) : ∀ n : Nat, ∀ (x1 : Int32) (x2 : Int32) (σ : Dst) (H : Heap) (locs : List Loc) (ls : Array Slot), lv_has ls 3 [(0, .ref t0), (1, .int x1), (2, .int x2)] → Wd D dA A s (Dx dA t0 ad B wr σ) H locs → fD_ripe_4 dA B n x1 x2 σ = some q → W p l e rD_ripe s m args below meth c H locs 0 0 (QI D dA A below args s 0 0 q.1 (Dx dA t0 ad B wr q.2)) (F0 m 4 ls []) := by
  have hx := FX.1; have hb := FX.2.1; have hown := FX.2.2.2.1; have hts := FX.2.2.2.2
  intro n
  induction n with
  | zero =>
    intro x1 x2 σ H locs ls hl hW hf
    cases (show (none : Option (Int32 × Dst)) = some q from hf)
  | succ n ih =>
    intro x1 x2 σ H locs ls hl hW hf
    rw [fD_ripe_4] at hf
    refine lv_iload_n hx hb dX0_ripe_4 rfl (lv_at hl 2 rfl) ?_
    refine lv_aload_n hx hb dX0_ripe_5 rfl (lv_at hl 0 rfl) ?_
    refine kD_rooms FX ⟨Nat.le_of_ble_eq_true rfl, Nat.le_of_ble_eq_true rfl⟩ ⟨Nat.zero_le _, Nat.zero_le _⟩ hl.1 (Nat.le_of_ble_eq_true rfl) hW hf dX0_ripe_6 (fun r1 H locs hW hf => ?_)
    refine lv_icmp_ge (tgt := 43) hx hb dX0_ripe_9 (by decide) (fun c9 => ?_) (fun c9 => ?_)
    · have hf := ifp c9 hf
      refine lv_iload_n hx hb dX0_ripe_43 rfl (lv_at hl 1 rfl) ?_
      obtain rfl := Option.some.inj hf
      exact g_iret FX hr hlk hW rfl dX0_ripe_44
    · have hf := ifn c9 hf
      refine lv_iload_n hx hb dX0_ripe_12 rfl (lv_at hl 1 rfl) ?_
      refine lv_aload_n hx hb dX0_ripe_13 rfl (lv_at hl 0 rfl) ?_
      refine DgX0_0_5 FX hW dX0_ripe_14 ?_
      refine lv_aload_n hx hb dX0_ripe_17 rfl (lv_at hl 0 rfl) ?_
      refine DgX0_0_4 FX hW dX0_ripe_18 ?_
      refine lv_iload_n hx hb dX0_ripe_21 rfl (lv_at hl 2 rfl) ?_
      refine kD_now_isRipe FX ⟨Nat.le_of_ble_eq_true rfl, Nat.le_of_ble_eq_true rfl⟩ ⟨Nat.zero_le _, Nat.zero_le _⟩ hl.1 (Nat.le_of_ble_eq_true rfl) hW hf dX0_ripe_22 (fun r2 s3 H locs hW hf => ?_)
      refine lv_if_eq (tgt := 34) hx hb dX0_ripe_25 (by decide) (fun c25 => ?_) (fun c25 => ?_)
      · have hf := ifp c25 hf
        refine lv_iconst (v := 0) hx hb dX0_ripe_34 (by decide) ?_
        refine lv_ior hx hb dX0_ripe_35 ?_
        refine lv_istore_n (lv' := [(1, .int (x1 ||| (0 : Int32))), (0, .ref t0), (2, .int x2)]) hx hb dX0_ripe_36 rfl hl (by decide) rfl (fun ls hl => ?_)
        refine lv_iinc (v := (x2 + (1 : Int32))) (lv' := [(2, .int (x2 + (1 : Int32))), (1, .int (x1 ||| (0 : Int32))), (0, .ref t0)]) hx hb dX0_ripe_37 hl (k := 2) rfl rfl (by decide) rfl (fun ls hl => ?_)
        refine lv_goto (tgt := 4) hx hb dX0_ripe_40 (by decide) ?_
        exact ih (x1 ||| (0 : Int32)) (x2 + (1 : Int32)) s3 _ _ _ (lv_sub hl [2, 1, 0] rfl) hW hf
      · have hf := ifn c25 hf
        refine lv_iconst (v := 1) hx hb dX0_ripe_28 (by decide) ?_
        refine lv_iload_n hx hb dX0_ripe_29 rfl (lv_at hl 2 rfl) ?_
        refine lv_ishl hx hb dX0_ripe_30 ?_
        refine lv_goto (tgt := 35) hx hb dX0_ripe_31 (by decide) ?_
        refine lv_ior hx hb dX0_ripe_35 ?_
        refine lv_istore_n (lv' := [(1, .int (x1 ||| ((1 : Int32) <<< (x2 &&& 31)))), (0, .ref t0), (2, .int x2)]) hx hb dX0_ripe_36 rfl hl (by decide) rfl (fun ls hl => ?_)
        refine lv_iinc (v := (x2 + (1 : Int32))) (lv' := [(2, .int (x2 + (1 : Int32))), (1, .int (x1 ||| ((1 : Int32) <<< (x2 &&& 31)))), (0, .ref t0)]) hx hb dX0_ripe_37 hl (k := 2) rfl rfl (by decide) rfl (fun ls hl => ?_)
        refine lv_goto (tgt := 4) hx hb dX0_ripe_40 (by decide) ?_
        exact ih (x1 ||| ((1 : Int32) <<< (x2 &&& 31))) (x2 + (1 : Int32)) s3 _ _ _ (lv_sub hl [2, 1, 0] rfl) hW hf
set_option maxHeartbeats 4000000 in
set_option maxRecDepth 100000 in
theorem mD_ripe {t0 : Nat} {ad : Nat → Nat} {B : Bk} {wr : va_W}  {σ : Dst} {q : (Int32 × Dst)} (hf : fD_ripe dA B σ = some q) : CtI l yX0_ripe cX0_ripe 3 (some .int) rD_ripe D dA [.ref t0] (Dx dA t0 ad B wr σ) q.1 (Dx dA t0 ad B wr q.2) := by
  refine e_I (by decide) (Nat.le_of_ble_eq_true rfl) ?_
  intro p e s m below meth c ls A FX hr hlk hl hW
  have hx := FX.1; have hb := FX.2.1; have hown := FX.2.2.2.1; have hts := FX.2.2.2.2
  have hl : lv_has ls 3 [(0, .ref t0)] := hl
  rw [fD_ripe] at hf
  refine lv_iconst (v := 0) hx hb dX0_ripe_0 (by decide) ?_
  refine lv_istore_n (lv' := [(1, .int (0 : Int32)), (0, .ref t0)]) hx hb dX0_ripe_1 rfl hl (by decide) rfl (fun ls hl => ?_)
  refine lv_iconst (v := 0) hx hb dX0_ripe_2 (by decide) ?_
  refine lv_istore_n (lv' := [(2, .int (0 : Int32)), (1, .int (0 : Int32)), (0, .ref t0)]) hx hb dX0_ripe_3 rfl hl (by decide) rfl (fun ls hl => ?_)
  exact wD_ripe_4 FX hr hlk _ (0 : Int32) (0 : Int32) σ _ _ _ (lv_sub hl [2, 1, 0] rfl) hW hf
theorem DgX0_0_7 {t0 : Nat} {ad : Nat → Nat} {B : Bk} {wr : va_W} {σ : Dst} (FX : CallFix p m c cc nL s args lw_all RX0) (hW : Wd D dA A s (Dx dA t0 ad B wr σ) H locs) (hdg : decode cc pc = .ok (.getfield 66, 3)) (kk : W p l e R s m args below meth c H locs cells slots Q (F0 m (pc + 3) ls (.ref (ad 7) :: rest))) : W p l e R s m args below meth c H locs cells slots Q (F0 m pc ls (.ref t0 :: rest)) :=
  g_get FX hW (C := RX0) (T := TX0) (N := 26) (ci := 0) in_X0 0 rfl rfl 7 (by decide) q373 (fun _ h => h) rfl hdg kk
set_option maxHeartbeats 4000000 in
set_option maxRecDepth 100000 in
theorem kD_tried_go {t0 : Nat} {ad : Nat → Nat} {B : Bk} {wr : va_W} {α : Type} {q : α} {k : Int32 → Dst → Option α} {σ : Dst} (FX : CallFix p m c cc nL s args lw_all RX0) (hR : rHB_go.frames + 1 ≤ R.frames ∧ 8 + (4 + 11) + rHB_go.locals ≤ R.locals) (hcs : cells ≤ R.cells ∧ slots ≤ R.slots) (hl : ls.size = nL) (hrm : (rest.map fun v => v.category).sum ≤ 8) (hW : Wd D dA A s (Dx dA t0 ad B wr σ) H locs) (hf : bnd2 (fHB_go dA B ((tT σ), tU σ)) (fun r t0 => stp (xU (xT σ t0.1) t0.2) (k r)) = some q) (hdg : decode cc pc = .ok (.invokevirtual 229, 3)) (kk : ∀ (r : Int32) (σ1 : Dst) (H1 : Heap) (locs1 : List Loc), Wd D dA A s (Dx dA t0 ad B wr σ1) H1 locs1 → k r σ1 = some q → W p l e R s m args below meth c H1 locs1 cells slots Q (F0 m (pc + 3) ls (.int r :: rest))) : W p l e R s m args below meth c H locs cells slots Q (F0 m pc ls (.ref (bA B 0) :: .ref (ad 7) :: rest)) := by
  obtain ⟨r1, h1, hf⟩ := bnd (bnd2_eq hf)
  have hW2 := D_tried_in hW
  refine w_Vi (C := RX3) (As := [.ref (bA B 0)]) (rest := rest) (n := 1) (wr := []) FX (mHB_go h1) (cwV 1 FX.2.2.2.2 (lw_V q1278 q1279 q1280 q129 q1281) rfl rfl rfl (by decide +kernel) hR) (va_recv hW2.2.2.2.1 hW2.1 (ci := 3) (q0 := 0) rfl rfl) rfl hl rfl hrm ⟨Nat.le_trans (Nat.le_of_eq (Nat.add_zero cells)) hcs.1, Nat.le_trans (Nat.le_of_eq (Nat.add_zero slots)) hcs.2⟩ hdg hW2.nil ?_
  exact fun H1 locs1 hW1 => kk r1.1 (xU (xT σ r1.2.1) r1.2.2) H1 locs1 (D_tried_out hW1.nil') hf
/-! TrunkLitters.ahead(I)LTrunkLitters$House;: kind W -/
def fD_ahead_2 (dA : Nat → Nat) (B : Bk) : Nat → Int32 → Int32 → Dst → Option Dst
  | 0, _, _, _ => none
  | n + 1, x1, x2, σ => (if x1 ≤ x2 then some σ else bnd2 (fHB_go dA B ((tT σ), tU σ)) fun r1 t0 => stp (xU (xT σ t0.1) t0.2) fun s2 => fD_ahead_2 dA B n x1 (x2 + (1 : Int32)) s2)
def fD_ahead (dA : Nat → Nat) (B : Bk) (x1 : Int32) (σ : Dst) : Option Dst := fD_ahead_2 dA B FU x1 (0 : Int32) σ
abbrev rD_ahead : Room := { frames := 68, cells := 0, slots := 0, locals := 2670 }
set_option maxHeartbeats 4000000 in
set_option maxRecDepth 100000 in
theorem wD_ahead_2 {t0 : Nat} {ad : Nat → Nat} {B : Bk} {wr : va_W} {q : Dst} (FX : CallFix p m c cX0_ahead 3 s args lw_all RX0) (hr : meth.sig.returnType = (some (Jvm.ClassFile.FieldType.object "TrunkLitters$House"))) (hlk : meth.locks = false) : ∀ n : Nat, ∀ (x1 : Int32) (x2 : Int32) (σ : Dst) (H : Heap) (locs : List Loc) (ls : Array Slot), lv_has ls 3 [(0, .ref t0), (1, .int x1), (2, .int x2)] → Wd D dA A s (Dx dA t0 ad B wr σ) H locs → fD_ahead_2 dA B n x1 x2 σ = some q → W p l e rD_ahead s m args below meth c H locs 0 0 (QR D dA A below args s 0 0 (ad 7) (Dx dA t0 ad B wr q)) (F0 m 2 ls []) := by
  have hx := FX.1; have hb := FX.2.1; have hown := FX.2.2.2.1; have hts := FX.2.2.2.2
  intro n
  induction n with
  | zero =>
    intro x1 x2 σ H locs ls hl hW hf
    cases (show (none : Option Dst) = some q from hf)
  | succ n ih =>
    intro x1 x2 σ H locs ls hl hW hf
    rw [fD_ahead_2] at hf
    refine lv_iload_n hx hb dX0_ahead_2 rfl (lv_at hl 2 rfl) ?_
    refine lv_iload_n hx hb dX0_ahead_3 rfl (lv_at hl 1 rfl) ?_
    refine lv_icmp_ge (tgt := 25) hx hb dX0_ahead_4 (by decide) (fun c4 => ?_) (fun c4 => ?_)
    · have hf := ifp c4 hf
      refine lv_aload_n hx hb dX0_ahead_25 rfl (lv_at hl 0 rfl) ?_
      refine DgX0_0_7 FX hW dX0_ahead_26 ?_
      obtain rfl := Option.some.inj hf
      exact g_aret FX hr hlk hW rfl dX0_ahead_29
    · have hf := ifn c4 hf
      refine lv_aload_n hx hb dX0_ahead_7 rfl (lv_at hl 0 rfl) ?_
      refine DgX0_0_7 FX hW dX0_ahead_8 ?_
      refine lv_aload_n hx hb dX0_ahead_11 rfl (lv_at hl 0 rfl) ?_
      refine DgX0_0_4 FX hW dX0_ahead_12 ?_
      refine kD_tried_go FX ⟨Nat.le_of_ble_eq_true rfl, Nat.le_of_ble_eq_true rfl⟩ ⟨Nat.zero_le _, Nat.zero_le _⟩ hl.1 (Nat.le_of_ble_eq_true rfl) hW hf dX0_ahead_15 (fun r1 s2 H locs hW hf => ?_)
      refine lv_pop hx hb dX0_ahead_18 rfl ?_
      refine lv_iinc (v := (x2 + (1 : Int32))) (lv' := [(2, .int (x2 + (1 : Int32))), (0, .ref t0), (1, .int x1)]) hx hb dX0_ahead_19 hl (k := 2) rfl rfl (by decide) rfl (fun ls hl => ?_)
      refine lv_goto (tgt := 2) hx hb dX0_ahead_22 (by decide) ?_
      exact ih x1 (x2 + (1 : Int32)) s2 _ _ _ (lv_sub hl [1, 2, 0] rfl) hW hf
set_option maxHeartbeats 4000000 in
set_option maxRecDepth 100000 in
theorem mD_ahead {t0 : Nat} {ad : Nat → Nat} {B : Bk} {wr : va_W}  {x1 : Int32} {σ : Dst} {q : Dst} (hf : fD_ahead dA B x1 σ = some q) : CtR l yX0_ahead cX0_ahead 3 (some (Jvm.ClassFile.FieldType.object "TrunkLitters$House")) rD_ahead D dA [.ref t0, .int x1] (Dx dA t0 ad B wr σ) (ad 7) (Dx dA t0 ad B wr q) := by
  refine e_R (by decide) (Nat.le_of_ble_eq_true rfl) ?_
  intro p e s m below meth c ls A FX hr hlk hl hW
  have hx := FX.1; have hb := FX.2.1; have hown := FX.2.2.2.1; have hts := FX.2.2.2.2
  have hl : lv_has ls 3 [(0, .ref t0), (1, .int x1)] := hl
  rw [fD_ahead] at hf
  refine lv_iconst (v := 0) hx hb dX0_ahead_0 (by decide) ?_
  refine lv_istore_n (lv' := [(2, .int (0 : Int32)), (0, .ref t0), (1, .int x1)]) hx hb dX0_ahead_1 rfl hl (by decide) rfl (fun ls hl => ?_)
  exact wD_ahead_2 FX hr hlk _ x1 (0 : Int32) σ _ _ _ (lv_sub hl [1, 2, 0] rfl) hW hf
theorem DgX0_27_2 {t0 : Nat} {ad : Nat → Nat} {B : Bk} {wr : va_W} {σ : Dst} (FX : CallFix p m c cc nL s args lw_all RX0) (hW : Wd D dA A s (Dx dA t0 ad B wr σ) H locs) (hdg : decode cc pc = .ok (.getfield 186, 3)) (kk : W p l e R s m args below meth c H locs cells slots Q (F0 m (pc + 3) ls (.ref (ad 72) :: rest))) : W p l e R s m args below meth c H locs cells slots Q (F0 m pc ls (.ref (ad 7) :: rest)) :=
  g_get FX hW (C := RX3) (T := TX3) (N := 14) (ci := 3) in_X3 27 rfl rfl 2 (by decide) q276 (fun _ h => h) rfl hdg kk
theorem Dp30 {t0 : Nat} {ad : Nat → Nat} {B : Bk} {wr : va_W} {σ : Dst} : (Dx dA t0 ad B wr σ)[30]? = some ((ad 72), .inl (dA 0, 8, .inl (hA (tT σ) 2))) := rfl
theorem DgX0_27_0 {t0 : Nat} {ad : Nat → Nat} {B : Bk} {wr : va_W} {σ : Dst} (FX : CallFix p m c cc nL s args lw_all RX0) (hW : Wd D dA A s (Dx dA t0 ad B wr σ) H locs) (hdg : decode cc pc = .ok (.getfield 180, 3)) (kk : W p l e R s m args below meth c H locs cells slots Q (F0 m (pc + 3) ls (.ref (ad 70) :: rest))) : W p l e R s m args below meth c H locs cells slots Q (F0 m pc ls (.ref (ad 7) :: rest)) :=
  g_get FX hW (C := RX3) (T := TX3) (N := 14) (ci := 3) in_X3 27 rfl rfl 0 (by decide) q272 (fun _ h => h) rfl hdg kk
theorem Dp28 {t0 : Nat} {ad : Nat → Nat} {B : Bk} {wr : va_W} {σ : Dst} : (Dx dA t0 ad B wr σ)[28]? = some ((ad 70), .inl (dA 0, 8, .inl (hA (tT σ) 0))) := rfl
set_option maxHeartbeats 4000000 in
set_option maxRecDepth 100000 in
theorem kD_copy_tried_now {t0 : Nat} {ad : Nat → Nat} {B : Bk} {wr : va_W} {α : Type} {q : α} {k : Dst → Option α} {σ : Dst} (FX : CallFix p m c cc nL s args lw_all RX0) (hR : rX3_copy.frames + 1 ≤ R.frames ∧ 8 + (2 + 11) + rX3_copy.locals ≤ R.locals) (hcs : cells ≤ R.cells ∧ slots ≤ R.slots) (hl : ls.size = nL) (hrm : (rest.map fun v => v.category).sum ≤ 8) (hW : Wd D dA A s (Dx dA t0 ad B wr σ) H locs) (hf : (fX3_copy ((tT σ), (tN σ))).bind (fun t0 => stp (xN (xT σ t0.1) t0.2) k) = some q) (hdg : decode cc pc = .ok (.invokevirtual 219, 3)) (kk : ∀ (σ1 : Dst) (H1 : Heap) (locs1 : List Loc), Wd D dA A s (Dx dA t0 ad B wr σ1) H1 locs1 → k σ1 = some q → W p l e R s m args below meth c H1 locs1 cells slots Q (F0 m (pc + 3) ls (.ref (ad 7) :: rest))) : W p l e R s m args below meth c H locs cells slots Q (F0 m pc ls (.ref (ad 5) :: .ref (ad 7) :: rest)) := by
  obtain ⟨r1, h1, hf⟩ := bnd hf
  have hW2 := D_tried_now_in hW
  refine w_VR (C := RX3) (As := [.ref (ad 5)]) (rest := rest) (n := 1) (wr := []) FX (mX3_copy h1) (cwV 1 FX.2.2.2.2 (lw_V q1273 q1274 q1275 q129 q1276) rfl rfl rfl (by decide +kernel) hR) (va_recv hW2.2.2.2.1 hW2.1 (ci := 3) (q0 := 0) rfl rfl) rfl hl rfl hrm ⟨Nat.le_trans (Nat.le_of_eq (Nat.add_zero cells)) hcs.1, Nat.le_trans (Nat.le_of_eq (Nat.add_zero slots)) hcs.2⟩ hdg hW2.nil ?_
  exact fun H1 locs1 hW1 => kk (xN (xT σ r1.1) r1.2) H1 locs1 (D_tried_now_out hW1.nil') hf
set_option maxHeartbeats 4000000 in
set_option maxRecDepth 100000 in
theorem kD_ahead {t0 : Nat} {ad : Nat → Nat} {B : Bk} {wr : va_W} {α : Type} {q : α} {k : Dst → Option α} {x1 : Int32} {σ : Dst} (FX : CallFix p m c cc nL s args lw_all RX0) (hR : rD_ahead.frames + 1 ≤ R.frames ∧ 8 + (3 + 11) + rD_ahead.locals ≤ R.locals) (hcs : cells ≤ R.cells ∧ slots ≤ R.slots) (hl : ls.size = nL) (hrm : (rest.map fun v => v.category).sum ≤ 8) (hW : Wd D dA A s (Dx dA t0 ad B wr σ) H locs) (hf : (fD_ahead dA B x1 σ).bind k = some q) (hdg : decode cc pc = .ok (.invokevirtual 242, 3)) (kk : ∀ (σ1 : Dst) (H1 : Heap) (locs1 : List Loc), Wd D dA A s (Dx dA t0 ad B wr σ1) H1 locs1 → k σ1 = some q → W p l e R s m args below meth c H1 locs1 cells slots Q (F0 m (pc + 3) ls (.ref (ad 7) :: rest))) : W p l e R s m args below meth c H locs cells slots Q (F0 m pc ls (.int x1 :: .ref t0 :: rest)) := by
  obtain ⟨r1, h1, hf⟩ := bnd hf
  have hW2 := hW
  refine w_VR (C := RX0) (As := [.int x1]) (rest := rest) (n := 1) (wr := []) FX (mD_ahead h1) (cwV 1 FX.2.2.2.2 (lw_V q1324 q1326 qs41 q123 q1327) rfl rfl rfl (by decide +kernel) hR) (va_recv hW2.2.2.2.1 hW2.1 (ci := 0) (q0 := 0) rfl rfl) rfl hl rfl hrm ⟨Nat.le_trans (Nat.le_of_eq (Nat.add_zero cells)) hcs.1, Nat.le_trans (Nat.le_of_eq (Nat.add_zero slots)) hcs.2⟩ hdg hW2.nil ?_
  exact fun H1 locs1 hW1 => kk _ H1 locs1 (hW1.nil') hf
set_option maxHeartbeats 4000000 in
set_option maxRecDepth 100000 in
theorem kD_tried_has {t0 : Nat} {ad : Nat → Nat} {B : Bk} {wr : va_W} {α : Type} {q : α} {k : Int32 → Option α} {x1 : Int32} {σ : Dst} (FX : CallFix p m c cc nL s args lw_all RX0) (hR : rX3_has.frames + 1 ≤ R.frames ∧ 8 + (2 + 11) + rX3_has.locals ≤ R.locals) (hcs : cells ≤ R.cells ∧ slots ≤ R.slots) (hl : ls.size = nL) (hrm : (rest.map fun v => v.category).sum ≤ 8) (hW : Wd D dA A s (Dx dA t0 ad B wr σ) H locs) (hf : (fX3_has x1 (tT σ)).bind k = some q) (hdg : decode cc pc = .ok (.invokevirtual 158, 3)) (kk : ∀ (r : Int32) (H1 : Heap) (locs1 : List Loc), Wd D dA A s (Dx dA t0 ad B wr σ) H1 locs1 → k r = some q → W p l e R s m args below meth c H1 locs1 cells slots Q (F0 m (pc + 3) ls (.int r :: rest))) : W p l e R s m args below meth c H locs cells slots Q (F0 m pc ls (.int x1 :: .ref (ad 7) :: rest)) := by
  obtain ⟨r1, h1, hf⟩ := bnd hf
  have hW2 := HB_in (D_tried_in hW)
  refine w_Vi (C := RX3) (As := [.int x1]) (rest := rest) (n := 1) (wr := []) FX (mX3_has h1) (cwV 1 FX.2.2.2.2 (lw_V q1156 q337 q338 q129 q339) rfl rfl rfl (by decide +kernel) hR) (va_recv hW2.2.2.2.1 hW2.1 (ci := 3) (q0 := 0) rfl rfl) rfl hl rfl hrm ⟨Nat.le_trans (Nat.le_of_eq (Nat.add_zero cells)) hcs.1, Nat.le_trans (Nat.le_of_eq (Nat.add_zero slots)) hcs.2⟩ hdg hW2.nil ?_
  exact fun H1 locs1 hW1 => kk r1 H1 locs1 (D_tried_outR (HB_out hW1.nil')) hf
/-! TrunkLitters.will(III)I: kind W -/
def fD_will (dA : Nat → Nat) (B : Bk) (x1 : Int32) (x2 : Int32) (x3 : Int32) (σ : Dst) : Option (Int32 × Dst) := (fX0_isIn x1 (0 : Int32) (7 : Int32)).bind fun r1 => (if r1 = 0 then some ((-1 : Int32), σ) else (fX0_isIn x2 (0 : Int32) (30 : Int32)).bind fun r2 => (if r2 = 0 then some ((-1 : Int32), σ) else (fX0_isIn x3 (0 : Int32) (1 : Int32)).bind fun r3 => (if r3 = 0 then some ((-1 : Int32), σ) else (fX3_copy ((tT σ), (tN σ))).bind fun t0 => stp (xN (xT σ t0.1) t0.2) fun s5 => (fD_ahead dA B x2 s5).bind fun s7 => (fX3_has x1 (tT s7)).bind fun r8 => (if r8 = 0 then some ((-1 : Int32), s7) else (if x3 = 0 then ald 8 (hA (tT s7) 0) x1 fun v10 => some (v10, s7) else ald 8 (hA (tT s7) 2) x1 fun v9 => some (v9, s7))))))
abbrev rD_will : Room := { frames := 69, cells := 0, slots := 0, locals := 2692 }
set_option maxHeartbeats 4000000 in
set_option maxRecDepth 100000 in
theorem mD_will {t0 : Nat} {ad : Nat → Nat} {B : Bk} {wr : va_W}  {x1 : Int32} {x2 : Int32} {x3 : Int32} {σ : Dst} {q : (Int32 × Dst)} (hf : fD_will dA B x1 x2 x3 σ = some q) : CtI l yX0_will cX0_will 4 (some .int) rD_will D dA [.ref t0, .int x1, .int x2, .int x3] (Dx dA t0 ad B wr σ) q.1 (Dx dA t0 ad B wr q.2) := by
  refine e_I (by decide) (Nat.le_of_ble_eq_true rfl) ?_
  intro p e s m below meth c ls A FX hr hlk hl hW
  have hx := FX.1; have hb := FX.2.1; have hown := FX.2.2.2.1; have hts := FX.2.2.2.2
  have hl : lv_has ls 4 [(0, .ref t0), (1, .int x1), (2, .int x2), (3, .int x3)] := hl
  rw [fD_will] at hf
  refine lv_iload_n hx hb dX0_will_0 rfl (lv_at hl 1 rfl) ?_
  refine lv_iconst (v := 0) hx hb dX0_will_1 (by decide) ?_
  refine lv_bipush (v := 7) hx hb dX0_will_2 (by decide) ?_
  refine kX0_X0_isIn FX ⟨Nat.le_of_ble_eq_true rfl, Nat.le_of_ble_eq_true rfl⟩ ⟨Nat.zero_le _, Nat.zero_le _⟩ hl.1 (Nat.le_of_ble_eq_true rfl) hW hf dX0_will_4 (fun r1 H locs hW hf => ?_)
  refine lv_if_eq (tgt := 29) hx hb dX0_will_7 (by decide) (fun c7 => ?_) (fun c7 => ?_)
  · have hf := ifp c7 hf
    refine lv_iconst (v := -1) hx hb dX0_will_29 (by decide) ?_
    obtain rfl := Option.some.inj hf
    exact g_iret FX hr hlk hW rfl dX0_will_30
  · have hf := ifn c7 hf
    refine lv_iload_n hx hb dX0_will_10 rfl (lv_at hl 2 rfl) ?_
    refine lv_iconst (v := 0) hx hb dX0_will_11 (by decide) ?_
    refine lv_bipush (v := 30) hx hb dX0_will_12 (by decide) ?_
    refine kX0_X0_isIn FX ⟨Nat.le_of_ble_eq_true rfl, Nat.le_of_ble_eq_true rfl⟩ ⟨Nat.zero_le _, Nat.zero_le _⟩ hl.1 (Nat.le_of_ble_eq_true rfl) hW hf dX0_will_14 (fun r2 H locs hW hf => ?_)
    refine lv_if_eq (tgt := 29) hx hb dX0_will_17 (by decide) (fun c17 => ?_) (fun c17 => ?_)
    · have hf := ifp c17 hf
      refine lv_iconst (v := -1) hx hb dX0_will_29 (by decide) ?_
      obtain rfl := Option.some.inj hf
      exact g_iret FX hr hlk hW rfl dX0_will_30
    · have hf := ifn c17 hf
      refine lv_iload_n hx hb dX0_will_20 rfl (lv_at hl 3 rfl) ?_
      refine lv_iconst (v := 0) hx hb dX0_will_21 (by decide) ?_
      refine lv_iconst (v := 1) hx hb dX0_will_22 (by decide) ?_
      refine kX0_X0_isIn FX ⟨Nat.le_of_ble_eq_true rfl, Nat.le_of_ble_eq_true rfl⟩ ⟨Nat.zero_le _, Nat.zero_le _⟩ hl.1 (Nat.le_of_ble_eq_true rfl) hW hf dX0_will_23 (fun r3 H locs hW hf => ?_)
      refine lv_if_ne (tgt := 31) hx hb dX0_will_26 (by decide) (fun c26 => ?_) (fun c26 => ?_)
      · have hf := ifn c26 hf
        refine lv_aload_n hx hb dX0_will_31 rfl (lv_at hl 0 rfl) ?_
        refine DgX0_0_7 FX hW dX0_will_32 ?_
        refine lv_aload_n hx hb dX0_will_35 rfl (lv_at hl 0 rfl) ?_
        refine DgX0_0_5 FX hW dX0_will_36 ?_
        refine kD_copy_tried_now FX ⟨Nat.le_of_ble_eq_true rfl, Nat.le_of_ble_eq_true rfl⟩ ⟨Nat.zero_le _, Nat.zero_le _⟩ hl.1 (Nat.le_of_ble_eq_true rfl) hW hf dX0_will_39 (fun s5 H locs hW hf => ?_)
        refine lv_pop hx hb dX0_will_42 rfl ?_
        refine lv_aload_n hx hb dX0_will_43 rfl (lv_at hl 0 rfl) ?_
        refine lv_iload_n hx hb dX0_will_44 rfl (lv_at hl 2 rfl) ?_
        refine kD_ahead FX ⟨Nat.le_of_ble_eq_true rfl, Nat.le_of_ble_eq_true rfl⟩ ⟨Nat.zero_le _, Nat.zero_le _⟩ hl.1 (Nat.le_of_ble_eq_true rfl) hW hf dX0_will_45 (fun s7 H locs hW hf => ?_)
        refine lv_iload_n hx hb dX0_will_48 rfl (lv_at hl 1 rfl) ?_
        refine kD_tried_has FX ⟨Nat.le_of_ble_eq_true rfl, Nat.le_of_ble_eq_true rfl⟩ ⟨Nat.zero_le _, Nat.zero_le _⟩ hl.1 (Nat.le_of_ble_eq_true rfl) hW hf dX0_will_49 (fun r8 H locs hW hf => ?_)
        refine lv_if_ne (tgt := 59) hx hb dX0_will_52 (by decide) (fun c52 => ?_) (fun c52 => ?_)
        · have hf := ifn c52 hf
          refine lv_iload_n hx hb dX0_will_59 rfl (lv_at hl 3 rfl) ?_
          refine lv_if_ne (tgt := 75) hx hb dX0_will_60 (by decide) (fun c60 => ?_) (fun c60 => ?_)
          · have hf := ifn c60 hf
            refine lv_aload_n hx hb dX0_will_75 rfl (lv_at hl 0 rfl) ?_
            refine DgX0_0_7 FX hW dX0_will_76 ?_
            refine DgX0_27_2 FX hW dX0_will_79 ?_
            refine lv_iload_n hx hb dX0_will_82 rfl (lv_at hl 1 rfl) ?_
            refine g_iald FX hW 30 Dp30 hf dX0_will_83 (fun v9 hf => ?_)
            obtain rfl := Option.some.inj hf
            exact g_iret FX hr hlk hW rfl dX0_will_84
          · have hf := ifp c60 hf
            refine lv_aload_n hx hb dX0_will_63 rfl (lv_at hl 0 rfl) ?_
            refine DgX0_0_7 FX hW dX0_will_64 ?_
            refine DgX0_27_0 FX hW dX0_will_67 ?_
            refine lv_iload_n hx hb dX0_will_70 rfl (lv_at hl 1 rfl) ?_
            refine g_iald FX hW 28 Dp28 hf dX0_will_71 (fun v10 hf => ?_)
            refine lv_goto (tgt := 84) hx hb dX0_will_72 (by decide) ?_
            obtain rfl := Option.some.inj hf
            exact g_iret FX hr hlk hW rfl dX0_will_84
        · have hf := ifp c52 hf
          refine lv_iconst (v := -1) hx hb dX0_will_55 (by decide) ?_
          refine lv_goto (tgt := 84) hx hb dX0_will_56 (by decide) ?_
          obtain rfl := Option.some.inj hf
          exact g_iret FX hr hlk hW rfl dX0_will_84
      · have hf := ifp c26 hf
        refine lv_iconst (v := -1) hx hb dX0_will_29 (by decide) ?_
        obtain rfl := Option.some.inj hf
        exact g_iret FX hr hlk hW rfl dX0_will_30
theorem DgX0_27_8 {t0 : Nat} {ad : Nat → Nat} {B : Bk} {wr : va_W} {σ : Dst} (FX : CallFix p m c cc nL s args lw_all RX0) (hW : Wd D dA A s (Dx dA t0 ad B wr σ) H locs) (hdg : decode cc pc = .ok (.getfield 246, 3)) (kk : W p l e R s m args below meth c H locs cells slots Q (F0 m (pc + 3) ls (.int (hF (tT σ) 8) :: rest))) : W p l e R s m args below meth c H locs cells slots Q (F0 m pc ls (.ref (ad 7) :: rest)) :=
  g_get FX hW (C := RX3) (T := TX3) (N := 14) (ci := 3) in_X3 27 rfl rfl 8 (by decide) q288 (fun _ h => h) rfl hdg kk

/-! TrunkLitters.alive(I)I: kind W -/
def fD_alive (dA : Nat → Nat) (B : Bk) (x1 : Int32) (σ : Dst) : Option (Int32 × Dst) := (fX0_isIn x1 (0 : Int32) (30 : Int32)).bind fun r1 => (if r1 = 0 then some ((-1 : Int32), σ) else (fX3_copy ((tT σ), (tN σ))).bind fun t0 => stp (xN (xT σ t0.1) t0.2) fun s3 => (fD_ahead dA B x1 s3).bind fun s5 => some ((hF (tT s5) 8), s5))
abbrev rD_alive : Room := { frames := 69, cells := 0, slots := 0, locals := 2692 }
set_option maxHeartbeats 4000000 in
set_option maxRecDepth 100000 in
theorem mD_alive {t0 : Nat} {ad : Nat → Nat} {B : Bk} {wr : va_W}  {x1 : Int32} {σ : Dst} {q : (Int32 × Dst)} (hf : fD_alive dA B x1 σ = some q) : CtI l yX0_alive cX0_alive 2 (some .int) rD_alive D dA [.ref t0, .int x1] (Dx dA t0 ad B wr σ) q.1 (Dx dA t0 ad B wr q.2) := by
  refine e_I (by decide) (Nat.le_of_ble_eq_true rfl) ?_
  intro p e s m below meth c ls A FX hr hlk hl hW
  have hx := FX.1; have hb := FX.2.1; have hown := FX.2.2.2.1; have hts := FX.2.2.2.2
  have hl : lv_has ls 2 [(0, .ref t0), (1, .int x1)] := hl
  rw [fD_alive] at hf
  refine lv_iload_n hx hb dX0_alive_0 rfl (lv_at hl 1 rfl) ?_
  refine lv_iconst (v := 0) hx hb dX0_alive_1 (by decide) ?_
  refine lv_bipush (v := 30) hx hb dX0_alive_2 (by decide) ?_
  refine kX0_X0_isIn FX ⟨Nat.le_of_ble_eq_true rfl, Nat.le_of_ble_eq_true rfl⟩ ⟨Nat.zero_le _, Nat.zero_le _⟩ hl.1 (Nat.le_of_ble_eq_true rfl) hW hf dX0_alive_4 (fun r1 H locs hW hf => ?_)
  refine lv_if_ne (tgt := 12) hx hb dX0_alive_7 (by decide) (fun c7 => ?_) (fun c7 => ?_)
  · have hf := ifn c7 hf
    refine lv_aload_n hx hb dX0_alive_12 rfl (lv_at hl 0 rfl) ?_
    refine DgX0_0_7 FX hW dX0_alive_13 ?_
    refine lv_aload_n hx hb dX0_alive_16 rfl (lv_at hl 0 rfl) ?_
    refine DgX0_0_5 FX hW dX0_alive_17 ?_
    refine kD_copy_tried_now FX ⟨Nat.le_of_ble_eq_true rfl, Nat.le_of_ble_eq_true rfl⟩ ⟨Nat.zero_le _, Nat.zero_le _⟩ hl.1 (Nat.le_of_ble_eq_true rfl) hW hf dX0_alive_20 (fun s3 H locs hW hf => ?_)
    refine lv_pop hx hb dX0_alive_23 rfl ?_
    refine lv_aload_n hx hb dX0_alive_24 rfl (lv_at hl 0 rfl) ?_
    refine lv_iload_n hx hb dX0_alive_25 rfl (lv_at hl 1 rfl) ?_
    refine kD_ahead FX ⟨Nat.le_of_ble_eq_true rfl, Nat.le_of_ble_eq_true rfl⟩ ⟨Nat.zero_le _, Nat.zero_le _⟩ hl.1 (Nat.le_of_ble_eq_true rfl) hW hf dX0_alive_26 (fun s5 H locs hW hf => ?_)
    refine DgX0_27_8 FX hW dX0_alive_29 ?_
    obtain rfl := Option.some.inj hf
    exact g_iret FX hr hlk hW rfl dX0_alive_32
  · have hf := ifp c7 hf
    refine lv_iconst (v := -1) hx hb dX0_alive_10 (by decide) ?_
    obtain rfl := Option.some.inj hf
    exact g_iret FX hr hlk hW rfl dX0_alive_11
theorem DsX0_27_13 {t0 : Nat} {ad : Nat → Nat} {B : Bk} {wr : va_W} {σ : Dst} {α : Type} {q : α} {v : Int32} {k : Dst → Option α} (FX : CallFix p m c cc nL s args lw_all RX0) (hW : Wd D dA A s (Dx dA t0 ad B wr σ) H locs) (hf : stp (xT σ (uF (tT σ) 13 v)) k = some q) (hdg : decode cc pc = .ok (.putfield 249, 3)) (kk : ∀ (σ1 : Dst) (H1 : Heap) (locs1 : List Loc), Wd D dA A s (Dx dA t0 ad B wr σ1) H1 locs1 → k σ1 = some q → W p l e R s m args below meth c H1 locs1 cells slots Q (F0 m (pc + 3) ls rest)) : W p l e R s m args below meth c H locs cells slots Q (F0 m pc ls (.int v :: .ref (ad 7) :: rest)) :=
  g_put FX hW (C := RX3) (T := TX3) (N := 14) (ci := 3) (ty := .int) in_X3 tyX3 tyX3_ok nmX3 27 rfl rfl 13 (by decide) q297 (fun _ h => h) rfl (by decide +kernel) rfl rfl (Nat.le_of_ble_eq_true rfl) (ws' := Dx dA t0 ad B wr (xT σ (uF (tT σ) 13 v))) rfl hdg (fun H1 locs1 hW1 => kk _ H1 locs1 hW1 hf)

/-! TrunkLitters.law(II)I: kind W -/
def fD_law (dA : Nat → Nat) (B : Bk) (x1 : Int32) (x2 : Int32) (σ : Dst) : Option (Int32 × Dst) := (fX0_isIn x1 (1 : Int32) (9 : Int32)).bind fun r1 => (if r1 = 0 then some ((-1 : Int32), σ) else (fX0_isIn x2 (0 : Int32) (30 : Int32)).bind fun r2 => (if r2 = 0 then some ((-1 : Int32), σ) else (fX3_copy ((tT σ), (tN σ))).bind fun t0 => stp (xN (xT σ t0.1) t0.2) fun s4 => stp (xT s4 (uF (tT s4) 13 x1)) fun s5 => (fD_ahead dA B x2 s5).bind fun s7 => (fJ15_bitCount (hF (tT s7) 8)).bind fun r8 => some (r8, s7)))
abbrev rD_law : Room := { frames := 69, cells := 0, slots := 0, locals := 2692 }
set_option maxHeartbeats 4000000 in
set_option maxRecDepth 100000 in
theorem mD_law {t0 : Nat} {ad : Nat → Nat} {B : Bk} {wr : va_W}  {x1 : Int32} {x2 : Int32} {σ : Dst} {q : (Int32 × Dst)} (hf : fD_law dA B x1 x2 σ = some q) : CtI l yX0_law cX0_law 3 (some .int) rD_law D dA [.ref t0, .int x1, .int x2] (Dx dA t0 ad B wr σ) q.1 (Dx dA t0 ad B wr q.2) := by
  refine e_I (by decide) (Nat.le_of_ble_eq_true rfl) ?_
  intro p e s m below meth c ls A FX hr hlk hl hW
  have hx := FX.1; have hb := FX.2.1; have hown := FX.2.2.2.1; have hts := FX.2.2.2.2
  have hl : lv_has ls 3 [(0, .ref t0), (1, .int x1), (2, .int x2)] := hl
  rw [fD_law] at hf
  refine lv_iload_n hx hb dX0_law_0 rfl (lv_at hl 1 rfl) ?_
  refine lv_iconst (v := 1) hx hb dX0_law_1 (by decide) ?_
  refine lv_bipush (v := 9) hx hb dX0_law_2 (by decide) ?_
  refine kX0_X0_isIn FX ⟨Nat.le_of_ble_eq_true rfl, Nat.le_of_ble_eq_true rfl⟩ ⟨Nat.zero_le _, Nat.zero_le _⟩ hl.1 (Nat.le_of_ble_eq_true rfl) hW hf dX0_law_4 (fun r1 H locs hW hf => ?_)
  refine lv_if_eq (tgt := 20) hx hb dX0_law_7 (by decide) (fun c7 => ?_) (fun c7 => ?_)
  · have hf := ifp c7 hf
    refine lv_iconst (v := -1) hx hb dX0_law_20 (by decide) ?_
    obtain rfl := Option.some.inj hf
    exact g_iret FX hr hlk hW rfl dX0_law_21
  · have hf := ifn c7 hf
    refine lv_iload_n hx hb dX0_law_10 rfl (lv_at hl 2 rfl) ?_
    refine lv_iconst (v := 0) hx hb dX0_law_11 (by decide) ?_
    refine lv_bipush (v := 30) hx hb dX0_law_12 (by decide) ?_
    refine kX0_X0_isIn FX ⟨Nat.le_of_ble_eq_true rfl, Nat.le_of_ble_eq_true rfl⟩ ⟨Nat.zero_le _, Nat.zero_le _⟩ hl.1 (Nat.le_of_ble_eq_true rfl) hW hf dX0_law_14 (fun r2 H locs hW hf => ?_)
    refine lv_if_ne (tgt := 22) hx hb dX0_law_17 (by decide) (fun c17 => ?_) (fun c17 => ?_)
    · have hf := ifn c17 hf
      refine lv_aload_n hx hb dX0_law_22 rfl (lv_at hl 0 rfl) ?_
      refine DgX0_0_7 FX hW dX0_law_23 ?_
      refine lv_aload_n hx hb dX0_law_26 rfl (lv_at hl 0 rfl) ?_
      refine DgX0_0_5 FX hW dX0_law_27 ?_
      refine kD_copy_tried_now FX ⟨Nat.le_of_ble_eq_true rfl, Nat.le_of_ble_eq_true rfl⟩ ⟨Nat.zero_le _, Nat.zero_le _⟩ hl.1 (Nat.le_of_ble_eq_true rfl) hW hf dX0_law_30 (fun s4 H locs hW hf => ?_)
      refine lv_iload_n hx hb dX0_law_33 rfl (lv_at hl 1 rfl) ?_
      refine DsX0_27_13 FX hW hf dX0_law_34 (fun s5 H locs hW hf => ?_)
      refine lv_aload_n hx hb dX0_law_37 rfl (lv_at hl 0 rfl) ?_
      refine lv_iload_n hx hb dX0_law_38 rfl (lv_at hl 2 rfl) ?_
      refine kD_ahead FX ⟨Nat.le_of_ble_eq_true rfl, Nat.le_of_ble_eq_true rfl⟩ ⟨Nat.zero_le _, Nat.zero_le _⟩ hl.1 (Nat.le_of_ble_eq_true rfl) hW hf dX0_law_39 (fun s7 H locs hW hf => ?_)
      refine DgX0_27_8 FX hW dX0_law_42 ?_
      refine kX0_J15_bitCount FX ⟨Nat.le_of_ble_eq_true rfl, Nat.le_of_ble_eq_true rfl⟩ ⟨Nat.zero_le _, Nat.zero_le _⟩ hl.1 (Nat.le_of_ble_eq_true rfl) hW hf dX0_law_45 (fun r8 H locs hW hf => ?_)
      obtain rfl := Option.some.inj hf
      exact g_iret FX hr hlk hW rfl dX0_law_48
    · have hf := ifp c17 hf
      refine lv_iconst (v := -1) hx hb dX0_law_20 (by decide) ?_
      obtain rfl := Option.some.inj hf
      exact g_iret FX hr hlk hW rfl dX0_law_21
theorem DgX0_27_7 {t0 : Nat} {ad : Nat → Nat} {B : Bk} {wr : va_W} {σ : Dst} (FX : CallFix p m c cc nL s args lw_all RX0) (hW : Wd D dA A s (Dx dA t0 ad B wr σ) H locs) (hdg : decode cc pc = .ok (.getfield 252, 3)) (kk : W p l e R s m args below meth c H locs cells slots Q (F0 m (pc + 3) ls (.ref (ad 77) :: rest))) : W p l e R s m args below meth c H locs cells slots Q (F0 m pc ls (.ref (ad 7) :: rest)) :=
  g_get FX hW (C := RX3) (T := TX3) (N := 14) (ci := 3) in_X3 27 rfl rfl 7 (by decide) q286 (fun _ h => h) rfl hdg kk
theorem Dp35 {t0 : Nat} {ad : Nat → Nat} {B : Bk} {wr : va_W} {σ : Dst} : (Dx dA t0 ad B wr σ)[35]? = some ((ad 77), .inl (dA 0, 8, .inl (hA (tT σ) 7))) := rfl
theorem DgX0_18_7 {t0 : Nat} {ad : Nat → Nat} {B : Bk} {wr : va_W} {σ : Dst} (FX : CallFix p m c cc nL s args lw_all RX0) (hW : Wd D dA A s (Dx dA t0 ad B wr σ) H locs) (hdg : decode cc pc = .ok (.getfield 252, 3)) (kk : W p l e R s m args below meth c H locs cells slots Q (F0 m (pc + 3) ls (.ref (ad 57) :: rest))) : W p l e R s m args below meth c H locs cells slots Q (F0 m pc ls (.ref (ad 5) :: rest)) :=
  g_get FX hW (C := RX3) (T := TX3) (N := 14) (ci := 3) in_X3 18 rfl rfl 7 (by decide) q286 (fun _ h => h) rfl hdg kk
theorem Dp26 {t0 : Nat} {ad : Nat → Nat} {B : Bk} {wr : va_W} {σ : Dst} : (Dx dA t0 ad B wr σ)[26]? = some ((ad 57), .inl (dA 0, 8, .inl (hA (tN σ) 7))) := rfl

/-! TrunkLitters.gone(I)I: kind W -/
def fD_gone_24 (dA : Nat → Nat) (B : Bk) : Nat → Int32 → Int32 → Dst → Option (Int32 × Dst)
  | 0, _, _, _ => none
  | n + 1, x1, x2, σ => (if (30 : Int32) < x2 then some ((-1 : Int32), σ) else bnd2 (fHB_go dA B ((tT σ), tU σ)) fun r1 t0 => stp (xU (xT σ t0.1) t0.2) fun s2 => (fX3_has x1 (tT s2)).bind fun r3 => (if r3 = 0 then some (x2, s2) else ald 8 (hA (tT s2) 7) x1 fun v4 => ald 8 (hA (tN s2) 7) x1 fun v5 => (if v4 = v5 then fD_gone_24 dA B n x1 (x2 + (1 : Int32)) s2 else some (x2, s2))))
def fD_gone (dA : Nat → Nat) (B : Bk) (x1 : Int32) (σ : Dst) : Option (Int32 × Dst) := (fD_isTrunk dA B x1 σ).bind fun r1 => (if r1 = 0 then some ((-1 : Int32), σ) else (fX3_copy ((tT σ), (tN σ))).bind fun t0 => stp (xN (xT σ t0.1) t0.2) fun s3 => fD_gone_24 dA B FU x1 (1 : Int32) s3)
abbrev rD_gone : Room := { frames := 68, cells := 0, slots := 0, locals := 2670 }
set_option maxHeartbeats 4000000 in
set_option maxRecDepth 100000 in
theorem wD_gone_24 {t0 : Nat} {ad : Nat → Nat} {B : Bk} {wr : va_W} {q : (Int32 × Dst)} (FX : CallFix p m c cX0_gone 3 s args lw_all RX0) (hr : meth.sig.returnType = (some .int)) (hlk : meth.locks = false) : ∀ n : Nat, ∀ (x1 : Int32) (x2 : Int32) (σ : Dst) (H : Heap) (locs : List Loc) (ls : Array Slot), lv_has ls 3 [(0, .ref t0), (1, .int x1), (2, .int x2)] → Wd D dA A s (Dx dA t0 ad B wr σ) H locs → fD_gone_24 dA B n x1 x2 σ = some q → W p l e rD_gone s m args below meth c H locs 0 0 (QI D dA A below args s 0 0 q.1 (Dx dA t0 ad B wr q.2)) (F0 m 24 ls []) := by
  have hx := FX.1; have hb := FX.2.1; have hown := FX.2.2.2.1; have hts := FX.2.2.2.2
  intro n
  induction n with
  | zero =>
    intro x1 x2 σ H locs ls hl hW hf
    cases (show (none : Option (Int32 × Dst)) = some q from hf)
  | succ n ih =>
    intro x1 x2 σ H locs ls hl hW hf
    rw [fD_gone_24] at hf
    refine lv_iload_n hx hb dX0_gone_24 rfl (lv_at hl 2 rfl) ?_
    refine lv_bipush (v := 30) hx hb dX0_gone_25 (by decide) ?_
    refine lv_icmp_gt (tgt := 82) hx hb dX0_gone_27 (by decide) (fun c27 => ?_) (fun c27 => ?_)
    · have hf := ifp c27 hf
      refine lv_iconst (v := -1) hx hb dX0_gone_82 (by decide) ?_
      obtain rfl := Option.some.inj hf
      exact g_iret FX hr hlk hW rfl dX0_gone_83
    · have hf := ifn c27 hf
      refine lv_aload_n hx hb dX0_gone_30 rfl (lv_at hl 0 rfl) ?_
      refine DgX0_0_7 FX hW dX0_gone_31 ?_
      refine lv_aload_n hx hb dX0_gone_34 rfl (lv_at hl 0 rfl) ?_
      refine DgX0_0_4 FX hW dX0_gone_35 ?_
      refine kD_tried_go FX ⟨Nat.le_of_ble_eq_true rfl, Nat.le_of_ble_eq_true rfl⟩ ⟨Nat.zero_le _, Nat.zero_le _⟩ hl.1 (Nat.le_of_ble_eq_true rfl) hW hf dX0_gone_38 (fun r1 s2 H locs hW hf => ?_)
      refine lv_pop hx hb dX0_gone_41 rfl ?_
      refine lv_aload_n hx hb dX0_gone_42 rfl (lv_at hl 0 rfl) ?_
      refine DgX0_0_7 FX hW dX0_gone_43 ?_
      refine lv_iload_n hx hb dX0_gone_46 rfl (lv_at hl 1 rfl) ?_
      refine kD_tried_has FX ⟨Nat.le_of_ble_eq_true rfl, Nat.le_of_ble_eq_true rfl⟩ ⟨Nat.zero_le _, Nat.zero_le _⟩ hl.1 (Nat.le_of_ble_eq_true rfl) hW hf dX0_gone_47 (fun r3 H locs hW hf => ?_)
      refine lv_if_eq (tgt := 74) hx hb dX0_gone_50 (by decide) (fun c50 => ?_) (fun c50 => ?_)
      · have hf := ifp c50 hf
        refine lv_iload_n hx hb dX0_gone_74 rfl (lv_at hl 2 rfl) ?_
        obtain rfl := Option.some.inj hf
        exact g_iret FX hr hlk hW rfl dX0_gone_75
      · have hf := ifn c50 hf
        refine lv_aload_n hx hb dX0_gone_53 rfl (lv_at hl 0 rfl) ?_
        refine DgX0_0_7 FX hW dX0_gone_54 ?_
        refine DgX0_27_7 FX hW dX0_gone_57 ?_
        refine lv_iload_n hx hb dX0_gone_60 rfl (lv_at hl 1 rfl) ?_
        refine g_iald FX hW 35 Dp35 hf dX0_gone_61 (fun v4 hf => ?_)
        refine lv_aload_n hx hb dX0_gone_62 rfl (lv_at hl 0 rfl) ?_
        refine DgX0_0_5 FX hW dX0_gone_63 ?_
        refine DgX0_18_7 FX hW dX0_gone_66 ?_
        refine lv_iload_n hx hb dX0_gone_69 rfl (lv_at hl 1 rfl) ?_
        refine g_iald FX hW 26 Dp26 hf dX0_gone_70 (fun v5 hf => ?_)
        refine lv_icmp_eq (tgt := 76) hx hb dX0_gone_71 (by decide) (fun c71 => ?_) (fun c71 => ?_)
        · have hf := ifp c71 hf
          refine lv_iinc (v := (x2 + (1 : Int32))) (lv' := [(2, .int (x2 + (1 : Int32))), (0, .ref t0), (1, .int x1)]) hx hb dX0_gone_76 hl (k := 2) rfl rfl (by decide) rfl (fun ls hl => ?_)
          refine lv_goto (tgt := 24) hx hb dX0_gone_79 (by decide) ?_
          exact ih x1 (x2 + (1 : Int32)) s2 _ _ _ (lv_sub hl [1, 2, 0] rfl) hW hf
        · have hf := ifn c71 hf
          refine lv_iload_n hx hb dX0_gone_74 rfl (lv_at hl 2 rfl) ?_
          obtain rfl := Option.some.inj hf
          exact g_iret FX hr hlk hW rfl dX0_gone_75
set_option maxHeartbeats 4000000 in
set_option maxRecDepth 100000 in
theorem mD_gone {t0 : Nat} {ad : Nat → Nat} {B : Bk} {wr : va_W}  {x1 : Int32} {σ : Dst} {q : (Int32 × Dst)} (hf : fD_gone dA B x1 σ = some q) : CtI l yX0_gone cX0_gone 3 (some .int) rD_gone D dA [.ref t0, .int x1] (Dx dA t0 ad B wr σ) q.1 (Dx dA t0 ad B wr q.2) := by
  refine e_I (by decide) (Nat.le_of_ble_eq_true rfl) ?_
  intro p e s m below meth c ls A FX hr hlk hl hW
  have hx := FX.1; have hb := FX.2.1; have hown := FX.2.2.2.1; have hts := FX.2.2.2.2
  have hl : lv_has ls 3 [(0, .ref t0), (1, .int x1)] := hl
  rw [fD_gone] at hf
  refine lv_aload_n hx hb dX0_gone_0 rfl (lv_at hl 0 rfl) ?_
  refine lv_iload_n hx hb dX0_gone_1 rfl (lv_at hl 1 rfl) ?_
  refine kD_isTrunk FX ⟨Nat.le_of_ble_eq_true rfl, Nat.le_of_ble_eq_true rfl⟩ ⟨Nat.zero_le _, Nat.zero_le _⟩ hl.1 (Nat.le_of_ble_eq_true rfl) hW hf dX0_gone_2 (fun r1 H locs hW hf => ?_)
  refine lv_if_ne (tgt := 10) hx hb dX0_gone_5 (by decide) (fun c5 => ?_) (fun c5 => ?_)
  · have hf := ifn c5 hf
    refine lv_aload_n hx hb dX0_gone_10 rfl (lv_at hl 0 rfl) ?_
    refine DgX0_0_7 FX hW dX0_gone_11 ?_
    refine lv_aload_n hx hb dX0_gone_14 rfl (lv_at hl 0 rfl) ?_
    refine DgX0_0_5 FX hW dX0_gone_15 ?_
    refine kD_copy_tried_now FX ⟨Nat.le_of_ble_eq_true rfl, Nat.le_of_ble_eq_true rfl⟩ ⟨Nat.zero_le _, Nat.zero_le _⟩ hl.1 (Nat.le_of_ble_eq_true rfl) hW hf dX0_gone_18 (fun s3 H locs hW hf => ?_)
    refine lv_pop hx hb dX0_gone_21 rfl ?_
    refine lv_iconst (v := 1) hx hb dX0_gone_22 (by decide) ?_
    refine lv_istore_n (lv' := [(2, .int (1 : Int32)), (0, .ref t0), (1, .int x1)]) hx hb dX0_gone_23 rfl hl (by decide) rfl (fun ls hl => ?_)
    exact wD_gone_24 FX hr hlk _ x1 (1 : Int32) s3 _ _ _ (lv_sub hl [1, 2, 0] rfl) hW hf
  · have hf := ifp c5 hf
    refine lv_iconst (v := -1) hx hb dX0_gone_8 (by decide) ?_
    obtain rfl := Option.some.inj hf
    exact g_iret FX hr hlk hW rfl dX0_gone_9

set_option maxHeartbeats 4000000 in
set_option maxRecDepth 100000 in
theorem kD_marksOf_now {t0 : Nat} {ad : Nat → Nat} {B : Bk} {wr : va_W} {α : Type} {q : α} {k : Int32 → Option α} {σ : Dst} (FX : CallFix p m c cc nL s args lw_all RX0) (hR : rX0_marksOf.frames + 1 ≤ R.frames ∧ 8 + (3 + 11) + rX0_marksOf.locals ≤ R.locals) (hcs : cells ≤ R.cells ∧ slots ≤ R.slots) (hl : ls.size = nL) (hrm : (rest.map fun v => v.category).sum ≤ 8) (hW : Wd D dA A s (Dx dA t0 ad B wr σ) H locs) (hf : (fX0_marksOf (tN σ)).bind k = some q) (hdg : decode cc pc = .ok (.invokestatic 255, 3)) (kk : ∀ (r : Int32) (H1 : Heap) (locs1 : List Loc), Wd D dA A s (Dx dA t0 ad B wr σ) H1 locs1 → k r = some q → W p l e R s m args below meth c H1 locs1 cells slots Q (F0 m (pc + 3) ls (.int r :: rest))) : W p l e R s m args below meth c H locs cells slots Q (F0 m pc ls (.ref (ad 5) :: rest)) := by
  obtain ⟨r1, h1, hf⟩ := bnd hf
  have hW2 := HB_in (D_now_in hW)
  refine w_Si (As := [.ref (ad 5)]) (rest := rest) (n := 1) (wr := []) FX (mX0_marksOf h1) (va_cwS 1 FX.2.2.2.2 (lw_S q1344 q1345 q123 q1346) rfl rfl rfl (by decide +kernel) hR) rfl hl rfl hrm ⟨Nat.le_trans (Nat.le_of_eq (Nat.add_zero cells)) hcs.1, Nat.le_trans (Nat.le_of_eq (Nat.add_zero slots)) hcs.2⟩ hdg hW2.nil ?_
  exact fun H1 locs1 hW1 => kk r1 H1 locs1 (D_now_outR (HB_out hW1.nil')) hf
set_option maxHeartbeats 4000000 in
set_option maxRecDepth 100000 in
theorem kD_marksOf_tried {t0 : Nat} {ad : Nat → Nat} {B : Bk} {wr : va_W} {α : Type} {q : α} {k : Int32 → Option α} {σ : Dst} (FX : CallFix p m c cc nL s args lw_all RX0) (hR : rX0_marksOf.frames + 1 ≤ R.frames ∧ 8 + (3 + 11) + rX0_marksOf.locals ≤ R.locals) (hcs : cells ≤ R.cells ∧ slots ≤ R.slots) (hl : ls.size = nL) (hrm : (rest.map fun v => v.category).sum ≤ 8) (hW : Wd D dA A s (Dx dA t0 ad B wr σ) H locs) (hf : (fX0_marksOf (tT σ)).bind k = some q) (hdg : decode cc pc = .ok (.invokestatic 255, 3)) (kk : ∀ (r : Int32) (H1 : Heap) (locs1 : List Loc), Wd D dA A s (Dx dA t0 ad B wr σ) H1 locs1 → k r = some q → W p l e R s m args below meth c H1 locs1 cells slots Q (F0 m (pc + 3) ls (.int r :: rest))) : W p l e R s m args below meth c H locs cells slots Q (F0 m pc ls (.ref (ad 7) :: rest)) := by
  obtain ⟨r1, h1, hf⟩ := bnd hf
  have hW2 := HB_in (D_tried_in hW)
  refine w_Si (As := [.ref (ad 7)]) (rest := rest) (n := 1) (wr := []) FX (mX0_marksOf h1) (va_cwS 1 FX.2.2.2.2 (lw_S q1344 q1345 q123 q1346) rfl rfl rfl (by decide +kernel) hR) rfl hl rfl hrm ⟨Nat.le_trans (Nat.le_of_eq (Nat.add_zero cells)) hcs.1, Nat.le_trans (Nat.le_of_eq (Nat.add_zero slots)) hcs.2⟩ hdg hW2.nil ?_
  exact fun H1 locs1 hW1 => kk r1 H1 locs1 (D_tried_outR (HB_out hW1.nil')) hf
/-! TrunkLitters.fading(I)I: kind W -/
def fD_fading (dA : Nat → Nat) (B : Bk) (x1 : Int32) (σ : Dst) : Option (Int32 × Dst) := (fX0_isIn x1 (0 : Int32) (30 : Int32)).bind fun r1 => (if r1 = 0 then some ((-1 : Int32), σ) else (fX3_copy ((tT σ), (tN σ))).bind fun t0 => stp (xN (xT σ t0.1) t0.2) fun s3 => (fX0_marksOf (tN s3)).bind fun r4 => (fD_ahead dA B x1 s3).bind fun s6 => (fX0_marksOf (tT s6)).bind fun r7 => some ((r4 &&& (r7 ^^^ (-1 : Int32))), s6))
abbrev rD_fading : Room := { frames := 69, cells := 0, slots := 0, locals := 2692 }
set_option maxHeartbeats 4000000 in
set_option maxRecDepth 100000 in
theorem mD_fading {t0 : Nat} {ad : Nat → Nat} {B : Bk} {wr : va_W}  {x1 : Int32} {σ : Dst} {q : (Int32 × Dst)} (hf : fD_fading dA B x1 σ = some q) : CtI l yX0_fading cX0_fading 2 (some .int) rD_fading D dA [.ref t0, .int x1] (Dx dA t0 ad B wr σ) q.1 (Dx dA t0 ad B wr q.2) := by
  refine e_I (by decide) (Nat.le_of_ble_eq_true rfl) ?_
  intro p e s m below meth c ls A FX hr hlk hl hW
  have hx := FX.1; have hb := FX.2.1; have hown := FX.2.2.2.1; have hts := FX.2.2.2.2
  have hl : lv_has ls 2 [(0, .ref t0), (1, .int x1)] := hl
  rw [fD_fading] at hf
  refine lv_iload_n hx hb dX0_fading_0 rfl (lv_at hl 1 rfl) ?_
  refine lv_iconst (v := 0) hx hb dX0_fading_1 (by decide) ?_
  refine lv_bipush (v := 30) hx hb dX0_fading_2 (by decide) ?_
  refine kX0_X0_isIn FX ⟨Nat.le_of_ble_eq_true rfl, Nat.le_of_ble_eq_true rfl⟩ ⟨Nat.zero_le _, Nat.zero_le _⟩ hl.1 (Nat.le_of_ble_eq_true rfl) hW hf dX0_fading_4 (fun r1 H locs hW hf => ?_)
  refine lv_if_ne (tgt := 12) hx hb dX0_fading_7 (by decide) (fun c7 => ?_) (fun c7 => ?_)
  · have hf := ifn c7 hf
    refine lv_aload_n hx hb dX0_fading_12 rfl (lv_at hl 0 rfl) ?_
    refine DgX0_0_7 FX hW dX0_fading_13 ?_
    refine lv_aload_n hx hb dX0_fading_16 rfl (lv_at hl 0 rfl) ?_
    refine DgX0_0_5 FX hW dX0_fading_17 ?_
    refine kD_copy_tried_now FX ⟨Nat.le_of_ble_eq_true rfl, Nat.le_of_ble_eq_true rfl⟩ ⟨Nat.zero_le _, Nat.zero_le _⟩ hl.1 (Nat.le_of_ble_eq_true rfl) hW hf dX0_fading_20 (fun s3 H locs hW hf => ?_)
    refine lv_pop hx hb dX0_fading_23 rfl ?_
    refine lv_aload_n hx hb dX0_fading_24 rfl (lv_at hl 0 rfl) ?_
    refine DgX0_0_5 FX hW dX0_fading_25 ?_
    refine kD_marksOf_now FX ⟨Nat.le_of_ble_eq_true rfl, Nat.le_of_ble_eq_true rfl⟩ ⟨Nat.zero_le _, Nat.zero_le _⟩ hl.1 (Nat.le_of_ble_eq_true rfl) hW hf dX0_fading_28 (fun r4 H locs hW hf => ?_)
    refine lv_aload_n hx hb dX0_fading_31 rfl (lv_at hl 0 rfl) ?_
    refine lv_iload_n hx hb dX0_fading_32 rfl (lv_at hl 1 rfl) ?_
    refine kD_ahead FX ⟨Nat.le_of_ble_eq_true rfl, Nat.le_of_ble_eq_true rfl⟩ ⟨Nat.zero_le _, Nat.zero_le _⟩ hl.1 (Nat.le_of_ble_eq_true rfl) hW hf dX0_fading_33 (fun s6 H locs hW hf => ?_)
    refine kD_marksOf_tried FX ⟨Nat.le_of_ble_eq_true rfl, Nat.le_of_ble_eq_true rfl⟩ ⟨Nat.zero_le _, Nat.zero_le _⟩ hl.1 (Nat.le_of_ble_eq_true rfl) hW hf dX0_fading_36 (fun r7 H locs hW hf => ?_)
    refine lv_iconst (v := -1) hx hb dX0_fading_39 (by decide) ?_
    refine lv_ixor hx hb dX0_fading_40 ?_
    refine lv_iand hx hb dX0_fading_41 ?_
    obtain rfl := Option.some.inj hf
    exact g_iret FX hr hlk hW rfl dX0_fading_42
  · have hf := ifp c7 hf
    refine lv_iconst (v := -1) hx hb dX0_fading_10 (by decide) ?_
    obtain rfl := Option.some.inj hf
    exact g_iret FX hr hlk hW rfl dX0_fading_11
theorem DgX0_27_1 {t0 : Nat} {ad : Nat → Nat} {B : Bk} {wr : va_W} {σ : Dst} (FX : CallFix p m c cc nL s args lw_all RX0) (hW : Wd D dA A s (Dx dA t0 ad B wr σ) H locs) (hdg : decode cc pc = .ok (.getfield 183, 3)) (kk : W p l e R s m args below meth c H locs cells slots Q (F0 m (pc + 3) ls (.ref (ad 71) :: rest))) : W p l e R s m args below meth c H locs cells slots Q (F0 m pc ls (.ref (ad 7) :: rest)) :=
  g_get FX hW (C := RX3) (T := TX3) (N := 14) (ci := 3) in_X3 27 rfl rfl 1 (by decide) q274 (fun _ h => h) rfl hdg kk
theorem Dp29 {t0 : Nat} {ad : Nat → Nat} {B : Bk} {wr : va_W} {σ : Dst} : (Dx dA t0 ad B wr σ)[29]? = some ((ad 71), .inl (dA 0, 8, .inl (hA (tT σ) 1))) := rfl
theorem Dt29 {t0 : Nat} {ad : Nat → Nat} {B : Bk} {wr : va_W} {σ : Dst} {i v : Int32} : (Dx dA t0 ad B wr σ).set 29 ((ad 71), .inl (dA 0, 8, .inl (upd (hA (tT σ) 1) i.toNatClampNeg v))) = Dx dA t0 ad B wr (xT σ (uA (tT σ) 1 i v)) := rfl

/-! TrunkLitters.best(II)I: kind W -/
def fD_best_78 (dA : Nat → Nat) (B : Bk) (k27 : Int32 → Int32 → Int32 → Int32 → Int32 → Dst → Option (Int32 × Dst)) (x1 : Int32) (x2 : Int32) (x3 : Int32) (x4 : Int32) (x5 : Int32) (σ : Dst) : Option (Int32 × Dst) := (fX3_copy ((tT σ), (tN σ))).bind fun t0 => stp (xN (xT σ t0.1) t0.2) fun s2 => ast 8 x1 (stp (xT s2 (uA (tT s2) 1 x1 x5)) fun s3 => (fD_ahead dA B (5 : Int32) s3).bind fun s5 => (fJ15_bitCount (hF (tT s5) 8)).bind fun r6 => (if x4 < r6 then k27 x1 x2 x5 r6 (x5 + (1 : Int32)) s5 else k27 x1 x2 x3 x4 (x5 + (1 : Int32)) s5))
def fD_best_27 (dA : Nat → Nat) (B : Bk) : Nat → Int32 → Int32 → Int32 → Int32 → Int32 → Dst → Option (Int32 × Dst)
  | 0, _, _, _, _, _, _ => none
  | n + 1, x1, x2, x3, x4, x5, σ => (fD_rooms dA B σ).bind fun r1 => (if r1 ≤ x5 then (if x2 = 0 then some (x3, σ) else some (x4, σ)) else ald 8 (hA (tN σ) 1) x1 fun v2 => (if x5 = v2 then fD_best_78 dA B (fD_best_27 dA B n) x1 x2 x3 x4 x5 σ else (fHB_left dA B x5 ((tN σ), tU σ)).bind fun r3 => ald 8 (hA (tN σ) 0) x1 fun v4 => (if v4 ≤ r3 then fD_best_78 dA B (fD_best_27 dA B n) x1 x2 x3 x4 x5 σ else fD_best_27 dA B n x1 x2 x3 x4 (x5 + (1 : Int32)) σ)))
def fD_best (dA : Nat → Nat) (B : Bk) (x1 : Int32) (x2 : Int32) (σ : Dst) : Option (Int32 × Dst) := (fD_isTrunk dA B x1 σ).bind fun r1 => (if r1 = 0 then some ((-1 : Int32), σ) else (fX0_isIn x2 (0 : Int32) (1 : Int32)).bind fun r2 => (if r2 = 0 then some ((-1 : Int32), σ) else fD_best_27 dA B FU x1 x2 (-1 : Int32) (-1 : Int32) (0 : Int32) σ))
abbrev rD_best : Room := { frames := 69, cells := 0, slots := 0, locals := 2692 }
set_option maxHeartbeats 4000000 in
set_option maxRecDepth 100000 in
theorem wD_best_78 {t0 : Nat} {ad : Nat → Nat} {B : Bk} {wr : va_W} {q : (Int32 × Dst)} (FX : CallFix p m c cX0_best 7 s args lw_all RX0) (hr : meth.sig.returnType = (some .int)) (hlk : meth.locks = false) {k27 : Int32 → Int32 → Int32 → Int32 → Int32 → Dst → Option (Int32 × Dst)} (hk27 : ∀ (x1 : Int32) (x2 : Int32) (x3 : Int32) (x4 : Int32) (x5 : Int32) (σ : Dst) (H : Heap) (locs : List Loc) (ls : Array Slot), lv_has ls 7 [(0, .ref t0), (1, .int x1), (2, .int x2), (3, .int x3), (4, .int x4), (5, .int x5)] → Wd D dA A s (Dx dA t0 ad B wr σ) H locs → k27 x1 x2 x3 x4 x5 σ = some q → W p l e rD_best s m args below meth c H locs 0 0 (QI D dA A below args s 0 0 q.1 (Dx dA t0 ad B wr q.2)) (F0 m 27 ls [])) : ∀ (x1 : Int32) (x2 : Int32) (x3 : Int32) (x4 : Int32) (x5 : Int32) (σ : Dst) (H : Heap) (locs : List Loc) (ls : Array Slot), lv_has ls 7 [(0, .ref t0), (1, .int x1), (2, .int x2), (3, .int x3), (4, .int x4), (5, .int x5)] → Wd D dA A s (Dx dA t0 ad B wr σ) H locs → fD_best_78 dA B k27 x1 x2 x3 x4 x5 σ = some q → W p l e rD_best s m args below meth c H locs 0 0 (QI D dA A below args s 0 0 q.1 (Dx dA t0 ad B wr q.2)) (F0 m 78 ls []) := by
  have hx := FX.1; have hb := FX.2.1; have hown := FX.2.2.2.1; have hts := FX.2.2.2.2
  intro x1 x2 x3 x4 x5 σ H locs ls hl hW hf
  rw [fD_best_78] at hf
  refine lv_aload_n hx hb dX0_best_78 rfl (lv_at hl 0 rfl) ?_
  refine DgX0_0_7 FX hW dX0_best_79 ?_
  refine lv_aload_n hx hb dX0_best_82 rfl (lv_at hl 0 rfl) ?_
  refine DgX0_0_5 FX hW dX0_best_83 ?_
  refine kD_copy_tried_now FX ⟨Nat.le_of_ble_eq_true rfl, Nat.le_of_ble_eq_true rfl⟩ ⟨Nat.zero_le _, Nat.zero_le _⟩ hl.1 (Nat.le_of_ble_eq_true rfl) hW hf dX0_best_86 (fun s2 H locs hW hf => ?_)
  refine DgX0_27_1 FX hW dX0_best_89 ?_
  refine lv_iload_n hx hb dX0_best_92 rfl (lv_at hl 1 rfl) ?_
  refine lv_iload hx hb dX0_best_93 (lv_at hl 5 rfl) ?_
  refine g_iast FX hW 29 Dp29 (L := Dx dA t0 ad B wr) (Dt29) hf dX0_best_95 (fun s3 H locs hW hf => ?_)
  refine lv_aload_n hx hb dX0_best_96 rfl (lv_at hl 0 rfl) ?_
  refine lv_iconst (v := 5) hx hb dX0_best_97 (by decide) ?_
  refine kD_ahead FX ⟨Nat.le_of_ble_eq_true rfl, Nat.le_of_ble_eq_true rfl⟩ ⟨Nat.zero_le _, Nat.zero_le _⟩ hl.1 (Nat.le_of_ble_eq_true rfl) hW hf dX0_best_98 (fun s5 H locs hW hf => ?_)
  refine DgX0_27_8 FX hW dX0_best_101 ?_
  refine kX0_J15_bitCount FX ⟨Nat.le_of_ble_eq_true rfl, Nat.le_of_ble_eq_true rfl⟩ ⟨Nat.zero_le _, Nat.zero_le _⟩ hl.1 (Nat.le_of_ble_eq_true rfl) hW hf dX0_best_104 (fun r6 H locs hW hf => ?_)
  refine lv_istore (lv' := [(6, .int r6), (0, .ref t0), (1, .int x1), (2, .int x2), (3, .int x3), (4, .int x4), (5, .int x5)]) hx hb dX0_best_107 hl (by decide) rfl (fun ls hl => ?_)
  refine lv_iload hx hb dX0_best_109 (lv_at hl 0 rfl) ?_
  refine lv_iload hx hb dX0_best_111 (lv_at hl 5 rfl) ?_
  refine lv_icmp_gt (tgt := 119) hx hb dX0_best_113 (by decide) (fun c113 => ?_) (fun c113 => ?_)
  · have hf := ifp c113 hf
    refine lv_iload hx hb dX0_best_119 (lv_at hl 6 rfl) ?_
    refine lv_istore_n (lv' := [(3, .int x5), (6, .int r6), (0, .ref t0), (1, .int x1), (2, .int x2), (4, .int x4), (5, .int x5)]) hx hb dX0_best_121 rfl hl (by decide) rfl (fun ls hl => ?_)
    refine lv_iload hx hb dX0_best_122 (lv_at hl 1 rfl) ?_
    refine lv_istore (lv' := [(4, .int r6), (3, .int x5), (6, .int r6), (0, .ref t0), (1, .int x1), (2, .int x2), (5, .int x5)]) hx hb dX0_best_124 hl (by decide) rfl (fun ls hl => ?_)
    refine lv_iinc (v := (x5 + (1 : Int32))) (lv' := [(5, .int (x5 + (1 : Int32))), (4, .int r6), (3, .int x5), (6, .int r6), (0, .ref t0), (1, .int x1), (2, .int x2)]) hx hb dX0_best_126 hl (k := 6) rfl rfl (by decide) rfl (fun ls hl => ?_)
    refine lv_goto (tgt := 27) hx hb dX0_best_129 (by decide) ?_
    exact hk27 x1 x2 x5 r6 (x5 + (1 : Int32)) s5 _ _ _ (lv_sub hl [4, 5, 6, 2, 1, 0] rfl) hW hf
  · have hf := ifn c113 hf
    refine lv_goto (tgt := 126) hx hb dX0_best_116 (by decide) ?_
    refine lv_iinc (v := (x5 + (1 : Int32))) (lv' := [(5, .int (x5 + (1 : Int32))), (6, .int r6), (0, .ref t0), (1, .int x1), (2, .int x2), (3, .int x3), (4, .int x4)]) hx hb dX0_best_126 hl (k := 6) rfl rfl (by decide) rfl (fun ls hl => ?_)
    refine lv_goto (tgt := 27) hx hb dX0_best_129 (by decide) ?_
    exact hk27 x1 x2 x3 x4 (x5 + (1 : Int32)) s5 _ _ _ (lv_sub hl [2, 3, 4, 5, 6, 0] rfl) hW hf
set_option maxHeartbeats 4000000 in
set_option maxRecDepth 100000 in
theorem wD_best_27 {t0 : Nat} {ad : Nat → Nat} {B : Bk} {wr : va_W} {q : (Int32 × Dst)} (FX : CallFix p m c cX0_best 7 s args lw_all RX0) (hr : meth.sig.returnType = (some .int)) (hlk : meth.locks = false) : ∀ n : Nat, ∀ (x1 : Int32) (x2 : Int32) (x3 : Int32) (x4 : Int32) (x5 : Int32) (σ : Dst) (H : Heap) (locs : List Loc) (ls : Array Slot), lv_has ls 7 [(0, .ref t0), (1, .int x1), (2, .int x2), (3, .int x3), (4, .int x4), (5, .int x5)] → Wd D dA A s (Dx dA t0 ad B wr σ) H locs → fD_best_27 dA B n x1 x2 x3 x4 x5 σ = some q → W p l e rD_best s m args below meth c H locs 0 0 (QI D dA A below args s 0 0 q.1 (Dx dA t0 ad B wr q.2)) (F0 m 27 ls []) := by
  have hx := FX.1; have hb := FX.2.1; have hown := FX.2.2.2.1; have hts := FX.2.2.2.2
  intro n
  induction n with
  | zero =>
    intro x1 x2 x3 x4 x5 σ H locs ls hl hW hf
    cases (show (none : Option (Int32 × Dst)) = some q from hf)
  | succ n ih =>
    intro x1 x2 x3 x4 x5 σ H locs ls hl hW hf
    rw [fD_best_27] at hf
    refine lv_iload hx hb dX0_best_27 (lv_at hl 5 rfl) ?_
    refine lv_aload_n hx hb dX0_best_29 rfl (lv_at hl 0 rfl) ?_
    refine kD_rooms FX ⟨Nat.le_of_ble_eq_true rfl, Nat.le_of_ble_eq_true rfl⟩ ⟨Nat.zero_le _, Nat.zero_le _⟩ hl.1 (Nat.le_of_ble_eq_true rfl) hW hf dX0_best_30 (fun r1 H locs hW hf => ?_)
    refine lv_icmp_ge (tgt := 132) hx hb dX0_best_33 (by decide) (fun c33 => ?_) (fun c33 => ?_)
    · have hf := ifp c33 hf
      refine lv_iload_n hx hb dX0_best_132 rfl (lv_at hl 2 rfl) ?_
      refine lv_if_ne (tgt := 140) hx hb dX0_best_133 (by decide) (fun c133 => ?_) (fun c133 => ?_)
      · have hf := ifn c133 hf
        refine lv_iload hx hb dX0_best_140 (lv_at hl 4 rfl) ?_
        obtain rfl := Option.some.inj hf
        exact g_iret FX hr hlk hW rfl dX0_best_142
      · have hf := ifp c133 hf
        refine lv_iload_n hx hb dX0_best_136 rfl (lv_at hl 3 rfl) ?_
        refine lv_goto (tgt := 142) hx hb dX0_best_137 (by decide) ?_
        obtain rfl := Option.some.inj hf
        exact g_iret FX hr hlk hW rfl dX0_best_142
    · have hf := ifn c33 hf
      refine lv_iload hx hb dX0_best_36 (lv_at hl 5 rfl) ?_
      refine lv_aload_n hx hb dX0_best_38 rfl (lv_at hl 0 rfl) ?_
      refine DgX0_0_5 FX hW dX0_best_39 ?_
      refine DgX0_18_1 FX hW dX0_best_42 ?_
      refine lv_iload_n hx hb dX0_best_45 rfl (lv_at hl 1 rfl) ?_
      refine g_iald FX hW 20 Dp20 hf dX0_best_46 (fun v2 hf => ?_)
      refine lv_icmp_eq (tgt := 78) hx hb dX0_best_47 (by decide) (fun c47 => ?_) (fun c47 => ?_)
      · have hf := ifp c47 hf
        exact wD_best_78 FX hr hlk (ih) x1 x2 x3 x4 x5 σ _ _ _ (lv_sub hl [0, 1, 2, 3, 4, 5] rfl) hW hf
      · have hf := ifn c47 hf
        refine lv_aload_n hx hb dX0_best_50 rfl (lv_at hl 0 rfl) ?_
        refine DgX0_0_5 FX hW dX0_best_51 ?_
        refine lv_aload_n hx hb dX0_best_54 rfl (lv_at hl 0 rfl) ?_
        refine DgX0_0_4 FX hW dX0_best_55 ?_
        refine lv_iload hx hb dX0_best_58 (lv_at hl 5 rfl) ?_
        refine kD_now_left FX ⟨Nat.le_of_ble_eq_true rfl, Nat.le_of_ble_eq_true rfl⟩ ⟨Nat.zero_le _, Nat.zero_le _⟩ hl.1 (Nat.le_of_ble_eq_true rfl) hW hf dX0_best_60 (fun r3 H locs hW hf => ?_)
        refine lv_aload_n hx hb dX0_best_63 rfl (lv_at hl 0 rfl) ?_
        refine DgX0_0_5 FX hW dX0_best_64 ?_
        refine DgX0_18_0 FX hW dX0_best_67 ?_
        refine lv_iload_n hx hb dX0_best_70 rfl (lv_at hl 1 rfl) ?_
        refine g_iald FX hW 19 Dp19 hf dX0_best_71 (fun v4 hf => ?_)
        refine lv_icmp_ge (tgt := 78) hx hb dX0_best_72 (by decide) (fun c72 => ?_) (fun c72 => ?_)
        · have hf := ifp c72 hf
          exact wD_best_78 FX hr hlk (ih) x1 x2 x3 x4 x5 σ _ _ _ (lv_sub hl [0, 1, 2, 3, 4, 5] rfl) hW hf
        · have hf := ifn c72 hf
          refine lv_goto (tgt := 126) hx hb dX0_best_75 (by decide) ?_
          refine lv_iinc (v := (x5 + (1 : Int32))) (lv' := [(5, .int (x5 + (1 : Int32))), (0, .ref t0), (1, .int x1), (2, .int x2), (3, .int x3), (4, .int x4)]) hx hb dX0_best_126 hl (k := 5) rfl rfl (by decide) rfl (fun ls hl => ?_)
          refine lv_goto (tgt := 27) hx hb dX0_best_129 (by decide) ?_
          exact ih x1 x2 x3 x4 (x5 + (1 : Int32)) σ _ _ _ (lv_sub hl [1, 2, 3, 4, 5, 0] rfl) hW hf
set_option maxHeartbeats 4000000 in
set_option maxRecDepth 100000 in
theorem mD_best {t0 : Nat} {ad : Nat → Nat} {B : Bk} {wr : va_W}  {x1 : Int32} {x2 : Int32} {σ : Dst} {q : (Int32 × Dst)} (hf : fD_best dA B x1 x2 σ = some q) : CtI l yX0_best cX0_best 7 (some .int) rD_best D dA [.ref t0, .int x1, .int x2] (Dx dA t0 ad B wr σ) q.1 (Dx dA t0 ad B wr q.2) := by
  refine e_I (by decide) (Nat.le_of_ble_eq_true rfl) ?_
  intro p e s m below meth c ls A FX hr hlk hl hW
  have hx := FX.1; have hb := FX.2.1; have hown := FX.2.2.2.1; have hts := FX.2.2.2.2
  have hl : lv_has ls 7 [(0, .ref t0), (1, .int x1), (2, .int x2)] := hl
  rw [fD_best] at hf
  refine lv_aload_n hx hb dX0_best_0 rfl (lv_at hl 0 rfl) ?_
  refine lv_iload_n hx hb dX0_best_1 rfl (lv_at hl 1 rfl) ?_
  refine kD_isTrunk FX ⟨Nat.le_of_ble_eq_true rfl, Nat.le_of_ble_eq_true rfl⟩ ⟨Nat.zero_le _, Nat.zero_le _⟩ hl.1 (Nat.le_of_ble_eq_true rfl) hW hf dX0_best_2 (fun r1 H locs hW hf => ?_)
  refine lv_if_eq (tgt := 17) hx hb dX0_best_5 (by decide) (fun c5 => ?_) (fun c5 => ?_)
  · have hf := ifp c5 hf
    refine lv_iconst (v := -1) hx hb dX0_best_17 (by decide) ?_
    obtain rfl := Option.some.inj hf
    exact g_iret FX hr hlk hW rfl dX0_best_18
  · have hf := ifn c5 hf
    refine lv_iload_n hx hb dX0_best_8 rfl (lv_at hl 2 rfl) ?_
    refine lv_iconst (v := 0) hx hb dX0_best_9 (by decide) ?_
    refine lv_iconst (v := 1) hx hb dX0_best_10 (by decide) ?_
    refine kX0_X0_isIn FX ⟨Nat.le_of_ble_eq_true rfl, Nat.le_of_ble_eq_true rfl⟩ ⟨Nat.zero_le _, Nat.zero_le _⟩ hl.1 (Nat.le_of_ble_eq_true rfl) hW hf dX0_best_11 (fun r2 H locs hW hf => ?_)
    refine lv_if_ne (tgt := 19) hx hb dX0_best_14 (by decide) (fun c14 => ?_) (fun c14 => ?_)
    · have hf := ifn c14 hf
      refine lv_iconst (v := -1) hx hb dX0_best_19 (by decide) ?_
      refine lv_istore_n (lv' := [(3, .int (-1 : Int32)), (0, .ref t0), (1, .int x1), (2, .int x2)]) hx hb dX0_best_20 rfl hl (by decide) rfl (fun ls hl => ?_)
      refine lv_iconst (v := -1) hx hb dX0_best_21 (by decide) ?_
      refine lv_istore (lv' := [(4, .int (-1 : Int32)), (3, .int (-1 : Int32)), (0, .ref t0), (1, .int x1), (2, .int x2)]) hx hb dX0_best_22 hl (by decide) rfl (fun ls hl => ?_)
      refine lv_iconst (v := 0) hx hb dX0_best_24 (by decide) ?_
      refine lv_istore (lv' := [(5, .int (0 : Int32)), (4, .int (-1 : Int32)), (3, .int (-1 : Int32)), (0, .ref t0), (1, .int x1), (2, .int x2)]) hx hb dX0_best_25 hl (by decide) rfl (fun ls hl => ?_)
      exact wD_best_27 FX hr hlk _ x1 x2 (-1 : Int32) (-1 : Int32) (0 : Int32) σ _ _ _ (lv_sub hl [3, 4, 5, 2, 1, 0] rfl) hW hf
    · have hf := ifp c14 hf
      refine lv_iconst (v := -1) hx hb dX0_best_17 (by decide) ?_
      obtain rfl := Option.some.inj hf
      exact g_iret FX hr hlk hW rfl dX0_best_18
end D00
