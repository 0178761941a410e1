section PM
variable {p : Program} {l : Launch} {e : Env} {R : Room} {s : State} {m : MethodId} {args : Array Value} {below : List Frame} {meth : Method} {c : Code} {H : Heap} {locs : List Loc} {cells slots : Nat} {Q : State → Prop}
variable {cc : ByteArray} {pc nL : Nat} {ls : Array Slot} {rest : List Value} {D : va_G} {dA : Nat → ClassId} {A : Nat → Prop}


/-! TrunkLitters.isBox(I)Z: kind S -/
def fX0_isBox (x0 : Int32) : Option Int32 := (fX0_isIn x0 (0 : Int32) (2 : Int32)).bind fun r1 => zrt r1 r1
abbrev rX0_isBox : Room := { frames := 1, cells := 0, slots := 0, locals := 22 }
set_option maxHeartbeats 4000000 in
set_option maxRecDepth 100000 in
theorem mX0_isBox  {x0 : Int32} {q : Int32} (hf : fX0_isBox x0 = some q) : CtI l yX0_isBox cX0_isBox 1 (some .boolean) rX0_isBox D dA [.int x0] [] q [] := by
  refine e_I (by decide) (Nat.le_of_ble_eq_true rfl) ?_
  intro p e s m below meth c ls A FX hr hlk hl hW
  have hx := FX.1; have hb := FX.2.1; have hown := FX.2.2.2.1; have hts := FX.2.2.2.2
  have hl : lv_has ls 1 [(0, .int x0)] := hl
  rw [fX0_isBox] at hf
  refine lv_iload_n hx hb dX0_isBox_0 rfl (lv_at hl 0 rfl) ?_
  refine lv_iconst (v := 0) hx hb dX0_isBox_1 (by decide) ?_
  refine lv_iconst (v := 2) hx hb dX0_isBox_2 (by decide) ?_
  refine kX0_X0_isIn FX ⟨Nat.le_of_ble_eq_true rfl, Nat.le_of_ble_eq_true rfl⟩ ⟨Nat.zero_le _, Nat.zero_le _⟩ hl.1 (Nat.le_of_ble_eq_true rfl) hW hf dX0_isBox_3 (fun r1 H locs hW hf => ?_)
  exact g_zret FX hr hlk hW (zrt_some hf).1 (zrt_some hf).2 dX0_isBox_6
theorem Pd_in {t0 : Nat} {ad : Nat → Nat} {B : Bk} {ha : Nat → Nat} {hz : Nat → Nat → Nat} {wr : va_W} {σ : Pst} (hW : Wd D dA A s (Px dA t0 ad B ha hz wr σ) H locs) : Wd D dA A s (Dx dA t0 ad B (Wc dA ad ha hz wr σ.2) σ.1) H locs := hW
theorem Pd_out {t0 : Nat} {ad : Nat → Nat} {B : Bk} {ha : Nat → Nat} {hz : Nat → Nat → Nat} {wr : va_W} {σ : Dst} {ρ : (Nat → Option Nat) × (Nat → Hst)} (hW : Wd D dA A s (Dx dA t0 ad B (Wc dA ad ha hz wr ρ) σ) H locs) : Wd D dA A s (Px dA t0 ad B ha hz wr (σ, ρ)) H locs := hW
theorem Pd_outR {t0 : Nat} {ad : Nat → Nat} {B : Bk} {ha : Nat → Nat} {hz : Nat → Nat → Nat} {wr : va_W} {σ : Pst} (hW : Wd D dA A s (Dx dA t0 ad B (Wc dA ad ha hz wr σ.2) σ.1) H locs) : Wd D dA A s (Px dA t0 ad B ha hz wr σ) H locs := hW
theorem PgX0_0_9 {t0 : Nat} {ad : Nat → Nat} {B : Bk} {ha : Nat → Nat} {hz : Nat → Nat → Nat} {wr : va_W} {σ : Pst} (FX : CallFix p m c cc nL s args lw_all RX0) (hW : Wd D dA A s (Px dA t0 ad B ha hz wr σ) H locs) (hdg : decode cc pc = .ok (.getfield 69, 3)) (kk : W p l e R s m args below meth c H locs cells slots Q (F0 m (pc + 3) ls (.ref (ad 9) :: rest))) : W p l e R s m args below meth c H locs cells slots Q (F0 m pc ls (.ref t0 :: rest)) :=
  g_get FX hW (C := RX0) (T := TX0) (N := 26) (ci := 0) in_X0 0 rfl rfl 9 (by decide) q376 (fun _ h => h) rfl hdg kk
theorem PgX0_0_10 {t0 : Nat} {ad : Nat → Nat} {B : Bk} {ha : Nat → Nat} {hz : Nat → Nat → Nat} {wr : va_W} {σ : Pst} (FX : CallFix p m c cc nL s args lw_all RX0) (hW : Wd D dA A s (Px dA t0 ad B ha hz wr σ) H locs) (hdg : decode cc pc = .ok (.getfield 123, 3)) (kk : W p l e R s m args below meth c H locs cells slots Q (F0 m (pc + 3) ls (.int (tF σ.1 10) :: rest))) : W p l e R s m args below meth c H locs cells slots Q (F0 m pc ls (.ref t0 :: rest)) :=
  g_get FX hW (C := RX0) (T := TX0) (N := 26) (ci := 0) in_X0 0 rfl rfl 10 (by decide) q377 (fun _ h => h) rfl hdg kk
theorem PgX0_0_5 {t0 : Nat} {ad : Nat → Nat} {B : Bk} {ha : Nat → Nat} {hz : Nat → Nat → Nat} {wr : va_W} {σ : Pst} (FX : CallFix p m c cc nL s args lw_all RX0) (hW : Wd D dA A s (Px dA t0 ad B ha hz wr σ) H locs) (hdg : decode cc pc = .ok (.getfield 59, 3)) (kk : W p l e R s m args below meth c H locs cells slots Q (F0 m (pc + 3) ls (.ref (ad 5) :: rest))) : W p l e R s m args below meth c H locs cells slots Q (F0 m pc ls (.ref t0 :: rest)) :=
  g_get FX hW (C := RX0) (T := TX0) (N := 26) (ci := 0) in_X0 0 rfl rfl 5 (by decide) q371 (fun _ h => h) rfl hdg kk
theorem PsX0_0_10 {t0 : Nat} {ad : Nat → Nat} {B : Bk} {ha : Nat → Nat} {hz : Nat → Nat → Nat} {wr : va_W} {σ : Pst} {α : Type} {q : α} {v : Int32} {k : Pst → Option α} (FX : CallFix p m c cc nL s args lw_all RX0) (hW : Wd D dA A s (Px dA t0 ad B ha hz wr σ) H locs) (hf : stp ((xF σ.1 10 v, σ.2)) k = some q) (hdg : decode cc pc = .ok (.putfield 123, 3)) (kk : ∀ (σ1 : Pst) (H1 : Heap) (locs1 : List Loc), Wd D dA A s (Px dA t0 ad B ha hz wr σ1) H1 locs1 → k σ1 = some q → W p l e R s m args below meth c H1 locs1 cells slots Q (F0 m (pc + 3) ls rest)) : W p l e R s m args below meth c H locs cells slots Q (F0 m pc ls (.int v :: .ref t0 :: rest)) :=
  g_put FX hW (C := RX0) (T := TX0) (N := 26) (ci := 0) (ty := .int) in_X0 tyX0 tyX0_ok nmX0 0 rfl rfl 10 (by decide) q377 (fun _ h => h) rfl (by decide +kernel) rfl rfl (Nat.le_of_ble_eq_true rfl) (ws' := Px dA t0 ad B ha hz wr ((xF σ.1 10 v, σ.2))) rfl hdg (fun H1 locs1 hW1 => kk _ H1 locs1 hW1 hf)
theorem PsX0_0_11 {t0 : Nat} {ad : Nat → Nat} {B : Bk} {ha : Nat → Nat} {hz : Nat → Nat → Nat} {wr : va_W} {σ : Pst} {α : Type} {q : α} {v : Int32} {k : Pst → Option α} (FX : CallFix p m c cc nL s args lw_all RX0) (hW : Wd D dA A s (Px dA t0 ad B ha hz wr σ) H locs) (hf : stp ((xF σ.1 11 v, σ.2)) k = some q) (hdg : decode cc pc = .ok (.putfield 126, 3)) (kk : ∀ (σ1 : Pst) (H1 : Heap) (locs1 : List Loc), Wd D dA A s (Px dA t0 ad B ha hz wr σ1) H1 locs1 → k σ1 = some q → W p l e R s m args below meth c H1 locs1 cells slots Q (F0 m (pc + 3) ls rest)) : W p l e R s m args below meth c H locs cells slots Q (F0 m pc ls (.int v :: .ref t0 :: rest)) :=
  g_put FX hW (C := RX0) (T := TX0) (N := 26) (ci := 0) (ty := .int) in_X0 tyX0 tyX0_ok nmX0 0 rfl rfl 11 (by decide) q378 (fun _ h => h) rfl (by decide +kernel) rfl rfl (Nat.le_of_ble_eq_true rfl) (ws' := Px dA t0 ad B ha hz wr ((xF σ.1 11 v, σ.2))) rfl hdg (fun H1 locs1 hW1 => kk _ H1 locs1 hW1 hf)
set_option maxHeartbeats 4000000 in
set_option maxRecDepth 100000 in
theorem kP_copy_pn {t0 : Nat} {ad : Nat → Nat} {B : Bk} {ha : Nat → Nat} {hz : Nat → Nat → Nat} {wr : va_W} {α : Type} {q : α} {k : Pst → Option α} {x : Nat} {σ : Pst} (FX : CallFix p m c cc nL s args lw_all RX0) (hR : rX3_copy.frames + 1 ≤ R.frames ∧ 8 + (2 + 11) + rX3_copy.locals ≤ R.locals) (hcs : cells ≤ R.cells ∧ slots ≤ R.slots) (hl : ls.size = nL) (hrm : (rest.map fun v => v.category).sum ≤ 8) (hW : Wd D dA A s (Px dA t0 ad B ha hz wr σ) H locs) (hf : hpk ha x (fun i9 => (fX3_copy (σ.2.2 i9, tN σ.1)).bind (fun t9 => stp (xN σ.1 t9.2, σ.2.1, va_up σ.2.2 i9 t9.1) k)) = some q) (hdg : decode cc pc = .ok (.invokevirtual 219, 3)) (kk : ∀ (σ1 : Pst) (H1 : Heap) (locs1 : List Loc), Wd D dA A s (Px dA t0 ad B ha hz wr σ1) H1 locs1 → k σ1 = some q → W p l e R s m args below meth c H1 locs1 cells slots Q (F0 m (pc + 3) ls (.ref x :: rest))) : W p l e R s m args below meth c H locs cells slots Q (F0 m pc ls (.ref (ad 5) :: .ref x :: rest)) := by
  obtain ⟨i9, hi9, hx, -, hf9⟩ := hpk_some hf
  clear hf
  subst hx
  have hf := hf9
  obtain ⟨r1, h1, hf⟩ := bnd hf
  have hW2 := P_pn_in hi9 hW
  refine w_VR (C := RX3) (As := [.ref (ad 5)]) (rest := rest) (n := 1) (wr := []) FX (mX3_copy h1) (cwV 1 FX.2.2.2.2 (lw_V q1273 q1274 q1275 q129 q1276) rfl rfl rfl (by decide +kernel) hR) (va_recv hW2.2.2.2.1 hW2.1 (ci := 3) (q0 := 0) rfl rfl) rfl hl rfl hrm ⟨Nat.le_trans (Nat.le_of_eq (Nat.add_zero cells)) hcs.1, Nat.le_trans (Nat.le_of_eq (Nat.add_zero slots)) hcs.2⟩ hdg hW2.nil ?_
  exact fun H1 locs1 hW1 => kk _ H1 locs1 (P_pn_out hi9 hW1.nil') hf
/-! TrunkLitters.act()V: kind W -/
def fP_act_49 (dA : Nat → Nat) (B : Bk) (ha : Nat → Nat) (σ : Pst) : Option Pst := qald 40 σ.2.1 (tF σ.1 10) fun a1 => hpk ha a1 fun i9 => (fX3_copy (σ.2.2 i9, tN σ.1)).bind fun t9 => stp (xN σ.1 t9.2, σ.2.1, va_up σ.2.2 i9 t9.1) fun s2 => stp ((xF s2.1 10 ((tF s2.1 10) + (1 : Int32)), s2.2)) fun s3 => stp ((xF s3.1 11 (0 : Int32), s3.2)) fun s4 => some s4
def fP_act (dA : Nat → Nat) (B : Bk) (ha : Nat → Nat) (σ : Pst) : Option Pst := (if (tF σ.1 10) = (40 : Int32) then qald 40 σ.2.1 (0 : Int32) fun a1 => wck ha σ.2.1 (stp (σ.1, va_cpy σ.2.1 σ.2.1 1 0 39, σ.2.2) fun s2 => hpk ha a1 fun _ => ast 40 (39 : Int32) (stp (s2.1, va_up s2.2.1 ((39 : Int32)).toNatClampNeg (some a1), s2.2.2) fun s3 => stp ((xF s3.1 10 ((tF s3.1 10) - (1 : Int32)), s3.2)) fun s4 => fP_act_49 dA B ha s4)) else fP_act_49 dA B ha σ)
abbrev rP_act : Room := { frames := 2, cells := 0, slots := 0, locals := 47 }
set_option maxHeartbeats 4000000 in
set_option maxRecDepth 100000 in
theorem wP_act_49 {t0 : Nat} {ad : Nat → Nat} {B : Bk} {ha : Nat → Nat} {hz : Nat → Nat → Nat} {wr : va_W} {q : Pst} (FX : CallFix p m c cX0_act 2 s args lw_all RX0) (hr : meth.sig.returnType = none) (hlk : meth.locks = false) : ∀ (σ : Pst) (H : Heap) (locs : List Loc) (ls : Array Slot), lv_has ls 2 [(0, .ref t0)] → Wd D dA A s (Px dA t0 ad B ha hz wr σ) H locs → fP_act_49 dA B ha σ = some q → W p l e rP_act s m args below meth c H locs 0 0 (QV D dA A below args s 0 0 (Px dA t0 ad B ha hz wr q)) (F0 m 49 ls []) := by
  have hx := FX.1; have hb := FX.2.1; have hown := FX.2.2.2.1; have hts := FX.2.2.2.2
  intro σ H locs ls hl hW hf
  rw [fP_act_49] at hf
  refine lv_aload_n hx hb dX0_act_49 rfl (lv_at hl 0 rfl) ?_
  refine PgX0_0_9 FX hW dX0_act_50 ?_
  refine lv_aload_n hx hb dX0_act_53 rfl (lv_at hl 0 rfl) ?_
  refine PgX0_0_10 FX hW dX0_act_54 ?_
  refine Pwere FX hW hf dX0_act_57 (fun a1 hf => ?_)
  refine lv_aload_n hx hb dX0_act_58 rfl (lv_at hl 0 rfl) ?_
  refine PgX0_0_5 FX hW dX0_act_59 ?_
  refine kP_copy_pn FX ⟨Nat.le_of_ble_eq_true rfl, Nat.le_of_ble_eq_true rfl⟩ ⟨Nat.zero_le _, Nat.zero_le _⟩ hl.1 (Nat.le_of_ble_eq_true rfl) hW hf dX0_act_62 (fun s2 H locs hW hf => ?_)
  refine lv_pop hx hb dX0_act_65 rfl ?_
  refine lv_aload_n hx hb dX0_act_66 rfl (lv_at hl 0 rfl) ?_
  refine lv_dup hx hb dX0_act_67 rfl ?_
  refine PgX0_0_10 FX hW dX0_act_68 ?_
  refine lv_iconst (v := 1) hx hb dX0_act_71 (by decide) ?_
  refine lv_iadd hx hb dX0_act_72 ?_
  refine PsX0_0_10 FX hW hf dX0_act_73 (fun s3 H locs hW hf => ?_)
  refine lv_aload_n hx hb dX0_act_76 rfl (lv_at hl 0 rfl) ?_
  refine lv_iconst (v := 0) hx hb dX0_act_77 (by decide) ?_
  refine PsX0_0_11 FX hW hf dX0_act_78 (fun s4 H locs hW hf => ?_)
  obtain rfl := Option.some.inj hf
  exact g_vret FX hr hlk hW dX0_act_81
set_option maxHeartbeats 4000000 in
set_option maxRecDepth 100000 in
theorem mP_act {t0 : Nat} {ad : Nat → Nat} {B : Bk} {ha : Nat → Nat} {hz : Nat → Nat → Nat} {wr : va_W}  {σ : Pst} {q : Pst} (hf : fP_act dA B ha σ = some q) : CtV l yX0_act cX0_act 2 none rP_act D dA [.ref t0] (Px dA t0 ad B ha hz wr σ) (Px dA t0 ad B ha hz wr q) := by
  refine e_V (by decide) (Nat.le_of_ble_eq_true rfl) ?_
  intro p e s m below meth c ls A FX hr hlk hl hW
  have hx := FX.1; have hb := FX.2.1; have hown := FX.2.2.2.1; have hts := FX.2.2.2.2
  have hl : lv_has ls 2 [(0, .ref t0)] := hl
  rw [fP_act] at hf
  refine lv_aload_n hx hb dX0_act_0 rfl (lv_at hl 0 rfl) ?_
  refine PgX0_0_10 FX hW dX0_act_1 ?_
  refine lv_bipush (v := 40) hx hb dX0_act_4 (by decide) ?_
  refine lv_icmp_ne (tgt := 49) hx hb dX0_act_6 (by decide) (fun c6 => ?_) (fun c6 => ?_)
  · have hf := ifn c6 hf
    exact wP_act_49 FX hr hlk σ _ _ _ (lv_sub hl [0] rfl) hW hf
  · have hf := ifp c6 hf
    refine lv_aload_n hx hb dX0_act_9 rfl (lv_at hl 0 rfl) ?_
    refine PgX0_0_9 FX hW dX0_act_10 ?_
    refine lv_iconst (v := 0) hx hb dX0_act_13 (by decide) ?_
    refine Pwere FX hW hf dX0_act_14 (fun a1 hf => ?_)
    refine lv_astore_n (lv' := [(1, .ref a1), (0, .ref t0)]) hx hb dX0_act_15 rfl hl (by decide) rfl (fun ls hl => ?_)
    refine lv_aload_n hx hb dX0_act_16 rfl (lv_at hl 1 rfl) ?_
    refine PgX0_0_9 FX hW dX0_act_17 ?_
    refine lv_iconst (v := 1) hx hb dX0_act_20 (by decide) ?_
    refine lv_aload_n hx hb dX0_act_21 rfl (lv_at hl 1 rfl) ?_
    refine PgX0_0_9 FX hW dX0_act_22 ?_
    refine lv_iconst (v := 0) hx hb dX0_act_25 (by decide) ?_
    refine lv_bipush (v := 39) hx hb dX0_act_26 (by decide) ?_
    refine Pcopy FX hl.1 hW q1272 ⟨Nat.le_of_ble_eq_true rfl, Nat.le_of_ble_eq_true rfl⟩ (Nat.le_of_ble_eq_true rfl) hf dX0_act_28 (fun s2 H locs hW hf => ?_)
    refine lv_aload_n hx hb dX0_act_31 rfl (lv_at hl 1 rfl) ?_
    refine PgX0_0_9 FX hW dX0_act_32 ?_
    refine lv_bipush (v := 39) hx hb dX0_act_35 (by decide) ?_
    refine lv_aload_n hx hb dX0_act_37 rfl (lv_at hl 0 rfl) ?_
    refine Past FX hW hf dX0_act_38 (fun s3 H locs hW hf => ?_)
    refine lv_aload_n hx hb dX0_act_39 rfl (lv_at hl 1 rfl) ?_
    refine lv_dup hx hb dX0_act_40 rfl ?_
    refine PgX0_0_10 FX hW dX0_act_41 ?_
    refine lv_iconst (v := 1) hx hb dX0_act_44 (by decide) ?_
    refine lv_isub hx hb dX0_act_45 ?_
    refine PsX0_0_10 FX hW hf dX0_act_46 (fun s4 H locs hW hf => ?_)
    exact wP_act_49 FX hr hlk s4 _ _ _ (lv_sub hl [1] rfl) hW hf
theorem PgX0_0_6 {t0 : Nat} {ad : Nat → Nat} {B : Bk} {ha : Nat → Nat} {hz : Nat → Nat → Nat} {wr : va_W} {σ : Pst} (FX : CallFix p m c cc nL s args lw_all RX0) (hW : Wd D dA A s (Px dA t0 ad B ha hz wr σ) H locs) (hdg : decode cc pc = .ok (.getfield 63, 3)) (kk : W p l e R s m args below meth c H locs cells slots Q (F0 m (pc + 3) ls (.ref (ad 6) :: rest))) : W p l e R s m args below meth c H locs cells slots Q (F0 m pc ls (.ref t0 :: rest)) :=
  g_get FX hW (C := RX0) (T := TX0) (N := 26) (ci := 0) in_X0 0 rfl rfl 6 (by decide) q372 (fun _ h => h) rfl hdg kk
set_option maxHeartbeats 4000000 in
set_option maxRecDepth 100000 in
theorem kP_copy_sp {t0 : Nat} {ad : Nat → Nat} {B : Bk} {ha : Nat → Nat} {hz : Nat → Nat → Nat} {wr : va_W} {α : Type} {q : α} {k : Pst → Option α} {x : Nat} {σ : Pst} (FX : CallFix p m c cc nL s args lw_all RX0) (hR : rX3_copy.frames + 1 ≤ R.frames ∧ 8 + (2 + 11) + rX3_copy.locals ≤ R.locals) (hcs : cells ≤ R.cells ∧ slots ≤ R.slots) (hl : ls.size = nL) (hrm : (rest.map fun v => v.category).sum ≤ 8) (hW : Wd D dA A s (Px dA t0 ad B ha hz wr σ) H locs) (hf : hpk ha x (fun i9 => (fX3_copy (tS σ.1, σ.2.2 i9)).bind (fun t9 => stp (xS σ.1 t9.1, σ.2.1, va_up σ.2.2 i9 t9.2) k)) = some q) (hdg : decode cc pc = .ok (.invokevirtual 219, 3)) (kk : ∀ (σ1 : Pst) (H1 : Heap) (locs1 : List Loc), Wd D dA A s (Px dA t0 ad B ha hz wr σ1) H1 locs1 → k σ1 = some q → W p l e R s m args below meth c H1 locs1 cells slots Q (F0 m (pc + 3) ls (.ref (ad 6) :: rest))) : W p l e R s m args below meth c H locs cells slots Q (F0 m pc ls (.ref x :: .ref (ad 6) :: rest)) := by
  obtain ⟨i9, hi9, hx, -, hf9⟩ := hpk_some hf
  clear hf
  subst hx
  have hf := hf9
  obtain ⟨r1, h1, hf⟩ := bnd hf
  have hW2 := P_sp_in hi9 hW
  refine w_VR (C := RX3) (As := [.ref (ha i9)]) (rest := rest) (n := 1) (wr := []) FX (mX3_copy h1) (cwV 1 FX.2.2.2.2 (lw_V q1273 q1274 q1275 q129 q1276) rfl rfl rfl (by decide +kernel) hR) (va_recv hW2.2.2.2.1 hW2.1 (ci := 3) (q0 := 0) rfl rfl) rfl hl rfl hrm ⟨Nat.le_trans (Nat.le_of_eq (Nat.add_zero cells)) hcs.1, Nat.le_trans (Nat.le_of_eq (Nat.add_zero slots)) hcs.2⟩ hdg hW2.nil ?_
  exact fun H1 locs1 hW1 => kk _ H1 locs1 (P_sp_out hi9 hW1.nil') hf
set_option maxHeartbeats 4000000 in
set_option maxRecDepth 100000 in
theorem kP_copy_ns {t0 : Nat} {ad : Nat → Nat} {B : Bk} {ha : Nat → Nat} {hz : Nat → Nat → Nat} {wr : va_W} {α : Type} {q : α} {k : Pst → Option α} {σ : Pst} (FX : CallFix p m c cc nL s args lw_all RX0) (hR : rX3_copy.frames + 1 ≤ R.frames ∧ 8 + (2 + 11) + rX3_copy.locals ≤ R.locals) (hcs : cells ≤ R.cells ∧ slots ≤ R.slots) (hl : ls.size = nL) (hrm : (rest.map fun v => v.category).sum ≤ 8) (hW : Wd D dA A s (Px dA t0 ad B ha hz wr σ) H locs) (hf : (fX3_copy (tN σ.1, tS σ.1)).bind (fun t9 => stp (xS (xN σ.1 t9.1) t9.2, σ.2) k) = some q) (hdg : decode cc pc = .ok (.invokevirtual 219, 3)) (kk : ∀ (σ1 : Pst) (H1 : Heap) (locs1 : List Loc), Wd D dA A s (Px dA t0 ad B ha hz wr σ1) H1 locs1 → k σ1 = some q → W p l e R s m args below meth c H1 locs1 cells slots Q (F0 m (pc + 3) ls (.ref (ad 5) :: rest))) : W p l e R s m args below meth c H locs cells slots Q (F0 m pc ls (.ref (ad 6) :: .ref (ad 5) :: rest)) := by
  obtain ⟨r1, h1, hf⟩ := bnd hf
  have hW2 := P_ns_in hW
  refine w_VR (C := RX3) (As := [.ref (ad 6)]) (rest := rest) (n := 1) (wr := []) FX (mX3_copy h1) (cwV 1 FX.2.2.2.2 (lw_V q1273 q1274 q1275 q129 q1276) rfl rfl rfl (by decide +kernel) hR) (va_recv hW2.2.2.2.1 hW2.1 (ci := 3) (q0 := 0) rfl rfl) rfl hl rfl hrm ⟨Nat.le_trans (Nat.le_of_eq (Nat.add_zero cells)) hcs.1, Nat.le_trans (Nat.le_of_eq (Nat.add_zero slots)) hcs.2⟩ hdg hW2.nil ?_
  exact fun H1 locs1 hW1 => kk _ H1 locs1 (P_ns_out hW1.nil') hf
/-! TrunkLitters.turnAbout(LTrunkLitters$House;)V: kind W -/
def fP_turnAbout (dA : Nat → Nat) (B : Bk) (ha : Nat → Nat) (p1 : Nat) (σ : Pst) : Option Pst := hpk ha p1 fun i9 => (fX3_copy (tS σ.1, σ.2.2 i9)).bind fun t9 => stp (xS σ.1 t9.1, σ.2.1, va_up σ.2.2 i9 t9.2) fun s1 => hpk ha p1 fun i9 => (fX3_copy (s1.2.2 i9, tN s1.1)).bind fun t9 => stp (xN s1.1 t9.2, s1.2.1, va_up s1.2.2 i9 t9.1) fun s2 => (fX3_copy (tN s2.1, tS s2.1)).bind fun t9 => stp (xS (xN s2.1 t9.1) t9.2, s2.2) fun s3 => some s3
abbrev rP_turnAbout : Room := { frames := 2, cells := 0, slots := 0, locals := 47 }
set_option maxHeartbeats 4000000 in
set_option maxRecDepth 100000 in
theorem mP_turnAbout {t0 : Nat} {ad : Nat → Nat} {B : Bk} {ha : Nat → Nat} {hz : Nat → Nat → Nat} {wr : va_W}  {p1 : Nat} {σ : Pst} {q : Pst} (hf : fP_turnAbout dA B ha p1 σ = some q) : CtV l yX0_turnAbout cX0_turnAbout 2 none rP_turnAbout D dA [.ref t0, .ref p1] (Px dA t0 ad B ha hz wr σ) (Px dA t0 ad B ha hz wr q) := by
  refine e_V (by decide) (Nat.le_of_ble_eq_true rfl) ?_
  intro p e s m below meth c ls A FX hr hlk hl hW
  have hx := FX.1; have hb := FX.2.1; have hown := FX.2.2.2.1; have hts := FX.2.2.2.2
  have hl : lv_has ls 2 [(0, .ref t0), (1, .ref p1)] := hl
  rw [fP_turnAbout] at hf
  refine lv_aload_n hx hb dX0_turnAbout_0 rfl (lv_at hl 0 rfl) ?_
  refine PgX0_0_6 FX hW dX0_turnAbout_1 ?_
  refine lv_aload_n hx hb dX0_turnAbout_4 rfl (lv_at hl 1 rfl) ?_
  refine kP_copy_sp FX ⟨Nat.le_of_ble_eq_true rfl, Nat.le_of_ble_eq_true rfl⟩ ⟨Nat.zero_le _, Nat.zero_le _⟩ hl.1 (Nat.le_of_ble_eq_true rfl) hW hf dX0_turnAbout_5 (fun s1 H locs hW hf => ?_)
  refine lv_pop hx hb dX0_turnAbout_8 rfl ?_
  refine lv_aload_n hx hb dX0_turnAbout_9 rfl (lv_at hl 1 rfl) ?_
  refine lv_aload_n hx hb dX0_turnAbout_10 rfl (lv_at hl 0 rfl) ?_
  refine PgX0_0_5 FX hW dX0_turnAbout_11 ?_
  refine kP_copy_pn FX ⟨Nat.le_of_ble_eq_true rfl, Nat.le_of_ble_eq_true rfl⟩ ⟨Nat.zero_le _, Nat.zero_le _⟩ hl.1 (Nat.le_of_ble_eq_true rfl) hW hf dX0_turnAbout_14 (fun s2 H locs hW hf => ?_)
  refine lv_pop hx hb dX0_turnAbout_17 rfl ?_
  refine lv_aload_n hx hb dX0_turnAbout_18 rfl (lv_at hl 0 rfl) ?_
  refine PgX0_0_5 FX hW dX0_turnAbout_19 ?_
  refine lv_aload_n hx hb dX0_turnAbout_22 rfl (lv_at hl 0 rfl) ?_
  refine PgX0_0_6 FX hW dX0_turnAbout_23 ?_
  refine kP_copy_ns FX ⟨Nat.le_of_ble_eq_true rfl, Nat.le_of_ble_eq_true rfl⟩ ⟨Nat.zero_le _, Nat.zero_le _⟩ hl.1 (Nat.le_of_ble_eq_true rfl) hW hf dX0_turnAbout_26 (fun s3 H locs hW hf => ?_)
  refine lv_pop hx hb dX0_turnAbout_29 rfl ?_
  obtain rfl := Option.some.inj hf
  exact g_vret FX hr hlk hW dX0_turnAbout_30
theorem PgX0_18_10 {t0 : Nat} {ad : Nat → Nat} {B : Bk} {ha : Nat → Nat} {hz : Nat → Nat → Nat} {wr : va_W} {σ : Pst} (FX : CallFix p m c cc nL s args lw_all RX0) (hW : Wd D dA A s (Px dA t0 ad B ha hz wr σ) H locs) (hdg : decode cc pc = .ok (.getfield 223, 3)) (kk : W p l e R s m args below meth c H locs cells slots Q (F0 m (pc + 3) ls (.int (hF (tN σ.1) 10) :: rest))) : W p l e R s m args below meth c H locs cells slots Q (F0 m pc ls (.ref (ad 5) :: rest)) :=
  g_get FX hW (C := RX3) (T := TX3) (N := 14) (ci := 3) in_X3 18 rfl rfl 10 (by decide) q292 (fun _ h => h) rfl hdg kk
theorem PgX0_0_4 {t0 : Nat} {ad : Nat → Nat} {B : Bk} {ha : Nat → Nat} {hz : Nat → Nat → Nat} {wr : va_W} {σ : Pst} (FX : CallFix p m c cc nL s args lw_all RX0) (hW : Wd D dA A s (Px dA t0 ad B ha hz wr σ) H locs) (hdg : decode cc pc = .ok (.getfield 48, 3)) (kk : W p l e R s m args below meth c H locs cells slots Q (F0 m (pc + 3) ls (.ref (bA B 0) :: rest))) : W p l e R s m args below meth c H locs cells slots Q (F0 m pc ls (.ref t0 :: rest)) :=
  g_get FX hW (C := RX0) (T := TX0) (N := 26) (ci := 0) in_X0 0 rfl rfl 4 (by decide) q370 (fun _ h => h) rfl hdg kk
set_option maxHeartbeats 4000000 in
set_option maxRecDepth 100000 in
theorem kP_act {t0 : Nat} {ad : Nat → Nat} {B : Bk} {ha : Nat → Nat} {hz : Nat → Nat → Nat} {wr : va_W} {α : Type} {q : α} {k : Pst → Option α} {σ : Pst} (FX : CallFix p m c cc nL s args lw_all RX0) (hR : rP_act.frames + 1 ≤ R.frames ∧ 8 + (2 + 11) + rP_act.locals ≤ R.locals) (hcs : cells ≤ R.cells ∧ slots ≤ R.slots) (hl : ls.size = nL) (hrm : (rest.map fun v => v.category).sum ≤ 8) (hW : Wd D dA A s (Px dA t0 ad B ha hz wr σ) H locs) (hf : (fP_act dA B ha σ).bind k = some q) (hdg : decode cc pc = .ok (.invokevirtual 226, 3)) (kk : ∀ (σ1 : Pst) (H1 : Heap) (locs1 : List Loc), Wd D dA A s (Px dA t0 ad B ha hz wr σ1) H1 locs1 → k σ1 = some q → W p l e R s m args below meth c H1 locs1 cells slots Q (F0 m (pc + 3) ls (rest))) : W p l e R s m args below meth c H locs cells slots Q (F0 m pc ls (.ref t0 :: rest)) := by
  obtain ⟨r1, h1, hf⟩ := bnd hf
  have hW2 := hW
  refine w_Vv (C := RX0) (As := []) (rest := rest) (n := 0) (wr := []) FX (mP_act h1) (cwV 0 FX.2.2.2.2 (lw_V q1268 q1270 qs37 q123 q1271) rfl rfl rfl (by decide +kernel) hR) (va_recv hW2.2.2.2.1 hW2.1 (ci := 0) (q0 := 0) rfl rfl) rfl hl rfl hrm ⟨Nat.le_trans (Nat.le_of_eq (Nat.add_zero cells)) hcs.1, Nat.le_trans (Nat.le_of_eq (Nat.add_zero slots)) hcs.2⟩ hdg hW2.nil ?_
  exact fun H1 locs1 hW1 => kk _ H1 locs1 (hW1.nil') hf
set_option maxHeartbeats 4000000 in
set_option maxRecDepth 100000 in
theorem kP_now_go {t0 : Nat} {ad : Nat → Nat} {B : Bk} {ha : Nat → Nat} {hz : Nat → Nat → Nat} {wr : va_W} {α : Type} {q : α} {k : Int32 → Pst → Option α} {σ : Pst} (FX : CallFix p m c cc nL s args lw_all RX0) (hR : rHB_go.frames + 1 ≤ R.frames ∧ 8 + (4 + 11) + rHB_go.locals ≤ R.locals) (hcs : cells ≤ R.cells ∧ slots ≤ R.slots) (hl : ls.size = nL) (hrm : (rest.map fun v => v.category).sum ≤ 8) (hW : Wd D dA A s (Px dA t0 ad B ha hz wr σ) H locs) (hf : bnd2 (fHB_go dA B ((tN σ.1), tU σ.1)) (fun r t0 => stp ((xU (xN σ.1 t0.1) t0.2, σ.2)) (k r)) = some q) (hdg : decode cc pc = .ok (.invokevirtual 229, 3)) (kk : ∀ (r : Int32) (σ1 : Pst) (H1 : Heap) (locs1 : List Loc), Wd D dA A s (Px dA t0 ad B ha hz wr σ1) H1 locs1 → k r σ1 = some q → W p l e R s m args below meth c H1 locs1 cells slots Q (F0 m (pc + 3) ls (.int r :: rest))) : W p l e R s m args below meth c H locs cells slots Q (F0 m pc ls (.ref (bA B 0) :: .ref (ad 5) :: rest)) := by
  obtain ⟨r1, h1, hf⟩ := bnd (bnd2_eq hf)
  have hW2 := D_now_in hW
  refine w_Vi (C := RX3) (As := [.ref (bA B 0)]) (rest := rest) (n := 1) (wr := []) FX (mHB_go h1) (cwV 1 FX.2.2.2.2 (lw_V q1278 q1279 q1280 q129 q1281) rfl rfl rfl (by decide +kernel) hR) (va_recv hW2.2.2.2.1 hW2.1 (ci := 3) (q0 := 0) rfl rfl) rfl hl rfl hrm ⟨Nat.le_trans (Nat.le_of_eq (Nat.add_zero cells)) hcs.1, Nat.le_trans (Nat.le_of_eq (Nat.add_zero slots)) hcs.2⟩ hdg hW2.nil ?_
  exact fun H1 locs1 hW1 => kk r1.1 ((xU (xN σ.1 r1.2.1) r1.2.2, σ.2)) H1 locs1 (D_now_out hW1.nil') hf
/-! TrunkLitters.year()I: kind W -/
def fP_year (dA : Nat → Nat) (B : Bk) (ha : Nat → Nat) (σ : Pst) : Option (Int32 × Pst) := (if (hF (tN σ.1) 10) = (999 : Int32) then some ((-1 : Int32), σ) else (fP_act dA B ha σ).bind fun s1 => bnd2 (fHB_go dA B ((tN s1.1), tU s1.1)) fun r2 t0 => stp ((xU (xN s1.1 t0.1) t0.2, s1.2)) fun s3 => some (r2, s3))
abbrev rP_year : Room := { frames := 68, cells := 0, slots := 0, locals := 2670 }
set_option maxHeartbeats 4000000 in
set_option maxRecDepth 100000 in
theorem mP_year {t0 : Nat} {ad : Nat → Nat} {B : Bk} {ha : Nat → Nat} {hz : Nat → Nat → Nat} {wr : va_W}  {σ : Pst} {q : (Int32 × Pst)} (hf : fP_year dA B ha σ = some q) : CtI l yX0_year cX0_year 1 (some .int) rP_year D dA [.ref t0] (Px dA t0 ad B ha hz wr σ) q.1 (Px dA t0 ad B ha hz wr q.2) := by
  refine e_I (by decide) (Nat.le_of_ble_eq_true rfl) ?_
  intro p e s m below meth c ls A FX hr hlk hl hW
  have hx := FX.1; have hb := FX.2.1; have hown := FX.2.2.2.1; have hts := FX.2.2.2.2
  have hl : lv_has ls 1 [(0, .ref t0)] := hl
  rw [fP_year] at hf
  refine lv_aload_n hx hb dX0_year_0 rfl (lv_at hl 0 rfl) ?_
  refine PgX0_0_5 FX hW dX0_year_1 ?_
  refine PgX0_18_10 FX hW dX0_year_4 ?_
  refine lv_sipush (v := 999) hx hb dX0_year_7 (by decide) ?_
  refine lv_icmp_ne (tgt := 15) hx hb dX0_year_10 (by decide) (fun c10 => ?_) (fun c10 => ?_)
  · have hf := ifn c10 hf
    refine lv_aload_n hx hb dX0_year_15 rfl (lv_at hl 0 rfl) ?_
    refine kP_act FX ⟨Nat.le_of_ble_eq_true rfl, Nat.le_of_ble_eq_true rfl⟩ ⟨Nat.zero_le _, Nat.zero_le _⟩ hl.1 (Nat.le_of_ble_eq_true rfl) hW hf dX0_year_16 (fun s1 H locs hW hf => ?_)
    refine lv_aload_n hx hb dX0_year_19 rfl (lv_at hl 0 rfl) ?_
    refine PgX0_0_5 FX hW dX0_year_20 ?_
    refine lv_aload_n hx hb dX0_year_23 rfl (lv_at hl 0 rfl) ?_
    refine PgX0_0_4 FX hW dX0_year_24 ?_
    refine kP_now_go FX ⟨Nat.le_of_ble_eq_true rfl, Nat.le_of_ble_eq_true rfl⟩ ⟨Nat.zero_le _, Nat.zero_le _⟩ hl.1 (Nat.le_of_ble_eq_true rfl) hW hf dX0_year_27 (fun r2 s3 H locs hW hf => ?_)
    obtain rfl := Option.some.inj hf
    exact g_iret FX hr hlk hW rfl dX0_year_30
  · have hf := ifp c10 hf
    refine lv_iconst (v := -1) hx hb dX0_year_13 (by decide) ?_
    obtain rfl := Option.some.inj hf
    exact g_iret FX hr hlk hW rfl dX0_year_14
theorem PgX0_18_1 {t0 : Nat} {ad : Nat → Nat} {B : Bk} {ha : Nat → Nat} {hz : Nat → Nat → Nat} {wr : va_W} {σ : Pst} (FX : CallFix p m c cc nL s args lw_all RX0) (hW : Wd D dA A s (Px dA t0 ad B ha hz wr σ) H locs) (hdg : decode cc pc = .ok (.getfield 183, 3)) (kk : W p l e R s m args below meth c H locs cells slots Q (F0 m (pc + 3) ls (.ref (ad 51) :: rest))) : W p l e R s m args below meth c H locs cells slots Q (F0 m pc ls (.ref (ad 5) :: rest)) :=
  g_get FX hW (C := RX3) (T := TX3) (N := 14) (ci := 3) in_X3 18 rfl rfl 1 (by decide) q274 (fun _ h => h) rfl hdg kk
theorem Pp20 {t0 : Nat} {ad : Nat → Nat} {B : Bk} {ha : Nat → Nat} {hz : Nat → Nat → Nat} {wr : va_W} {σ : Pst} : (Px dA t0 ad B ha hz wr σ)[20]? = some ((ad 51), .inl (dA 0, 8, .inl (hA (tN σ.1) 1))) := rfl
theorem PgX0_18_0 {t0 : Nat} {ad : Nat → Nat} {B : Bk} {ha : Nat → Nat} {hz : Nat → Nat → Nat} {wr : va_W} {σ : Pst} (FX : CallFix p m c cc nL s args lw_all RX0) (hW : Wd D dA A s (Px dA t0 ad B ha hz wr σ) H locs) (hdg : decode cc pc = .ok (.getfield 180, 3)) (kk : W p l e R s m args below meth c H locs cells slots Q (F0 m (pc + 3) ls (.ref (ad 50) :: rest))) : W p l e R s m args below meth c H locs cells slots Q (F0 m pc ls (.ref (ad 5) :: rest)) :=
  g_get FX hW (C := RX3) (T := TX3) (N := 14) (ci := 3) in_X3 18 rfl rfl 0 (by decide) q272 (fun _ h => h) rfl hdg kk
theorem Pp19 {t0 : Nat} {ad : Nat → Nat} {B : Bk} {ha : Nat → Nat} {hz : Nat → Nat → Nat} {wr : va_W} {σ : Pst} : (Px dA t0 ad B ha hz wr σ)[19]? = some ((ad 50), .inl (dA 0, 8, .inl (hA (tN σ.1) 0))) := rfl
theorem Pt20 {t0 : Nat} {ad : Nat → Nat} {B : Bk} {ha : Nat → Nat} {hz : Nat → Nat → Nat} {wr : va_W} {σ : Pst} {i v : Int32} : (Px dA t0 ad B ha hz wr σ).set 20 ((ad 51), .inl (dA 0, 8, .inl (upd (hA (tN σ.1) 1) i.toNatClampNeg v))) = Px dA t0 ad B ha hz wr ((xN σ.1 (uA (tN σ.1) 1 i v), σ.2)) := rfl
set_option maxHeartbeats 4000000 in
set_option maxRecDepth 100000 in
theorem kPd_isTrunk {t0 : Nat} {ad : Nat → Nat} {B : Bk} {ha : Nat → Nat} {hz : Nat → Nat → Nat} {wr : va_W} {α : Type} {q : α} {k : Int32 → Option α} {x1 : Int32} {σ : Pst} (FX : CallFix p m c cc nL s args lw_all RX0) (hR : rD_isTrunk.frames + 1 ≤ R.frames ∧ 8 + (2 + 11) + rD_isTrunk.locals ≤ R.locals) (hcs : cells ≤ R.cells ∧ slots ≤ R.slots) (hl : ls.size = nL) (hrm : (rest.map fun v => v.category).sum ≤ 8) (hW : Wd D dA A s (Px dA t0 ad B ha hz wr σ) H locs) (hf : (fD_isTrunk dA B x1 σ.1).bind k = some q) (hdg : decode cc pc = .ok (.invokevirtual 177, 3)) (kk : ∀ (r : Int32) (H1 : Heap) (locs1 : List Loc), Wd D dA A s (Px dA t0 ad B ha hz wr σ) H1 locs1 → k r = some q → W p l e R s m args below meth c H1 locs1 cells slots Q (F0 m (pc + 3) ls (.int r :: rest))) : W p l e R s m args below meth c H locs cells slots Q (F0 m pc ls (.int x1 :: .ref t0 :: rest)) := by
  obtain ⟨r1, h1, hf⟩ := bnd hf
  have hW2 := Pd_in hW
  refine w_Vi (C := RX0) (As := [.int x1]) (rest := rest) (n := 1) (wr := []) FX (mD_isTrunk h1) (cwV 1 FX.2.2.2.2 (lw_V q1152 q1154 qs34 q123 q1155) rfl rfl rfl (by decide +kernel) hR) (va_recv hW2.2.2.2.1 hW2.1 (ci := 0) (q0 := 0) rfl rfl) rfl hl rfl hrm ⟨Nat.le_trans (Nat.le_of_eq (Nat.add_zero cells)) hcs.1, Nat.le_trans (Nat.le_of_eq (Nat.add_zero slots)) hcs.2⟩ hdg hW2.nil ?_
  exact fun H1 locs1 hW1 => kk r1 H1 locs1 (Pd_outR hW1.nil') hf
set_option maxHeartbeats 4000000 in
set_option maxRecDepth 100000 in
theorem kPd_isRoom {t0 : Nat} {ad : Nat → Nat} {B : Bk} {ha : Nat → Nat} {hz : Nat → Nat → Nat} {wr : va_W} {α : Type} {q : α} {k : Int32 → Option α} {x1 : Int32} {σ : Pst} (FX : CallFix p m c cc nL s args lw_all RX0) (hR : rD_isRoom.frames + 1 ≤ R.frames ∧ 8 + (2 + 11) + rD_isRoom.locals ≤ R.locals) (hcs : cells ≤ R.cells ∧ slots ≤ R.slots) (hl : ls.size = nL) (hrm : (rest.map fun v => v.category).sum ≤ 8) (hW : Wd D dA A s (Px dA t0 ad B ha hz wr σ) H locs) (hf : (fD_isRoom dA B x1 σ.1).bind k = some q) (hdg : decode cc pc = .ok (.invokevirtual 162, 3)) (kk : ∀ (r : Int32) (H1 : Heap) (locs1 : List Loc), Wd D dA A s (Px dA t0 ad B ha hz wr σ) H1 locs1 → k r = some q → W p l e R s m args below meth c H1 locs1 cells slots Q (F0 m (pc + 3) ls (.int r :: rest))) : W p l e R s m args below meth c H locs cells slots Q (F0 m pc ls (.int x1 :: .ref t0 :: rest)) := by
  obtain ⟨r1, h1, hf⟩ := bnd hf
  have hW2 := Pd_in hW
  refine w_Vi (C := RX0) (As := [.int x1]) (rest := rest) (n := 1) (wr := []) FX (mD_isRoom h1) (cwV 1 FX.2.2.2.2 (lw_V q1122 q1124 qs32 q123 q1125) rfl rfl rfl (by decide +kernel) hR) (va_recv hW2.2.2.2.1 hW2.1 (ci := 0) (q0 := 0) rfl rfl) rfl hl rfl hrm ⟨Nat.le_trans (Nat.le_of_eq (Nat.add_zero cells)) hcs.1, Nat.le_trans (Nat.le_of_eq (Nat.add_zero slots)) hcs.2⟩ hdg hW2.nil ?_
  exact fun H1 locs1 hW1 => kk r1 H1 locs1 (Pd_outR hW1.nil') hf
set_option maxHeartbeats 4000000 in
set_option maxRecDepth 100000 in
theorem kP_now_left {t0 : Nat} {ad : Nat → Nat} {B : Bk} {ha : Nat → Nat} {hz : Nat → Nat → Nat} {wr : va_W} {α : Type} {q : α} {k : Int32 → Option α} {x2 : Int32} {σ : Pst} (FX : CallFix p m c cc nL s args lw_all RX0) (hR : rHB_left.frames + 1 ≤ R.frames ∧ 8 + (3 + 11) + rHB_left.locals ≤ R.locals) (hcs : cells ≤ R.cells ∧ slots ≤ R.slots) (hl : ls.size = nL) (hrm : (rest.map fun v => v.category).sum ≤ 8) (hW : Wd D dA A s (Px dA t0 ad B ha hz wr σ) H locs) (hf : (fHB_left dA B x2 ((tN σ.1), tU σ.1)).bind k = some q) (hdg : decode cc pc = .ok (.invokevirtual 170, 3)) (kk : ∀ (r : Int32) (H1 : Heap) (locs1 : List Loc), Wd D dA A s (Px dA t0 ad B ha hz wr σ) H1 locs1 → k r = some q → W p l e R s m args below meth c H1 locs1 cells slots Q (F0 m (pc + 3) ls (.int r :: rest))) : W p l e R s m args below meth c H locs cells slots Q (F0 m pc ls (.int x2 :: .ref (bA B 0) :: .ref (ad 5) :: rest)) := by
  obtain ⟨r1, h1, hf⟩ := bnd hf
  have hW2 := D_now_in hW
  refine w_Vi (C := RX3) (As := [.ref (bA B 0), .int x2]) (rest := rest) (n := 2) (wr := []) FX (mHB_left h1) (cwV 2 FX.2.2.2.2 (lw_V q1134 q1135 q1136 q129 q1137) rfl rfl rfl (by decide +kernel) hR) (va_recv hW2.2.2.2.1 hW2.1 (ci := 3) (q0 := 0) rfl rfl) rfl hl rfl hrm ⟨Nat.le_trans (Nat.le_of_eq (Nat.add_zero cells)) hcs.1, Nat.le_trans (Nat.le_of_eq (Nat.add_zero slots)) hcs.2⟩ hdg hW2.nil ?_
  exact fun H1 locs1 hW1 => kk r1 H1 locs1 (D_now_outR hW1.nil') hf
/-! TrunkLitters.carry(II)I: kind W -/
def fP_carry (dA : Nat → Nat) (B : Bk) (ha : Nat → Nat) (x1 : Int32) (x2 : Int32) (σ : Pst) : Option (Int32 × Pst) := (fD_isTrunk dA B x1 σ.1).bind fun r1 => (if r1 = 0 then some ((-1 : Int32), σ) else (fD_isRoom dA B x2 σ.1).bind fun r2 => (if r2 = 0 then some ((-1 : Int32), σ) else ald 8 (hA (tN σ.1) 1) x1 fun v3 => (if v3 = x2 then some ((-1 : Int32), σ) else (fHB_left dA B x2 ((tN σ.1), tU σ.1)).bind fun r4 => ald 8 (hA (tN σ.1) 0) x1 fun v5 => (if v5 ≤ r4 then (fP_act dA B ha σ).bind fun s6 => ald 8 (hA (tN s6.1) 1) x1 fun v7 => ast 8 x1 (stp ((xN s6.1 (uA (tN s6.1) 1 x1 x2), s6.2)) fun s8 => some (v7, s8)) else some ((-1 : Int32), σ)))))
abbrev rP_carry : Room := { frames := 5, cells := 0, slots := 0, locals := 113 }
set_option maxHeartbeats 4000000 in
set_option maxRecDepth 100000 in
theorem mP_carry {t0 : Nat} {ad : Nat → Nat} {B : Bk} {ha : Nat → Nat} {hz : Nat → Nat → Nat} {wr : va_W}  {x1 : Int32} {x2 : Int32} {σ : Pst} {q : (Int32 × Pst)} (hf : fP_carry dA B ha x1 x2 σ = some q) : CtI l yX0_carry cX0_carry 4 (some .int) rP_carry D dA [.ref t0, .int x1, .int x2] (Px dA t0 ad B ha hz wr σ) q.1 (Px dA t0 ad B ha hz wr q.2) := by
  refine e_I (by decide) (Nat.le_of_ble_eq_true rfl) ?_
  intro p e s m below meth c ls A FX hr hlk hl hW
  have hx := FX.1; have hb := FX.2.1; have hown := FX.2.2.2.1; have hts := FX.2.2.2.2
  have hl : lv_has ls 4 [(0, .ref t0), (1, .int x1), (2, .int x2)] := hl
  rw [fP_carry] at hf
  refine lv_aload_n hx hb dX0_carry_0 rfl (lv_at hl 0 rfl) ?_
  refine lv_iload_n hx hb dX0_carry_1 rfl (lv_at hl 1 rfl) ?_
  refine kPd_isTrunk FX ⟨Nat.le_of_ble_eq_true rfl, Nat.le_of_ble_eq_true rfl⟩ ⟨Nat.zero_le _, Nat.zero_le _⟩ hl.1 (Nat.le_of_ble_eq_true rfl) hW hf dX0_carry_2 (fun r1 H locs hW hf => ?_)
  refine lv_if_eq (tgt := 53) hx hb dX0_carry_5 (by decide) (fun c5 => ?_) (fun c5 => ?_)
  · have hf := ifp c5 hf
    refine lv_iconst (v := -1) hx hb dX0_carry_53 (by decide) ?_
    obtain rfl := Option.some.inj hf
    exact g_iret FX hr hlk hW rfl dX0_carry_54
  · have hf := ifn c5 hf
    refine lv_aload_n hx hb dX0_carry_8 rfl (lv_at hl 0 rfl) ?_
    refine lv_iload_n hx hb dX0_carry_9 rfl (lv_at hl 2 rfl) ?_
    refine kPd_isRoom FX ⟨Nat.le_of_ble_eq_true rfl, Nat.le_of_ble_eq_true rfl⟩ ⟨Nat.zero_le _, Nat.zero_le _⟩ hl.1 (Nat.le_of_ble_eq_true rfl) hW hf dX0_carry_10 (fun r2 H locs hW hf => ?_)
    refine lv_if_eq (tgt := 53) hx hb dX0_carry_13 (by decide) (fun c13 => ?_) (fun c13 => ?_)
    · have hf := ifp c13 hf
      refine lv_iconst (v := -1) hx hb dX0_carry_53 (by decide) ?_
      obtain rfl := Option.some.inj hf
      exact g_iret FX hr hlk hW rfl dX0_carry_54
    · have hf := ifn c13 hf
      refine lv_aload_n hx hb dX0_carry_16 rfl (lv_at hl 0 rfl) ?_
      refine PgX0_0_5 FX hW dX0_carry_17 ?_
      refine PgX0_18_1 FX hW dX0_carry_20 ?_
      refine lv_iload_n hx hb dX0_carry_23 rfl (lv_at hl 1 rfl) ?_
      refine g_iald FX hW 20 Pp20 hf dX0_carry_24 (fun v3 hf => ?_)
      refine lv_iload_n hx hb dX0_carry_25 rfl (lv_at hl 2 rfl) ?_
      refine lv_icmp_eq (tgt := 53) hx hb dX0_carry_26 (by decide) (fun c26 => ?_) (fun c26 => ?_)
      · have hf := ifp c26 hf
        refine lv_iconst (v := -1) hx hb dX0_carry_53 (by decide) ?_
        obtain rfl := Option.some.inj hf
        exact g_iret FX hr hlk hW rfl dX0_carry_54
      · have hf := ifn c26 hf
        refine lv_aload_n hx hb dX0_carry_29 rfl (lv_at hl 0 rfl) ?_
        refine PgX0_0_5 FX hW dX0_carry_30 ?_
        refine lv_aload_n hx hb dX0_carry_33 rfl (lv_at hl 0 rfl) ?_
        refine PgX0_0_4 FX hW dX0_carry_34 ?_
        refine lv_iload_n hx hb dX0_carry_37 rfl (lv_at hl 2 rfl) ?_
        refine kP_now_left FX ⟨Nat.le_of_ble_eq_true rfl, Nat.le_of_ble_eq_true rfl⟩ ⟨Nat.zero_le _, Nat.zero_le _⟩ hl.1 (Nat.le_of_ble_eq_true rfl) hW hf dX0_carry_38 (fun r4 H locs hW hf => ?_)
        refine lv_aload_n hx hb dX0_carry_41 rfl (lv_at hl 0 rfl) ?_
        refine PgX0_0_5 FX hW dX0_carry_42 ?_
        refine PgX0_18_0 FX hW dX0_carry_45 ?_
        refine lv_iload_n hx hb dX0_carry_48 rfl (lv_at hl 1 rfl) ?_
        refine g_iald FX hW 19 Pp19 hf dX0_carry_49 (fun v5 hf => ?_)
        refine lv_icmp_ge (tgt := 55) hx hb dX0_carry_50 (by decide) (fun c50 => ?_) (fun c50 => ?_)
        · have hf := ifp c50 hf
          refine lv_aload_n hx hb dX0_carry_55 rfl (lv_at hl 0 rfl) ?_
          refine kP_act FX ⟨Nat.le_of_ble_eq_true rfl, Nat.le_of_ble_eq_true rfl⟩ ⟨Nat.zero_le _, Nat.zero_le _⟩ hl.1 (Nat.le_of_ble_eq_true rfl) hW hf dX0_carry_56 (fun s6 H locs hW hf => ?_)
          refine lv_aload_n hx hb dX0_carry_59 rfl (lv_at hl 0 rfl) ?_
          refine PgX0_0_5 FX hW dX0_carry_60 ?_
          refine PgX0_18_1 FX hW dX0_carry_63 ?_
          refine lv_iload_n hx hb dX0_carry_66 rfl (lv_at hl 1 rfl) ?_
          refine g_iald FX hW 20 Pp20 hf dX0_carry_67 (fun v7 hf => ?_)
          refine lv_istore_n (lv' := [(3, .int v7), (0, .ref t0), (1, .int x1), (2, .int x2)]) hx hb dX0_carry_68 rfl hl (by decide) rfl (fun ls hl => ?_)
          refine lv_aload_n hx hb dX0_carry_69 rfl (lv_at hl 1 rfl) ?_
          refine PgX0_0_5 FX hW dX0_carry_70 ?_
          refine PgX0_18_1 FX hW dX0_carry_73 ?_
          refine lv_iload_n hx hb dX0_carry_76 rfl (lv_at hl 2 rfl) ?_
          refine lv_iload_n hx hb dX0_carry_77 rfl (lv_at hl 3 rfl) ?_
          refine g_iast FX hW 20 Pp20 (L := Px dA t0 ad B ha hz wr) (Pt20) hf dX0_carry_78 (fun s8 H locs hW hf => ?_)
          refine lv_iload_n hx hb dX0_carry_79 rfl (lv_at hl 0 rfl) ?_
          obtain rfl := Option.some.inj hf
          exact g_iret FX hr hlk hW rfl dX0_carry_80
        · have hf := ifn c50 hf
          refine lv_iconst (v := -1) hx hb dX0_carry_53 (by decide) ?_
          obtain rfl := Option.some.inj hf
          exact g_iret FX hr hlk hW rfl dX0_carry_54
theorem PgX0_18_9 {t0 : Nat} {ad : Nat → Nat} {B : Bk} {ha : Nat → Nat} {hz : Nat → Nat → Nat} {wr : va_W} {σ : Pst} (FX : CallFix p m c cc nL s args lw_all RX0) (hW : Wd D dA A s (Px dA t0 ad B ha hz wr σ) H locs) (hdg : decode cc pc = .ok (.getfield 233, 3)) (kk : W p l e R s m args below meth c H locs cells slots Q (F0 m (pc + 3) ls (.int (hF (tN σ.1) 9) :: rest))) : W p l e R s m args below meth c H locs cells slots Q (F0 m pc ls (.ref (ad 5) :: rest)) :=
  g_get FX hW (C := RX3) (T := TX3) (N := 14) (ci := 3) in_X3 18 rfl rfl 9 (by decide) q290 (fun _ h => h) rfl hdg kk
theorem PgX0_18_3 {t0 : Nat} {ad : Nat → Nat} {B : Bk} {ha : Nat → Nat} {hz : Nat → Nat → Nat} {wr : va_W} {σ : Pst} (FX : CallFix p m c cc nL s args lw_all RX0) (hW : Wd D dA A s (Px dA t0 ad B ha hz wr σ) H locs) (hdg : decode cc pc = .ok (.getfield 189, 3)) (kk : W p l e R s m args below meth c H locs cells slots Q (F0 m (pc + 3) ls (.ref (ad 53) :: rest))) : W p l e R s m args below meth c H locs cells slots Q (F0 m pc ls (.ref (ad 5) :: rest)) :=
  g_get FX hW (C := RX3) (T := TX3) (N := 14) (ci := 3) in_X3 18 rfl rfl 3 (by decide) q278 (fun _ h => h) rfl hdg kk
theorem Pp22 {t0 : Nat} {ad : Nat → Nat} {B : Bk} {ha : Nat → Nat} {hz : Nat → Nat → Nat} {wr : va_W} {σ : Pst} : (Px dA t0 ad B ha hz wr σ)[22]? = some ((ad 53), .inl (dA 0, 8, .inl (hA (tN σ.1) 3))) := rfl
theorem PsX0_18_9 {t0 : Nat} {ad : Nat → Nat} {B : Bk} {ha : Nat → Nat} {hz : Nat → Nat → Nat} {wr : va_W} {σ : Pst} {α : Type} {q : α} {v : Int32} {k : Pst → Option α} (FX : CallFix p m c cc nL s args lw_all RX0) (hW : Wd D dA A s (Px dA t0 ad B ha hz wr σ) H locs) (hf : stp ((xN σ.1 (uF (tN σ.1) 9 v), σ.2)) k = some q) (hdg : decode cc pc = .ok (.putfield 233, 3)) (kk : ∀ (σ1 : Pst) (H1 : Heap) (locs1 : List Loc), Wd D dA A s (Px dA t0 ad B ha hz wr σ1) H1 locs1 → k σ1 = some q → W p l e R s m args below meth c H1 locs1 cells slots Q (F0 m (pc + 3) ls rest)) : W p l e R s m args below meth c H locs cells slots Q (F0 m pc ls (.int v :: .ref (ad 5) :: rest)) :=
  g_put FX hW (C := RX3) (T := TX3) (N := 14) (ci := 3) (ty := .int) in_X3 tyX3 tyX3_ok nmX3 18 rfl rfl 9 (by decide) q290 (fun _ h => h) rfl (by decide +kernel) rfl rfl (Nat.le_of_ble_eq_true rfl) (ws' := Px dA t0 ad B ha hz wr ((xN σ.1 (uF (tN σ.1) 9 v), σ.2))) rfl hdg (fun H1 locs1 hW1 => kk _ H1 locs1 hW1 hf)
theorem Pt22 {t0 : Nat} {ad : Nat → Nat} {B : Bk} {ha : Nat → Nat} {hz : Nat → Nat → Nat} {wr : va_W} {σ : Pst} {i v : Int32} : (Px dA t0 ad B ha hz wr σ).set 22 ((ad 53), .inl (dA 0, 8, .inl (upd (hA (tN σ.1) 3) i.toNatClampNeg v))) = Px dA t0 ad B ha hz wr ((xN σ.1 (uA (tN σ.1) 3 i v), σ.2)) := rfl

/-! TrunkLitters.tell(I)I: kind W -/
def fP_tell (dA : Nat → Nat) (B : Bk) (ha : Nat → Nat) (x1 : Int32) (σ : Pst) : Option (Int32 × Pst) := (fD_isTrunk dA B x1 σ.1).bind fun r1 => (if r1 = 0 then some ((-1 : Int32), σ) else (if (hF (tN σ.1) 9) = 0 then some ((-1 : Int32), σ) else ald 8 (hA (tN σ.1) 3) x1 fun v2 => (if v2 = (9 : Int32) then some ((-1 : Int32), σ) else (fP_act dA B ha σ).bind fun s3 => stp ((xN s3.1 (uF (tN s3.1) 9 ((hF (tN s3.1) 9) - (1 : Int32))), s3.2)) fun s4 => ald 8 (hA (tN s4.1) 3) x1 fun v5 => ast 8 x1 (stp ((xN s4.1 (uA (tN s4.1) 3 x1 (v5 + (1 : Int32))), s4.2)) fun s6 => ald 8 (hA (tN s6.1) 3) x1 fun v7 => some (v7, s6)))))
abbrev rP_tell : Room := { frames := 3, cells := 0, slots := 0, locals := 68 }
set_option maxHeartbeats 4000000 in
set_option maxRecDepth 100000 in
theorem mP_tell {t0 : Nat} {ad : Nat → Nat} {B : Bk} {ha : Nat → Nat} {hz : Nat → Nat → Nat} {wr : va_W}  {x1 : Int32} {σ : Pst} {q : (Int32 × Pst)} (hf : fP_tell dA B ha x1 σ = some q) : CtI l yX0_tell cX0_tell 2 (some .int) rP_tell D dA [.ref t0, .int x1] (Px dA t0 ad B ha hz wr σ) q.1 (Px dA t0 ad B ha hz wr q.2) := by
  refine e_I (by decide) (Nat.le_of_ble_eq_true rfl) ?_
  intro p e s m below meth c ls A FX hr hlk hl hW
  have hx := FX.1; have hb := FX.2.1; have hown := FX.2.2.2.1; have hts := FX.2.2.2.2
  have hl : lv_has ls 2 [(0, .ref t0), (1, .int x1)] := hl
  rw [fP_tell] at hf
  refine lv_aload_n hx hb dX0_tell_0 rfl (lv_at hl 0 rfl) ?_
  refine lv_iload_n hx hb dX0_tell_1 rfl (lv_at hl 1 rfl) ?_
  refine kPd_isTrunk FX ⟨Nat.le_of_ble_eq_true rfl, Nat.le_of_ble_eq_true rfl⟩ ⟨Nat.zero_le _, Nat.zero_le _⟩ hl.1 (Nat.le_of_ble_eq_true rfl) hW hf dX0_tell_2 (fun r1 H locs hW hf => ?_)
  refine lv_if_eq (tgt := 32) hx hb dX0_tell_5 (by decide) (fun c5 => ?_) (fun c5 => ?_)
  · have hf := ifp c5 hf
    refine lv_iconst (v := -1) hx hb dX0_tell_32 (by decide) ?_
    obtain rfl := Option.some.inj hf
    exact g_iret FX hr hlk hW rfl dX0_tell_33
  · have hf := ifn c5 hf
    refine lv_aload_n hx hb dX0_tell_8 rfl (lv_at hl 0 rfl) ?_
    refine PgX0_0_5 FX hW dX0_tell_9 ?_
    refine PgX0_18_9 FX hW dX0_tell_12 ?_
    refine lv_if_eq (tgt := 32) hx hb dX0_tell_15 (by decide) (fun c15 => ?_) (fun c15 => ?_)
    · have hf := ifp c15 hf
      refine lv_iconst (v := -1) hx hb dX0_tell_32 (by decide) ?_
      obtain rfl := Option.some.inj hf
      exact g_iret FX hr hlk hW rfl dX0_tell_33
    · have hf := ifn c15 hf
      refine lv_aload_n hx hb dX0_tell_18 rfl (lv_at hl 0 rfl) ?_
      refine PgX0_0_5 FX hW dX0_tell_19 ?_
      refine PgX0_18_3 FX hW dX0_tell_22 ?_
      refine lv_iload_n hx hb dX0_tell_25 rfl (lv_at hl 1 rfl) ?_
      refine g_iald FX hW 22 Pp22 hf dX0_tell_26 (fun v2 hf => ?_)
      refine lv_bipush (v := 9) hx hb dX0_tell_27 (by decide) ?_
      refine lv_icmp_ne (tgt := 34) hx hb dX0_tell_29 (by decide) (fun c29 => ?_) (fun c29 => ?_)
      · have hf := ifn c29 hf
        refine lv_aload_n hx hb dX0_tell_34 rfl (lv_at hl 0 rfl) ?_
        refine kP_act FX ⟨Nat.le_of_ble_eq_true rfl, Nat.le_of_ble_eq_true rfl⟩ ⟨Nat.zero_le _, Nat.zero_le _⟩ hl.1 (Nat.le_of_ble_eq_true rfl) hW hf dX0_tell_35 (fun s3 H locs hW hf => ?_)
        refine lv_aload_n hx hb dX0_tell_38 rfl (lv_at hl 0 rfl) ?_
        refine PgX0_0_5 FX hW dX0_tell_39 ?_
        refine lv_dup hx hb dX0_tell_42 rfl ?_
        refine PgX0_18_9 FX hW dX0_tell_43 ?_
        refine lv_iconst (v := 1) hx hb dX0_tell_46 (by decide) ?_
        refine lv_isub hx hb dX0_tell_47 ?_
        refine PsX0_18_9 FX hW hf dX0_tell_48 (fun s4 H locs hW hf => ?_)
        refine lv_aload_n hx hb dX0_tell_51 rfl (lv_at hl 0 rfl) ?_
        refine PgX0_0_5 FX hW dX0_tell_52 ?_
        refine PgX0_18_3 FX hW dX0_tell_55 ?_
        refine lv_iload_n hx hb dX0_tell_58 rfl (lv_at hl 1 rfl) ?_
        refine lv_dup2_11 hx hb dX0_tell_59 rfl rfl ?_
        refine g_iald FX hW 22 Pp22 hf dX0_tell_60 (fun v5 hf => ?_)
        refine lv_iconst (v := 1) hx hb dX0_tell_61 (by decide) ?_
        refine lv_iadd hx hb dX0_tell_62 ?_
        refine g_iast FX hW 22 Pp22 (L := Px dA t0 ad B ha hz wr) (Pt22) hf dX0_tell_63 (fun s6 H locs hW hf => ?_)
        refine lv_aload_n hx hb dX0_tell_64 rfl (lv_at hl 0 rfl) ?_
        refine PgX0_0_5 FX hW dX0_tell_65 ?_
        refine PgX0_18_3 FX hW dX0_tell_68 ?_
        refine lv_iload_n hx hb dX0_tell_71 rfl (lv_at hl 1 rfl) ?_
        refine g_iald FX hW 22 Pp22 hf dX0_tell_72 (fun v7 hf => ?_)
        obtain rfl := Option.some.inj hf
        exact g_iret FX hr hlk hW rfl dX0_tell_73
      · have hf := ifp c29 hf
        refine lv_iconst (v := -1) hx hb dX0_tell_32 (by decide) ?_
        obtain rfl := Option.some.inj hf
        exact g_iret FX hr hlk hW rfl dX0_tell_33

set_option maxHeartbeats 4000000 in
set_option maxRecDepth 100000 in
theorem kP_now_leaves {t0 : Nat} {ad : Nat → Nat} {B : Bk} {ha : Nat → Nat} {hz : Nat → Nat → Nat} {wr : va_W} {α : Type} {q : α} {k : Pst → Option α} {x1 : Int32} {σ : Pst} (FX : CallFix p m c cc nL s args lw_all RX0) (hR : rX3_leaves.frames + 1 ≤ R.frames ∧ 8 + (3 + 11) + rX3_leaves.locals ≤ R.locals) (hcs : cells ≤ R.cells ∧ slots ≤ R.slots) (hl : ls.size = nL) (hrm : (rest.map fun v => v.category).sum ≤ 8) (hW : Wd D dA A s (Px dA t0 ad B ha hz wr σ) H locs) (hf : (fX3_leaves x1 (tN σ.1)).bind (fun t0 => stp ((xN σ.1 t0, σ.2)) k) = some q) (hdg : decode cc pc = .ok (.invokevirtual 235, 3)) (kk : ∀ (σ1 : Pst) (H1 : Heap) (locs1 : List Loc), Wd D dA A s (Px dA t0 ad B ha hz wr σ1) H1 locs1 → k σ1 = some q → W p l e R s m args below meth c H1 locs1 cells slots Q (F0 m (pc + 3) ls (rest))) : W p l e R s m args below meth c H locs cells slots Q (F0 m pc ls (.int x1 :: .ref (ad 5) :: rest)) := by
  obtain ⟨r1, h1, hf⟩ := bnd hf
  have hW2 := HB_in (D_now_in hW)
  refine w_Vv (C := RX3) (As := [.int x1]) (rest := rest) (n := 1) (wr := []) FX (mX3_leaves h1) (cwV 1 FX.2.2.2.2 (lw_V q1307 q1287 q1288 q129 q1289) rfl rfl rfl (by decide +kernel) hR) (va_recv hW2.2.2.2.1 hW2.1 (ci := 3) (q0 := 0) rfl rfl) rfl hl rfl hrm ⟨Nat.le_trans (Nat.le_of_eq (Nat.add_zero cells)) hcs.1, Nat.le_trans (Nat.le_of_eq (Nat.add_zero slots)) hcs.2⟩ hdg hW2.nil ?_
  exact fun H1 locs1 hW1 => kk ((xN σ.1 r1, σ.2)) H1 locs1 (D_now_outH (HB_out hW1.nil')) hf
/-! TrunkLitters.lose(I)I: kind W -/
def fP_lose (dA : Nat → Nat) (B : Bk) (ha : Nat → Nat) (x1 : Int32) (σ : Pst) : Option (Int32 × Pst) := (fD_isTrunk dA B x1 σ.1).bind fun r1 => (if r1 = 0 then some ((-1 : Int32), σ) else (fP_act dA B ha σ).bind fun s2 => ald 8 (hA (tN s2.1) 0) x1 fun v3 => (fX3_leaves x1 (tN s2.1)).bind fun t0 => stp ((xN s2.1 t0, s2.2)) fun s4 => some (v3, s4))
abbrev rP_lose : Room := { frames := 3, cells := 0, slots := 0, locals := 68 }
set_option maxHeartbeats 4000000 in
set_option maxRecDepth 100000 in
theorem mP_lose {t0 : Nat} {ad : Nat → Nat} {B : Bk} {ha : Nat → Nat} {hz : Nat → Nat → Nat} {wr : va_W}  {x1 : Int32} {σ : Pst} {q : (Int32 × Pst)} (hf : fP_lose dA B ha x1 σ = some q) : CtI l yX0_lose cX0_lose 3 (some .int) rP_lose D dA [.ref t0, .int x1] (Px dA t0 ad B ha hz wr σ) q.1 (Px dA t0 ad B ha hz wr q.2) := by
  refine e_I (by decide) (Nat.le_of_ble_eq_true rfl) ?_
  intro p e s m below meth c ls A FX hr hlk hl hW
  have hx := FX.1; have hb := FX.2.1; have hown := FX.2.2.2.1; have hts := FX.2.2.2.2
  have hl : lv_has ls 3 [(0, .ref t0), (1, .int x1)] := hl
  rw [fP_lose] at hf
  refine lv_aload_n hx hb dX0_lose_0 rfl (lv_at hl 0 rfl) ?_
  refine lv_iload_n hx hb dX0_lose_1 rfl (lv_at hl 1 rfl) ?_
  refine kPd_isTrunk FX ⟨Nat.le_of_ble_eq_true rfl, Nat.le_of_ble_eq_true rfl⟩ ⟨Nat.zero_le _, Nat.zero_le _⟩ hl.1 (Nat.le_of_ble_eq_true rfl) hW hf dX0_lose_2 (fun r1 H locs hW hf => ?_)
  refine lv_if_ne (tgt := 10) hx hb dX0_lose_5 (by decide) (fun c5 => ?_) (fun c5 => ?_)
  · have hf := ifn c5 hf
    refine lv_aload_n hx hb dX0_lose_10 rfl (lv_at hl 0 rfl) ?_
    refine kP_act FX ⟨Nat.le_of_ble_eq_true rfl, Nat.le_of_ble_eq_true rfl⟩ ⟨Nat.zero_le _, Nat.zero_le _⟩ hl.1 (Nat.le_of_ble_eq_true rfl) hW hf dX0_lose_11 (fun s2 H locs hW hf => ?_)
    refine lv_aload_n hx hb dX0_lose_14 rfl (lv_at hl 0 rfl) ?_
    refine PgX0_0_5 FX hW dX0_lose_15 ?_
    refine PgX0_18_0 FX hW dX0_lose_18 ?_
    refine lv_iload_n hx hb dX0_lose_21 rfl (lv_at hl 1 rfl) ?_
    refine g_iald FX hW 19 Pp19 hf dX0_lose_22 (fun v3 hf => ?_)
    refine lv_istore_n (lv' := [(2, .int v3), (0, .ref t0), (1, .int x1)]) hx hb dX0_lose_23 rfl hl (by decide) rfl (fun ls hl => ?_)
    refine lv_aload_n hx hb dX0_lose_24 rfl (lv_at hl 1 rfl) ?_
    refine PgX0_0_5 FX hW dX0_lose_25 ?_
    refine lv_iload_n hx hb dX0_lose_28 rfl (lv_at hl 2 rfl) ?_
    refine kP_now_leaves FX ⟨Nat.le_of_ble_eq_true rfl, Nat.le_of_ble_eq_true rfl⟩ ⟨Nat.zero_le _, Nat.zero_le _⟩ hl.1 (Nat.le_of_ble_eq_true rfl) hW hf dX0_lose_29 (fun s4 H locs hW hf => ?_)
    refine lv_iload_n hx hb dX0_lose_32 rfl (lv_at hl 0 rfl) ?_
    obtain rfl := Option.some.inj hf
    exact g_iret FX hr hlk hW rfl dX0_lose_33
  · have hf := ifp c5 hf
    refine lv_iconst (v := -1) hx hb dX0_lose_8 (by decide) ?_
    obtain rfl := Option.some.inj hf
    exact g_iret FX hr hlk hW rfl dX0_lose_9
theorem PgX0_0_11 {t0 : Nat} {ad : Nat → Nat} {B : Bk} {ha : Nat → Nat} {hz : Nat → Nat → Nat} {wr : va_W} {σ : Pst} (FX : CallFix p m c cc nL s args lw_all RX0) (hW : Wd D dA A s (Px dA t0 ad B ha hz wr σ) H locs) (hdg : decode cc pc = .ok (.getfield 126, 3)) (kk : W p l e R s m args below meth c H locs cells slots Q (F0 m (pc + 3) ls (.int (tF σ.1 11) :: rest))) : W p l e R s m args below meth c H locs cells slots Q (F0 m pc ls (.ref t0 :: rest)) :=
  g_get FX hW (C := RX0) (T := TX0) (N := 26) (ci := 0) in_X0 0 rfl rfl 11 (by decide) q378 (fun _ h => h) rfl hdg kk
set_option maxHeartbeats 4000000 in
set_option maxRecDepth 100000 in
theorem kP_turnAbout {t0 : Nat} {ad : Nat → Nat} {B : Bk} {ha : Nat → Nat} {hz : Nat → Nat → Nat} {wr : va_W} {α : Type} {q : α} {k : Pst → Option α} {p1 : Nat} {σ : Pst} (FX : CallFix p m c cc nL s args lw_all RX0) (hR : rP_turnAbout.frames + 1 ≤ R.frames ∧ 8 + (2 + 11) + rP_turnAbout.locals ≤ R.locals) (hcs : cells ≤ R.cells ∧ slots ≤ R.slots) (hl : ls.size = nL) (hrm : (rest.map fun v => v.category).sum ≤ 8) (hW : Wd D dA A s (Px dA t0 ad B ha hz wr σ) H locs) (hf : (fP_turnAbout dA B ha p1 σ).bind k = some q) (hdg : decode cc pc = .ok (.invokevirtual 238, 3)) (kk : ∀ (σ1 : Pst) (H1 : Heap) (locs1 : List Loc), Wd D dA A s (Px dA t0 ad B ha hz wr σ1) H1 locs1 → k σ1 = some q → W p l e R s m args below meth c H1 locs1 cells slots Q (F0 m (pc + 3) ls (rest))) : W p l e R s m args below meth c H locs cells slots Q (F0 m pc ls (.ref p1 :: .ref t0 :: rest)) := by
  obtain ⟨r1, h1, hf⟩ := bnd hf
  have hW2 := hW
  refine w_Vv (C := RX0) (As := [.ref p1]) (rest := rest) (n := 1) (wr := []) FX (mP_turnAbout h1) (cwV 1 FX.2.2.2.2 (lw_V q1312 q1314 qs40 q123 q1315) rfl rfl rfl (by decide +kernel) hR) (va_recv hW2.2.2.2.1 hW2.1 (ci := 0) (q0 := 0) rfl rfl) rfl hl rfl hrm ⟨Nat.le_trans (Nat.le_of_eq (Nat.add_zero cells)) hcs.1, Nat.le_trans (Nat.le_of_eq (Nat.add_zero slots)) hcs.2⟩ hdg hW2.nil ?_
  exact fun H1 locs1 hW1 => kk _ H1 locs1 (hW1.nil') hf
/-! TrunkLitters.undo()Z: kind W -/
def fP_undo (dA : Nat → Nat) (B : Bk) (ha : Nat → Nat) (σ : Pst) : Option (Int32 × Pst) := (if (tF σ.1 10) = 0 then some ((0 : Int32), σ) else stp ((xF σ.1 10 ((tF σ.1 10) - (1 : Int32)), σ.2)) fun s1 => stp ((xF s1.1 11 ((tF s1.1 11) + (1 : Int32)), s1.2)) fun s2 => qald 40 s2.2.1 (tF s2.1 10) fun a3 => (fP_turnAbout dA B ha a3 s2).bind fun s4 => some ((1 : Int32), s4))
abbrev rP_undo : Room := { frames := 3, cells := 0, slots := 0, locals := 68 }
set_option maxHeartbeats 4000000 in
set_option maxRecDepth 100000 in
theorem mP_undo {t0 : Nat} {ad : Nat → Nat} {B : Bk} {ha : Nat → Nat} {hz : Nat → Nat → Nat} {wr : va_W}  {σ : Pst} {q : (Int32 × Pst)} (hf : fP_undo dA B ha σ = some q) : CtI l yX0_undo cX0_undo 1 (some .boolean) rP_undo D dA [.ref t0] (Px dA t0 ad B ha hz wr σ) q.1 (Px dA t0 ad B ha hz wr q.2) := by
  refine e_I (by decide) (Nat.le_of_ble_eq_true rfl) ?_
  intro p e s m below meth c ls A FX hr hlk hl hW
  have hx := FX.1; have hb := FX.2.1; have hown := FX.2.2.2.1; have hts := FX.2.2.2.2
  have hl : lv_has ls 1 [(0, .ref t0)] := hl
  rw [fP_undo] at hf
  refine lv_aload_n hx hb dX0_undo_0 rfl (lv_at hl 0 rfl) ?_
  refine PgX0_0_10 FX hW dX0_undo_1 ?_
  refine lv_if_ne (tgt := 9) hx hb dX0_undo_4 (by decide) (fun c4 => ?_) (fun c4 => ?_)
  · have hf := ifn c4 hf
    refine lv_aload_n hx hb dX0_undo_9 rfl (lv_at hl 0 rfl) ?_
    refine lv_dup hx hb dX0_undo_10 rfl ?_
    refine PgX0_0_10 FX hW dX0_undo_11 ?_
    refine lv_iconst (v := 1) hx hb dX0_undo_14 (by decide) ?_
    refine lv_isub hx hb dX0_undo_15 ?_
    refine PsX0_0_10 FX hW hf dX0_undo_16 (fun s1 H locs hW hf => ?_)
    refine lv_aload_n hx hb dX0_undo_19 rfl (lv_at hl 0 rfl) ?_
    refine lv_dup hx hb dX0_undo_20 rfl ?_
    refine PgX0_0_11 FX hW dX0_undo_21 ?_
    refine lv_iconst (v := 1) hx hb dX0_undo_24 (by decide) ?_
    refine lv_iadd hx hb dX0_undo_25 ?_
    refine PsX0_0_11 FX hW hf dX0_undo_26 (fun s2 H locs hW hf => ?_)
    refine lv_aload_n hx hb dX0_undo_29 rfl (lv_at hl 0 rfl) ?_
    refine lv_aload_n hx hb dX0_undo_30 rfl (lv_at hl 0 rfl) ?_
    refine PgX0_0_9 FX hW dX0_undo_31 ?_
    refine lv_aload_n hx hb dX0_undo_34 rfl (lv_at hl 0 rfl) ?_
    refine PgX0_0_10 FX hW dX0_undo_35 ?_
    refine Pwere FX hW hf dX0_undo_38 (fun a3 hf => ?_)
    refine kP_turnAbout FX ⟨Nat.le_of_ble_eq_true rfl, Nat.le_of_ble_eq_true rfl⟩ ⟨Nat.zero_le _, Nat.zero_le _⟩ hl.1 (Nat.le_of_ble_eq_true rfl) hW hf dX0_undo_39 (fun s4 H locs hW hf => ?_)
    refine lv_iconst (v := 1) hx hb dX0_undo_42 (by decide) ?_
    obtain rfl := Option.some.inj hf
    exact g_zret FX hr hlk hW rfl rfl dX0_undo_43
  · have hf := ifp c4 hf
    refine lv_iconst (v := 0) hx hb dX0_undo_7 (by decide) ?_
    obtain rfl := Option.some.inj hf
    exact g_zret FX hr hlk hW rfl rfl dX0_undo_8


/-! TrunkLitters.redo()Z: kind W -/
def fP_redo (dA : Nat → Nat) (B : Bk) (ha : Nat → Nat) (σ : Pst) : Option (Int32 × Pst) := (if (tF σ.1 11) = 0 then some ((0 : Int32), σ) else qald 40 σ.2.1 (tF σ.1 10) fun a1 => (fP_turnAbout dA B ha a1 σ).bind fun s2 => stp ((xF s2.1 10 ((tF s2.1 10) + (1 : Int32)), s2.2)) fun s3 => stp ((xF s3.1 11 ((tF s3.1 11) - (1 : Int32)), s3.2)) fun s4 => some ((1 : Int32), s4))
abbrev rP_redo : Room := { frames := 3, cells := 0, slots := 0, locals := 68 }
set_option maxHeartbeats 4000000 in
set_option maxRecDepth 100000 in
theorem mP_redo {t0 : Nat} {ad : Nat → Nat} {B : Bk} {ha : Nat → Nat} {hz : Nat → Nat → Nat} {wr : va_W}  {σ : Pst} {q : (Int32 × Pst)} (hf : fP_redo dA B ha σ = some q) : CtI l yX0_redo cX0_redo 1 (some .boolean) rP_redo D dA [.ref t0] (Px dA t0 ad B ha hz wr σ) q.1 (Px dA t0 ad B ha hz wr q.2) := by
  refine e_I (by decide) (Nat.le_of_ble_eq_true rfl) ?_
  intro p e s m below meth c ls A FX hr hlk hl hW
  have hx := FX.1; have hb := FX.2.1; have hown := FX.2.2.2.1; have hts := FX.2.2.2.2
  have hl : lv_has ls 1 [(0, .ref t0)] := hl
  rw [fP_redo] at hf
  refine lv_aload_n hx hb dX0_redo_0 rfl (lv_at hl 0 rfl) ?_
  refine PgX0_0_11 FX hW dX0_redo_1 ?_
  refine lv_if_ne (tgt := 9) hx hb dX0_redo_4 (by decide) (fun c4 => ?_) (fun c4 => ?_)
  · have hf := ifn c4 hf
    refine lv_aload_n hx hb dX0_redo_9 rfl (lv_at hl 0 rfl) ?_
    refine lv_aload_n hx hb dX0_redo_10 rfl (lv_at hl 0 rfl) ?_
    refine PgX0_0_9 FX hW dX0_redo_11 ?_
    refine lv_aload_n hx hb dX0_redo_14 rfl (lv_at hl 0 rfl) ?_
    refine PgX0_0_10 FX hW dX0_redo_15 ?_
    refine Pwere FX hW hf dX0_redo_18 (fun a1 hf => ?_)
    refine kP_turnAbout FX ⟨Nat.le_of_ble_eq_true rfl, Nat.le_of_ble_eq_true rfl⟩ ⟨Nat.zero_le _, Nat.zero_le _⟩ hl.1 (Nat.le_of_ble_eq_true rfl) hW hf dX0_redo_19 (fun s2 H locs hW hf => ?_)
    refine lv_aload_n hx hb dX0_redo_22 rfl (lv_at hl 0 rfl) ?_
    refine lv_dup hx hb dX0_redo_23 rfl ?_
    refine PgX0_0_10 FX hW dX0_redo_24 ?_
    refine lv_iconst (v := 1) hx hb dX0_redo_27 (by decide) ?_
    refine lv_iadd hx hb dX0_redo_28 ?_
    refine PsX0_0_10 FX hW hf dX0_redo_29 (fun s3 H locs hW hf => ?_)
    refine lv_aload_n hx hb dX0_redo_32 rfl (lv_at hl 0 rfl) ?_
    refine lv_dup hx hb dX0_redo_33 rfl ?_
    refine PgX0_0_11 FX hW dX0_redo_34 ?_
    refine lv_iconst (v := 1) hx hb dX0_redo_37 (by decide) ?_
    refine lv_isub hx hb dX0_redo_38 ?_
    refine PsX0_0_11 FX hW hf dX0_redo_39 (fun s4 H locs hW hf => ?_)
    refine lv_iconst (v := 1) hx hb dX0_redo_42 (by decide) ?_
    obtain rfl := Option.some.inj hf
    exact g_zret FX hr hlk hW rfl rfl dX0_redo_43
  · have hf := ifp c4 hf
    refine lv_iconst (v := 0) hx hb dX0_redo_7 (by decide) ?_
    obtain rfl := Option.some.inj hf
    exact g_zret FX hr hlk hW rfl rfl dX0_redo_8
theorem PgX0_0_24 {t0 : Nat} {ad : Nat → Nat} {B : Bk} {ha : Nat → Nat} {hz : Nat → Nat → Nat} {wr : va_W} {σ : Pst} (FX : CallFix p m c cc nL s args lw_all RX0) (hW : Wd D dA A s (Px dA t0 ad B ha hz wr σ) H locs) (hdg : decode cc pc = .ok (.getfield 105, 3)) (kk : W p l e R s m args below meth c H locs cells slots Q (F0 m (pc + 3) ls (.ref (ad 24) :: rest))) : W p l e R s m args below meth c H locs cells slots Q (F0 m pc ls (.ref t0 :: rest)) :=
  g_get FX hW (C := RX0) (T := TX0) (N := 26) (ci := 0) in_X0 0 rfl rfl 24 (by decide) q391 (fun _ h => h) rfl hdg kk
theorem PgX0_0_25 {t0 : Nat} {ad : Nat → Nat} {B : Bk} {ha : Nat → Nat} {hz : Nat → Nat → Nat} {wr : va_W} {σ : Pst} (FX : CallFix p m c cc nL s args lw_all RX0) (hW : Wd D dA A s (Px dA t0 ad B ha hz wr σ) H locs) (hdg : decode cc pc = .ok (.getfield 108, 3)) (kk : W p l e R s m args below meth c H locs cells slots Q (F0 m (pc + 3) ls (.ref (ad 25) :: rest))) : W p l e R s m args below meth c H locs cells slots Q (F0 m pc ls (.ref t0 :: rest)) :=
  g_get FX hW (C := RX0) (T := TX0) (N := 26) (ci := 0) in_X0 0 rfl rfl 25 (by decide) q392 (fun _ h => h) rfl hdg kk
theorem Pp7 {t0 : Nat} {ad : Nat → Nat} {B : Bk} {ha : Nat → Nat} {hz : Nat → Nat → Nat} {wr : va_W} {σ : Pst} : (Px dA t0 ad B ha hz wr σ)[7]? = some ((ad 25), .inl (dA 2, 3, .inl (tA σ.1 25))) := rfl
theorem Pt7 {t0 : Nat} {ad : Nat → Nat} {B : Bk} {ha : Nat → Nat} {hz : Nat → Nat → Nat} {wr : va_W} {σ : Pst} {i v : Int32} : (Px dA t0 ad B ha hz wr σ).set 7 ((ad 25), .inl (dA 2, 3, .inl (upd (tA σ.1 25) i.toNatClampNeg v))) = Px dA t0 ad B ha hz wr ((xA σ.1 25 i v, σ.2)) := rfl
set_option maxHeartbeats 4000000 in
set_option maxRecDepth 100000 in
theorem kX0_X0_isBox {α : Type} {q : α} {k : Int32 → Option α} {x0 : Int32} {ws : va_W} (FX : CallFix p m c cc nL s args lw_all RX0) (hR : rX0_isBox.frames + 1 ≤ R.frames ∧ 8 + (1 + 11) + rX0_isBox.locals ≤ R.locals) (hcs : cells ≤ R.cells ∧ slots ≤ R.slots) (hl : ls.size = nL) (hrm : (rest.map fun v => v.category).sum ≤ 8) (hW : Wd D dA A s ws H locs) (hf : (fX0_isBox x0).bind k = some q) (hdg : decode cc pc = .ok (.invokestatic 349, 3)) (kk : ∀ (r : Int32) (H1 : Heap) (locs1 : List Loc), Wd D dA A s ws H1 locs1 → k r = some q → W p l e R s m args below meth c H1 locs1 cells slots Q (F0 m (pc + 3) ls (.int r :: rest))) : W p l e R s m args below meth c H locs cells slots Q (F0 m pc ls (.int x0 :: rest)) := by
  obtain ⟨r1, h1, hf⟩ := bnd hf
  have hW2 := hW
  refine w_Si (As := [.int x0]) (rest := rest) (n := 1) (wr := ws) FX (mX0_isBox h1) (va_cwS 1 FX.2.2.2.2 (lw_S q1536 q1537 q123 q1538) rfl rfl rfl (by decide +kernel) hR) rfl hl rfl hrm ⟨Nat.le_trans (Nat.le_of_eq (Nat.add_zero cells)) hcs.1, Nat.le_trans (Nat.le_of_eq (Nat.add_zero slots)) hcs.2⟩ hdg hW ?_
  exact fun H1 locs1 hW1 => kk r1 H1 locs1 hW1 hf
/-! TrunkLitters.image(I)I: kind W -/
def fP_image (dA : Nat → Nat) (B : Bk) (ha : Nat → Nat) (x1 : Int32) (σ : Pst) : Option (Int32 × Pst) := (fX0_isBox x1).bind fun r1 => (if r1 = 0 then some ((-1 : Int32), σ) else qald 3 (bxF ha) x1 fun a2 => hpk ha a2 fun i9 => (fX3_copy (σ.2.2 i9, tN σ.1)).bind fun t9 => stp (xN σ.1 t9.2, σ.2.1, va_up σ.2.2 i9 t9.1) fun s3 => ast 3 x1 (stp ((xA s3.1 25 x1 (vp_nar .boolean (1 : Int32)), s3.2)) fun s4 => some ((hF (tN s4.1) 10), s4)))
abbrev rP_image : Room := { frames := 2, cells := 0, slots := 0, locals := 47 }
set_option maxHeartbeats 4000000 in
set_option maxRecDepth 100000 in
theorem mP_image {t0 : Nat} {ad : Nat → Nat} {B : Bk} {ha : Nat → Nat} {hz : Nat → Nat → Nat} {wr : va_W}  {x1 : Int32} {σ : Pst} {q : (Int32 × Pst)} (hf : fP_image dA B ha x1 σ = some q) : CtI l yX0_image cX0_image 2 (some .int) rP_image D dA [.ref t0, .int x1] (Px dA t0 ad B ha hz wr σ) q.1 (Px dA t0 ad B ha hz wr q.2) := by
  refine e_I (by decide) (Nat.le_of_ble_eq_true rfl) ?_
  intro p e s m below meth c ls A FX hr hlk hl hW
  have hx := FX.1; have hb := FX.2.1; have hown := FX.2.2.2.1; have hts := FX.2.2.2.2
  have hl : lv_has ls 2 [(0, .ref t0), (1, .int x1)] := hl
  rw [fP_image] at hf
  refine lv_iload_n hx hb dX0_image_0 rfl (lv_at hl 1 rfl) ?_
  refine kX0_X0_isBox FX ⟨Nat.le_of_ble_eq_true rfl, Nat.le_of_ble_eq_true rfl⟩ ⟨Nat.zero_le _, Nat.zero_le _⟩ hl.1 (Nat.le_of_ble_eq_true rfl) hW hf dX0_image_1 (fun r1 H locs hW hf => ?_)
  refine lv_if_ne (tgt := 9) hx hb dX0_image_4 (by decide) (fun c4 => ?_) (fun c4 => ?_)
  · have hf := ifn c4 hf
    refine lv_aload_n hx hb dX0_image_9 rfl (lv_at hl 0 rfl) ?_
    refine PgX0_0_24 FX hW dX0_image_10 ?_
    refine lv_iload_n hx hb dX0_image_13 rfl (lv_at hl 1 rfl) ?_
    refine Pbox FX hW hf dX0_image_14 (fun a2 hf => ?_)
    refine lv_aload_n hx hb dX0_image_15 rfl (lv_at hl 0 rfl) ?_
    refine PgX0_0_5 FX hW dX0_image_16 ?_
    refine kP_copy_pn FX ⟨Nat.le_of_ble_eq_true rfl, Nat.le_of_ble_eq_true rfl⟩ ⟨Nat.zero_le _, Nat.zero_le _⟩ hl.1 (Nat.le_of_ble_eq_true rfl) hW hf dX0_image_19 (fun s3 H locs hW hf => ?_)
    refine lv_pop hx hb dX0_image_22 rfl ?_
    refine lv_aload_n hx hb dX0_image_23 rfl (lv_at hl 0 rfl) ?_
    refine PgX0_0_25 FX hW dX0_image_24 ?_
    refine lv_iload_n hx hb dX0_image_27 rfl (lv_at hl 1 rfl) ?_
    refine lv_iconst (v := 1) hx hb dX0_image_28 (by decide) ?_
    refine g_zast FX hW 7 Pp7 (L := Px dA t0 ad B ha hz wr) (Pt7) hf dX0_image_29 (fun s4 H locs hW hf => ?_)
    refine lv_aload_n hx hb dX0_image_30 rfl (lv_at hl 0 rfl) ?_
    refine PgX0_0_5 FX hW dX0_image_31 ?_
    refine PgX0_18_10 FX hW dX0_image_34 ?_
    obtain rfl := Option.some.inj hf
    exact g_iret FX hr hlk hW rfl dX0_image_37
  · have hf := ifp c4 hf
    refine lv_iconst (v := -1) hx hb dX0_image_7 (by decide) ?_
    obtain rfl := Option.some.inj hf
    exact g_iret FX hr hlk hW rfl dX0_image_8

set_option maxHeartbeats 4000000 in
set_option maxRecDepth 100000 in
theorem kP_copy_np {t0 : Nat} {ad : Nat → Nat} {B : Bk} {ha : Nat → Nat} {hz : Nat → Nat → Nat} {wr : va_W} {α : Type} {q : α} {k : Pst → Option α} {x : Nat} {σ : Pst} (FX : CallFix p m c cc nL s args lw_all RX0) (hR : rX3_copy.frames + 1 ≤ R.frames ∧ 8 + (2 + 11) + rX3_copy.locals ≤ R.locals) (hcs : cells ≤ R.cells ∧ slots ≤ R.slots) (hl : ls.size = nL) (hrm : (rest.map fun v => v.category).sum ≤ 8) (hW : Wd D dA A s (Px dA t0 ad B ha hz wr σ) H locs) (hf : hpk ha x (fun i9 => (fX3_copy (tN σ.1, σ.2.2 i9)).bind (fun t9 => stp (xN σ.1 t9.1, σ.2.1, va_up σ.2.2 i9 t9.2) k)) = some q) (hdg : decode cc pc = .ok (.invokevirtual 219, 3)) (kk : ∀ (σ1 : Pst) (H1 : Heap) (locs1 : List Loc), Wd D dA A s (Px dA t0 ad B ha hz wr σ1) H1 locs1 → k σ1 = some q → W p l e R s m args below meth c H1 locs1 cells slots Q (F0 m (pc + 3) ls (.ref (ad 5) :: rest))) : W p l e R s m args below meth c H locs cells slots Q (F0 m pc ls (.ref x :: .ref (ad 5) :: rest)) := by
  obtain ⟨i9, hi9, hx, -, hf9⟩ := hpk_some hf
  clear hf
  subst hx
  have hf := hf9
  obtain ⟨r1, h1, hf⟩ := bnd hf
  have hW2 := P_np_in hi9 hW
  refine w_VR (C := RX3) (As := [.ref (ha i9)]) (rest := rest) (n := 1) (wr := []) FX (mX3_copy h1) (cwV 1 FX.2.2.2.2 (lw_V q1273 q1274 q1275 q129 q1276) rfl rfl rfl (by decide +kernel) hR) (va_recv hW2.2.2.2.1 hW2.1 (ci := 3) (q0 := 0) rfl rfl) rfl hl rfl hrm ⟨Nat.le_trans (Nat.le_of_eq (Nat.add_zero cells)) hcs.1, Nat.le_trans (Nat.le_of_eq (Nat.add_zero slots)) hcs.2⟩ hdg hW2.nil ?_
  exact fun H1 locs1 hW1 => kk _ H1 locs1 (P_np_out hi9 hW1.nil') hf
/-! TrunkLitters.back(I)I: kind W -/
def fP_back (dA : Nat → Nat) (B : Bk) (ha : Nat → Nat) (x1 : Int32) (σ : Pst) : Option (Int32 × Pst) := (fX0_isBox x1).bind fun r1 => (if r1 = 0 then some ((-1 : Int32), σ) else ald 3 (tA σ.1 25) x1 fun v2 => (if v2 = 0 then some ((-1 : Int32), σ) else qald 3 (bxF ha) x1 fun a3 => hpk ha a3 fun i9 => (fX3_copy (tN σ.1, σ.2.2 i9)).bind fun t9 => stp (xN σ.1 t9.1, σ.2.1, va_up σ.2.2 i9 t9.2) fun s4 => stp ((xF s4.1 10 (0 : Int32), s4.2)) fun s5 => stp ((xF s5.1 11 (0 : Int32), s5.2)) fun s6 => some ((hF (tN s6.1) 10), s6)))
abbrev rP_back : Room := { frames := 2, cells := 0, slots := 0, locals := 47 }
set_option maxHeartbeats 4000000 in
set_option maxRecDepth 100000 in
theorem mP_back {t0 : Nat} {ad : Nat → Nat} {B : Bk} {ha : Nat → Nat} {hz : Nat → Nat → Nat} {wr : va_W}  {x1 : Int32} {σ : Pst} {q : (Int32 × Pst)} (hf : fP_back dA B ha x1 σ = some q) : CtI l yX0_back cX0_back 2 (some .int) rP_back D dA [.ref t0, .int x1] (Px dA t0 ad B ha hz wr σ) q.1 (Px dA t0 ad B ha hz wr q.2) := by
  refine e_I (by decide) (Nat.le_of_ble_eq_true rfl) ?_
  intro p e s m below meth c ls A FX hr hlk hl hW
  have hx := FX.1; have hb := FX.2.1; have hown := FX.2.2.2.1; have hts := FX.2.2.2.2
  have hl : lv_has ls 2 [(0, .ref t0), (1, .int x1)] := hl
  rw [fP_back] at hf
  refine lv_iload_n hx hb dX0_back_0 rfl (lv_at hl 1 rfl) ?_
  refine kX0_X0_isBox FX ⟨Nat.le_of_ble_eq_true rfl, Nat.le_of_ble_eq_true rfl⟩ ⟨Nat.zero_le _, Nat.zero_le _⟩ hl.1 (Nat.le_of_ble_eq_true rfl) hW hf dX0_back_1 (fun r1 H locs hW hf => ?_)
  refine lv_if_eq (tgt := 16) hx hb dX0_back_4 (by decide) (fun c4 => ?_) (fun c4 => ?_)
  · have hf := ifp c4 hf
    refine lv_iconst (v := -1) hx hb dX0_back_16 (by decide) ?_
    obtain rfl := Option.some.inj hf
    exact g_iret FX hr hlk hW rfl dX0_back_17
  · have hf := ifn c4 hf
    refine lv_aload_n hx hb dX0_back_7 rfl (lv_at hl 0 rfl) ?_
    refine PgX0_0_25 FX hW dX0_back_8 ?_
    refine lv_iload_n hx hb dX0_back_11 rfl (lv_at hl 1 rfl) ?_
    refine g_zald FX hW 7 Pp7 hf dX0_back_12 (fun v2 hf => ?_)
    refine lv_if_ne (tgt := 18) hx hb dX0_back_13 (by decide) (fun c13 => ?_) (fun c13 => ?_)
    · have hf := ifn c13 hf
      refine lv_aload_n hx hb dX0_back_18 rfl (lv_at hl 0 rfl) ?_
      refine PgX0_0_5 FX hW dX0_back_19 ?_
      refine lv_aload_n hx hb dX0_back_22 rfl (lv_at hl 0 rfl) ?_
      refine PgX0_0_24 FX hW dX0_back_23 ?_
      refine lv_iload_n hx hb dX0_back_26 rfl (lv_at hl 1 rfl) ?_
      refine Pbox FX hW hf dX0_back_27 (fun a3 hf => ?_)
      refine kP_copy_np FX ⟨Nat.le_of_ble_eq_true rfl, Nat.le_of_ble_eq_true rfl⟩ ⟨Nat.zero_le _, Nat.zero_le _⟩ hl.1 (Nat.le_of_ble_eq_true rfl) hW hf dX0_back_28 (fun s4 H locs hW hf => ?_)
      refine lv_pop hx hb dX0_back_31 rfl ?_
      refine lv_aload_n hx hb dX0_back_32 rfl (lv_at hl 0 rfl) ?_
      refine lv_iconst (v := 0) hx hb dX0_back_33 (by decide) ?_
      refine PsX0_0_10 FX hW hf dX0_back_34 (fun s5 H locs hW hf => ?_)
      refine lv_aload_n hx hb dX0_back_37 rfl (lv_at hl 0 rfl) ?_
      refine lv_iconst (v := 0) hx hb dX0_back_38 (by decide) ?_
      refine PsX0_0_11 FX hW hf dX0_back_39 (fun s6 H locs hW hf => ?_)
      refine lv_aload_n hx hb dX0_back_42 rfl (lv_at hl 0 rfl) ?_
      refine PgX0_0_5 FX hW dX0_back_43 ?_
      refine PgX0_18_10 FX hW dX0_back_46 ?_
      obtain rfl := Option.some.inj hf
      exact g_iret FX hr hlk hW rfl dX0_back_49
    · have hf := ifp c13 hf
      refine lv_iconst (v := -1) hx hb dX0_back_16 (by decide) ?_
      obtain rfl := Option.some.inj hf
      exact g_iret FX hr hlk hW rfl dX0_back_17
end PM
