section D04
variable {p : Program} {l : Launch} {e : Env} {R : Room} {s : State} {m : MethodId} {args : Array Value} {below : List Frame} {meth : Method} {c : Code} {H : Heap} {locs : List Loc} {cells slots : Nat} {Q : State → Prop}
variable {cc : ByteArray} {pc nL : Nat} {ls : Array Slot} {rest : List Value} {D : va_G} {dA : Nat → ClassId} {A : Nat → Prop}
theorem DgX0_0_8 {t0 : Nat} {ad : Nat → Nat} {B : Bk} {wr : va_W} {σ : Dst} (FX : CallFix p m c cc nL s args lw_all RX0) (hW : Wd D dA A s (Dx dA t0 ad B wr σ) H locs) (hdg : decode cc pc = .ok (.getfield 333, 3)) (kk : W p l e R s m args below meth c H locs cells slots Q (F0 m (pc + 3) ls (.int (tF σ 8) :: rest))) : W p l e R s m args below meth c H locs cells slots Q (F0 m pc ls (.ref t0 :: rest)) :=
  g_get FX hW (C := RX0) (T := TX0) (N := 26) (ci := 0) in_X0 0 rfl rfl 8 (by decide) q375 (fun _ h => h) rfl hdg kk
theorem DsX0_0_8 {t0 : Nat} {ad : Nat → Nat} {B : Bk} {wr : va_W} {σ : Dst} {α : Type} {q : α} {v : Int32} {k : Dst → Option α} (FX : CallFix p m c cc nL s args lw_all RX0) (hW : Wd D dA A s (Dx dA t0 ad B wr σ) H locs) (hf : stp (xF σ 8 v) k = some q) (hdg : decode cc pc = .ok (.putfield 333, 3)) (kk : ∀ (σ1 : Dst) (H1 : Heap) (locs1 : List Loc), Wd D dA A s (Dx dA t0 ad B wr σ1) H1 locs1 → k σ1 = some q → W p l e R s m args below meth c H1 locs1 cells slots Q (F0 m (pc + 3) ls rest)) : W p l e R s m args below meth c H locs cells slots Q (F0 m pc ls (.int v :: .ref t0 :: rest)) :=
  g_put FX hW (C := RX0) (T := TX0) (N := 26) (ci := 0) (ty := .int) in_X0 tyX0 tyX0_ok nmX0 0 rfl rfl 8 (by decide) q375 (fun _ h => h) rfl (by decide +kernel) rfl rfl (Nat.le_of_ble_eq_true rfl) (ws' := Dx dA t0 ad B wr (xF σ 8 v)) rfl hdg (fun H1 locs1 hW1 => kk _ H1 locs1 hW1 hf)

/-! TrunkLitters.later(I)I: kind W -/
def fD_later (dA : Nat → Nat) (B : Bk) (x1 : Int32) (σ : Dst) : Option (Int32 × Dst) := (if x1 < 0 then some ((-1 : Int32), σ) else (if (1000 : Int32) < x1 then some ((-1 : Int32), σ) else (if ((tF σ 8) + x1) ≤ (100000 : Int32) then stp (xF σ 8 ((tF σ 8) + x1)) fun s1 => some ((tF s1 8), s1) else some ((-1 : Int32), σ))))
abbrev rD_later : Room := { frames := 0, cells := 0, slots := 0, locals := 0 }
set_option maxHeartbeats 4000000 in
set_option maxRecDepth 100000 in
theorem mD_later {t0 : Nat} {ad : Nat → Nat} {B : Bk} {wr : va_W}  {x1 : Int32} {σ : Dst} {q : (Int32 × Dst)} (hf : fD_later dA B x1 σ = some q) : CtI l yX0_later cX0_later 2 (some .int) rD_later D dA [.ref t0, .int x1] (Dx dA t0 ad B wr σ) q.1 (Dx dA t0 ad B wr q.2) := by
  refine e_I (by decide) (Nat.le_of_ble_eq_true rfl) ?_
  intro p e s m below meth c ls A FX hr hlk hl hW
  have hx := FX.1; have hb := FX.2.1; have hown := FX.2.2.2.1; have hts := FX.2.2.2.2
  have hl : lv_has ls 2 [(0, .ref t0), (1, .int x1)] := hl
  rw [fD_later] at hf
  refine lv_iload_n hx hb dX0_later_0 rfl (lv_at hl 1 rfl) ?_
  refine lv_if_lt (tgt := 23) hx hb dX0_later_1 (by decide) (fun c1 => ?_) (fun c1 => ?_)
  · have hf := ifp c1 hf
    refine lv_iconst (v := -1) hx hb dX0_later_23 (by decide) ?_
    obtain rfl := Option.some.inj hf
    exact g_iret FX hr hlk hW rfl dX0_later_24
  · have hf := ifn c1 hf
    refine lv_iload_n hx hb dX0_later_4 rfl (lv_at hl 1 rfl) ?_
    refine lv_sipush (v := 1000) hx hb dX0_later_5 (by decide) ?_
    refine lv_icmp_gt (tgt := 23) hx hb dX0_later_8 (by decide) (fun c8 => ?_) (fun c8 => ?_)
    · have hf := ifp c8 hf
      refine lv_iconst (v := -1) hx hb dX0_later_23 (by decide) ?_
      obtain rfl := Option.some.inj hf
      exact g_iret FX hr hlk hW rfl dX0_later_24
    · have hf := ifn c8 hf
      refine lv_aload_n hx hb dX0_later_11 rfl (lv_at hl 0 rfl) ?_
      refine DgX0_0_8 FX hW dX0_later_12 ?_
      refine lv_iload_n hx hb dX0_later_15 rfl (lv_at hl 1 rfl) ?_
      refine lv_iadd hx hb dX0_later_16 ?_
      refine lv_ldcw (v := 100000) hx hb hown (hts _ q1501) dX0_later_17 ?_
      refine lv_icmp_le (tgt := 25) hx hb dX0_later_20 (by decide) (fun c20 => ?_) (fun c20 => ?_)
      · have hf := ifp c20 hf
        refine lv_aload_n hx hb dX0_later_25 rfl (lv_at hl 0 rfl) ?_
        refine lv_dup hx hb dX0_later_26 rfl ?_
        refine DgX0_0_8 FX hW dX0_later_27 ?_
        refine lv_iload_n hx hb dX0_later_30 rfl (lv_at hl 1 rfl) ?_
        refine lv_iadd hx hb dX0_later_31 ?_
        refine DsX0_0_8 FX hW hf dX0_later_32 (fun s1 H locs hW hf => ?_)
        refine lv_aload_n hx hb dX0_later_35 rfl (lv_at hl 0 rfl) ?_
        refine DgX0_0_8 FX hW dX0_later_36 ?_
        obtain rfl := Option.some.inj hf
        exact g_iret FX hr hlk hW rfl dX0_later_39
      · have hf := ifn c20 hf
        refine lv_iconst (v := -1) hx hb dX0_later_23 (by decide) ?_
        obtain rfl := Option.some.inj hf
        exact g_iret FX hr hlk hW rfl dX0_later_24
theorem DgX0_0_22 {t0 : Nat} {ad : Nat → Nat} {B : Bk} {wr : va_W} {σ : Dst} (FX : CallFix p m c cc nL s args lw_all RX0) (hW : Wd D dA A s (Dx dA t0 ad B wr σ) H locs) (hdg : decode cc pc = .ok (.getfield 98, 3)) (kk : W p l e R s m args below meth c H locs cells slots Q (F0 m (pc + 3) ls (.ref (ad 22) :: rest))) : W p l e R s m args below meth c H locs cells slots Q (F0 m pc ls (.ref t0 :: rest)) :=
  g_get FX hW (C := RX0) (T := TX0) (N := 26) (ci := 0) in_X0 0 rfl rfl 22 (by decide) q389 (fun _ h => h) rfl hdg kk
theorem Dp5 {t0 : Nat} {ad : Nat → Nat} {B : Bk} {wr : va_W} {σ : Dst} : (Dx dA t0 ad B wr σ)[5]? = some ((ad 22), .inl (dA 2, 64, .inl (tA σ 22))) := rfl
theorem DgX0_0_23 {t0 : Nat} {ad : Nat → Nat} {B : Bk} {wr : va_W} {σ : Dst} (FX : CallFix p m c cc nL s args lw_all RX0) (hW : Wd D dA A s (Dx dA t0 ad B wr σ) H locs) (hdg : decode cc pc = .ok (.getfield 102, 3)) (kk : W p l e R s m args below meth c H locs cells slots Q (F0 m (pc + 3) ls (.ref (ad 23) :: rest))) : W p l e R s m args below meth c H locs cells slots Q (F0 m pc ls (.ref t0 :: rest)) :=
  g_get FX hW (C := RX0) (T := TX0) (N := 26) (ci := 0) in_X0 0 rfl rfl 23 (by decide) q390 (fun _ h => h) rfl hdg kk
theorem Dp6 {t0 : Nat} {ad : Nat → Nat} {B : Bk} {wr : va_W} {σ : Dst} : (Dx dA t0 ad B wr σ)[6]? = some ((ad 23), .inl (dA 0, 7, .inl (tA σ 23))) := rfl
theorem Dt6 {t0 : Nat} {ad : Nat → Nat} {B : Bk} {wr : va_W} {σ : Dst} {i v : Int32} : (Dx dA t0 ad B wr σ).set 6 ((ad 23), .inl (dA 0, 7, .inl (upd (tA σ 23) i.toNatClampNeg v))) = Dx dA t0 ad B wr (xA σ 23 i v) := rfl
set_option maxHeartbeats 4000000 in
set_option maxRecDepth 100000 in
theorem kD_sharedAsTold {t0 : Nat} {ad : Nat → Nat} {B : Bk} {wr : va_W} {α : Type} {q : α} {k : Int32 → Option α} {x1 : Int32} {x2 : Int32} {σ : Dst} (FX : CallFix p m c cc nL s args lw_all RX0) (hR : rD_sharedAsTold.frames + 1 ≤ R.frames ∧ 8 + (3 + 11) + rD_sharedAsTold.locals ≤ R.locals) (hcs : cells ≤ R.cells ∧ slots ≤ R.slots) (hl : ls.size = nL) (hrm : (rest.map fun v => v.category).sum ≤ 8) (hW : Wd D dA A s (Dx dA t0 ad B wr σ) H locs) (hf : (fD_sharedAsTold dA B x1 x2 σ).bind k = some q) (hdg : decode cc pc = .ok (.invokevirtual 343, 3)) (kk : ∀ (r : Int32) (H1 : Heap) (locs1 : List Loc), Wd D dA A s (Dx dA t0 ad B wr σ) H1 locs1 → k r = some q → W p l e R s m args below meth c H1 locs1 cells slots Q (F0 m (pc + 3) ls (.int r :: rest))) : W p l e R s m args below meth c H locs cells slots Q (F0 m pc ls (.int x2 :: .int x1 :: .ref t0 :: rest)) := by
  obtain ⟨r1, h1, hf⟩ := bnd hf
  have hW2 := hW
  refine w_Vi (C := RX0) (As := [.int x1, .int x2]) (rest := rest) (n := 2) (wr := []) FX (mD_sharedAsTold h1) (cwV 2 FX.2.2.2.2 (lw_V q1531 q1516 qs51 q123 q1517) rfl rfl rfl (by decide +kernel) hR) (va_recv hW2.2.2.2.1 hW2.1 (ci := 0) (q0 := 0) rfl rfl) rfl hl rfl hrm ⟨Nat.le_trans (Nat.le_of_eq (Nat.add_zero cells)) hcs.1, Nat.le_trans (Nat.le_of_eq (Nat.add_zero slots)) hcs.2⟩ hdg hW2.nil ?_
  exact fun H1 locs1 hW1 => kk r1 H1 locs1 (hW1.nil') hf
/-! TrunkLitters.leftBy(I)I: kind W -/
def fD_leftBy_25 (dA : Nat → Nat) (B : Bk) : Nat → Int32 → Int32 → Int32 → Dst → Option (Int32 × Dst)
  | 0, _, _, _, _ => none
  | n + 1, x1, x2, x3, σ => (if (63 : Int32) < x3 then some (x2, σ) else ald 64 (tA σ 22) x3 fun v1 => (if v1 = 0 then fD_leftBy_25 dA B n x1 x2 (x3 + (1 : Int32)) σ else (fD_sharedAsTold dA B x3 x1 σ).bind fun r2 => ald 7 (tA σ 23) r2 fun v3 => ast 7 r2 (stp (xA σ 23 r2 (v3 + (1 : Int32))) fun s4 => ald 7 (tA s4 23) r2 fun v5 => fD_leftBy_25 dA B n x1 (if x2 < v5 then v5 else x2) (x3 + (1 : Int32)) s4)))
def fD_leftBy_2 (dA : Nat → Nat) (B : Bk) : Nat → Int32 → Int32 → Dst → Option (Int32 × Dst)
  | 0, _, _, _ => none
  | n + 1, x1, x2, σ => (if (6 : Int32) < x2 then fD_leftBy_25 dA B FU x1 (0 : Int32) (0 : Int32) σ else ast 7 x2 (stp (xA σ 23 x2 (0 : Int32)) fun s1 => fD_leftBy_2 dA B n x1 (x2 + (1 : Int32)) s1))
def fD_leftBy (dA : Nat → Nat) (B : Bk) (x1 : Int32) (σ : Dst) : Option (Int32 × Dst) := fD_leftBy_2 dA B FU x1 (0 : Int32) σ
abbrev rD_leftBy : Room := { frames := 5, cells := 0, slots := 0, locals := 113 }
set_option maxHeartbeats 4000000 in
set_option maxRecDepth 100000 in
theorem wD_leftBy_25 {t0 : Nat} {ad : Nat → Nat} {B : Bk} {wr : va_W} {q : (Int32 × Dst)} (FX : CallFix p m c cX0_leftBy 5 s args lw_all RX0) (hr : meth.sig.returnType = (some .int)) (hlk : meth.locks = false) : ∀ n : Nat, ∀ (x1 : Int32) (x2 : Int32) (x3 : Int32) (σ : Dst) (H : Heap) (locs : List Loc) (ls : Array Slot), lv_has ls 5 [(0, .ref t0), (1, .int x1), (2, .int x2), (3, .int x3)] → Wd D dA A s (Dx dA t0 ad B wr σ) H locs → fD_leftBy_25 dA B n x1 x2 x3 σ = some q → W p l e rD_leftBy s m args below meth c H locs 0 0 (QI D dA A below args s 0 0 q.1 (Dx dA t0 ad B wr q.2)) (F0 m 25 ls []) := by
  have hx := FX.1; have hb := FX.2.1; have hown := FX.2.2.2.1; have hts := FX.2.2.2.2
  intro n
  induction n with
  | zero =>
    intro x1 x2 x3 σ H locs ls hl hW hf
    cases (show (none : Option (Int32 × Dst)) = some q from hf)
  | succ n ih =>
    intro x1 x2 x3 σ H locs ls hl hW hf
    rw [fD_leftBy_25] at hf
    refine lv_iload_n hx hb dX0_leftBy_25 rfl (lv_at hl 3 rfl) ?_
    refine lv_bipush (v := 63) hx hb dX0_leftBy_26 (by decide) ?_
    refine lv_icmp_gt (tgt := 80) hx hb dX0_leftBy_28 (by decide) (fun c28 => ?_) (fun c28 => ?_)
    · have hf := ifp c28 hf
      refine lv_iload_n hx hb dX0_leftBy_80 rfl (lv_at hl 2 rfl) ?_
      obtain rfl := Option.some.inj hf
      exact g_iret FX hr hlk hW rfl dX0_leftBy_81
    · have hf := ifn c28 hf
      refine lv_aload_n hx hb dX0_leftBy_31 rfl (lv_at hl 0 rfl) ?_
      refine DgX0_0_22 FX hW dX0_leftBy_32 ?_
      refine lv_iload_n hx hb dX0_leftBy_35 rfl (lv_at hl 3 rfl) ?_
      refine g_zald FX hW 5 Dp5 hf dX0_leftBy_36 (fun v1 hf => ?_)
      refine lv_if_ne (tgt := 43) hx hb dX0_leftBy_37 (by decide) (fun c37 => ?_) (fun c37 => ?_)
      · have hf := ifn c37 hf
        refine lv_aload_n hx hb dX0_leftBy_43 rfl (lv_at hl 0 rfl) ?_
        refine lv_iload_n hx hb dX0_leftBy_44 rfl (lv_at hl 3 rfl) ?_
        refine lv_iload_n hx hb dX0_leftBy_45 rfl (lv_at hl 1 rfl) ?_
        refine kD_sharedAsTold FX ⟨Nat.le_of_ble_eq_true rfl, Nat.le_of_ble_eq_true rfl⟩ ⟨Nat.zero_le _, Nat.zero_le _⟩ hl.1 (Nat.le_of_ble_eq_true rfl) hW hf dX0_leftBy_46 (fun r2 H locs hW hf => ?_)
        refine lv_istore (lv' := [(4, .int r2), (0, .ref t0), (1, .int x1), (2, .int x2), (3, .int x3)]) hx hb dX0_leftBy_49 hl (by decide) rfl (fun ls hl => ?_)
        refine lv_aload_n hx hb dX0_leftBy_51 rfl (lv_at hl 1 rfl) ?_
        refine DgX0_0_23 FX hW dX0_leftBy_52 ?_
        refine lv_iload hx hb dX0_leftBy_55 (lv_at hl 0 rfl) ?_
        refine lv_dup2_11 hx hb dX0_leftBy_57 rfl rfl ?_
        refine g_iald FX hW 6 Dp6 hf dX0_leftBy_58 (fun v3 hf => ?_)
        refine lv_iconst (v := 1) hx hb dX0_leftBy_59 (by decide) ?_
        refine lv_iadd hx hb dX0_leftBy_60 ?_
        refine g_iast FX hW 6 Dp6 (L := Dx dA t0 ad B wr) (Dt6) hf dX0_leftBy_61 (fun s4 H locs hW hf => ?_)
        refine lv_iload_n hx hb dX0_leftBy_62 rfl (lv_at hl 3 rfl) ?_
        refine lv_aload_n hx hb dX0_leftBy_63 rfl (lv_at hl 1 rfl) ?_
        refine DgX0_0_23 FX hW dX0_leftBy_64 ?_
        refine lv_iload hx hb dX0_leftBy_67 (lv_at hl 0 rfl) ?_
        refine g_iald FX hW 6 Dp6 hf dX0_leftBy_69 (fun v5 hf => ?_)
        refine va_mmax hx hb (FX.2.2.1.trans hl.1.symm) hown (hts _ q1355) (hts _ q572) (hts _ q139) (hts _ q573) (Nat.le_of_ble_eq_true rfl) (Nat.le_of_ble_eq_true rfl) (Nat.zero_le _) (Nat.zero_le _) dX0_leftBy_70 ?_
        refine lv_istore_n (lv' := [(2, .int (if x2 < v5 then v5 else x2)), (4, .int r2), (0, .ref t0), (1, .int x1), (3, .int x3)]) hx hb dX0_leftBy_73 rfl hl (by decide) rfl (fun ls hl => ?_)
        refine lv_iinc (v := (x3 + (1 : Int32))) (lv' := [(3, .int (x3 + (1 : Int32))), (2, .int (if x2 < v5 then v5 else x2)), (4, .int r2), (0, .ref t0), (1, .int x1)]) hx hb dX0_leftBy_74 hl (k := 4) rfl rfl (by decide) rfl (fun ls hl => ?_)
        refine lv_goto (tgt := 25) hx hb dX0_leftBy_77 (by decide) ?_
        exact ih x1 (if x2 < v5 then v5 else x2) (x3 + (1 : Int32)) s4 _ _ _ (lv_sub hl [3, 4, 1, 0] rfl) hW hf
      · have hf := ifp c37 hf
        refine lv_goto (tgt := 74) hx hb dX0_leftBy_40 (by decide) ?_
        refine lv_iinc (v := (x3 + (1 : Int32))) (lv' := [(3, .int (x3 + (1 : Int32))), (0, .ref t0), (1, .int x1), (2, .int x2)]) hx hb dX0_leftBy_74 hl (k := 3) rfl rfl (by decide) rfl (fun ls hl => ?_)
        refine lv_goto (tgt := 25) hx hb dX0_leftBy_77 (by decide) ?_
        exact ih x1 x2 (x3 + (1 : Int32)) σ _ _ _ (lv_sub hl [1, 2, 3, 0] rfl) hW hf
set_option maxHeartbeats 4000000 in
set_option maxRecDepth 100000 in
theorem wD_leftBy_2 {t0 : Nat} {ad : Nat → Nat} {B : Bk} {wr : va_W} {q : (Int32 × Dst)} (FX : CallFix p m c cX0_leftBy 5 s args lw_all RX0) (hr : meth.sig.returnType = (some .int)) (hlk : meth.locks = false) : ∀ n : Nat, ∀ (x1 : Int32) (x2 : Int32) (σ : Dst) (H : Heap) (locs : List Loc) (ls : Array Slot), lv_has ls 5 [(0, .ref t0), (1, .int x1), (2, .int x2)] → Wd D dA A s (Dx dA t0 ad B wr σ) H locs → fD_leftBy_2 dA B n x1 x2 σ = some q → W p l e rD_leftBy s m args below meth c H locs 0 0 (QI D dA A below args s 0 0 q.1 (Dx dA t0 ad B wr q.2)) (F0 m 2 ls []) := by
  have hx := FX.1; have hb := FX.2.1; have hown := FX.2.2.2.1; have hts := FX.2.2.2.2
  intro n
  induction n with
  | zero =>
    intro x1 x2 σ H locs ls hl hW hf
    cases (show (none : Option (Int32 × Dst)) = some q from hf)
  | succ n ih =>
    intro x1 x2 σ H locs ls hl hW hf
    rw [fD_leftBy_2] at hf
    refine lv_iload_n hx hb dX0_leftBy_2 rfl (lv_at hl 2 rfl) ?_
    refine lv_bipush (v := 6) hx hb dX0_leftBy_3 (by decide) ?_
    refine lv_icmp_gt (tgt := 21) hx hb dX0_leftBy_5 (by decide) (fun c5 => ?_) (fun c5 => ?_)
    · have hf := ifp c5 hf
      refine lv_iconst (v := 0) hx hb dX0_leftBy_21 (by decide) ?_
      refine lv_istore_n (lv' := [(2, .int (0 : Int32)), (0, .ref t0), (1, .int x1)]) hx hb dX0_leftBy_22 rfl hl (by decide) rfl (fun ls hl => ?_)
      refine lv_iconst (v := 0) hx hb dX0_leftBy_23 (by decide) ?_
      refine lv_istore_n (lv' := [(3, .int (0 : Int32)), (2, .int (0 : Int32)), (0, .ref t0), (1, .int x1)]) hx hb dX0_leftBy_24 rfl hl (by decide) rfl (fun ls hl => ?_)
      exact wD_leftBy_25 FX hr hlk _ x1 (0 : Int32) (0 : Int32) σ _ _ _ (lv_sub hl [2, 3, 1, 0] rfl) hW hf
    · have hf := ifn c5 hf
      refine lv_aload_n hx hb dX0_leftBy_8 rfl (lv_at hl 0 rfl) ?_
      refine DgX0_0_23 FX hW dX0_leftBy_9 ?_
      refine lv_iload_n hx hb dX0_leftBy_12 rfl (lv_at hl 2 rfl) ?_
      refine lv_iconst (v := 0) hx hb dX0_leftBy_13 (by decide) ?_
      refine g_iast FX hW 6 Dp6 (L := Dx dA t0 ad B wr) (Dt6) hf dX0_leftBy_14 (fun s1 H locs hW hf => ?_)
      refine lv_iinc (v := (x2 + (1 : Int32))) (lv' := [(2, .int (x2 + (1 : Int32))), (0, .ref t0), (1, .int x1)]) hx hb dX0_leftBy_15 hl (k := 2) rfl rfl (by decide) rfl (fun ls hl => ?_)
      refine lv_goto (tgt := 2) hx hb dX0_leftBy_18 (by decide) ?_
      exact ih x1 (x2 + (1 : Int32)) s1 _ _ _ (lv_sub hl [1, 2, 0] rfl) hW hf
set_option maxHeartbeats 4000000 in
set_option maxRecDepth 100000 in
theorem mD_leftBy {t0 : Nat} {ad : Nat → Nat} {B : Bk} {wr : va_W}  {x1 : Int32} {σ : Dst} {q : (Int32 × Dst)} (hf : fD_leftBy dA B x1 σ = some q) : CtI l yX0_leftBy cX0_leftBy 5 (some .int) rD_leftBy D dA [.ref t0, .int x1] (Dx dA t0 ad B wr σ) q.1 (Dx dA t0 ad B wr q.2) := by
  refine e_I (by decide) (Nat.le_of_ble_eq_true rfl) ?_
  intro p e s m below meth c ls A FX hr hlk hl hW
  have hx := FX.1; have hb := FX.2.1; have hown := FX.2.2.2.1; have hts := FX.2.2.2.2
  have hl : lv_has ls 5 [(0, .ref t0), (1, .int x1)] := hl
  rw [fD_leftBy] at hf
  refine lv_iconst (v := 0) hx hb dX0_leftBy_0 (by decide) ?_
  refine lv_istore_n (lv' := [(2, .int (0 : Int32)), (0, .ref t0), (1, .int x1)]) hx hb dX0_leftBy_1 rfl hl (by decide) rfl (fun ls hl => ?_)
  exact wD_leftBy_2 FX hr hlk _ x1 (0 : Int32) σ _ _ _ (lv_sub hl [1, 2, 0] rfl) hW hf
end D04
