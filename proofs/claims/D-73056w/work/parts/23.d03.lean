section D03
variable {p : Program} {l : Launch} {e : Env} {R : Room} {s : State} {m : MethodId} {args : Array Value} {below : List Frame} {meth : Method} {c : Code} {H : Heap} {locs : List Loc} {cells slots : Nat} {Q : State → Prop}
variable {cc : ByteArray} {pc nL : Nat} {ls : Array Slot} {rest : List Value} {D : va_G} {dA : Nat → ClassId} {A : Nat → Prop}

set_option maxHeartbeats 4000000 in
set_option maxRecDepth 100000 in
theorem kD_steps {t0 : Nat} {ad : Nat → Nat} {B : Bk} {wr : va_W} {α : Type} {q : α} {k : Int32 → Option α} {x1 : Int32} {x2 : Int32} {σ : Dst} (FX : CallFix p m c cc nL s args lw_all RX0) (hR : rD_steps.frames + 1 ≤ R.frames ∧ 8 + (5 + 11) + rD_steps.locals ≤ R.locals) (hcs : cells ≤ R.cells ∧ slots ≤ R.slots) (hl : ls.size = nL) (hrm : (rest.map fun v => v.category).sum ≤ 8) (hW : Wd D dA A s (Dx dA t0 ad B wr σ) H locs) (hf : (fD_steps dA B x1 x2 σ).bind k = some q) (hdg : decode cc pc = .ok (.invokevirtual 301, 3)) (kk : ∀ (r : Int32) (H1 : Heap) (locs1 : List Loc), Wd D dA A s (Dx dA t0 ad B wr σ) H1 locs1 → k r = some q → W p l e R s m args below meth c H1 locs1 cells slots Q (F0 m (pc + 3) ls (.int r :: rest))) : W p l e R s m args below meth c H locs cells slots Q (F0 m pc ls (.int x2 :: .int x1 :: .ref t0 :: rest)) := by
  obtain ⟨r1, h1, hf⟩ := bnd hf
  have hW2 := hW
  refine w_Vi (C := RX0) (As := [.int x1, .int x2]) (rest := rest) (n := 2) (wr := []) FX (mD_steps h1) (cwV 2 FX.2.2.2.2 (lw_V q1439 q1441 qs47 q123 q1442) rfl rfl rfl (by decide +kernel) hR) (va_recv hW2.2.2.2.1 hW2.1 (ci := 0) (q0 := 0) rfl rfl) rfl hl rfl hrm ⟨Nat.le_trans (Nat.le_of_eq (Nat.add_zero cells)) hcs.1, Nat.le_trans (Nat.le_of_eq (Nat.add_zero slots)) hcs.2⟩ hdg hW2.nil ?_
  exact fun H1 locs1 hW1 => kk r1 H1 locs1 (hW1.nil') hf
/-! TrunkLitters.kin(II)I: kind R -/
def fD_kin_71 (dA : Nat → Nat) (B : Bk) (σ : Dst) (k23 : Int32 → Int32 → Int32 → Int32 → Option Int32) (x1 : Int32) (x2 : Int32) (x4 : Int32) (x5 : Int32) (x6 : Int32) : Option Int32 := k23 x1 x2 (x5 + x6) (x4 + (1 : Int32))
def fD_kin_23 (dA : Nat → Nat) (B : Bk) (σ : Dst) : Nat → Int32 → Int32 → Int32 → Int32 → Option Int32
  | 0, _, _, _, _ => none
  | n + 1, x1, x2, x3, x4 => (if (8 : Int32) ≤ x4 then some x3 else (fD_steps dA B x1 x4 σ).bind fun r1 => (fD_steps dA B x2 x4 σ).bind fun r2 => (if r1 < 0 then fD_kin_23 dA B σ n x1 x2 x3 (x4 + (1 : Int32)) else (if r2 < 0 then fD_kin_23 dA B σ n x1 x2 x3 (x4 + (1 : Int32)) else (if x3 < 0 then fD_kin_71 dA B σ (fD_kin_23 dA B σ n) x1 x2 x4 r1 r2 else (if x3 ≤ (r1 + r2) then fD_kin_23 dA B σ n x1 x2 x3 (x4 + (1 : Int32)) else fD_kin_71 dA B σ (fD_kin_23 dA B σ n) x1 x2 x4 r1 r2)))))
def fD_kin (dA : Nat → Nat) (B : Bk) (x1 : Int32) (x2 : Int32) (σ : Dst) : Option Int32 := (fD_isTrunk dA B x1 σ).bind fun r1 => (if r1 = 0 then some (-1 : Int32) else (fD_isTrunk dA B x2 σ).bind fun r2 => (if r2 = 0 then some (-1 : Int32) else fD_kin_23 dA B σ FU x1 x2 (-1 : Int32) (0 : Int32)))
abbrev rD_kin : Room := { frames := 2, cells := 0, slots := 0, locals := 47 }
set_option maxHeartbeats 4000000 in
set_option maxRecDepth 100000 in
theorem wD_kin_71 {t0 : Nat} {ad : Nat → Nat} {B : Bk} {wr : va_W} {q : Int32} {σ : Dst} (FX : CallFix p m c cX0_kin 7 s args lw_all RX0) (hr : meth.sig.returnType = (some .int)) (hlk : meth.locks = false) {k23 : Int32 → Int32 → Int32 → Int32 → Option Int32} (hk23 : ∀ (x1 : Int32) (x2 : Int32) (x3 : Int32) (x4 : Int32) (H : Heap) (locs : List Loc) (ls : Array Slot), lv_has ls 7 [(0, .ref t0), (1, .int x1), (2, .int x2), (3, .int x3), (4, .int x4)] → Wd D dA A s (Dx dA t0 ad B wr σ) H locs → k23 x1 x2 x3 x4 = some q → W p l e rD_kin s m args below meth c H locs 0 0 (QI D dA A below args s 0 0 q (Dx dA t0 ad B wr σ)) (F0 m 23 ls [])) : ∀ (x1 : Int32) (x2 : Int32) (x4 : Int32) (x5 : Int32) (x6 : Int32) (H : Heap) (locs : List Loc) (ls : Array Slot), lv_has ls 7 [(0, .ref t0), (1, .int x1), (2, .int x2), (4, .int x4), (5, .int x5), (6, .int x6)] → Wd D dA A s (Dx dA t0 ad B wr σ) H locs → fD_kin_71 dA B σ k23 x1 x2 x4 x5 x6 = some q → W p l e rD_kin s m args below meth c H locs 0 0 (QI D dA A below args s 0 0 q (Dx dA t0 ad B wr σ)) (F0 m 71 ls []) := by
  have hx := FX.1; have hb := FX.2.1; have hown := FX.2.2.2.1; have hts := FX.2.2.2.2
  intro x1 x2 x4 x5 x6 H locs ls hl hW hf
  rw [fD_kin_71] at hf
  refine lv_iload hx hb dX0_kin_71 (lv_at hl 4 rfl) ?_
  refine lv_iload hx hb dX0_kin_73 (lv_at hl 5 rfl) ?_
  refine lv_iadd hx hb dX0_kin_75 ?_
  refine lv_istore_n (lv' := [(3, .int (x5 + x6)), (0, .ref t0), (1, .int x1), (2, .int x2), (4, .int x4), (5, .int x5), (6, .int x6)]) hx hb dX0_kin_76 rfl hl (by decide) rfl (fun ls hl => ?_)
  refine lv_iinc (v := (x4 + (1 : Int32))) (lv' := [(4, .int (x4 + (1 : Int32))), (3, .int (x5 + x6)), (0, .ref t0), (1, .int x1), (2, .int x2), (5, .int x5), (6, .int x6)]) hx hb dX0_kin_77 hl (k := 4) rfl rfl (by decide) rfl (fun ls hl => ?_)
  refine lv_goto (tgt := 23) hx hb dX0_kin_80 (by decide) ?_
  exact hk23 x1 x2 (x5 + x6) (x4 + (1 : Int32)) _ _ _ (lv_sub hl [2, 3, 4, 1, 0] rfl) hW hf
set_option maxHeartbeats 4000000 in
set_option maxRecDepth 100000 in
theorem wD_kin_23 {t0 : Nat} {ad : Nat → Nat} {B : Bk} {wr : va_W} {q : Int32} {σ : Dst} (FX : CallFix p m c cX0_kin 7 s args lw_all RX0) (hr : meth.sig.returnType = (some .int)) (hlk : meth.locks = false) : ∀ n : Nat, ∀ (x1 : Int32) (x2 : Int32) (x3 : Int32) (x4 : Int32) (H : Heap) (locs : List Loc) (ls : Array Slot), lv_has ls 7 [(0, .ref t0), (1, .int x1), (2, .int x2), (3, .int x3), (4, .int x4)] → Wd D dA A s (Dx dA t0 ad B wr σ) H locs → fD_kin_23 dA B σ n x1 x2 x3 x4 = some q → W p l e rD_kin s m args below meth c H locs 0 0 (QI D dA A below args s 0 0 q (Dx dA t0 ad B wr σ)) (F0 m 23 ls []) := by
  have hx := FX.1; have hb := FX.2.1; have hown := FX.2.2.2.1; have hts := FX.2.2.2.2
  intro n
  induction n with
  | zero =>
    intro x1 x2 x3 x4 H locs ls hl hW hf
    cases (show (none : Option Int32) = some q from hf)
  | succ n ih =>
    intro x1 x2 x3 x4 H locs ls hl hW hf
    rw [fD_kin_23] at hf
    refine lv_iload hx hb dX0_kin_23 (lv_at hl 4 rfl) ?_
    refine lv_bipush (v := 8) hx hb dX0_kin_25 (by decide) ?_
    refine lv_icmp_ge (tgt := 83) hx hb dX0_kin_27 (by decide) (fun c27 => ?_) (fun c27 => ?_)
    · have hf := ifp c27 hf
      refine lv_iload_n hx hb dX0_kin_83 rfl (lv_at hl 3 rfl) ?_
      exact g_iret FX hr hlk hW (Option.some.inj hf) dX0_kin_84
    · have hf := ifn c27 hf
      refine lv_aload_n hx hb dX0_kin_30 rfl (lv_at hl 0 rfl) ?_
      refine lv_iload_n hx hb dX0_kin_31 rfl (lv_at hl 1 rfl) ?_
      refine lv_iload hx hb dX0_kin_32 (lv_at hl 4 rfl) ?_
      refine kD_steps FX ⟨Nat.le_of_ble_eq_true rfl, Nat.le_of_ble_eq_true rfl⟩ ⟨Nat.zero_le _, Nat.zero_le _⟩ hl.1 (Nat.le_of_ble_eq_true rfl) hW hf dX0_kin_34 (fun r1 H locs hW hf => ?_)
      refine lv_istore (lv' := [(5, .int r1), (0, .ref t0), (1, .int x1), (2, .int x2), (3, .int x3), (4, .int x4)]) hx hb dX0_kin_37 hl (by decide) rfl (fun ls hl => ?_)
      refine lv_aload_n hx hb dX0_kin_39 rfl (lv_at hl 1 rfl) ?_
      refine lv_iload_n hx hb dX0_kin_40 rfl (lv_at hl 3 rfl) ?_
      refine lv_iload hx hb dX0_kin_41 (lv_at hl 5 rfl) ?_
      refine kD_steps FX ⟨Nat.le_of_ble_eq_true rfl, Nat.le_of_ble_eq_true rfl⟩ ⟨Nat.zero_le _, Nat.zero_le _⟩ hl.1 (Nat.le_of_ble_eq_true rfl) hW hf dX0_kin_43 (fun r2 H locs hW hf => ?_)
      refine lv_istore (lv' := [(6, .int r2), (5, .int r1), (0, .ref t0), (1, .int x1), (2, .int x2), (3, .int x3), (4, .int x4)]) hx hb dX0_kin_46 hl (by decide) rfl (fun ls hl => ?_)
      refine lv_iload hx hb dX0_kin_48 (lv_at hl 1 rfl) ?_
      refine lv_if_lt (tgt := 77) hx hb dX0_kin_50 (by decide) (fun c50 => ?_) (fun c50 => ?_)
      · have hf := ifp c50 hf
        refine lv_iinc (v := (x4 + (1 : Int32))) (lv' := [(4, .int (x4 + (1 : Int32))), (6, .int r2), (5, .int r1), (0, .ref t0), (1, .int x1), (2, .int x2), (3, .int x3)]) hx hb dX0_kin_77 hl (k := 6) rfl rfl (by decide) rfl (fun ls hl => ?_)
        refine lv_goto (tgt := 23) hx hb dX0_kin_80 (by decide) ?_
        exact ih x1 x2 x3 (x4 + (1 : Int32)) _ _ _ (lv_sub hl [3, 4, 5, 6, 0] rfl) hW hf
      · have hf := ifn c50 hf
        refine lv_iload hx hb dX0_kin_53 (lv_at hl 0 rfl) ?_
        refine lv_if_lt (tgt := 77) hx hb dX0_kin_55 (by decide) (fun c55 => ?_) (fun c55 => ?_)
        · have hf := ifp c55 hf
          refine lv_iinc (v := (x4 + (1 : Int32))) (lv' := [(4, .int (x4 + (1 : Int32))), (6, .int r2), (5, .int r1), (0, .ref t0), (1, .int x1), (2, .int x2), (3, .int x3)]) hx hb dX0_kin_77 hl (k := 6) rfl rfl (by decide) rfl (fun ls hl => ?_)
          refine lv_goto (tgt := 23) hx hb dX0_kin_80 (by decide) ?_
          exact ih x1 x2 x3 (x4 + (1 : Int32)) _ _ _ (lv_sub hl [3, 4, 5, 6, 0] rfl) hW hf
        · have hf := ifn c55 hf
          refine lv_iload_n hx hb dX0_kin_58 rfl (lv_at hl 5 rfl) ?_
          refine lv_if_lt (tgt := 71) hx hb dX0_kin_59 (by decide) (fun c59 => ?_) (fun c59 => ?_)
          · have hf := ifp c59 hf
            exact wD_kin_71 FX hr hlk (ih) x1 x2 x4 r1 r2 _ _ _ (lv_sub hl [2, 3, 4, 6, 1, 0] rfl) hW hf
          · have hf := ifn c59 hf
            refine lv_iload hx hb dX0_kin_62 (lv_at hl 1 rfl) ?_
            refine lv_iload hx hb dX0_kin_64 (lv_at hl 0 rfl) ?_
            refine lv_iadd hx hb dX0_kin_66 ?_
            refine lv_iload_n hx hb dX0_kin_67 rfl (lv_at hl 5 rfl) ?_
            refine lv_icmp_ge (tgt := 77) hx hb dX0_kin_68 (by decide) (fun c68 => ?_) (fun c68 => ?_)
            · have hf := ifp c68 hf
              refine lv_iinc (v := (x4 + (1 : Int32))) (lv' := [(4, .int (x4 + (1 : Int32))), (6, .int r2), (5, .int r1), (0, .ref t0), (1, .int x1), (2, .int x2), (3, .int x3)]) hx hb dX0_kin_77 hl (k := 6) rfl rfl (by decide) rfl (fun ls hl => ?_)
              refine lv_goto (tgt := 23) hx hb dX0_kin_80 (by decide) ?_
              exact ih x1 x2 x3 (x4 + (1 : Int32)) _ _ _ (lv_sub hl [3, 4, 5, 6, 0] rfl) hW hf
            · have hf := ifn c68 hf
              exact wD_kin_71 FX hr hlk (ih) x1 x2 x4 r1 r2 _ _ _ (lv_sub hl [2, 3, 4, 6, 1, 0] rfl) hW hf
set_option maxHeartbeats 4000000 in
set_option maxRecDepth 100000 in
theorem mD_kin {t0 : Nat} {ad : Nat → Nat} {B : Bk} {wr : va_W}  {x1 : Int32} {x2 : Int32} {σ : Dst} {q : Int32} (hf : fD_kin dA B x1 x2 σ = some q) : CtI l yX0_kin cX0_kin 7 (some .int) rD_kin D dA [.ref t0, .int x1, .int x2] (Dx dA t0 ad B wr σ) q (Dx dA t0 ad B wr σ) := by
  refine e_I (by decide) (Nat.le_of_ble_eq_true rfl) ?_
  intro p e s m below meth c ls A FX hr hlk hl hW
  have hx := FX.1; have hb := FX.2.1; have hown := FX.2.2.2.1; have hts := FX.2.2.2.2
  have hl : lv_has ls 7 [(0, .ref t0), (1, .int x1), (2, .int x2)] := hl
  rw [fD_kin] at hf
  refine lv_aload_n hx hb dX0_kin_0 rfl (lv_at hl 0 rfl) ?_
  refine lv_iload_n hx hb dX0_kin_1 rfl (lv_at hl 1 rfl) ?_
  refine kD_isTrunk FX ⟨Nat.le_of_ble_eq_true rfl, Nat.le_of_ble_eq_true rfl⟩ ⟨Nat.zero_le _, Nat.zero_le _⟩ hl.1 (Nat.le_of_ble_eq_true rfl) hW hf dX0_kin_2 (fun r1 H locs hW hf => ?_)
  refine lv_if_eq (tgt := 16) hx hb dX0_kin_5 (by decide) (fun c5 => ?_) (fun c5 => ?_)
  · have hf := ifp c5 hf
    refine lv_iconst (v := -1) hx hb dX0_kin_16 (by decide) ?_
    exact g_iret FX hr hlk hW (Option.some.inj hf) dX0_kin_17
  · have hf := ifn c5 hf
    refine lv_aload_n hx hb dX0_kin_8 rfl (lv_at hl 0 rfl) ?_
    refine lv_iload_n hx hb dX0_kin_9 rfl (lv_at hl 2 rfl) ?_
    refine kD_isTrunk FX ⟨Nat.le_of_ble_eq_true rfl, Nat.le_of_ble_eq_true rfl⟩ ⟨Nat.zero_le _, Nat.zero_le _⟩ hl.1 (Nat.le_of_ble_eq_true rfl) hW hf dX0_kin_10 (fun r2 H locs hW hf => ?_)
    refine lv_if_ne (tgt := 18) hx hb dX0_kin_13 (by decide) (fun c13 => ?_) (fun c13 => ?_)
    · have hf := ifn c13 hf
      refine lv_iconst (v := -1) hx hb dX0_kin_18 (by decide) ?_
      refine lv_istore_n (lv' := [(3, .int (-1 : Int32)), (0, .ref t0), (1, .int x1), (2, .int x2)]) hx hb dX0_kin_19 rfl hl (by decide) rfl (fun ls hl => ?_)
      refine lv_iconst (v := 0) hx hb dX0_kin_20 (by decide) ?_
      refine lv_istore (lv' := [(4, .int (0 : Int32)), (3, .int (-1 : Int32)), (0, .ref t0), (1, .int x1), (2, .int x2)]) hx hb dX0_kin_21 hl (by decide) rfl (fun ls hl => ?_)
      exact wD_kin_23 FX hr hlk _ x1 x2 (-1 : Int32) (0 : Int32) _ _ _ (lv_sub hl [2, 3, 4, 1, 0] rfl) hW hf
    · have hf := ifp c13 hf
      refine lv_iconst (v := -1) hx hb dX0_kin_16 (by decide) ?_
      exact g_iret FX hr hlk hW (Option.some.inj hf) dX0_kin_17
theorem DgX0_0_20 {t0 : Nat} {ad : Nat → Nat} {B : Bk} {wr : va_W} {σ : Dst} (FX : CallFix p m c cc nL s args lw_all RX0) (hW : Wd D dA A s (Dx dA t0 ad B wr σ) H locs) (hdg : decode cc pc = .ok (.getfield 307, 3)) (kk : W p l e R s m args below meth c H locs cells slots Q (F0 m (pc + 3) ls (.int (tF σ 20) :: rest))) : W p l e R s m args below meth c H locs cells slots Q (F0 m pc ls (.ref t0 :: rest)) :=
  g_get FX hW (C := RX0) (T := TX0) (N := 26) (ci := 0) in_X0 0 rfl rfl 20 (by decide) q387 (fun _ h => h) rfl hdg kk
theorem DgX0_0_18 {t0 : Nat} {ad : Nat → Nat} {B : Bk} {wr : va_W} {σ : Dst} (FX : CallFix p m c cc nL s args lw_all RX0) (hW : Wd D dA A s (Dx dA t0 ad B wr σ) H locs) (hdg : decode cc pc = .ok (.getfield 88, 3)) (kk : W p l e R s m args below meth c H locs cells slots Q (F0 m (pc + 3) ls (.ref (ad 18) :: rest))) : W p l e R s m args below meth c H locs cells slots Q (F0 m pc ls (.ref t0 :: rest)) :=
  g_get FX hW (C := RX0) (T := TX0) (N := 26) (ci := 0) in_X0 0 rfl rfl 18 (by decide) q385 (fun _ h => h) rfl hdg kk
theorem DgX0_0_19 {t0 : Nat} {ad : Nat → Nat} {B : Bk} {wr : va_W} {σ : Dst} (FX : CallFix p m c cc nL s args lw_all RX0) (hW : Wd D dA A s (Dx dA t0 ad B wr σ) H locs) (hdg : decode cc pc = .ok (.getfield 304, 3)) (kk : W p l e R s m args below meth c H locs cells slots Q (F0 m (pc + 3) ls (.int (tF σ 19) :: rest))) : W p l e R s m args below meth c H locs cells slots Q (F0 m pc ls (.ref t0 :: rest)) :=
  g_get FX hW (C := RX0) (T := TX0) (N := 26) (ci := 0) in_X0 0 rfl rfl 19 (by decide) q386 (fun _ h => h) rfl hdg kk
theorem DgX0_0_17 {t0 : Nat} {ad : Nat → Nat} {B : Bk} {wr : va_W} {σ : Dst} (FX : CallFix p m c cc nL s args lw_all RX0) (hW : Wd D dA A s (Dx dA t0 ad B wr σ) H locs) (hdg : decode cc pc = .ok (.getfield 85, 3)) (kk : W p l e R s m args below meth c H locs cells slots Q (F0 m (pc + 3) ls (.ref (ad 17) :: rest))) : W p l e R s m args below meth c H locs cells slots Q (F0 m pc ls (.ref t0 :: rest)) :=
  g_get FX hW (C := RX0) (T := TX0) (N := 26) (ci := 0) in_X0 0 rfl rfl 17 (by decide) q384 (fun _ h => h) rfl hdg kk

/-! TrunkLitters.rests(II)Z: kind R -/
def fD_rests_86 (dA : Nat → Nat) (B : Bk) (σ : Dst) (k5 : Int32 → Int32 → Int32 → Int32 → Option Int32) (x1 : Int32) (x2 : Int32) (x4 : Int32) : Option Int32 := k5 x1 x2 (0 : Int32) (x4 + (1 : Int32))
def fD_rests_82 (dA : Nat → Nat) (B : Bk) (σ : Dst) (k5 : Int32 → Int32 → Int32 → Int32 → Option Int32) (x1 : Int32) (x2 : Int32) (x4 : Int32) : Option Int32 := k5 x1 x2 (1 : Int32) (x4 + (1 : Int32))
def fD_rests_50 (dA : Nat → Nat) (B : Bk) (σ : Dst) (k5 : Int32 → Int32 → Int32 → Int32 → Option Int32) (x1 : Int32) (x2 : Int32) (x4 : Int32) : Option Int32 := (if (((tF σ 20) >>> (x4 &&& 31)) &&& (1 : Int32)) = 0 then fD_rests_82 dA B σ k5 x1 x2 x4 else ast 4 x1 (gld σ 180 x1 x4 fun v1 => ast 4 x1 (gld σ 180 x1 x2 fun v2 => (if v2 < v1 then fD_rests_86 dA B σ k5 x1 x2 x4 else fD_rests_82 dA B σ k5 x1 x2 x4))))
def fD_rests_5 (dA : Nat → Nat) (B : Bk) (σ : Dst) : Nat → Int32 → Int32 → Int32 → Int32 → Option Int32
  | 0, _, _, _, _ => none
  | n + 1, x1, x2, x3, x4 => (fD_rooms dA B σ).bind fun r1 => (if r1 ≤ x4 then zrt x3 x3 else (if x3 = 0 then fD_rests_86 dA B σ (fD_rests_5 dA B σ n) x1 x2 x4 else (if (((tF σ 19) >>> (x4 &&& 31)) &&& (1 : Int32)) = 0 then fD_rests_50 dA B σ (fD_rests_5 dA B σ n) x1 x2 x4 else ast 4 x4 (gld σ 170 x4 x2 fun v2 => ast 4 x1 (gld σ 170 x1 x2 fun v3 => (if v3 < v2 then fD_rests_86 dA B σ (fD_rests_5 dA B σ n) x1 x2 x4 else fD_rests_50 dA B σ (fD_rests_5 dA B σ n) x1 x2 x4))))))
def fD_rests (dA : Nat → Nat) (B : Bk) (x1 : Int32) (x2 : Int32) (σ : Dst) : Option Int32 := fD_rests_5 dA B σ FU x1 x2 (1 : Int32) (0 : Int32)
abbrev rD_rests : Room := { frames := 2, cells := 0, slots := 0, locals := 40 }
set_option maxHeartbeats 4000000 in
set_option maxRecDepth 100000 in
theorem wD_rests_86 {t0 : Nat} {ad : Nat → Nat} {B : Bk} {wr : va_W} {q : Int32} {σ : Dst} (FX : CallFix p m c cX0_rests 5 s args lw_all RX0) (hr : meth.sig.returnType = (some .boolean)) (hlk : meth.locks = false) {k5 : Int32 → Int32 → Int32 → Int32 → Option Int32} (hk5 : ∀ (x1 : Int32) (x2 : Int32) (x3 : Int32) (x4 : Int32) (H : Heap) (locs : List Loc) (ls : Array Slot), lv_has ls 5 [(0, .ref t0), (1, .int x1), (2, .int x2), (3, .int x3), (4, .int x4)] → Wd D dA A s (Dx dA t0 ad B wr σ) H locs → k5 x1 x2 x3 x4 = some q → W p l e rD_rests s m args below meth c H locs 0 0 (QI D dA A below args s 0 0 q (Dx dA t0 ad B wr σ)) (F0 m 5 ls [])) : ∀ (x1 : Int32) (x2 : Int32) (x4 : Int32) (H : Heap) (locs : List Loc) (ls : Array Slot), lv_has ls 5 [(0, .ref t0), (1, .int x1), (2, .int x2), (4, .int x4)] → Wd D dA A s (Dx dA t0 ad B wr σ) H locs → fD_rests_86 dA B σ k5 x1 x2 x4 = some q → W p l e rD_rests s m args below meth c H locs 0 0 (QI D dA A below args s 0 0 q (Dx dA t0 ad B wr σ)) (F0 m 86 ls []) := by
  have hx := FX.1; have hb := FX.2.1; have hown := FX.2.2.2.1; have hts := FX.2.2.2.2
  intro x1 x2 x4 H locs ls hl hW hf
  rw [fD_rests_86] at hf
  refine lv_iconst (v := 0) hx hb dX0_rests_86 (by decide) ?_
  refine lv_istore_n (lv' := [(3, .int (0 : Int32)), (0, .ref t0), (1, .int x1), (2, .int x2), (4, .int x4)]) hx hb dX0_rests_87 rfl hl (by decide) rfl (fun ls hl => ?_)
  refine lv_iinc (v := (x4 + (1 : Int32))) (lv' := [(4, .int (x4 + (1 : Int32))), (3, .int (0 : Int32)), (0, .ref t0), (1, .int x1), (2, .int x2)]) hx hb dX0_rests_88 hl (k := 4) rfl rfl (by decide) rfl (fun ls hl => ?_)
  refine lv_goto (tgt := 5) hx hb dX0_rests_91 (by decide) ?_
  exact hk5 x1 x2 (0 : Int32) (x4 + (1 : Int32)) _ _ _ (lv_sub hl [2, 3, 4, 1, 0] rfl) hW hf
set_option maxHeartbeats 4000000 in
set_option maxRecDepth 100000 in
theorem wD_rests_82 {t0 : Nat} {ad : Nat → Nat} {B : Bk} {wr : va_W} {q : Int32} {σ : Dst} (FX : CallFix p m c cX0_rests 5 s args lw_all RX0) (hr : meth.sig.returnType = (some .boolean)) (hlk : meth.locks = false) {k5 : Int32 → Int32 → Int32 → Int32 → Option Int32} (hk5 : ∀ (x1 : Int32) (x2 : Int32) (x3 : Int32) (x4 : Int32) (H : Heap) (locs : List Loc) (ls : Array Slot), lv_has ls 5 [(0, .ref t0), (1, .int x1), (2, .int x2), (3, .int x3), (4, .int x4)] → Wd D dA A s (Dx dA t0 ad B wr σ) H locs → k5 x1 x2 x3 x4 = some q → W p l e rD_rests s m args below meth c H locs 0 0 (QI D dA A below args s 0 0 q (Dx dA t0 ad B wr σ)) (F0 m 5 ls [])) : ∀ (x1 : Int32) (x2 : Int32) (x4 : Int32) (H : Heap) (locs : List Loc) (ls : Array Slot), lv_has ls 5 [(0, .ref t0), (1, .int x1), (2, .int x2), (4, .int x4)] → Wd D dA A s (Dx dA t0 ad B wr σ) H locs → fD_rests_82 dA B σ k5 x1 x2 x4 = some q → W p l e rD_rests s m args below meth c H locs 0 0 (QI D dA A below args s 0 0 q (Dx dA t0 ad B wr σ)) (F0 m 82 ls []) := by
  have hx := FX.1; have hb := FX.2.1; have hown := FX.2.2.2.1; have hts := FX.2.2.2.2
  intro x1 x2 x4 H locs ls hl hW hf
  rw [fD_rests_82] at hf
  refine lv_iconst (v := 1) hx hb dX0_rests_82 (by decide) ?_
  refine lv_goto (tgt := 87) hx hb dX0_rests_83 (by decide) ?_
  refine lv_istore_n (lv' := [(3, .int (1 : Int32)), (0, .ref t0), (1, .int x1), (2, .int x2), (4, .int x4)]) hx hb dX0_rests_87 rfl hl (by decide) rfl (fun ls hl => ?_)
  refine lv_iinc (v := (x4 + (1 : Int32))) (lv' := [(4, .int (x4 + (1 : Int32))), (3, .int (1 : Int32)), (0, .ref t0), (1, .int x1), (2, .int x2)]) hx hb dX0_rests_88 hl (k := 4) rfl rfl (by decide) rfl (fun ls hl => ?_)
  refine lv_goto (tgt := 5) hx hb dX0_rests_91 (by decide) ?_
  exact hk5 x1 x2 (1 : Int32) (x4 + (1 : Int32)) _ _ _ (lv_sub hl [2, 3, 4, 1, 0] rfl) hW hf
set_option maxHeartbeats 4000000 in
set_option maxRecDepth 100000 in
theorem wD_rests_50 {t0 : Nat} {ad : Nat → Nat} {B : Bk} {wr : va_W} {q : Int32} {σ : Dst} (FX : CallFix p m c cX0_rests 5 s args lw_all RX0) (hr : meth.sig.returnType = (some .boolean)) (hlk : meth.locks = false) {k5 : Int32 → Int32 → Int32 → Int32 → Option Int32} (hk5 : ∀ (x1 : Int32) (x2 : Int32) (x3 : Int32) (x4 : Int32) (H : Heap) (locs : List Loc) (ls : Array Slot), lv_has ls 5 [(0, .ref t0), (1, .int x1), (2, .int x2), (3, .int x3), (4, .int x4)] → Wd D dA A s (Dx dA t0 ad B wr σ) H locs → k5 x1 x2 x3 x4 = some q → W p l e rD_rests s m args below meth c H locs 0 0 (QI D dA A below args s 0 0 q (Dx dA t0 ad B wr σ)) (F0 m 5 ls [])) : ∀ (x1 : Int32) (x2 : Int32) (x4 : Int32) (H : Heap) (locs : List Loc) (ls : Array Slot), lv_has ls 5 [(0, .ref t0), (1, .int x1), (2, .int x2), (4, .int x4)] → Wd D dA A s (Dx dA t0 ad B wr σ) H locs → fD_rests_50 dA B σ k5 x1 x2 x4 = some q → W p l e rD_rests s m args below meth c H locs 0 0 (QI D dA A below args s 0 0 q (Dx dA t0 ad B wr σ)) (F0 m 50 ls []) := by
  have hx := FX.1; have hb := FX.2.1; have hown := FX.2.2.2.1; have hts := FX.2.2.2.2
  intro x1 x2 x4 H locs ls hl hW hf
  rw [fD_rests_50] at hf
  refine lv_aload_n hx hb dX0_rests_50 rfl (lv_at hl 0 rfl) ?_
  refine DgX0_0_20 FX hW dX0_rests_51 ?_
  refine lv_iload hx hb dX0_rests_54 (lv_at hl 3 rfl) ?_
  refine lv_ishr hx hb dX0_rests_56 ?_
  refine lv_iconst (v := 1) hx hb dX0_rests_57 (by decide) ?_
  refine lv_iand hx hb dX0_rests_58 ?_
  refine lv_if_eq (tgt := 82) hx hb dX0_rests_59 (by decide) (fun c59 => ?_) (fun c59 => ?_)
  · have hf := ifp c59 hf
    exact wD_rests_82 FX hr hlk hk5 x1 x2 x4 _ _ _ (lv_sub hl [0, 1, 2, 3] rfl) hW hf
  · have hf := ifn c59 hf
    refine lv_aload_n hx hb dX0_rests_62 rfl (lv_at hl 0 rfl) ?_
    refine DgX0_0_18 FX hW dX0_rests_63 ?_
    refine lv_iload_n hx hb dX0_rests_66 rfl (lv_at hl 1 rfl) ?_
    refine Dgrid180 FX hW hf dX0_rests_67 (fun hf => ?_)
    refine lv_iload hx hb dX0_rests_68 (lv_at hl 3 rfl) ?_
    refine Dgl180 (x := x1) FX hW hf dX0_rests_70 (fun v1 hf => ?_)
    refine lv_aload_n hx hb dX0_rests_71 rfl (lv_at hl 0 rfl) ?_
    refine DgX0_0_18 FX hW dX0_rests_72 ?_
    refine lv_iload_n hx hb dX0_rests_75 rfl (lv_at hl 1 rfl) ?_
    refine Dgrid180 FX hW hf dX0_rests_76 (fun hf => ?_)
    refine lv_iload_n hx hb dX0_rests_77 rfl (lv_at hl 2 rfl) ?_
    refine Dgl180 (x := x1) FX hW hf dX0_rests_78 (fun v2 hf => ?_)
    refine lv_icmp_gt (tgt := 86) hx hb dX0_rests_79 (by decide) (fun c79 => ?_) (fun c79 => ?_)
    · have hf := ifp c79 hf
      exact wD_rests_86 FX hr hlk hk5 x1 x2 x4 _ _ _ (lv_sub hl [0, 1, 2, 3] rfl) hW hf
    · have hf := ifn c79 hf
      exact wD_rests_82 FX hr hlk hk5 x1 x2 x4 _ _ _ (lv_sub hl [0, 1, 2, 3] rfl) hW hf
set_option maxHeartbeats 4000000 in
set_option maxRecDepth 100000 in
theorem wD_rests_5 {t0 : Nat} {ad : Nat → Nat} {B : Bk} {wr : va_W} {q : Int32} {σ : Dst} (FX : CallFix p m c cX0_rests 5 s args lw_all RX0) (hr : meth.sig.returnType = (some .boolean)) (hlk : meth.locks = false) : ∀ n : Nat, ∀ (x1 : Int32) (x2 : Int32) (x3 : Int32) (x4 : Int32) (H : Heap) (locs : List Loc) (ls : Array Slot), lv_has ls 5 [(0, .ref t0), (1, .int x1), (2, .int x2), (3, .int x3), (4, .int x4)] → Wd D dA A s (Dx dA t0 ad B wr σ) H locs → fD_rests_5 dA B σ n x1 x2 x3 x4 = some q → W p l e rD_rests s m args below meth c H locs 0 0 (QI D dA A below args s 0 0 q (Dx dA t0 ad B wr σ)) (F0 m 5 ls []) := by
  have hx := FX.1; have hb := FX.2.1; have hown := FX.2.2.2.1; have hts := FX.2.2.2.2
  intro n
  induction n with
  | zero =>
    intro x1 x2 x3 x4 H locs ls hl hW hf
    cases (show (none : Option Int32) = some q from hf)
  | succ n ih =>
    intro x1 x2 x3 x4 H locs ls hl hW hf
    rw [fD_rests_5] at hf
    refine lv_iload hx hb dX0_rests_5 (lv_at hl 4 rfl) ?_
    refine lv_aload_n hx hb dX0_rests_7 rfl (lv_at hl 0 rfl) ?_
    refine kD_rooms FX ⟨Nat.le_of_ble_eq_true rfl, Nat.le_of_ble_eq_true rfl⟩ ⟨Nat.zero_le _, Nat.zero_le _⟩ hl.1 (Nat.le_of_ble_eq_true rfl) hW hf dX0_rests_8 (fun r1 H locs hW hf => ?_)
    refine lv_icmp_ge (tgt := 94) hx hb dX0_rests_11 (by decide) (fun c11 => ?_) (fun c11 => ?_)
    · have hf := ifp c11 hf
      refine lv_iload_n hx hb dX0_rests_94 rfl (lv_at hl 3 rfl) ?_
      exact g_zret FX hr hlk hW (zrt_some hf).1 (zrt_some hf).2 dX0_rests_95
    · have hf := ifn c11 hf
      refine lv_iload_n hx hb dX0_rests_14 rfl (lv_at hl 3 rfl) ?_
      refine lv_if_eq (tgt := 86) hx hb dX0_rests_15 (by decide) (fun c15 => ?_) (fun c15 => ?_)
      · have hf := ifp c15 hf
        exact wD_rests_86 FX hr hlk (ih) x1 x2 x4 _ _ _ (lv_sub hl [0, 1, 2, 4] rfl) hW hf
      · have hf := ifn c15 hf
        refine lv_aload_n hx hb dX0_rests_18 rfl (lv_at hl 0 rfl) ?_
        refine DgX0_0_19 FX hW dX0_rests_19 ?_
        refine lv_iload hx hb dX0_rests_22 (lv_at hl 4 rfl) ?_
        refine lv_ishr hx hb dX0_rests_24 ?_
        refine lv_iconst (v := 1) hx hb dX0_rests_25 (by decide) ?_
        refine lv_iand hx hb dX0_rests_26 ?_
        refine lv_if_eq (tgt := 50) hx hb dX0_rests_27 (by decide) (fun c27 => ?_) (fun c27 => ?_)
        · have hf := ifp c27 hf
          exact wD_rests_50 FX hr hlk (ih) x1 x2 x4 _ _ _ (lv_sub hl [0, 1, 2, 4] rfl) hW hf
        · have hf := ifn c27 hf
          refine lv_aload_n hx hb dX0_rests_30 rfl (lv_at hl 0 rfl) ?_
          refine DgX0_0_17 FX hW dX0_rests_31 ?_
          refine lv_iload hx hb dX0_rests_34 (lv_at hl 4 rfl) ?_
          refine Dgrid170 FX hW hf dX0_rests_36 (fun hf => ?_)
          refine lv_iload_n hx hb dX0_rests_37 rfl (lv_at hl 2 rfl) ?_
          refine Dgl170 (x := x4) FX hW hf dX0_rests_38 (fun v2 hf => ?_)
          refine lv_aload_n hx hb dX0_rests_39 rfl (lv_at hl 0 rfl) ?_
          refine DgX0_0_17 FX hW dX0_rests_40 ?_
          refine lv_iload_n hx hb dX0_rests_43 rfl (lv_at hl 1 rfl) ?_
          refine Dgrid170 FX hW hf dX0_rests_44 (fun hf => ?_)
          refine lv_iload_n hx hb dX0_rests_45 rfl (lv_at hl 2 rfl) ?_
          refine Dgl170 (x := x1) FX hW hf dX0_rests_46 (fun v3 hf => ?_)
          refine lv_icmp_gt (tgt := 86) hx hb dX0_rests_47 (by decide) (fun c47 => ?_) (fun c47 => ?_)
          · have hf := ifp c47 hf
            exact wD_rests_86 FX hr hlk (ih) x1 x2 x4 _ _ _ (lv_sub hl [0, 1, 2, 4] rfl) hW hf
          · have hf := ifn c47 hf
            exact wD_rests_50 FX hr hlk (ih) x1 x2 x4 _ _ _ (lv_sub hl [0, 1, 2, 4] rfl) hW hf
set_option maxHeartbeats 4000000 in
set_option maxRecDepth 100000 in
theorem mD_rests {t0 : Nat} {ad : Nat → Nat} {B : Bk} {wr : va_W}  {x1 : Int32} {x2 : Int32} {σ : Dst} {q : Int32} (hf : fD_rests dA B x1 x2 σ = some q) : CtI l yX0_rests cX0_rests 5 (some .boolean) rD_rests D dA [.ref t0, .int x1, .int x2] (Dx dA t0 ad B wr σ) q (Dx dA t0 ad B wr σ) := by
  refine e_I (by decide) (Nat.le_of_ble_eq_true rfl) ?_
  intro p e s m below meth c ls A FX hr hlk hl hW
  have hx := FX.1; have hb := FX.2.1; have hown := FX.2.2.2.1; have hts := FX.2.2.2.2
  have hl : lv_has ls 5 [(0, .ref t0), (1, .int x1), (2, .int x2)] := hl
  rw [fD_rests] at hf
  refine lv_iconst (v := 1) hx hb dX0_rests_0 (by decide) ?_
  refine lv_istore_n (lv' := [(3, .int (1 : Int32)), (0, .ref t0), (1, .int x1), (2, .int x2)]) hx hb dX0_rests_1 rfl hl (by decide) rfl (fun ls hl => ?_)
  refine lv_iconst (v := 0) hx hb dX0_rests_2 (by decide) ?_
  refine lv_istore (lv' := [(4, .int (0 : Int32)), (3, .int (1 : Int32)), (0, .ref t0), (1, .int x1), (2, .int x2)]) hx hb dX0_rests_3 hl (by decide) rfl (fun ls hl => ?_)
  exact wD_rests_5 FX hr hlk _ x1 x2 (1 : Int32) (0 : Int32) _ _ _ (lv_sub hl [2, 3, 4, 1, 0] rfl) hW hf
theorem DsX0_0_15 {t0 : Nat} {ad : Nat → Nat} {B : Bk} {wr : va_W} {σ : Dst} {α : Type} {q : α} {v : Int32} {k : Dst → Option α} (FX : CallFix p m c cc nL s args lw_all RX0) (hW : Wd D dA A s (Dx dA t0 ad B wr σ) H locs) (hf : stp (xF σ 15 v) k = some q) (hdg : decode cc pc = .ok (.putfield 129, 3)) (kk : ∀ (σ1 : Dst) (H1 : Heap) (locs1 : List Loc), Wd D dA A s (Dx dA t0 ad B wr σ1) H1 locs1 → k σ1 = some q → W p l e R s m args below meth c H1 locs1 cells slots Q (F0 m (pc + 3) ls rest)) : W p l e R s m args below meth c H locs cells slots Q (F0 m pc ls (.int v :: .ref t0 :: rest)) :=
  g_put FX hW (C := RX0) (T := TX0) (N := 26) (ci := 0) (ty := .int) in_X0 tyX0 tyX0_ok nmX0 0 rfl rfl 15 (by decide) q382 (fun _ h => h) rfl (by decide +kernel) rfl rfl (Nat.le_of_ble_eq_true rfl) (ws' := Dx dA t0 ad B wr (xF σ 15 v)) rfl hdg (fun H1 locs1 hW1 => kk _ H1 locs1 hW1 hf)
theorem DgX0_0_12 {t0 : Nat} {ad : Nat → Nat} {B : Bk} {wr : va_W} {σ : Dst} (FX : CallFix p m c cc nL s args lw_all RX0) (hW : Wd D dA A s (Dx dA t0 ad B wr σ) H locs) (hdg : decode cc pc = .ok (.getfield 73, 3)) (kk : W p l e R s m args below meth c H locs cells slots Q (F0 m (pc + 3) ls (.ref (ad 12) :: rest))) : W p l e R s m args below meth c H locs cells slots Q (F0 m pc ls (.ref t0 :: rest)) :=
  g_get FX hW (C := RX0) (T := TX0) (N := 26) (ci := 0) in_X0 0 rfl rfl 12 (by decide) q379 (fun _ h => h) rfl hdg kk
theorem Dp2 {t0 : Nat} {ad : Nat → Nat} {B : Bk} {wr : va_W} {σ : Dst} : (Dx dA t0 ad B wr σ)[2]? = some ((ad 12), .inl (dA 0, 8, .inl (tA σ 12))) := rfl
theorem Dt2 {t0 : Nat} {ad : Nat → Nat} {B : Bk} {wr : va_W} {σ : Dst} {i v : Int32} : (Dx dA t0 ad B wr σ).set 2 ((ad 12), .inl (dA 0, 8, .inl (upd (tA σ 12) i.toNatClampNeg v))) = Dx dA t0 ad B wr (xA σ 12 i v) := rfl
theorem DgX0_0_14 {t0 : Nat} {ad : Nat → Nat} {B : Bk} {wr : va_W} {σ : Dst} (FX : CallFix p m c cc nL s args lw_all RX0) (hW : Wd D dA A s (Dx dA t0 ad B wr σ) H locs) (hdg : decode cc pc = .ok (.getfield 80, 3)) (kk : W p l e R s m args below meth c H locs cells slots Q (F0 m (pc + 3) ls (.ref (ad 14) :: rest))) : W p l e R s m args below meth c H locs cells slots Q (F0 m pc ls (.ref t0 :: rest)) :=
  g_get FX hW (C := RX0) (T := TX0) (N := 26) (ci := 0) in_X0 0 rfl rfl 14 (by decide) q381 (fun _ h => h) rfl hdg kk
theorem Dp4 {t0 : Nat} {ad : Nat → Nat} {B : Bk} {wr : va_W} {σ : Dst} : (Dx dA t0 ad B wr σ)[4]? = some ((ad 14), .inl (dA 0, 4, .inl (tA σ 14))) := rfl
theorem DsX0_0_20 {t0 : Nat} {ad : Nat → Nat} {B : Bk} {wr : va_W} {σ : Dst} {α : Type} {q : α} {v : Int32} {k : Dst → Option α} (FX : CallFix p m c cc nL s args lw_all RX0) (hW : Wd D dA A s (Dx dA t0 ad B wr σ) H locs) (hf : stp (xF σ 20 v) k = some q) (hdg : decode cc pc = .ok (.putfield 307, 3)) (kk : ∀ (σ1 : Dst) (H1 : Heap) (locs1 : List Loc), Wd D dA A s (Dx dA t0 ad B wr σ1) H1 locs1 → k σ1 = some q → W p l e R s m args below meth c H1 locs1 cells slots Q (F0 m (pc + 3) ls rest)) : W p l e R s m args below meth c H locs cells slots Q (F0 m pc ls (.int v :: .ref t0 :: rest)) :=
  g_put FX hW (C := RX0) (T := TX0) (N := 26) (ci := 0) (ty := .int) in_X0 tyX0 tyX0_ok nmX0 0 rfl rfl 20 (by decide) q387 (fun _ h => h) rfl (by decide +kernel) rfl rfl (Nat.le_of_ble_eq_true rfl) (ws' := Dx dA t0 ad B wr (xF σ 20 v)) rfl hdg (fun H1 locs1 hW1 => kk _ H1 locs1 hW1 hf)
theorem DsX0_0_19 {t0 : Nat} {ad : Nat → Nat} {B : Bk} {wr : va_W} {σ : Dst} {α : Type} {q : α} {v : Int32} {k : Dst → Option α} (FX : CallFix p m c cc nL s args lw_all RX0) (hW : Wd D dA A s (Dx dA t0 ad B wr σ) H locs) (hf : stp (xF σ 19 v) k = some q) (hdg : decode cc pc = .ok (.putfield 304, 3)) (kk : ∀ (σ1 : Dst) (H1 : Heap) (locs1 : List Loc), Wd D dA A s (Dx dA t0 ad B wr σ1) H1 locs1 → k σ1 = some q → W p l e R s m args below meth c H1 locs1 cells slots Q (F0 m (pc + 3) ls rest)) : W p l e R s m args below meth c H locs cells slots Q (F0 m pc ls (.int v :: .ref t0 :: rest)) :=
  g_put FX hW (C := RX0) (T := TX0) (N := 26) (ci := 0) (ty := .int) in_X0 tyX0 tyX0_ok nmX0 0 rfl rfl 19 (by decide) q386 (fun _ h => h) rfl (by decide +kernel) rfl rfl (Nat.le_of_ble_eq_true rfl) (ws' := Dx dA t0 ad B wr (xF σ 19 v)) rfl hdg (fun H1 locs1 hW1 => kk _ H1 locs1 hW1 hf)
theorem Dt4 {t0 : Nat} {ad : Nat → Nat} {B : Bk} {wr : va_W} {σ : Dst} {i v : Int32} : (Dx dA t0 ad B wr σ).set 4 ((ad 14), .inl (dA 0, 4, .inl (upd (tA σ 14) i.toNatClampNeg v))) = Dx dA t0 ad B wr (xA σ 14 i v) := rfl
set_option maxHeartbeats 4000000 in
set_option maxRecDepth 100000 in
theorem kD_rests {t0 : Nat} {ad : Nat → Nat} {B : Bk} {wr : va_W} {α : Type} {q : α} {k : Int32 → Option α} {x1 : Int32} {x2 : Int32} {σ : Dst} (FX : CallFix p m c cc nL s args lw_all RX0) (hR : rD_rests.frames + 1 ≤ R.frames ∧ 8 + (5 + 11) + rD_rests.locals ≤ R.locals) (hcs : cells ≤ R.cells ∧ slots ≤ R.slots) (hl : ls.size = nL) (hrm : (rest.map fun v => v.category).sum ≤ 8) (hW : Wd D dA A s (Dx dA t0 ad B wr σ) H locs) (hf : (fD_rests dA B x1 x2 σ).bind k = some q) (hdg : decode cc pc = .ok (.invokevirtual 310, 3)) (kk : ∀ (r : Int32) (H1 : Heap) (locs1 : List Loc), Wd D dA A s (Dx dA t0 ad B wr σ) H1 locs1 → k r = some q → W p l e R s m args below meth c H1 locs1 cells slots Q (F0 m (pc + 3) ls (.int r :: rest))) : W p l e R s m args below meth c H locs cells slots Q (F0 m pc ls (.int x2 :: .int x1 :: .ref t0 :: rest)) := by
  obtain ⟨r1, h1, hf⟩ := bnd hf
  have hW2 := hW
  refine w_Vi (C := RX0) (As := [.int x1, .int x2]) (rest := rest) (n := 2) (wr := []) FX (mD_rests h1) (cwV 2 FX.2.2.2.2 (lw_V q1447 q1449 qs48 q123 q1450) rfl rfl rfl (by decide +kernel) hR) (va_recv hW2.2.2.2.1 hW2.1 (ci := 0) (q0 := 0) rfl rfl) rfl hl rfl hrm ⟨Nat.le_trans (Nat.le_of_eq (Nat.add_zero cells)) hcs.1, Nat.le_trans (Nat.le_of_eq (Nat.add_zero slots)) hcs.2⟩ hdg hW2.nil ?_
  exact fun H1 locs1 hW1 => kk r1 H1 locs1 (hW1.nil') hf
/-! TrunkLitters.rivals(II)I: kind W -/
def fD_rivals_479 (dA : Nat → Nat) (B : Bk) (x4 : Int32) (y1 : Int32) (σ : Dst) : Option (Int32 × Dst) := stp (xF σ 15 y1) fun s1 => some (x4, s1)
def fD_rivals_394 (dA : Nat → Nat) (B : Bk) (k381 : Int32 → Int32 → Dst → Option (Int32 × Dst)) : Nat → Int32 → Int32 → Int32 → Dst → Option (Int32 × Dst)
  | 0, _, _, _, _ => none
  | n + 1, x4, x5, x6, σ => (if x6 < 0 then k381 x4 (x5 + (-1 : Int32)) σ else (if (((tF σ 19) >>> (x5 &&& 31)) &&& (1 : Int32)) = 0 then fD_rivals_394 dA B k381 n x4 x5 (x6 + (-1 : Int32)) σ else (if (((tF σ 20) >>> (x6 &&& 31)) &&& (1 : Int32)) = 0 then fD_rivals_394 dA B k381 n x4 x5 (x6 + (-1 : Int32)) σ else (fD_rests dA B x5 x6 σ).bind fun r1 => (if r1 = 0 then fD_rivals_394 dA B k381 n x4 x5 (x6 + (-1 : Int32)) σ else ast 8 (0 : Int32) (stp (xA σ 12 (0 : Int32) x5) fun s2 => ast 8 (1 : Int32) (stp (xA s2 12 (1 : Int32) x6) fun s3 => fD_rivals_394 dA B k381 n (x4 + (1 : Int32)) x5 (x6 + (-1 : Int32)) s3))))))
def fD_rivals_381 (dA : Nat → Nat) (B : Bk) : Nat → Int32 → Int32 → Dst → Option (Int32 × Dst)
  | 0, _, _, _ => none
  | n + 1, x4, x5, σ => (if x5 < 0 then (if x4 = 0 then fD_rivals_479 dA B x4 (0 : Int32) σ else fD_rivals_479 dA B x4 (2 : Int32) σ) else (fD_rooms dA B σ).bind fun r1 => fD_rivals_394 dA B (fD_rivals_381 dA B n) FU x4 x5 (r1 - (1 : Int32)) σ)
def fD_rivals_360 (dA : Nat → Nat) (B : Bk) (k236 : Int32 → Int32 → Int32 → Int32 → Int32 → Dst → Option (Int32 × Dst)) (k248 : Int32 → Int32 → Int32 → Int32 → Int32 → Int32 → Dst → Option (Int32 × Dst)) (x1 : Int32) (x2 : Int32) (x3 : Int32) (x4 : Int32) (x5 : Int32) (x6 : Int32) (y1 : Int32) (y2 : Int32) (σ : Dst) : Option (Int32 × Dst) := gst x5 y1 (stp (xA σ (180 + (x5).toNatClampNeg) y1 y2) fun s1 => k248 x1 x2 x3 x4 x5 (x6 + (1 : Int32)) s1)
def fD_rivals_321 (dA : Nat → Nat) (B : Bk) (k236 : Int32 → Int32 → Int32 → Int32 → Int32 → Dst → Option (Int32 × Dst)) (k248 : Int32 → Int32 → Int32 → Int32 → Int32 → Int32 → Dst → Option (Int32 × Dst)) (x1 : Int32) (x2 : Int32) (x3 : Int32) (x4 : Int32) (x5 : Int32) (x6 : Int32) (x7 : Int32) (y1 : Int32) (y2 : Int32) (σ : Dst) : Option (Int32 × Dst) := gst x5 y1 (stp (xA σ (170 + (x5).toNatClampNeg) y1 y2) fun s1 => ast 4 x5 ((if x5 = x6 then fD_rivals_360 dA B k236 k248 x1 x2 x3 x4 x5 x6 x6 x7 s1 else ald 4 (tA s1 14) x6 fun v2 => ald 8 (hA (tN s1) 0) x2 fun v3 => fD_rivals_360 dA B k236 k248 x1 x2 x3 x4 x5 x6 x6 (v2 - v3) s1)))
def fD_rivals_281 (dA : Nat → Nat) (B : Bk) (k236 : Int32 → Int32 → Int32 → Int32 → Int32 → Dst → Option (Int32 × Dst)) (k248 : Int32 → Int32 → Int32 → Int32 → Int32 → Int32 → Dst → Option (Int32 × Dst)) (x1 : Int32) (x2 : Int32) (x3 : Int32) (x4 : Int32) (x5 : Int32) (x6 : Int32) (y0 : Int32) (σ : Dst) : Option (Int32 × Dst) := ast 4 x5 ((if x5 = x6 then fD_rivals_321 dA B k236 k248 x1 x2 x3 x4 x5 x6 y0 x6 y0 σ else ald 4 (tA σ 14) x5 fun v1 => ald 8 (hA (tN σ) 0) x1 fun v2 => fD_rivals_321 dA B k236 k248 x1 x2 x3 x4 x5 x6 y0 x6 (v1 - v2) σ))
def fD_rivals_248 (dA : Nat → Nat) (B : Bk) (k236 : Int32 → Int32 → Int32 → Int32 → Int32 → Dst → Option (Int32 × Dst)) : Nat → Int32 → Int32 → Int32 → Int32 → Int32 → Int32 → Dst → Option (Int32 × Dst)
  | 0, _, _, _, _, _, _, _ => none
  | n + 1, x1, x2, x3, x4, x5, x6, σ => (fD_rooms dA B σ).bind fun r1 => (if r1 ≤ x6 then k236 x1 x2 x3 x4 (x5 + (1 : Int32)) σ else ald 4 (tA σ 14) x5 fun v2 => (if x3 ≤ v2 then ald 4 (tA σ 14) x5 fun v3 => fD_rivals_281 dA B k236 (fD_rivals_248 dA B k236 n) x1 x2 x3 x4 x5 x6 (v3 - x3) σ else fD_rivals_281 dA B k236 (fD_rivals_248 dA B k236 n) x1 x2 x3 x4 x5 x6 (-1 : Int32) σ))
def fD_rivals_236 (dA : Nat → Nat) (B : Bk) : Nat → Int32 → Int32 → Int32 → Int32 → Int32 → Dst → Option (Int32 × Dst)
  | 0, _, _, _, _, _, _ => none
  | n + 1, x1, x2, x3, x4, x5, σ => (fD_rooms dA B σ).bind fun r1 => (if r1 ≤ x5 then (fD_rooms dA B σ).bind fun r2 => fD_rivals_381 dA B FU x4 (r2 - (1 : Int32)) σ else fD_rivals_248 dA B (fD_rivals_236 dA B n) FU x1 x2 x3 x4 x5 (0 : Int32) σ)
def fD_rivals_184 (dA : Nat → Nat) (B : Bk) (k40 : Int32 → Int32 → Int32 → Dst → Option (Int32 × Dst)) (x1 : Int32) (x2 : Int32) (x3 : Int32) (y1 : Int32) (y2 : Int32) (σ : Dst) : Option (Int32 × Dst) := stp (xF σ 20 (y1 ||| y2)) fun s1 => k40 x1 x2 (x3 + (1 : Int32)) s1
def fD_rivals_150 (dA : Nat → Nat) (B : Bk) (k40 : Int32 → Int32 → Int32 → Dst → Option (Int32 × Dst)) (x1 : Int32) (x2 : Int32) (x3 : Int32) (y1 : Int32) (y2 : Int32) (σ : Dst) : Option (Int32 × Dst) := stp (xF σ 19 (y1 ||| y2)) fun s1 => ald 4 (tA s1 14) x3 fun v2 => ald 8 (hA (tN s1) 0) x2 fun v3 => (if v2 < v3 then fD_rivals_184 dA B k40 x1 x2 x3 (tF s1 20) (0 : Int32) s1 else fD_rivals_184 dA B k40 x1 x2 x3 (tF s1 20) ((1 : Int32) <<< (x3 &&& 31)) s1)
def fD_rivals_118 (dA : Nat → Nat) (B : Bk) (k40 : Int32 → Int32 → Int32 → Dst → Option (Int32 × Dst)) (x1 : Int32) (x2 : Int32) (x3 : Int32) (y1 : Int32) (y2 : Int32) (y3 : Int32) (σ : Dst) : Option (Int32 × Dst) := ast 4 y1 (stp (xA σ 14 y1 (y2 + y3)) fun s1 => ald 4 (tA s1 14) x3 fun v2 => ald 8 (hA (tN s1) 0) x1 fun v3 => (if v2 < v3 then fD_rivals_150 dA B k40 x1 x2 x3 (tF s1 19) (0 : Int32) s1 else fD_rivals_150 dA B k40 x1 x2 x3 (tF s1 19) ((1 : Int32) <<< (x3 &&& 31)) s1))
def fD_rivals_91 (dA : Nat → Nat) (B : Bk) (k40 : Int32 → Int32 → Int32 → Dst → Option (Int32 × Dst)) (x1 : Int32) (x2 : Int32) (x3 : Int32) (y1 : Int32) (y2 : Int32) (y3 : Int32) (σ : Dst) : Option (Int32 × Dst) := ald 8 (hA (tN σ) 1) x2 fun v1 => (if v1 = x3 then ald 8 (hA (tN σ) 0) x2 fun v2 => fD_rivals_118 dA B k40 x1 x2 x3 y1 (y2 + y3) v2 σ else fD_rivals_118 dA B k40 x1 x2 x3 y1 (y2 + y3) (0 : Int32) σ)
def fD_rivals_40 (dA : Nat → Nat) (B : Bk) : Nat → Int32 → Int32 → Int32 → Dst → Option (Int32 × Dst)
  | 0, _, _, _, _ => none
  | n + 1, x1, x2, x3, σ => (fD_rooms dA B σ).bind fun r1 => (if r1 ≤ x3 then (if (tF σ 19) = 0 then some ((-1 : Int32), σ) else (if (tF σ 20) = 0 then some ((-1 : Int32), σ) else ald 8 (hA (tN σ) 0) x1 fun v2 => ald 8 (hA (tN σ) 0) x2 fun v3 => fD_rivals_236 dA B FU x1 x2 (v2 + v3) (0 : Int32) (0 : Int32) σ)) else (fHB_left dA B x3 ((tN σ), tU σ)).bind fun r4 => ald 8 (hA (tN σ) 1) x1 fun v5 => (if v5 = x3 then ald 8 (hA (tN σ) 0) x1 fun v6 => fD_rivals_91 dA B (fD_rivals_40 dA B n) x1 x2 x3 x3 r4 v6 σ else fD_rivals_91 dA B (fD_rivals_40 dA B n) x1 x2 x3 x3 r4 (0 : Int32) σ))
def fD_rivals (dA : Nat → Nat) (B : Bk) (x1 : Int32) (x2 : Int32) (σ : Dst) : Option (Int32 × Dst) := stp (xF σ 15 (0 : Int32)) fun s1 => (fD_isTrunk dA B x1 s1).bind fun r2 => (if r2 = 0 then some ((-1 : Int32), s1) else (fD_isTrunk dA B x2 s1).bind fun r3 => (if r3 = 0 then some ((-1 : Int32), s1) else (if x1 = x2 then some ((-1 : Int32), s1) else stp (xF s1 19 (0 : Int32)) fun s4 => stp (xF s4 20 (0 : Int32)) fun s5 => fD_rivals_40 dA B FU x1 x2 (0 : Int32) s5)))
abbrev rD_rivals : Room := { frames := 5, cells := 0, slots := 0, locals := 113 }
set_option maxHeartbeats 4000000 in
set_option maxRecDepth 100000 in
theorem wD_rivals_479 {t0 : Nat} {ad : Nat → Nat} {B : Bk} {wr : va_W} {q : (Int32 × Dst)} (FX : CallFix p m c cX0_rivals 8 s args lw_all RX0) (hr : meth.sig.returnType = (some .int)) (hlk : meth.locks = false) : ∀ (x4 : Int32) (y1 : Int32) (σ : Dst) (H : Heap) (locs : List Loc) (ls : Array Slot), lv_has ls 8 [(4, .int x4)] → Wd D dA A s (Dx dA t0 ad B wr σ) H locs → fD_rivals_479 dA B x4 y1 σ = some q → W p l e rD_rivals s m args below meth c H locs 0 0 (QI D dA A below args s 0 0 q.1 (Dx dA t0 ad B wr q.2)) (F0 m 479 ls [.int y1, .ref t0]) := by
  have hx := FX.1; have hb := FX.2.1; have hown := FX.2.2.2.1; have hts := FX.2.2.2.2
  intro x4 y1 σ H locs ls hl hW hf
  rw [fD_rivals_479] at hf
  refine DsX0_0_15 FX hW hf dX0_rivals_479 (fun s1 H locs hW hf => ?_)
  refine lv_iload hx hb dX0_rivals_482 (lv_at hl 0 rfl) ?_
  obtain rfl := Option.some.inj hf
  exact g_iret FX hr hlk hW rfl dX0_rivals_484
set_option maxHeartbeats 4000000 in
set_option maxRecDepth 100000 in
theorem wD_rivals_394 {t0 : Nat} {ad : Nat → Nat} {B : Bk} {wr : va_W} {q : (Int32 × Dst)} (FX : CallFix p m c cX0_rivals 8 s args lw_all RX0) (hr : meth.sig.returnType = (some .int)) (hlk : meth.locks = false) {k381 : Int32 → Int32 → Dst → Option (Int32 × Dst)} (hk381 : ∀ (x4 : Int32) (x5 : Int32) (σ : Dst) (H : Heap) (locs : List Loc) (ls : Array Slot), lv_has ls 8 [(0, .ref t0), (4, .int x4), (5, .int x5)] → Wd D dA A s (Dx dA t0 ad B wr σ) H locs → k381 x4 x5 σ = some q → W p l e rD_rivals s m args below meth c H locs 0 0 (QI D dA A below args s 0 0 q.1 (Dx dA t0 ad B wr q.2)) (F0 m 381 ls [])) : ∀ n : Nat, ∀ (x4 : Int32) (x5 : Int32) (x6 : Int32) (σ : Dst) (H : Heap) (locs : List Loc) (ls : Array Slot), lv_has ls 8 [(0, .ref t0), (4, .int x4), (5, .int x5), (6, .int x6)] → Wd D dA A s (Dx dA t0 ad B wr σ) H locs → fD_rivals_394 dA B k381 n x4 x5 x6 σ = some q → W p l e rD_rivals s m args below meth c H locs 0 0 (QI D dA A below args s 0 0 q.1 (Dx dA t0 ad B wr q.2)) (F0 m 394 ls []) := by
  have hx := FX.1; have hb := FX.2.1; have hown := FX.2.2.2.1; have hts := FX.2.2.2.2
  intro n
  induction n with
  | zero =>
    intro x4 x5 x6 σ H locs ls hl hW hf
    cases (show (none : Option (Int32 × Dst)) = some q from hf)
  | succ n ih =>
    intro x4 x5 x6 σ H locs ls hl hW hf
    rw [fD_rivals_394] at hf
    refine lv_iload hx hb dX0_rivals_394 (lv_at hl 3 rfl) ?_
    refine lv_if_lt (tgt := 462) hx hb dX0_rivals_396 (by decide) (fun c396 => ?_) (fun c396 => ?_)
    · have hf := ifp c396 hf
      refine lv_iinc (v := (x5 + (-1 : Int32))) (lv' := [(5, .int (x5 + (-1 : Int32))), (0, .ref t0), (4, .int x4), (6, .int x6)]) hx hb dX0_rivals_462 hl (k := 2) rfl rfl (by decide) rfl (fun ls hl => ?_)
      refine lv_goto (tgt := 381) hx hb dX0_rivals_465 (by decide) ?_
      exact hk381 x4 (x5 + (-1 : Int32)) σ _ _ _ (lv_sub hl [1, 2, 0] rfl) hW hf
    · have hf := ifn c396 hf
      refine lv_aload_n hx hb dX0_rivals_399 rfl (lv_at hl 0 rfl) ?_
      refine DgX0_0_19 FX hW dX0_rivals_400 ?_
      refine lv_iload hx hb dX0_rivals_403 (lv_at hl 2 rfl) ?_
      refine lv_ishr hx hb dX0_rivals_405 ?_
      refine lv_iconst (v := 1) hx hb dX0_rivals_406 (by decide) ?_
      refine lv_iand hx hb dX0_rivals_407 ?_
      refine lv_if_eq (tgt := 456) hx hb dX0_rivals_408 (by decide) (fun c408 => ?_) (fun c408 => ?_)
      · have hf := ifp c408 hf
        refine lv_iinc (v := (x6 + (-1 : Int32))) (lv' := [(6, .int (x6 + (-1 : Int32))), (0, .ref t0), (4, .int x4), (5, .int x5)]) hx hb dX0_rivals_456 hl (k := 3) rfl rfl (by decide) rfl (fun ls hl => ?_)
        refine lv_goto (tgt := 394) hx hb dX0_rivals_459 (by decide) ?_
        exact ih x4 x5 (x6 + (-1 : Int32)) σ _ _ _ (lv_sub hl [1, 2, 3, 0] rfl) hW hf
      · have hf := ifn c408 hf
        refine lv_aload_n hx hb dX0_rivals_411 rfl (lv_at hl 0 rfl) ?_
        refine DgX0_0_20 FX hW dX0_rivals_412 ?_
        refine lv_iload hx hb dX0_rivals_415 (lv_at hl 3 rfl) ?_
        refine lv_ishr hx hb dX0_rivals_417 ?_
        refine lv_iconst (v := 1) hx hb dX0_rivals_418 (by decide) ?_
        refine lv_iand hx hb dX0_rivals_419 ?_
        refine lv_if_eq (tgt := 456) hx hb dX0_rivals_420 (by decide) (fun c420 => ?_) (fun c420 => ?_)
        · have hf := ifp c420 hf
          refine lv_iinc (v := (x6 + (-1 : Int32))) (lv' := [(6, .int (x6 + (-1 : Int32))), (0, .ref t0), (4, .int x4), (5, .int x5)]) hx hb dX0_rivals_456 hl (k := 3) rfl rfl (by decide) rfl (fun ls hl => ?_)
          refine lv_goto (tgt := 394) hx hb dX0_rivals_459 (by decide) ?_
          exact ih x4 x5 (x6 + (-1 : Int32)) σ _ _ _ (lv_sub hl [1, 2, 3, 0] rfl) hW hf
        · have hf := ifn c420 hf
          refine lv_aload_n hx hb dX0_rivals_423 rfl (lv_at hl 0 rfl) ?_
          refine lv_iload hx hb dX0_rivals_424 (lv_at hl 2 rfl) ?_
          refine lv_iload hx hb dX0_rivals_426 (lv_at hl 3 rfl) ?_
          refine kD_rests FX ⟨Nat.le_of_ble_eq_true rfl, Nat.le_of_ble_eq_true rfl⟩ ⟨Nat.zero_le _, Nat.zero_le _⟩ hl.1 (Nat.le_of_ble_eq_true rfl) hW hf dX0_rivals_428 (fun r1 H locs hW hf => ?_)
          refine lv_if_ne (tgt := 437) hx hb dX0_rivals_431 (by decide) (fun c431 => ?_) (fun c431 => ?_)
          · have hf := ifn c431 hf
            refine lv_iinc (v := (x4 + (1 : Int32))) (lv' := [(4, .int (x4 + (1 : Int32))), (0, .ref t0), (5, .int x5), (6, .int x6)]) hx hb dX0_rivals_437 hl (k := 1) rfl rfl (by decide) rfl (fun ls hl => ?_)
            refine lv_aload_n hx hb dX0_rivals_440 rfl (lv_at hl 1 rfl) ?_
            refine DgX0_0_12 FX hW dX0_rivals_441 ?_
            refine lv_iconst (v := 0) hx hb dX0_rivals_444 (by decide) ?_
            refine lv_iload hx hb dX0_rivals_445 (lv_at hl 2 rfl) ?_
            refine g_iast FX hW 2 Dp2 (L := Dx dA t0 ad B wr) (Dt2) hf dX0_rivals_447 (fun s2 H locs hW hf => ?_)
            refine lv_aload_n hx hb dX0_rivals_448 rfl (lv_at hl 1 rfl) ?_
            refine DgX0_0_12 FX hW dX0_rivals_449 ?_
            refine lv_iconst (v := 1) hx hb dX0_rivals_452 (by decide) ?_
            refine lv_iload hx hb dX0_rivals_453 (lv_at hl 3 rfl) ?_
            refine g_iast FX hW 2 Dp2 (L := Dx dA t0 ad B wr) (Dt2) hf dX0_rivals_455 (fun s3 H locs hW hf => ?_)
            refine lv_iinc (v := (x6 + (-1 : Int32))) (lv' := [(6, .int (x6 + (-1 : Int32))), (4, .int (x4 + (1 : Int32))), (0, .ref t0), (5, .int x5)]) hx hb dX0_rivals_456 hl (k := 3) rfl rfl (by decide) rfl (fun ls hl => ?_)
            refine lv_goto (tgt := 394) hx hb dX0_rivals_459 (by decide) ?_
            exact ih (x4 + (1 : Int32)) x5 (x6 + (-1 : Int32)) s3 _ _ _ (lv_sub hl [2, 1, 3, 0] rfl) hW hf
          · have hf := ifp c431 hf
            refine lv_goto (tgt := 456) hx hb dX0_rivals_434 (by decide) ?_
            refine lv_iinc (v := (x6 + (-1 : Int32))) (lv' := [(6, .int (x6 + (-1 : Int32))), (0, .ref t0), (4, .int x4), (5, .int x5)]) hx hb dX0_rivals_456 hl (k := 3) rfl rfl (by decide) rfl (fun ls hl => ?_)
            refine lv_goto (tgt := 394) hx hb dX0_rivals_459 (by decide) ?_
            exact ih x4 x5 (x6 + (-1 : Int32)) σ _ _ _ (lv_sub hl [1, 2, 3, 0] rfl) hW hf
set_option maxHeartbeats 4000000 in
set_option maxRecDepth 100000 in
theorem wD_rivals_381 {t0 : Nat} {ad : Nat → Nat} {B : Bk} {wr : va_W} {q : (Int32 × Dst)} (FX : CallFix p m c cX0_rivals 8 s args lw_all RX0) (hr : meth.sig.returnType = (some .int)) (hlk : meth.locks = false) : ∀ n : Nat, ∀ (x4 : Int32) (x5 : Int32) (σ : Dst) (H : Heap) (locs : List Loc) (ls : Array Slot), lv_has ls 8 [(0, .ref t0), (4, .int x4), (5, .int x5)] → Wd D dA A s (Dx dA t0 ad B wr σ) H locs → fD_rivals_381 dA B n x4 x5 σ = some q → W p l e rD_rivals s m args below meth c H locs 0 0 (QI D dA A below args s 0 0 q.1 (Dx dA t0 ad B wr q.2)) (F0 m 381 ls []) := by
  have hx := FX.1; have hb := FX.2.1; have hown := FX.2.2.2.1; have hts := FX.2.2.2.2
  intro n
  induction n with
  | zero =>
    intro x4 x5 σ H locs ls hl hW hf
    cases (show (none : Option (Int32 × Dst)) = some q from hf)
  | succ n ih =>
    intro x4 x5 σ H locs ls hl hW hf
    rw [fD_rivals_381] at hf
    refine lv_iload hx hb dX0_rivals_381 (lv_at hl 2 rfl) ?_
    refine lv_if_lt (tgt := 468) hx hb dX0_rivals_383 (by decide) (fun c383 => ?_) (fun c383 => ?_)
    · have hf := ifp c383 hf
      refine lv_aload_n hx hb dX0_rivals_468 rfl (lv_at hl 0 rfl) ?_
      refine lv_iload hx hb dX0_rivals_469 (lv_at hl 1 rfl) ?_
      refine lv_if_ne (tgt := 478) hx hb dX0_rivals_471 (by decide) (fun c471 => ?_) (fun c471 => ?_)
      · have hf := ifn c471 hf
        refine lv_iconst (v := 2) hx hb dX0_rivals_478 (by decide) ?_
        exact wD_rivals_479 FX hr hlk x4 (2 : Int32) σ _ _ _ (lv_sub hl [1] rfl) hW hf
      · have hf := ifp c471 hf
        refine lv_iconst (v := 0) hx hb dX0_rivals_474 (by decide) ?_
        refine lv_goto (tgt := 479) hx hb dX0_rivals_475 (by decide) ?_
        exact wD_rivals_479 FX hr hlk x4 (0 : Int32) σ _ _ _ (lv_sub hl [1] rfl) hW hf
    · have hf := ifn c383 hf
      refine lv_aload_n hx hb dX0_rivals_386 rfl (lv_at hl 0 rfl) ?_
      refine kD_rooms FX ⟨Nat.le_of_ble_eq_true rfl, Nat.le_of_ble_eq_true rfl⟩ ⟨Nat.zero_le _, Nat.zero_le _⟩ hl.1 (Nat.le_of_ble_eq_true rfl) hW hf dX0_rivals_387 (fun r1 H locs hW hf => ?_)
      refine lv_iconst (v := 1) hx hb dX0_rivals_390 (by decide) ?_
      refine lv_isub hx hb dX0_rivals_391 ?_
      refine lv_istore (lv' := [(6, .int (r1 - (1 : Int32))), (0, .ref t0), (4, .int x4), (5, .int x5)]) hx hb dX0_rivals_392 hl (by decide) rfl (fun ls hl => ?_)
      exact wD_rivals_394 FX hr hlk (ih) _ x4 x5 (r1 - (1 : Int32)) σ _ _ _ (lv_sub hl [1, 2, 3, 0] rfl) hW hf
set_option maxHeartbeats 4000000 in
set_option maxRecDepth 100000 in
theorem wD_rivals_360 {t0 : Nat} {ad : Nat → Nat} {B : Bk} {wr : va_W} {q : (Int32 × Dst)} (FX : CallFix p m c cX0_rivals 8 s args lw_all RX0) (hr : meth.sig.returnType = (some .int)) (hlk : meth.locks = false) {k236 : Int32 → Int32 → Int32 → Int32 → Int32 → Dst → Option (Int32 × Dst)} (hk236 : ∀ (x1 : Int32) (x2 : Int32) (x3 : Int32) (x4 : Int32) (x5 : Int32) (σ : Dst) (H : Heap) (locs : List Loc) (ls : Array Slot), lv_has ls 8 [(0, .ref t0), (1, .int x1), (2, .int x2), (3, .int x3), (4, .int x4), (5, .int x5)] → Wd D dA A s (Dx dA t0 ad B wr σ) H locs → k236 x1 x2 x3 x4 x5 σ = some q → W p l e rD_rivals s m args below meth c H locs 0 0 (QI D dA A below args s 0 0 q.1 (Dx dA t0 ad B wr q.2)) (F0 m 236 ls [])) {k248 : Int32 → Int32 → Int32 → Int32 → Int32 → Int32 → Dst → Option (Int32 × Dst)} (hk248 : ∀ (x1 : Int32) (x2 : Int32) (x3 : Int32) (x4 : Int32) (x5 : Int32) (x6 : Int32) (σ : Dst) (H : Heap) (locs : List Loc) (ls : Array Slot), lv_has ls 8 [(0, .ref t0), (1, .int x1), (2, .int x2), (3, .int x3), (4, .int x4), (5, .int x5), (6, .int x6)] → Wd D dA A s (Dx dA t0 ad B wr σ) H locs → k248 x1 x2 x3 x4 x5 x6 σ = some q → W p l e rD_rivals s m args below meth c H locs 0 0 (QI D dA A below args s 0 0 q.1 (Dx dA t0 ad B wr q.2)) (F0 m 248 ls [])) : ∀ (x1 : Int32) (x2 : Int32) (x3 : Int32) (x4 : Int32) (x5 : Int32) (x6 : Int32) (y1 : Int32) (y2 : Int32) (σ : Dst) (H : Heap) (locs : List Loc) (ls : Array Slot), lv_has ls 8 [(0, .ref t0), (1, .int x1), (2, .int x2), (3, .int x3), (4, .int x4), (5, .int x5), (6, .int x6)] → Wd D dA A s (Dx dA t0 ad B wr σ) H locs → fD_rivals_360 dA B k236 k248 x1 x2 x3 x4 x5 x6 y1 y2 σ = some q → W p l e rD_rivals s m args below meth c H locs 0 0 (QI D dA A below args s 0 0 q.1 (Dx dA t0 ad B wr q.2)) (F0 m 360 ls [.int y2, .int y1, .ref (ad (180 + (x5).toNatClampNeg))]) := by
  have hx := FX.1; have hb := FX.2.1; have hown := FX.2.2.2.1; have hts := FX.2.2.2.2
  intro x1 x2 x3 x4 x5 x6 y1 y2 σ H locs ls hl hW hf
  rw [fD_rivals_360] at hf
  refine Dgs180 (x := x5) FX hW hf dX0_rivals_360 (fun s1 H locs hW hf => ?_)
  refine lv_iinc (v := (x6 + (1 : Int32))) (lv' := [(6, .int (x6 + (1 : Int32))), (0, .ref t0), (1, .int x1), (2, .int x2), (3, .int x3), (4, .int x4), (5, .int x5)]) hx hb dX0_rivals_361 hl (k := 6) rfl rfl (by decide) rfl (fun ls hl => ?_)
  refine lv_goto (tgt := 248) hx hb dX0_rivals_364 (by decide) ?_
  exact hk248 x1 x2 x3 x4 x5 (x6 + (1 : Int32)) s1 _ _ _ (lv_sub hl [1, 2, 3, 4, 5, 6, 0] rfl) hW hf
set_option maxHeartbeats 4000000 in
set_option maxRecDepth 100000 in
theorem wD_rivals_321 {t0 : Nat} {ad : Nat → Nat} {B : Bk} {wr : va_W} {q : (Int32 × Dst)} (FX : CallFix p m c cX0_rivals 8 s args lw_all RX0) (hr : meth.sig.returnType = (some .int)) (hlk : meth.locks = false) {k236 : Int32 → Int32 → Int32 → Int32 → Int32 → Dst → Option (Int32 × Dst)} (hk236 : ∀ (x1 : Int32) (x2 : Int32) (x3 : Int32) (x4 : Int32) (x5 : Int32) (σ : Dst) (H : Heap) (locs : List Loc) (ls : Array Slot), lv_has ls 8 [(0, .ref t0), (1, .int x1), (2, .int x2), (3, .int x3), (4, .int x4), (5, .int x5)] → Wd D dA A s (Dx dA t0 ad B wr σ) H locs → k236 x1 x2 x3 x4 x5 σ = some q → W p l e rD_rivals s m args below meth c H locs 0 0 (QI D dA A below args s 0 0 q.1 (Dx dA t0 ad B wr q.2)) (F0 m 236 ls [])) {k248 : Int32 → Int32 → Int32 → Int32 → Int32 → Int32 → Dst → Option (Int32 × Dst)} (hk248 : ∀ (x1 : Int32) (x2 : Int32) (x3 : Int32) (x4 : Int32) (x5 : Int32) (x6 : Int32) (σ : Dst) (H : Heap) (locs : List Loc) (ls : Array Slot), lv_has ls 8 [(0, .ref t0), (1, .int x1), (2, .int x2), (3, .int x3), (4, .int x4), (5, .int x5), (6, .int x6)] → Wd D dA A s (Dx dA t0 ad B wr σ) H locs → k248 x1 x2 x3 x4 x5 x6 σ = some q → W p l e rD_rivals s m args below meth c H locs 0 0 (QI D dA A below args s 0 0 q.1 (Dx dA t0 ad B wr q.2)) (F0 m 248 ls [])) : ∀ (x1 : Int32) (x2 : Int32) (x3 : Int32) (x4 : Int32) (x5 : Int32) (x6 : Int32) (x7 : Int32) (y1 : Int32) (y2 : Int32) (σ : Dst) (H : Heap) (locs : List Loc) (ls : Array Slot), lv_has ls 8 [(0, .ref t0), (1, .int x1), (2, .int x2), (3, .int x3), (4, .int x4), (5, .int x5), (6, .int x6), (7, .int x7)] → Wd D dA A s (Dx dA t0 ad B wr σ) H locs → fD_rivals_321 dA B k236 k248 x1 x2 x3 x4 x5 x6 x7 y1 y2 σ = some q → W p l e rD_rivals s m args below meth c H locs 0 0 (QI D dA A below args s 0 0 q.1 (Dx dA t0 ad B wr q.2)) (F0 m 321 ls [.int y2, .int y1, .ref (ad (170 + (x5).toNatClampNeg))]) := by
  have hx := FX.1; have hb := FX.2.1; have hown := FX.2.2.2.1; have hts := FX.2.2.2.2
  intro x1 x2 x3 x4 x5 x6 x7 y1 y2 σ H locs ls hl hW hf
  rw [fD_rivals_321] at hf
  refine Dgs170 (x := x5) FX hW hf dX0_rivals_321 (fun s1 H locs hW hf => ?_)
  refine lv_aload_n hx hb dX0_rivals_322 rfl (lv_at hl 0 rfl) ?_
  refine DgX0_0_18 FX hW dX0_rivals_323 ?_
  refine lv_iload hx hb dX0_rivals_326 (lv_at hl 5 rfl) ?_
  refine Dgrid180 FX hW hf dX0_rivals_328 (fun hf => ?_)
  refine lv_iload hx hb dX0_rivals_329 (lv_at hl 6 rfl) ?_
  refine lv_iload hx hb dX0_rivals_331 (lv_at hl 5 rfl) ?_
  refine lv_iload hx hb dX0_rivals_333 (lv_at hl 6 rfl) ?_
  refine lv_icmp_ne (tgt := 343) hx hb dX0_rivals_335 (by decide) (fun c335 => ?_) (fun c335 => ?_)
  · have hf := ifn c335 hf
    refine lv_aload_n hx hb dX0_rivals_343 rfl (lv_at hl 0 rfl) ?_
    refine DgX0_0_14 FX hW dX0_rivals_344 ?_
    refine lv_iload hx hb dX0_rivals_347 (lv_at hl 6 rfl) ?_
    refine g_iald FX hW 4 Dp4 hf dX0_rivals_349 (fun v2 hf => ?_)
    refine lv_aload_n hx hb dX0_rivals_350 rfl (lv_at hl 0 rfl) ?_
    refine DgX0_0_5 FX hW dX0_rivals_351 ?_
    refine DgX0_18_0 FX hW dX0_rivals_354 ?_
    refine lv_iload_n hx hb dX0_rivals_357 rfl (lv_at hl 2 rfl) ?_
    refine g_iald FX hW 19 Dp19 hf dX0_rivals_358 (fun v3 hf => ?_)
    refine lv_isub hx hb dX0_rivals_359 ?_
    exact wD_rivals_360 FX hr hlk hk236 hk248 x1 x2 x3 x4 x5 x6 x6 (v2 - v3) s1 _ _ _ (lv_sub hl [0, 1, 2, 3, 4, 5, 6] rfl) hW hf
  · have hf := ifp c335 hf
    refine lv_iload hx hb dX0_rivals_338 (lv_at hl 7 rfl) ?_
    refine lv_goto (tgt := 360) hx hb dX0_rivals_340 (by decide) ?_
    exact wD_rivals_360 FX hr hlk hk236 hk248 x1 x2 x3 x4 x5 x6 x6 x7 s1 _ _ _ (lv_sub hl [0, 1, 2, 3, 4, 5, 6] rfl) hW hf
set_option maxHeartbeats 4000000 in
set_option maxRecDepth 100000 in
theorem wD_rivals_281 {t0 : Nat} {ad : Nat → Nat} {B : Bk} {wr : va_W} {q : (Int32 × Dst)} (FX : CallFix p m c cX0_rivals 8 s args lw_all RX0) (hr : meth.sig.returnType = (some .int)) (hlk : meth.locks = false) {k236 : Int32 → Int32 → Int32 → Int32 → Int32 → Dst → Option (Int32 × Dst)} (hk236 : ∀ (x1 : Int32) (x2 : Int32) (x3 : Int32) (x4 : Int32) (x5 : Int32) (σ : Dst) (H : Heap) (locs : List Loc) (ls : Array Slot), lv_has ls 8 [(0, .ref t0), (1, .int x1), (2, .int x2), (3, .int x3), (4, .int x4), (5, .int x5)] → Wd D dA A s (Dx dA t0 ad B wr σ) H locs → k236 x1 x2 x3 x4 x5 σ = some q → W p l e rD_rivals s m args below meth c H locs 0 0 (QI D dA A below args s 0 0 q.1 (Dx dA t0 ad B wr q.2)) (F0 m 236 ls [])) {k248 : Int32 → Int32 → Int32 → Int32 → Int32 → Int32 → Dst → Option (Int32 × Dst)} (hk248 : ∀ (x1 : Int32) (x2 : Int32) (x3 : Int32) (x4 : Int32) (x5 : Int32) (x6 : Int32) (σ : Dst) (H : Heap) (locs : List Loc) (ls : Array Slot), lv_has ls 8 [(0, .ref t0), (1, .int x1), (2, .int x2), (3, .int x3), (4, .int x4), (5, .int x5), (6, .int x6)] → Wd D dA A s (Dx dA t0 ad B wr σ) H locs → k248 x1 x2 x3 x4 x5 x6 σ = some q → W p l e rD_rivals s m args below meth c H locs 0 0 (QI D dA A below args s 0 0 q.1 (Dx dA t0 ad B wr q.2)) (F0 m 248 ls [])) : ∀ (x1 : Int32) (x2 : Int32) (x3 : Int32) (x4 : Int32) (x5 : Int32) (x6 : Int32) (y0 : Int32) (σ : Dst) (H : Heap) (locs : List Loc) (ls : Array Slot), lv_has ls 8 [(0, .ref t0), (1, .int x1), (2, .int x2), (3, .int x3), (4, .int x4), (5, .int x5), (6, .int x6)] → Wd D dA A s (Dx dA t0 ad B wr σ) H locs → fD_rivals_281 dA B k236 k248 x1 x2 x3 x4 x5 x6 y0 σ = some q → W p l e rD_rivals s m args below meth c H locs 0 0 (QI D dA A below args s 0 0 q.1 (Dx dA t0 ad B wr q.2)) (F0 m 281 ls [.int y0]) := by
  have hx := FX.1; have hb := FX.2.1; have hown := FX.2.2.2.1; have hts := FX.2.2.2.2
  intro x1 x2 x3 x4 x5 x6 y0 σ H locs ls hl hW hf
  rw [fD_rivals_281] at hf
  refine lv_istore (lv' := [(7, .int y0), (0, .ref t0), (1, .int x1), (2, .int x2), (3, .int x3), (4, .int x4), (5, .int x5), (6, .int x6)]) hx hb dX0_rivals_281 hl (by decide) rfl (fun ls hl => ?_)
  refine lv_aload_n hx hb dX0_rivals_283 rfl (lv_at hl 1 rfl) ?_
  refine DgX0_0_17 FX hW dX0_rivals_284 ?_
  refine lv_iload hx hb dX0_rivals_287 (lv_at hl 6 rfl) ?_
  refine Dgrid170 FX hW hf dX0_rivals_289 (fun hf => ?_)
  refine lv_iload hx hb dX0_rivals_290 (lv_at hl 7 rfl) ?_
  refine lv_iload hx hb dX0_rivals_292 (lv_at hl 6 rfl) ?_
  refine lv_iload hx hb dX0_rivals_294 (lv_at hl 7 rfl) ?_
  refine lv_icmp_ne (tgt := 304) hx hb dX0_rivals_296 (by decide) (fun c296 => ?_) (fun c296 => ?_)
  · have hf := ifn c296 hf
    refine lv_aload_n hx hb dX0_rivals_304 rfl (lv_at hl 1 rfl) ?_
    refine DgX0_0_14 FX hW dX0_rivals_305 ?_
    refine lv_iload hx hb dX0_rivals_308 (lv_at hl 6 rfl) ?_
    refine g_iald FX hW 4 Dp4 hf dX0_rivals_310 (fun v1 hf => ?_)
    refine lv_aload_n hx hb dX0_rivals_311 rfl (lv_at hl 1 rfl) ?_
    refine DgX0_0_5 FX hW dX0_rivals_312 ?_
    refine DgX0_18_0 FX hW dX0_rivals_315 ?_
    refine lv_iload_n hx hb dX0_rivals_318 rfl (lv_at hl 2 rfl) ?_
    refine g_iald FX hW 19 Dp19 hf dX0_rivals_319 (fun v2 hf => ?_)
    refine lv_isub hx hb dX0_rivals_320 ?_
    exact wD_rivals_321 FX hr hlk hk236 hk248 x1 x2 x3 x4 x5 x6 y0 x6 (v1 - v2) σ _ _ _ (lv_sub hl [1, 2, 3, 4, 5, 6, 7, 0] rfl) hW hf
  · have hf := ifp c296 hf
    refine lv_iload hx hb dX0_rivals_299 (lv_at hl 0 rfl) ?_
    refine lv_goto (tgt := 321) hx hb dX0_rivals_301 (by decide) ?_
    exact wD_rivals_321 FX hr hlk hk236 hk248 x1 x2 x3 x4 x5 x6 y0 x6 y0 σ _ _ _ (lv_sub hl [1, 2, 3, 4, 5, 6, 7, 0] rfl) hW hf
set_option maxHeartbeats 4000000 in
set_option maxRecDepth 100000 in
theorem wD_rivals_248 {t0 : Nat} {ad : Nat → Nat} {B : Bk} {wr : va_W} {q : (Int32 × Dst)} (FX : CallFix p m c cX0_rivals 8 s args lw_all RX0) (hr : meth.sig.returnType = (some .int)) (hlk : meth.locks = false) {k236 : Int32 → Int32 → Int32 → Int32 → Int32 → Dst → Option (Int32 × Dst)} (hk236 : ∀ (x1 : Int32) (x2 : Int32) (x3 : Int32) (x4 : Int32) (x5 : Int32) (σ : Dst) (H : Heap) (locs : List Loc) (ls : Array Slot), lv_has ls 8 [(0, .ref t0), (1, .int x1), (2, .int x2), (3, .int x3), (4, .int x4), (5, .int x5)] → Wd D dA A s (Dx dA t0 ad B wr σ) H locs → k236 x1 x2 x3 x4 x5 σ = some q → W p l e rD_rivals s m args below meth c H locs 0 0 (QI D dA A below args s 0 0 q.1 (Dx dA t0 ad B wr q.2)) (F0 m 236 ls [])) : ∀ n : Nat, ∀ (x1 : Int32) (x2 : Int32) (x3 : Int32) (x4 : Int32) (x5 : Int32) (x6 : Int32) (σ : Dst) (H : Heap) (locs : List Loc) (ls : Array Slot), lv_has ls 8 [(0, .ref t0), (1, .int x1), (2, .int x2), (3, .int x3), (4, .int x4), (5, .int x5), (6, .int x6)] → Wd D dA A s (Dx dA t0 ad B wr σ) H locs → fD_rivals_248 dA B k236 n x1 x2 x3 x4 x5 x6 σ = some q → W p l e rD_rivals s m args below meth c H locs 0 0 (QI D dA A below args s 0 0 q.1 (Dx dA t0 ad B wr q.2)) (F0 m 248 ls []) := by
  have hx := FX.1; have hb := FX.2.1; have hown := FX.2.2.2.1; have hts := FX.2.2.2.2
  intro n
  induction n with
  | zero =>
    intro x1 x2 x3 x4 x5 x6 σ H locs ls hl hW hf
    cases (show (none : Option (Int32 × Dst)) = some q from hf)
  | succ n ih =>
    intro x1 x2 x3 x4 x5 x6 σ H locs ls hl hW hf
    rw [fD_rivals_248] at hf
    refine lv_iload hx hb dX0_rivals_248 (lv_at hl 6 rfl) ?_
    refine lv_aload_n hx hb dX0_rivals_250 rfl (lv_at hl 0 rfl) ?_
    refine kD_rooms FX ⟨Nat.le_of_ble_eq_true rfl, Nat.le_of_ble_eq_true rfl⟩ ⟨Nat.zero_le _, Nat.zero_le _⟩ hl.1 (Nat.le_of_ble_eq_true rfl) hW hf dX0_rivals_251 (fun r1 H locs hW hf => ?_)
    refine lv_icmp_ge (tgt := 367) hx hb dX0_rivals_254 (by decide) (fun c254 => ?_) (fun c254 => ?_)
    · have hf := ifp c254 hf
      refine lv_iinc (v := (x5 + (1 : Int32))) (lv' := [(5, .int (x5 + (1 : Int32))), (0, .ref t0), (1, .int x1), (2, .int x2), (3, .int x3), (4, .int x4), (6, .int x6)]) hx hb dX0_rivals_367 hl (k := 5) rfl rfl (by decide) rfl (fun ls hl => ?_)
      refine lv_goto (tgt := 236) hx hb dX0_rivals_370 (by decide) ?_
      exact hk236 x1 x2 x3 x4 (x5 + (1 : Int32)) σ _ _ _ (lv_sub hl [1, 2, 3, 4, 5, 0] rfl) hW hf
    · have hf := ifn c254 hf
      refine lv_aload_n hx hb dX0_rivals_257 rfl (lv_at hl 0 rfl) ?_
      refine DgX0_0_14 FX hW dX0_rivals_258 ?_
      refine lv_iload hx hb dX0_rivals_261 (lv_at hl 5 rfl) ?_
      refine g_iald FX hW 4 Dp4 hf dX0_rivals_263 (fun v2 hf => ?_)
      refine lv_iload_n hx hb dX0_rivals_264 rfl (lv_at hl 3 rfl) ?_
      refine lv_icmp_ge (tgt := 272) hx hb dX0_rivals_265 (by decide) (fun c265 => ?_) (fun c265 => ?_)
      · have hf := ifp c265 hf
        refine lv_aload_n hx hb dX0_rivals_272 rfl (lv_at hl 0 rfl) ?_
        refine DgX0_0_14 FX hW dX0_rivals_273 ?_
        refine lv_iload hx hb dX0_rivals_276 (lv_at hl 5 rfl) ?_
        refine g_iald FX hW 4 Dp4 hf dX0_rivals_278 (fun v3 hf => ?_)
        refine lv_iload_n hx hb dX0_rivals_279 rfl (lv_at hl 3 rfl) ?_
        refine lv_isub hx hb dX0_rivals_280 ?_
        exact wD_rivals_281 FX hr hlk hk236 (ih) x1 x2 x3 x4 x5 x6 (v3 - x3) σ _ _ _ (lv_sub hl [0, 1, 2, 3, 4, 5, 6] rfl) hW hf
      · have hf := ifn c265 hf
        refine lv_iconst (v := -1) hx hb dX0_rivals_268 (by decide) ?_
        refine lv_goto (tgt := 281) hx hb dX0_rivals_269 (by decide) ?_
        exact wD_rivals_281 FX hr hlk hk236 (ih) x1 x2 x3 x4 x5 x6 (-1 : Int32) σ _ _ _ (lv_sub hl [0, 1, 2, 3, 4, 5, 6] rfl) hW hf
set_option maxHeartbeats 4000000 in
set_option maxRecDepth 100000 in
theorem wD_rivals_236 {t0 : Nat} {ad : Nat → Nat} {B : Bk} {wr : va_W} {q : (Int32 × Dst)} (FX : CallFix p m c cX0_rivals 8 s args lw_all RX0) (hr : meth.sig.returnType = (some .int)) (hlk : meth.locks = false) : ∀ n : Nat, ∀ (x1 : Int32) (x2 : Int32) (x3 : Int32) (x4 : Int32) (x5 : Int32) (σ : Dst) (H : Heap) (locs : List Loc) (ls : Array Slot), lv_has ls 8 [(0, .ref t0), (1, .int x1), (2, .int x2), (3, .int x3), (4, .int x4), (5, .int x5)] → Wd D dA A s (Dx dA t0 ad B wr σ) H locs → fD_rivals_236 dA B n x1 x2 x3 x4 x5 σ = some q → W p l e rD_rivals s m args below meth c H locs 0 0 (QI D dA A below args s 0 0 q.1 (Dx dA t0 ad B wr q.2)) (F0 m 236 ls []) := by
  have hx := FX.1; have hb := FX.2.1; have hown := FX.2.2.2.1; have hts := FX.2.2.2.2
  intro n
  induction n with
  | zero =>
    intro x1 x2 x3 x4 x5 σ H locs ls hl hW hf
    cases (show (none : Option (Int32 × Dst)) = some q from hf)
  | succ n ih =>
    intro x1 x2 x3 x4 x5 σ H locs ls hl hW hf
    rw [fD_rivals_236] at hf
    refine lv_iload hx hb dX0_rivals_236 (lv_at hl 5 rfl) ?_
    refine lv_aload_n hx hb dX0_rivals_238 rfl (lv_at hl 0 rfl) ?_
    refine kD_rooms FX ⟨Nat.le_of_ble_eq_true rfl, Nat.le_of_ble_eq_true rfl⟩ ⟨Nat.zero_le _, Nat.zero_le _⟩ hl.1 (Nat.le_of_ble_eq_true rfl) hW hf dX0_rivals_239 (fun r1 H locs hW hf => ?_)
    refine lv_icmp_ge (tgt := 373) hx hb dX0_rivals_242 (by decide) (fun c242 => ?_) (fun c242 => ?_)
    · have hf := ifp c242 hf
      refine lv_aload_n hx hb dX0_rivals_373 rfl (lv_at hl 0 rfl) ?_
      refine kD_rooms FX ⟨Nat.le_of_ble_eq_true rfl, Nat.le_of_ble_eq_true rfl⟩ ⟨Nat.zero_le _, Nat.zero_le _⟩ hl.1 (Nat.le_of_ble_eq_true rfl) hW hf dX0_rivals_374 (fun r2 H locs hW hf => ?_)
      refine lv_iconst (v := 1) hx hb dX0_rivals_377 (by decide) ?_
      refine lv_isub hx hb dX0_rivals_378 ?_
      refine lv_istore (lv' := [(5, .int (r2 - (1 : Int32))), (0, .ref t0), (1, .int x1), (2, .int x2), (3, .int x3), (4, .int x4)]) hx hb dX0_rivals_379 hl (by decide) rfl (fun ls hl => ?_)
      exact wD_rivals_381 FX hr hlk _ x4 (r2 - (1 : Int32)) σ _ _ _ (lv_sub hl [1, 5, 0] rfl) hW hf
    · have hf := ifn c242 hf
      refine lv_iconst (v := 0) hx hb dX0_rivals_245 (by decide) ?_
      refine lv_istore (lv' := [(6, .int (0 : Int32)), (0, .ref t0), (1, .int x1), (2, .int x2), (3, .int x3), (4, .int x4), (5, .int x5)]) hx hb dX0_rivals_246 hl (by decide) rfl (fun ls hl => ?_)
      exact wD_rivals_248 FX hr hlk (ih) _ x1 x2 x3 x4 x5 (0 : Int32) σ _ _ _ (lv_sub hl [1, 2, 3, 4, 5, 6, 0] rfl) hW hf
set_option maxHeartbeats 4000000 in
set_option maxRecDepth 100000 in
theorem wD_rivals_184 {t0 : Nat} {ad : Nat → Nat} {B : Bk} {wr : va_W} {q : (Int32 × Dst)} (FX : CallFix p m c cX0_rivals 8 s args lw_all RX0) (hr : meth.sig.returnType = (some .int)) (hlk : meth.locks = false) {k40 : Int32 → Int32 → Int32 → Dst → Option (Int32 × Dst)} (hk40 : ∀ (x1 : Int32) (x2 : Int32) (x3 : Int32) (σ : Dst) (H : Heap) (locs : List Loc) (ls : Array Slot), lv_has ls 8 [(0, .ref t0), (1, .int x1), (2, .int x2), (3, .int x3)] → Wd D dA A s (Dx dA t0 ad B wr σ) H locs → k40 x1 x2 x3 σ = some q → W p l e rD_rivals s m args below meth c H locs 0 0 (QI D dA A below args s 0 0 q.1 (Dx dA t0 ad B wr q.2)) (F0 m 40 ls [])) : ∀ (x1 : Int32) (x2 : Int32) (x3 : Int32) (y1 : Int32) (y2 : Int32) (σ : Dst) (H : Heap) (locs : List Loc) (ls : Array Slot), lv_has ls 8 [(0, .ref t0), (1, .int x1), (2, .int x2), (3, .int x3)] → Wd D dA A s (Dx dA t0 ad B wr σ) H locs → fD_rivals_184 dA B k40 x1 x2 x3 y1 y2 σ = some q → W p l e rD_rivals s m args below meth c H locs 0 0 (QI D dA A below args s 0 0 q.1 (Dx dA t0 ad B wr q.2)) (F0 m 184 ls [.int y2, .int y1, .ref t0]) := by
  have hx := FX.1; have hb := FX.2.1; have hown := FX.2.2.2.1; have hts := FX.2.2.2.2
  intro x1 x2 x3 y1 y2 σ H locs ls hl hW hf
  rw [fD_rivals_184] at hf
  refine lv_ior hx hb dX0_rivals_184 ?_
  refine DsX0_0_20 FX hW hf dX0_rivals_185 (fun s1 H locs hW hf => ?_)
  refine lv_iinc (v := (x3 + (1 : Int32))) (lv' := [(3, .int (x3 + (1 : Int32))), (0, .ref t0), (1, .int x1), (2, .int x2)]) hx hb dX0_rivals_188 hl (k := 3) rfl rfl (by decide) rfl (fun ls hl => ?_)
  refine lv_goto (tgt := 40) hx hb dX0_rivals_191 (by decide) ?_
  exact hk40 x1 x2 (x3 + (1 : Int32)) s1 _ _ _ (lv_sub hl [1, 2, 3, 0] rfl) hW hf
set_option maxHeartbeats 4000000 in
set_option maxRecDepth 100000 in
theorem wD_rivals_150 {t0 : Nat} {ad : Nat → Nat} {B : Bk} {wr : va_W} {q : (Int32 × Dst)} (FX : CallFix p m c cX0_rivals 8 s args lw_all RX0) (hr : meth.sig.returnType = (some .int)) (hlk : meth.locks = false) {k40 : Int32 → Int32 → Int32 → Dst → Option (Int32 × Dst)} (hk40 : ∀ (x1 : Int32) (x2 : Int32) (x3 : Int32) (σ : Dst) (H : Heap) (locs : List Loc) (ls : Array Slot), lv_has ls 8 [(0, .ref t0), (1, .int x1), (2, .int x2), (3, .int x3)] → Wd D dA A s (Dx dA t0 ad B wr σ) H locs → k40 x1 x2 x3 σ = some q → W p l e rD_rivals s m args below meth c H locs 0 0 (QI D dA A below args s 0 0 q.1 (Dx dA t0 ad B wr q.2)) (F0 m 40 ls [])) : ∀ (x1 : Int32) (x2 : Int32) (x3 : Int32) (y1 : Int32) (y2 : Int32) (σ : Dst) (H : Heap) (locs : List Loc) (ls : Array Slot), lv_has ls 8 [(0, .ref t0), (1, .int x1), (2, .int x2), (3, .int x3)] → Wd D dA A s (Dx dA t0 ad B wr σ) H locs → fD_rivals_150 dA B k40 x1 x2 x3 y1 y2 σ = some q → W p l e rD_rivals s m args below meth c H locs 0 0 (QI D dA A below args s 0 0 q.1 (Dx dA t0 ad B wr q.2)) (F0 m 150 ls [.int y2, .int y1, .ref t0]) := by
  have hx := FX.1; have hb := FX.2.1; have hown := FX.2.2.2.1; have hts := FX.2.2.2.2
  intro x1 x2 x3 y1 y2 σ H locs ls hl hW hf
  rw [fD_rivals_150] at hf
  refine lv_ior hx hb dX0_rivals_150 ?_
  refine DsX0_0_19 FX hW hf dX0_rivals_151 (fun s1 H locs hW hf => ?_)
  refine lv_aload_n hx hb dX0_rivals_154 rfl (lv_at hl 0 rfl) ?_
  refine lv_dup hx hb dX0_rivals_155 rfl ?_
  refine DgX0_0_20 FX hW dX0_rivals_156 ?_
  refine lv_aload_n hx hb dX0_rivals_159 rfl (lv_at hl 0 rfl) ?_
  refine DgX0_0_14 FX hW dX0_rivals_160 ?_
  refine lv_iload_n hx hb dX0_rivals_163 rfl (lv_at hl 3 rfl) ?_
  refine g_iald FX hW 4 Dp4 hf dX0_rivals_164 (fun v2 hf => ?_)
  refine lv_aload_n hx hb dX0_rivals_165 rfl (lv_at hl 0 rfl) ?_
  refine DgX0_0_5 FX hW dX0_rivals_166 ?_
  refine DgX0_18_0 FX hW dX0_rivals_169 ?_
  refine lv_iload_n hx hb dX0_rivals_172 rfl (lv_at hl 2 rfl) ?_
  refine g_iald FX hW 19 Dp19 hf dX0_rivals_173 (fun v3 hf => ?_)
  refine lv_icmp_lt (tgt := 183) hx hb dX0_rivals_174 (by decide) (fun c174 => ?_) (fun c174 => ?_)
  · have hf := ifp c174 hf
    refine lv_iconst (v := 0) hx hb dX0_rivals_183 (by decide) ?_
    exact wD_rivals_184 FX hr hlk hk40 x1 x2 x3 (tF s1 20) (0 : Int32) s1 _ _ _ (lv_sub hl [0, 1, 2, 3] rfl) hW hf
  · have hf := ifn c174 hf
    refine lv_iconst (v := 1) hx hb dX0_rivals_177 (by decide) ?_
    refine lv_iload_n hx hb dX0_rivals_178 rfl (lv_at hl 3 rfl) ?_
    refine lv_ishl hx hb dX0_rivals_179 ?_
    refine lv_goto (tgt := 184) hx hb dX0_rivals_180 (by decide) ?_
    exact wD_rivals_184 FX hr hlk hk40 x1 x2 x3 (tF s1 20) ((1 : Int32) <<< (x3 &&& 31)) s1 _ _ _ (lv_sub hl [0, 1, 2, 3] rfl) hW hf
set_option maxHeartbeats 4000000 in
set_option maxRecDepth 100000 in
theorem wD_rivals_118 {t0 : Nat} {ad : Nat → Nat} {B : Bk} {wr : va_W} {q : (Int32 × Dst)} (FX : CallFix p m c cX0_rivals 8 s args lw_all RX0) (hr : meth.sig.returnType = (some .int)) (hlk : meth.locks = false) {k40 : Int32 → Int32 → Int32 → Dst → Option (Int32 × Dst)} (hk40 : ∀ (x1 : Int32) (x2 : Int32) (x3 : Int32) (σ : Dst) (H : Heap) (locs : List Loc) (ls : Array Slot), lv_has ls 8 [(0, .ref t0), (1, .int x1), (2, .int x2), (3, .int x3)] → Wd D dA A s (Dx dA t0 ad B wr σ) H locs → k40 x1 x2 x3 σ = some q → W p l e rD_rivals s m args below meth c H locs 0 0 (QI D dA A below args s 0 0 q.1 (Dx dA t0 ad B wr q.2)) (F0 m 40 ls [])) : ∀ (x1 : Int32) (x2 : Int32) (x3 : Int32) (y1 : Int32) (y2 : Int32) (y3 : Int32) (σ : Dst) (H : Heap) (locs : List Loc) (ls : Array Slot), lv_has ls 8 [(0, .ref t0), (1, .int x1), (2, .int x2), (3, .int x3)] → Wd D dA A s (Dx dA t0 ad B wr σ) H locs → fD_rivals_118 dA B k40 x1 x2 x3 y1 y2 y3 σ = some q → W p l e rD_rivals s m args below meth c H locs 0 0 (QI D dA A below args s 0 0 q.1 (Dx dA t0 ad B wr q.2)) (F0 m 118 ls [.int y3, .int y2, .int y1, .ref (ad 14)]) := by
  have hx := FX.1; have hb := FX.2.1; have hown := FX.2.2.2.1; have hts := FX.2.2.2.2
  intro x1 x2 x3 y1 y2 y3 σ H locs ls hl hW hf
  rw [fD_rivals_118] at hf
  refine lv_iadd hx hb dX0_rivals_118 ?_
  refine g_iast FX hW 4 Dp4 (L := Dx dA t0 ad B wr) (Dt4) hf dX0_rivals_119 (fun s1 H locs hW hf => ?_)
  refine lv_aload_n hx hb dX0_rivals_120 rfl (lv_at hl 0 rfl) ?_
  refine lv_dup hx hb dX0_rivals_121 rfl ?_
  refine DgX0_0_19 FX hW dX0_rivals_122 ?_
  refine lv_aload_n hx hb dX0_rivals_125 rfl (lv_at hl 0 rfl) ?_
  refine DgX0_0_14 FX hW dX0_rivals_126 ?_
  refine lv_iload_n hx hb dX0_rivals_129 rfl (lv_at hl 3 rfl) ?_
  refine g_iald FX hW 4 Dp4 hf dX0_rivals_130 (fun v2 hf => ?_)
  refine lv_aload_n hx hb dX0_rivals_131 rfl (lv_at hl 0 rfl) ?_
  refine DgX0_0_5 FX hW dX0_rivals_132 ?_
  refine DgX0_18_0 FX hW dX0_rivals_135 ?_
  refine lv_iload_n hx hb dX0_rivals_138 rfl (lv_at hl 1 rfl) ?_
  refine g_iald FX hW 19 Dp19 hf dX0_rivals_139 (fun v3 hf => ?_)
  refine lv_icmp_lt (tgt := 149) hx hb dX0_rivals_140 (by decide) (fun c140 => ?_) (fun c140 => ?_)
  · have hf := ifp c140 hf
    refine lv_iconst (v := 0) hx hb dX0_rivals_149 (by decide) ?_
    exact wD_rivals_150 FX hr hlk hk40 x1 x2 x3 (tF s1 19) (0 : Int32) s1 _ _ _ (lv_sub hl [0, 1, 2, 3] rfl) hW hf
  · have hf := ifn c140 hf
    refine lv_iconst (v := 1) hx hb dX0_rivals_143 (by decide) ?_
    refine lv_iload_n hx hb dX0_rivals_144 rfl (lv_at hl 3 rfl) ?_
    refine lv_ishl hx hb dX0_rivals_145 ?_
    refine lv_goto (tgt := 150) hx hb dX0_rivals_146 (by decide) ?_
    exact wD_rivals_150 FX hr hlk hk40 x1 x2 x3 (tF s1 19) ((1 : Int32) <<< (x3 &&& 31)) s1 _ _ _ (lv_sub hl [0, 1, 2, 3] rfl) hW hf
set_option maxHeartbeats 4000000 in
set_option maxRecDepth 100000 in
theorem wD_rivals_91 {t0 : Nat} {ad : Nat → Nat} {B : Bk} {wr : va_W} {q : (Int32 × Dst)} (FX : CallFix p m c cX0_rivals 8 s args lw_all RX0) (hr : meth.sig.returnType = (some .int)) (hlk : meth.locks = false) {k40 : Int32 → Int32 → Int32 → Dst → Option (Int32 × Dst)} (hk40 : ∀ (x1 : Int32) (x2 : Int32) (x3 : Int32) (σ : Dst) (H : Heap) (locs : List Loc) (ls : Array Slot), lv_has ls 8 [(0, .ref t0), (1, .int x1), (2, .int x2), (3, .int x3)] → Wd D dA A s (Dx dA t0 ad B wr σ) H locs → k40 x1 x2 x3 σ = some q → W p l e rD_rivals s m args below meth c H locs 0 0 (QI D dA A below args s 0 0 q.1 (Dx dA t0 ad B wr q.2)) (F0 m 40 ls [])) : ∀ (x1 : Int32) (x2 : Int32) (x3 : Int32) (y1 : Int32) (y2 : Int32) (y3 : Int32) (σ : Dst) (H : Heap) (locs : List Loc) (ls : Array Slot), lv_has ls 8 [(0, .ref t0), (1, .int x1), (2, .int x2), (3, .int x3)] → Wd D dA A s (Dx dA t0 ad B wr σ) H locs → fD_rivals_91 dA B k40 x1 x2 x3 y1 y2 y3 σ = some q → W p l e rD_rivals s m args below meth c H locs 0 0 (QI D dA A below args s 0 0 q.1 (Dx dA t0 ad B wr q.2)) (F0 m 91 ls [.int y3, .int y2, .int y1, .ref (ad 14)]) := by
  have hx := FX.1; have hb := FX.2.1; have hown := FX.2.2.2.1; have hts := FX.2.2.2.2
  intro x1 x2 x3 y1 y2 y3 σ H locs ls hl hW hf
  rw [fD_rivals_91] at hf
  refine lv_iadd hx hb dX0_rivals_91 ?_
  refine lv_aload_n hx hb dX0_rivals_92 rfl (lv_at hl 0 rfl) ?_
  refine DgX0_0_5 FX hW dX0_rivals_93 ?_
  refine DgX0_18_1 FX hW dX0_rivals_96 ?_
  refine lv_iload_n hx hb dX0_rivals_99 rfl (lv_at hl 2 rfl) ?_
  refine g_iald FX hW 20 Dp20 hf dX0_rivals_100 (fun v1 hf => ?_)
  refine lv_iload_n hx hb dX0_rivals_101 rfl (lv_at hl 3 rfl) ?_
  refine lv_icmp_ne (tgt := 117) hx hb dX0_rivals_102 (by decide) (fun c102 => ?_) (fun c102 => ?_)
  · have hf := ifn c102 hf
    refine lv_iconst (v := 0) hx hb dX0_rivals_117 (by decide) ?_
    exact wD_rivals_118 FX hr hlk hk40 x1 x2 x3 y1 (y2 + y3) (0 : Int32) σ _ _ _ (lv_sub hl [0, 1, 2, 3] rfl) hW hf
  · have hf := ifp c102 hf
    refine lv_aload_n hx hb dX0_rivals_105 rfl (lv_at hl 0 rfl) ?_
    refine DgX0_0_5 FX hW dX0_rivals_106 ?_
    refine DgX0_18_0 FX hW dX0_rivals_109 ?_
    refine lv_iload_n hx hb dX0_rivals_112 rfl (lv_at hl 2 rfl) ?_
    refine g_iald FX hW 19 Dp19 hf dX0_rivals_113 (fun v2 hf => ?_)
    refine lv_goto (tgt := 118) hx hb dX0_rivals_114 (by decide) ?_
    exact wD_rivals_118 FX hr hlk hk40 x1 x2 x3 y1 (y2 + y3) v2 σ _ _ _ (lv_sub hl [0, 1, 2, 3] rfl) hW hf
set_option maxHeartbeats 4000000 in
set_option maxRecDepth 100000 in
theorem wD_rivals_40 {t0 : Nat} {ad : Nat → Nat} {B : Bk} {wr : va_W} {q : (Int32 × Dst)} (FX : CallFix p m c cX0_rivals 8 s args lw_all RX0) (hr : meth.sig.returnType = (some .int)) (hlk : meth.locks = false) : ∀ n : Nat, ∀ (x1 : Int32) (x2 : Int32) (x3 : Int32) (σ : Dst) (H : Heap) (locs : List Loc) (ls : Array Slot), lv_has ls 8 [(0, .ref t0), (1, .int x1), (2, .int x2), (3, .int x3)] → Wd D dA A s (Dx dA t0 ad B wr σ) H locs → fD_rivals_40 dA B n x1 x2 x3 σ = some q → W p l e rD_rivals s m args below meth c H locs 0 0 (QI D dA A below args s 0 0 q.1 (Dx dA t0 ad B wr q.2)) (F0 m 40 ls []) := by
  have hx := FX.1; have hb := FX.2.1; have hown := FX.2.2.2.1; have hts := FX.2.2.2.2
  intro n
  induction n with
  | zero =>
    intro x1 x2 x3 σ H locs ls hl hW hf
    cases (show (none : Option (Int32 × Dst)) = some q from hf)
  | succ n ih =>
    intro x1 x2 x3 σ H locs ls hl hW hf
    rw [fD_rivals_40] at hf
    refine lv_iload_n hx hb dX0_rivals_40 rfl (lv_at hl 3 rfl) ?_
    refine lv_aload_n hx hb dX0_rivals_41 rfl (lv_at hl 0 rfl) ?_
    refine kD_rooms FX ⟨Nat.le_of_ble_eq_true rfl, Nat.le_of_ble_eq_true rfl⟩ ⟨Nat.zero_le _, Nat.zero_le _⟩ hl.1 (Nat.le_of_ble_eq_true rfl) hW hf dX0_rivals_42 (fun r1 H locs hW hf => ?_)
    refine lv_icmp_ge (tgt := 194) hx hb dX0_rivals_45 (by decide) (fun c45 => ?_) (fun c45 => ?_)
    · have hf := ifp c45 hf
      refine lv_aload_n hx hb dX0_rivals_194 rfl (lv_at hl 0 rfl) ?_
      refine DgX0_0_19 FX hW dX0_rivals_195 ?_
      refine lv_if_eq (tgt := 208) hx hb dX0_rivals_198 (by decide) (fun c198 => ?_) (fun c198 => ?_)
      · have hf := ifp c198 hf
        refine lv_iconst (v := -1) hx hb dX0_rivals_208 (by decide) ?_
        obtain rfl := Option.some.inj hf
        exact g_iret FX hr hlk hW rfl dX0_rivals_209
      · have hf := ifn c198 hf
        refine lv_aload_n hx hb dX0_rivals_201 rfl (lv_at hl 0 rfl) ?_
        refine DgX0_0_20 FX hW dX0_rivals_202 ?_
        refine lv_if_ne (tgt := 210) hx hb dX0_rivals_205 (by decide) (fun c205 => ?_) (fun c205 => ?_)
        · have hf := ifn c205 hf
          refine lv_aload_n hx hb dX0_rivals_210 rfl (lv_at hl 0 rfl) ?_
          refine DgX0_0_5 FX hW dX0_rivals_211 ?_
          refine DgX0_18_0 FX hW dX0_rivals_214 ?_
          refine lv_iload_n hx hb dX0_rivals_217 rfl (lv_at hl 1 rfl) ?_
          refine g_iald FX hW 19 Dp19 hf dX0_rivals_218 (fun v2 hf => ?_)
          refine lv_aload_n hx hb dX0_rivals_219 rfl (lv_at hl 0 rfl) ?_
          refine DgX0_0_5 FX hW dX0_rivals_220 ?_
          refine DgX0_18_0 FX hW dX0_rivals_223 ?_
          refine lv_iload_n hx hb dX0_rivals_226 rfl (lv_at hl 2 rfl) ?_
          refine g_iald FX hW 19 Dp19 hf dX0_rivals_227 (fun v3 hf => ?_)
          refine lv_iadd hx hb dX0_rivals_228 ?_
          refine lv_istore_n (lv' := [(3, .int (v2 + v3)), (0, .ref t0), (1, .int x1), (2, .int x2)]) hx hb dX0_rivals_229 rfl hl (by decide) rfl (fun ls hl => ?_)
          refine lv_iconst (v := 0) hx hb dX0_rivals_230 (by decide) ?_
          refine lv_istore (lv' := [(4, .int (0 : Int32)), (3, .int (v2 + v3)), (0, .ref t0), (1, .int x1), (2, .int x2)]) hx hb dX0_rivals_231 hl (by decide) rfl (fun ls hl => ?_)
          refine lv_iconst (v := 0) hx hb dX0_rivals_233 (by decide) ?_
          refine lv_istore (lv' := [(5, .int (0 : Int32)), (4, .int (0 : Int32)), (3, .int (v2 + v3)), (0, .ref t0), (1, .int x1), (2, .int x2)]) hx hb dX0_rivals_234 hl (by decide) rfl (fun ls hl => ?_)
          exact wD_rivals_236 FX hr hlk _ x1 x2 (v2 + v3) (0 : Int32) (0 : Int32) σ _ _ _ (lv_sub hl [3, 4, 5, 2, 1, 0] rfl) hW hf
        · have hf := ifp c205 hf
          refine lv_iconst (v := -1) hx hb dX0_rivals_208 (by decide) ?_
          obtain rfl := Option.some.inj hf
          exact g_iret FX hr hlk hW rfl dX0_rivals_209
    · have hf := ifn c45 hf
      refine lv_aload_n hx hb dX0_rivals_48 rfl (lv_at hl 0 rfl) ?_
      refine DgX0_0_14 FX hW dX0_rivals_49 ?_
      refine lv_iload_n hx hb dX0_rivals_52 rfl (lv_at hl 3 rfl) ?_
      refine lv_aload_n hx hb dX0_rivals_53 rfl (lv_at hl 0 rfl) ?_
      refine DgX0_0_5 FX hW dX0_rivals_54 ?_
      refine lv_aload_n hx hb dX0_rivals_57 rfl (lv_at hl 0 rfl) ?_
      refine DgX0_0_4 FX hW dX0_rivals_58 ?_
      refine lv_iload_n hx hb dX0_rivals_61 rfl (lv_at hl 3 rfl) ?_
      refine kD_now_left FX ⟨Nat.le_of_ble_eq_true rfl, Nat.le_of_ble_eq_true rfl⟩ ⟨Nat.zero_le _, Nat.zero_le _⟩ hl.1 (Nat.le_of_ble_eq_true rfl) hW hf dX0_rivals_62 (fun r4 H locs hW hf => ?_)
      refine lv_aload_n hx hb dX0_rivals_65 rfl (lv_at hl 0 rfl) ?_
      refine DgX0_0_5 FX hW dX0_rivals_66 ?_
      refine DgX0_18_1 FX hW dX0_rivals_69 ?_
      refine lv_iload_n hx hb dX0_rivals_72 rfl (lv_at hl 1 rfl) ?_
      refine g_iald FX hW 20 Dp20 hf dX0_rivals_73 (fun v5 hf => ?_)
      refine lv_iload_n hx hb dX0_rivals_74 rfl (lv_at hl 3 rfl) ?_
      refine lv_icmp_ne (tgt := 90) hx hb dX0_rivals_75 (by decide) (fun c75 => ?_) (fun c75 => ?_)
      · have hf := ifn c75 hf
        refine lv_iconst (v := 0) hx hb dX0_rivals_90 (by decide) ?_
        exact wD_rivals_91 FX hr hlk (ih) x1 x2 x3 x3 r4 (0 : Int32) σ _ _ _ (lv_sub hl [0, 1, 2, 3] rfl) hW hf
      · have hf := ifp c75 hf
        refine lv_aload_n hx hb dX0_rivals_78 rfl (lv_at hl 0 rfl) ?_
        refine DgX0_0_5 FX hW dX0_rivals_79 ?_
        refine DgX0_18_0 FX hW dX0_rivals_82 ?_
        refine lv_iload_n hx hb dX0_rivals_85 rfl (lv_at hl 1 rfl) ?_
        refine g_iald FX hW 19 Dp19 hf dX0_rivals_86 (fun v6 hf => ?_)
        refine lv_goto (tgt := 91) hx hb dX0_rivals_87 (by decide) ?_
        exact wD_rivals_91 FX hr hlk (ih) x1 x2 x3 x3 r4 v6 σ _ _ _ (lv_sub hl [0, 1, 2, 3] rfl) hW hf
set_option maxHeartbeats 4000000 in
set_option maxRecDepth 100000 in
theorem mD_rivals {t0 : Nat} {ad : Nat → Nat} {B : Bk} {wr : va_W}  {x1 : Int32} {x2 : Int32} {σ : Dst} {q : (Int32 × Dst)} (hf : fD_rivals dA B x1 x2 σ = some q) : CtI l yX0_rivals cX0_rivals 8 (some .int) rD_rivals D dA [.ref t0, .int x1, .int x2] (Dx dA t0 ad B wr σ) q.1 (Dx dA t0 ad B wr q.2) := by
  refine e_I (by decide) (Nat.le_of_ble_eq_true rfl) ?_
  intro p e s m below meth c ls A FX hr hlk hl hW
  have hx := FX.1; have hb := FX.2.1; have hown := FX.2.2.2.1; have hts := FX.2.2.2.2
  have hl : lv_has ls 8 [(0, .ref t0), (1, .int x1), (2, .int x2)] := hl
  rw [fD_rivals] at hf
  refine lv_aload_n hx hb dX0_rivals_0 rfl (lv_at hl 0 rfl) ?_
  refine lv_iconst (v := 0) hx hb dX0_rivals_1 (by decide) ?_
  refine DsX0_0_15 FX hW hf dX0_rivals_2 (fun s1 H locs hW hf => ?_)
  refine lv_aload_n hx hb dX0_rivals_5 rfl (lv_at hl 0 rfl) ?_
  refine lv_iload_n hx hb dX0_rivals_6 rfl (lv_at hl 1 rfl) ?_
  refine kD_isTrunk FX ⟨Nat.le_of_ble_eq_true rfl, Nat.le_of_ble_eq_true rfl⟩ ⟨Nat.zero_le _, Nat.zero_le _⟩ hl.1 (Nat.le_of_ble_eq_true rfl) hW hf dX0_rivals_7 (fun r2 H locs hW hf => ?_)
  refine lv_if_eq (tgt := 26) hx hb dX0_rivals_10 (by decide) (fun c10 => ?_) (fun c10 => ?_)
  · have hf := ifp c10 hf
    refine lv_iconst (v := -1) hx hb dX0_rivals_26 (by decide) ?_
    obtain rfl := Option.some.inj hf
    exact g_iret FX hr hlk hW rfl dX0_rivals_27
  · have hf := ifn c10 hf
    refine lv_aload_n hx hb dX0_rivals_13 rfl (lv_at hl 0 rfl) ?_
    refine lv_iload_n hx hb dX0_rivals_14 rfl (lv_at hl 2 rfl) ?_
    refine kD_isTrunk FX ⟨Nat.le_of_ble_eq_true rfl, Nat.le_of_ble_eq_true rfl⟩ ⟨Nat.zero_le _, Nat.zero_le _⟩ hl.1 (Nat.le_of_ble_eq_true rfl) hW hf dX0_rivals_15 (fun r3 H locs hW hf => ?_)
    refine lv_if_eq (tgt := 26) hx hb dX0_rivals_18 (by decide) (fun c18 => ?_) (fun c18 => ?_)
    · have hf := ifp c18 hf
      refine lv_iconst (v := -1) hx hb dX0_rivals_26 (by decide) ?_
      obtain rfl := Option.some.inj hf
      exact g_iret FX hr hlk hW rfl dX0_rivals_27
    · have hf := ifn c18 hf
      refine lv_iload_n hx hb dX0_rivals_21 rfl (lv_at hl 1 rfl) ?_
      refine lv_iload_n hx hb dX0_rivals_22 rfl (lv_at hl 2 rfl) ?_
      refine lv_icmp_ne (tgt := 28) hx hb dX0_rivals_23 (by decide) (fun c23 => ?_) (fun c23 => ?_)
      · have hf := ifn c23 hf
        refine lv_aload_n hx hb dX0_rivals_28 rfl (lv_at hl 0 rfl) ?_
        refine lv_iconst (v := 0) hx hb dX0_rivals_29 (by decide) ?_
        refine DsX0_0_19 FX hW hf dX0_rivals_30 (fun s4 H locs hW hf => ?_)
        refine lv_aload_n hx hb dX0_rivals_33 rfl (lv_at hl 0 rfl) ?_
        refine lv_iconst (v := 0) hx hb dX0_rivals_34 (by decide) ?_
        refine DsX0_0_20 FX hW hf dX0_rivals_35 (fun s5 H locs hW hf => ?_)
        refine lv_iconst (v := 0) hx hb dX0_rivals_38 (by decide) ?_
        refine lv_istore_n (lv' := [(3, .int (0 : Int32)), (0, .ref t0), (1, .int x1), (2, .int x2)]) hx hb dX0_rivals_39 rfl hl (by decide) rfl (fun ls hl => ?_)
        exact wD_rivals_40 FX hr hlk _ x1 x2 (0 : Int32) s5 _ _ _ (lv_sub hl [1, 2, 3, 0] rfl) hW hf
      · have hf := ifp c23 hf
        refine lv_iconst (v := -1) hx hb dX0_rivals_26 (by decide) ?_
        obtain rfl := Option.some.inj hf
        exact g_iret FX hr hlk hW rfl dX0_rivals_27
theorem DgX0_0_15 {t0 : Nat} {ad : Nat → Nat} {B : Bk} {wr : va_W} {σ : Dst} (FX : CallFix p m c cc nL s args lw_all RX0) (hW : Wd D dA A s (Dx dA t0 ad B wr σ) H locs) (hdg : decode cc pc = .ok (.getfield 129, 3)) (kk : W p l e R s m args below meth c H locs cells slots Q (F0 m (pc + 3) ls (.int (tF σ 15) :: rest))) : W p l e R s m args below meth c H locs cells slots Q (F0 m pc ls (.ref t0 :: rest)) :=
  g_get FX hW (C := RX0) (T := TX0) (N := 26) (ci := 0) in_X0 0 rfl rfl 15 (by decide) q382 (fun _ h => h) rfl hdg kk

/-! TrunkLitters.lies(I)I: kind R -/
def fD_lies (dA : Nat → Nat) (B : Bk) (x1 : Int32) (σ : Dst) : Option Int32 := (fX0_isIn x1 (0 : Int32) ((tF σ 15) - (1 : Int32))).bind fun r1 => (if r1 = 0 then some (-2 : Int32) else ald 8 (tA σ 12) x1 fun v2 => some v2)
abbrev rD_lies : Room := { frames := 1, cells := 0, slots := 0, locals := 22 }
set_option maxHeartbeats 4000000 in
set_option maxRecDepth 100000 in
theorem mD_lies {t0 : Nat} {ad : Nat → Nat} {B : Bk} {wr : va_W}  {x1 : Int32} {σ : Dst} {q : Int32} (hf : fD_lies dA B x1 σ = some q) : CtI l yX0_lies cX0_lies 2 (some .int) rD_lies D dA [.ref t0, .int x1] (Dx dA t0 ad B wr σ) q (Dx dA t0 ad B wr σ) := by
  refine e_I (by decide) (Nat.le_of_ble_eq_true rfl) ?_
  intro p e s m below meth c ls A FX hr hlk hl hW
  have hx := FX.1; have hb := FX.2.1; have hown := FX.2.2.2.1; have hts := FX.2.2.2.2
  have hl : lv_has ls 2 [(0, .ref t0), (1, .int x1)] := hl
  rw [fD_lies] at hf
  refine lv_iload_n hx hb dX0_lies_0 rfl (lv_at hl 1 rfl) ?_
  refine lv_iconst (v := 0) hx hb dX0_lies_1 (by decide) ?_
  refine lv_aload_n hx hb dX0_lies_2 rfl (lv_at hl 0 rfl) ?_
  refine DgX0_0_15 FX hW dX0_lies_3 ?_
  refine lv_iconst (v := 1) hx hb dX0_lies_6 (by decide) ?_
  refine lv_isub hx hb dX0_lies_7 ?_
  refine kX0_X0_isIn FX ⟨Nat.le_of_ble_eq_true rfl, Nat.le_of_ble_eq_true rfl⟩ ⟨Nat.zero_le _, Nat.zero_le _⟩ hl.1 (Nat.le_of_ble_eq_true rfl) hW hf dX0_lies_8 (fun r1 H locs hW hf => ?_)
  refine lv_if_eq (tgt := 23) hx hb dX0_lies_11 (by decide) (fun c11 => ?_) (fun c11 => ?_)
  · have hf := ifp c11 hf
    refine lv_bipush (v := -2) hx hb dX0_lies_23 (by decide) ?_
    exact g_iret FX hr hlk hW (Option.some.inj hf) dX0_lies_25
  · have hf := ifn c11 hf
    refine lv_aload_n hx hb dX0_lies_14 rfl (lv_at hl 0 rfl) ?_
    refine DgX0_0_12 FX hW dX0_lies_15 ?_
    refine lv_iload_n hx hb dX0_lies_18 rfl (lv_at hl 1 rfl) ?_
    refine g_iald FX hW 2 Dp2 hf dX0_lies_19 (fun v2 hf => ?_)
    refine lv_goto (tgt := 25) hx hb dX0_lies_20 (by decide) ?_
    exact g_iret FX hr hlk hW (Option.some.inj hf) dX0_lies_25
theorem DgX0_45_1 {t0 : Nat} {ad : Nat → Nat} {B : Bk} {wr : va_W} {σ : Dst} (FX : CallFix p m c cc nL s args lw_all RX0) (hW : Wd D dA A s (Dx dA t0 ad B wr σ) H locs) (hdg : decode cc pc = .ok (.getfield 146, 3)) (kk : W p l e R s m args below meth c H locs cells slots Q (F0 m (pc + 3) ls (.ref (bA B 2) :: rest))) : W p l e R s m args below meth c H locs cells slots Q (F0 m pc ls (.ref (bA B 0) :: rest)) :=
  g_get FX hW (C := RX1) (T := TX1) (N := 8) (ci := 1) in_X1 45 rfl rfl 1 (by decide) q232 (fun _ h => h) rfl hdg kk
set_option maxHeartbeats 4000000 in
set_option maxRecDepth 100000 in
theorem DgetX0_49 {t0 : Nat} {ad : Nat → Nat} {B : Bk} {wr : va_W} {σ : Dst} {α : Type} {q : α} {i : Int32} {k : Nat → Option α} (FX : CallFix p m c cc nL s args lw_all RX0) (hR : rJ2_get.frames + 1 ≤ R.frames ∧ 8 + (2 + 11) + rJ2_get.locals ≤ R.locals) (hcs : cells ≤ R.cells ∧ slots ≤ R.slots) (hl : ls.size = nL) (hrm : (rest.map fun v => v.category).sum ≤ 8) (hW : Wd D dA A s (Dx dA t0 ad B wr σ) H locs) (hf : lget (bA B 7) (bI B 7) (bT B) i k = some q) (hdg : decode cc pc = .ok (.invokevirtual 9, 3)) (kk : ∀ (x : Nat) (H1 : Heap) (locs1 : List Loc), Wd D dA A s (Dx dA t0 ad B wr σ) H1 locs1 → k x = some q → W p l e R s m args below meth c H1 locs1 cells slots Q (F0 m (pc + 3) ls (.ref x :: rest))) : W p l e R s m args below meth c H locs cells slots Q (F0 m pc ls (.int i :: .ref (bA B 2) :: rest)) := by
  obtain ⟨h0, h1, h2, x, h3, hf⟩ := lget_some hf
  have hk : (Dx dA t0 ad B wr σ)[49]? = some ((bA B 2), .inr (13, [.int (bI B 6), .ref (bA B 5), .int (bI B 7)])) := rfl
  have he : (Dx dA t0 ad B wr σ)[50]? = some ((bA B 5), .inl (dA 4, (bA B 7), .inr (.inr (.inr (.inr (bT B)))))) := rfl
  refine w_VR (C := RJ2) (As := [.int i]) (rest := rest) (n := 1) (wr := []) FX (mJ2_get hk he h0 h1 h2 h3) (cwV 1 FX.2.2.2.2 (lw_V q893 q345 q346 q127 q347) rfl rfl rfl (by decide +kernel) hR) (va_recv hW.2.2.2.1 hW.1 (ci := 13) rfl hk) rfl hl rfl hrm ⟨Nat.le_trans (Nat.le_of_eq (Nat.add_zero cells)) hcs.1, Nat.le_trans (Nat.le_of_eq (Nat.add_zero slots)) hcs.2⟩ hdg hW.nil ?_
  exact fun H1 locs1 hW1 => kk x H1 locs1 hW1.nil' hf
theorem DcstX0_X9 {t0 : Nat} {ad : Nat → Nat} {B : Bk} {wr : va_W} {σ : Dst} {α : Type} {q : α} {x : Nat} {k : Option α} (FX : CallFix p m c cc nL s args lw_all RX0) (hW : Wd D dA A s (Dx dA t0 ad B wr σ) H locs) (hf : pck (bP B) x 8 k = some q) (hdg : decode cc pc = .ok (.checkcast 314, 3)) (kk : k = some q → W p l e R s m args below meth c H locs cells slots Q (F0 m (pc + 3) ls (.ref x :: rest))) : W p l e R s m args below meth c H locs cells slots Q (F0 m pc ls (.ref x :: rest)) := by
  obtain ⟨⟨fs, hx⟩, hf⟩ := pck_some hf
  obtain ⟨j, hj⟩ := hlk_get hx
  obtain ⟨j2, hj2⟩ := pool_in (pre := [(t0, .inr (0, [.ref (ad 0), .int (tF σ 1), .int (tF σ 2), .int (tF σ 3), .ref (bA B 0), .ref (ad 5), .ref (ad 6), .ref (ad 7), .int (tF σ 8), .ref (ad 9), .int (tF σ 10), .int (tF σ 11), .ref (ad 12), .ref (ad 13), .ref (ad 14), .int (tF σ 15), .int (tF σ 16), .ref (ad 17), .ref (ad 18), .int (tF σ 19), .int (tF σ 20), .ref (ad 21), .ref (ad 22), .ref (ad 23), .ref (ad 24), .ref (ad 25)])), ((ad 0), .inl (dA 1, 1600, .inl (tA σ 0))), ((ad 12), .inl (dA 0, 8, .inl (tA σ 12))), ((ad 13), .inl (dA 0, 8, .inl (tA σ 13))), ((ad 14), .inl (dA 0, 4, .inl (tA σ 14))), ((ad 22), .inl (dA 2, 64, .inl (tA σ 22))), ((ad 23), .inl (dA 0, 7, .inl (tA σ 23))), ((ad 25), .inl (dA 2, 3, .inl (tA σ 25))), ((ad 17), .inl (dA 6, 4, .inr (.inr (.inr (.inr (gR ad 170)))))), ((ad 170), .inl (dA 0, 4, .inl (tA σ 170))), ((ad 171), .inl (dA 0, 4, .inl (tA σ 171))), ((ad 172), .inl (dA 0, 4, .inl (tA σ 172))), ((ad 173), .inl (dA 0, 4, .inl (tA σ 173))), ((ad 18), .inl (dA 6, 4, .inr (.inr (.inr (.inr (gR ad 180)))))), ((ad 180), .inl (dA 0, 4, .inl (tA σ 180))), ((ad 181), .inl (dA 0, 4, .inl (tA σ 181))), ((ad 182), .inl (dA 0, 4, .inl (tA σ 182))), ((ad 183), .inl (dA 0, 4, .inl (tA σ 183))), ((ad 5), .inr (3, [.ref (ad 50), .ref (ad 51), .ref (ad 52), .ref (ad 53), .ref (ad 54), .ref (ad 55), .ref (ad 56), .ref (ad 57), .int (hF (tN σ) 8), .int (hF (tN σ) 9), .int (hF (tN σ) 10), .int (hF (tN σ) 11), .int (hF (tN σ) 12), .int (hF (tN σ) 13)])), ((ad 50), .inl (dA 0, 8, .inl (hA (tN σ) 0))), ((ad 51), .inl (dA 0, 8, .inl (hA (tN σ) 1))), ((ad 52), .inl (dA 0, 8, .inl (hA (tN σ) 2))), ((ad 53), .inl (dA 0, 8, .inl (hA (tN σ) 3))), ((ad 54), .inl (dA 0, 8, .inl (hA (tN σ) 4))), ((ad 55), .inl (dA 0, 8, .inl (hA (tN σ) 5))), ((ad 56), .inl (dA 0, 8, .inl (hA (tN σ) 6))), ((ad 57), .inl (dA 0, 8, .inl (hA (tN σ) 7))), ((ad 7), .inr (3, [.ref (ad 70), .ref (ad 71), .ref (ad 72), .ref (ad 73), .ref (ad 74), .ref (ad 75), .ref (ad 76), .ref (ad 77), .int (hF (tT σ) 8), .int (hF (tT σ) 9), .int (hF (tT σ) 10), .int (hF (tT σ) 11), .int (hF (tT σ) 12), .int (hF (tT σ) 13)])), ((ad 70), .inl (dA 0, 8, .inl (hA (tT σ) 0))), ((ad 71), .inl (dA 0, 8, .inl (hA (tT σ) 1))), ((ad 72), .inl (dA 0, 8, .inl (hA (tT σ) 2))), ((ad 73), .inl (dA 0, 8, .inl (hA (tT σ) 3))), ((ad 74), .inl (dA 0, 8, .inl (hA (tT σ) 4))), ((ad 75), .inl (dA 0, 8, .inl (hA (tT σ) 5))), ((ad 76), .inl (dA 0, 8, .inl (hA (tT σ) 6))), ((ad 77), .inl (dA 0, 8, .inl (hA (tT σ) 7))), ((ad 6), .inr (3, [.ref (ad 60), .ref (ad 61), .ref (ad 62), .ref (ad 63), .ref (ad 64), .ref (ad 65), .ref (ad 66), .ref (ad 67), .int (hF (tS σ) 8), .int (hF (tS σ) 9), .int (hF (tS σ) 10), .int (hF (tS σ) 11), .int (hF (tS σ) 12), .int (hF (tS σ) 13)])), ((ad 60), .inl (dA 0, 8, .inl (hA (tS σ) 0))), ((ad 61), .inl (dA 0, 8, .inl (hA (tS σ) 1))), ((ad 62), .inl (dA 0, 8, .inl (hA (tS σ) 2))), ((ad 63), .inl (dA 0, 8, .inl (hA (tS σ) 3))), ((ad 64), .inl (dA 0, 8, .inl (hA (tS σ) 4))), ((ad 65), .inl (dA 0, 8, .inl (hA (tS σ) 5))), ((ad 66), .inl (dA 0, 8, .inl (hA (tS σ) 6))), ((ad 67), .inl (dA 0, 8, .inl (hA (tS σ) 7))), ((bA B 0), .inr (1, [.ref (bA B 1), .ref (bA B 2), .ref (bA B 3), va_rf (bN B), .int (bI B 0), .int (bI B 1), .int (bI B 2), .int (bI B 3)])), ((bA B 3), .inr (2, [.int (tU σ 0), .int (tU σ 1), .int (tU σ 2), .int (tU σ 3), .int (tU σ 4)])), ((bA B 1), .inr (13, [.int (bI B 4), .ref (bA B 4), .int (bI B 5)])), ((bA B 4), .inl (dA 4, (bA B 6), .inr (.inr (.inr (.inr (bR B)))))), ((bA B 2), .inr (13, [.int (bI B 6), .ref (bA B 5), .int (bI B 7)])), ((bA B 5), .inl (dA 4, (bA B 7), .inr (.inr (.inr (.inr (bT B))))))]) (wr := wr) hj
  exact g_castS FX hW (C := RX9) (T := TX9) (N := 5) (ci := 8) rfl q1518 ⟨j2, fs, hj2⟩ hdg (kk hf)
theorem DpgX0_X9_3 {t0 : Nat} {ad : Nat → Nat} {B : Bk} {wr : va_W} {σ : Dst} {α : Type} {q : α} {x : Nat} {k : Int32 → Option α} (FX : CallFix p m c cc nL s args lw_all RX0) (hW : Wd D dA A s (Dx dA t0 ad B wr σ) H locs) (hf : pgi (bP B) x 8 3 k = some q) (hdg : decode cc pc = .ok (.getfield 316, 3)) (kk : ∀ v : Int32, k v = some q → W p l e R s m args below meth c H locs cells slots Q (F0 m (pc + 3) ls (.int v :: rest))) : W p l e R s m args below meth c H locs cells slots Q (F0 m pc ls (.ref x :: rest)) := by
  obtain ⟨fs, v, hx, hv, hf⟩ := pgi_some hf
  obtain ⟨j, hj⟩ := hlk_get hx
  obtain ⟨j2, hj2⟩ := pool_in (pre := [(t0, .inr (0, [.ref (ad 0), .int (tF σ 1), .int (tF σ 2), .int (tF σ 3), .ref (bA B 0), .ref (ad 5), .ref (ad 6), .ref (ad 7), .int (tF σ 8), .ref (ad 9), .int (tF σ 10), .int (tF σ 11), .ref (ad 12), .ref (ad 13), .ref (ad 14), .int (tF σ 15), .int (tF σ 16), .ref (ad 17), .ref (ad 18), .int (tF σ 19), .int (tF σ 20), .ref (ad 21), .ref (ad 22), .ref (ad 23), .ref (ad 24), .ref (ad 25)])), ((ad 0), .inl (dA 1, 1600, .inl (tA σ 0))), ((ad 12), .inl (dA 0, 8, .inl (tA σ 12))), ((ad 13), .inl (dA 0, 8, .inl (tA σ 13))), ((ad 14), .inl (dA 0, 4, .inl (tA σ 14))), ((ad 22), .inl (dA 2, 64, .inl (tA σ 22))), ((ad 23), .inl (dA 0, 7, .inl (tA σ 23))), ((ad 25), .inl (dA 2, 3, .inl (tA σ 25))), ((ad 17), .inl (dA 6, 4, .inr (.inr (.inr (.inr (gR ad 170)))))), ((ad 170), .inl (dA 0, 4, .inl (tA σ 170))), ((ad 171), .inl (dA 0, 4, .inl (tA σ 171))), ((ad 172), .inl (dA 0, 4, .inl (tA σ 172))), ((ad 173), .inl (dA 0, 4, .inl (tA σ 173))), ((ad 18), .inl (dA 6, 4, .inr (.inr (.inr (.inr (gR ad 180)))))), ((ad 180), .inl (dA 0, 4, .inl (tA σ 180))), ((ad 181), .inl (dA 0, 4, .inl (tA σ 181))), ((ad 182), .inl (dA 0, 4, .inl (tA σ 182))), ((ad 183), .inl (dA 0, 4, .inl (tA σ 183))), ((ad 5), .inr (3, [.ref (ad 50), .ref (ad 51), .ref (ad 52), .ref (ad 53), .ref (ad 54), .ref (ad 55), .ref (ad 56), .ref (ad 57), .int (hF (tN σ) 8), .int (hF (tN σ) 9), .int (hF (tN σ) 10), .int (hF (tN σ) 11), .int (hF (tN σ) 12), .int (hF (tN σ) 13)])), ((ad 50), .inl (dA 0, 8, .inl (hA (tN σ) 0))), ((ad 51), .inl (dA 0, 8, .inl (hA (tN σ) 1))), ((ad 52), .inl (dA 0, 8, .inl (hA (tN σ) 2))), ((ad 53), .inl (dA 0, 8, .inl (hA (tN σ) 3))), ((ad 54), .inl (dA 0, 8, .inl (hA (tN σ) 4))), ((ad 55), .inl (dA 0, 8, .inl (hA (tN σ) 5))), ((ad 56), .inl (dA 0, 8, .inl (hA (tN σ) 6))), ((ad 57), .inl (dA 0, 8, .inl (hA (tN σ) 7))), ((ad 7), .inr (3, [.ref (ad 70), .ref (ad 71), .ref (ad 72), .ref (ad 73), .ref (ad 74), .ref (ad 75), .ref (ad 76), .ref (ad 77), .int (hF (tT σ) 8), .int (hF (tT σ) 9), .int (hF (tT σ) 10), .int (hF (tT σ) 11), .int (hF (tT σ) 12), .int (hF (tT σ) 13)])), ((ad 70), .inl (dA 0, 8, .inl (hA (tT σ) 0))), ((ad 71), .inl (dA 0, 8, .inl (hA (tT σ) 1))), ((ad 72), .inl (dA 0, 8, .inl (hA (tT σ) 2))), ((ad 73), .inl (dA 0, 8, .inl (hA (tT σ) 3))), ((ad 74), .inl (dA 0, 8, .inl (hA (tT σ) 4))), ((ad 75), .inl (dA 0, 8, .inl (hA (tT σ) 5))), ((ad 76), .inl (dA 0, 8, .inl (hA (tT σ) 6))), ((ad 77), .inl (dA 0, 8, .inl (hA (tT σ) 7))), ((ad 6), .inr (3, [.ref (ad 60), .ref (ad 61), .ref (ad 62), .ref (ad 63), .ref (ad 64), .ref (ad 65), .ref (ad 66), .ref (ad 67), .int (hF (tS σ) 8), .int (hF (tS σ) 9), .int (hF (tS σ) 10), .int (hF (tS σ) 11), .int (hF (tS σ) 12), .int (hF (tS σ) 13)])), ((ad 60), .inl (dA 0, 8, .inl (hA (tS σ) 0))), ((ad 61), .inl (dA 0, 8, .inl (hA (tS σ) 1))), ((ad 62), .inl (dA 0, 8, .inl (hA (tS σ) 2))), ((ad 63), .inl (dA 0, 8, .inl (hA (tS σ) 3))), ((ad 64), .inl (dA 0, 8, .inl (hA (tS σ) 4))), ((ad 65), .inl (dA 0, 8, .inl (hA (tS σ) 5))), ((ad 66), .inl (dA 0, 8, .inl (hA (tS σ) 6))), ((ad 67), .inl (dA 0, 8, .inl (hA (tS σ) 7))), ((bA B 0), .inr (1, [.ref (bA B 1), .ref (bA B 2), .ref (bA B 3), va_rf (bN B), .int (bI B 0), .int (bI B 1), .int (bI B 2), .int (bI B 3)])), ((bA B 3), .inr (2, [.int (tU σ 0), .int (tU σ 1), .int (tU σ 2), .int (tU σ 3), .int (tU σ 4)])), ((bA B 1), .inr (13, [.int (bI B 4), .ref (bA B 4), .int (bI B 5)])), ((bA B 4), .inl (dA 4, (bA B 6), .inr (.inr (.inr (.inr (bR B)))))), ((bA B 2), .inr (13, [.int (bI B 6), .ref (bA B 5), .int (bI B 7)])), ((bA B 5), .inl (dA 4, (bA B 7), .inr (.inr (.inr (.inr (bT B))))))]) (wr := wr) hj
  exact g_get FX hW (C := RX9) (T := TX9) (N := 5) (ci := 8) in_X9 j2 hj2 rfl 3 (by decide) q1002 (fun _ h => h) hv hdg (kk v hf)

/-! TrunkLitters.sharedAsTold(II)I: kind R -/
def fD_sharedAsTold (dA : Nat → Nat) (B : Bk) (x1 : Int32) (x2 : Int32) (σ : Dst) : Option Int32 := lget (bA B 7) (bI B 7) (bT B) x2 fun a1 => pck (bP B) a1 8 (pgi (bP B) a1 8 3 fun v2 => (fX0_shared x1 v2).bind fun r3 => some r3)
abbrev rD_sharedAsTold : Room := { frames := 4, cells := 0, slots := 0, locals := 91 }
set_option maxHeartbeats 4000000 in
set_option maxRecDepth 100000 in
theorem mD_sharedAsTold {t0 : Nat} {ad : Nat → Nat} {B : Bk} {wr : va_W}  {x1 : Int32} {x2 : Int32} {σ : Dst} {q : Int32} (hf : fD_sharedAsTold dA B x1 x2 σ = some q) : CtI l yX0_sharedAsTold cX0_sharedAsTold 3 (some .int) rD_sharedAsTold D dA [.ref t0, .int x1, .int x2] (Dx dA t0 ad B wr σ) q (Dx dA t0 ad B wr σ) := by
  refine e_I (by decide) (Nat.le_of_ble_eq_true rfl) ?_
  intro p e s m below meth c ls A FX hr hlk hl hW
  have hx := FX.1; have hb := FX.2.1; have hown := FX.2.2.2.1; have hts := FX.2.2.2.2
  have hl : lv_has ls 3 [(0, .ref t0), (1, .int x1), (2, .int x2)] := hl
  rw [fD_sharedAsTold] at hf
  refine lv_iload_n hx hb dX0_sharedAsTold_0 rfl (lv_at hl 1 rfl) ?_
  refine lv_aload_n hx hb dX0_sharedAsTold_1 rfl (lv_at hl 0 rfl) ?_
  refine DgX0_0_4 FX hW dX0_sharedAsTold_2 ?_
  refine DgX0_45_1 FX hW dX0_sharedAsTold_5 ?_
  refine lv_iload_n hx hb dX0_sharedAsTold_8 rfl (lv_at hl 2 rfl) ?_
  refine DgetX0_49 FX ⟨Nat.le_of_ble_eq_true rfl, Nat.le_of_ble_eq_true rfl⟩ ⟨Nat.zero_le _, Nat.zero_le _⟩ hl.1 (Nat.le_of_ble_eq_true rfl) hW hf dX0_sharedAsTold_9 (fun a1 H locs hW hf => ?_)
  refine DcstX0_X9 FX hW hf dX0_sharedAsTold_12 (fun hf => ?_)
  refine DpgX0_X9_3 FX hW hf dX0_sharedAsTold_15 (fun v2 hf => ?_)
  refine kX0_X0_shared FX ⟨Nat.le_of_ble_eq_true rfl, Nat.le_of_ble_eq_true rfl⟩ ⟨Nat.zero_le _, Nat.zero_le _⟩ hl.1 (Nat.le_of_ble_eq_true rfl) hW hf dX0_sharedAsTold_18 (fun r3 H locs hW hf => ?_)
  exact g_iret FX hr hlk hW (Option.some.inj hf) dX0_sharedAsTold_21
set_option maxHeartbeats 4000000 in
set_option maxRecDepth 100000 in
theorem DszX0_49 {t0 : Nat} {ad : Nat → Nat} {B : Bk} {wr : va_W} {σ : Dst} (FX : CallFix p m c cc nL s args lw_all RX0) (hR : rJ2_size.frames + 1 ≤ R.frames ∧ 8 + (1 + 11) + rJ2_size.locals ≤ R.locals) (hcs : cells ≤ R.cells ∧ slots ≤ R.slots) (hl : ls.size = nL) (hrm : (rest.map fun v => v.category).sum ≤ 8) (hW : Wd D dA A s (Dx dA t0 ad B wr σ) H locs) (hdg : decode cc pc = .ok (.invokevirtual 3, 3)) (kk : ∀ (H1 : Heap) (locs1 : List Loc), Wd D dA A s (Dx dA t0 ad B wr σ) H1 locs1 → W p l e R s m args below meth c H1 locs1 cells slots Q (F0 m (pc + 3) ls (.int (bI B 7) :: rest))) : W p l e R s m args below meth c H locs cells slots Q (F0 m pc ls (.ref (bA B 2) :: rest)) := by
  have hk : (Dx dA t0 ad B wr σ)[49]? = some ((bA B 2), .inr (13, [.int (bI B 6), .ref (bA B 5), .int (bI B 7)])) := rfl
  refine w_Vi (C := RJ2) (As := []) (rest := rest) (n := 0) (wr := []) FX (mJ2_size hk) (cwV 0 FX.2.2.2.2 (lw_V q892 q333 q334 q127 q335) rfl rfl rfl (by decide +kernel) hR) (va_recv hW.2.2.2.1 hW.1 (ci := 13) rfl hk) rfl hl rfl hrm ⟨Nat.le_trans (Nat.le_of_eq (Nat.add_zero cells)) hcs.1, Nat.le_trans (Nat.le_of_eq (Nat.add_zero slots)) hcs.2⟩ hdg hW.nil ?_
  exact fun H1 locs1 hW1 => kk H1 locs1 hW1.nil'

/-! TrunkLitters.isOther(I)Z: kind R -/
def fD_isOther (dA : Nat → Nat) (B : Bk) (x1 : Int32) (σ : Dst) : Option Int32 := (fX0_isIn x1 (0 : Int32) ((bI B 7) - (2 : Int32))).bind fun r1 => zrt r1 r1
abbrev rD_isOther : Room := { frames := 1, cells := 0, slots := 0, locals := 22 }
set_option maxHeartbeats 4000000 in
set_option maxRecDepth 100000 in
theorem mD_isOther {t0 : Nat} {ad : Nat → Nat} {B : Bk} {wr : va_W}  {x1 : Int32} {σ : Dst} {q : Int32} (hf : fD_isOther dA B x1 σ = some q) : CtI l yX0_isOther cX0_isOther 2 (some .boolean) rD_isOther D dA [.ref t0, .int x1] (Dx dA t0 ad B wr σ) q (Dx dA t0 ad B wr σ) := by
  refine e_I (by decide) (Nat.le_of_ble_eq_true rfl) ?_
  intro p e s m below meth c ls A FX hr hlk hl hW
  have hx := FX.1; have hb := FX.2.1; have hown := FX.2.2.2.1; have hts := FX.2.2.2.2
  have hl : lv_has ls 2 [(0, .ref t0), (1, .int x1)] := hl
  rw [fD_isOther] at hf
  refine lv_iload_n hx hb dX0_isOther_0 rfl (lv_at hl 1 rfl) ?_
  refine lv_iconst (v := 0) hx hb dX0_isOther_1 (by decide) ?_
  refine lv_aload_n hx hb dX0_isOther_2 rfl (lv_at hl 0 rfl) ?_
  refine DgX0_0_4 FX hW dX0_isOther_3 ?_
  refine DgX0_45_1 FX hW dX0_isOther_6 ?_
  refine DszX0_49 FX ⟨Nat.le_of_ble_eq_true rfl, Nat.le_of_ble_eq_true rfl⟩ ⟨Nat.zero_le _, Nat.zero_le _⟩ hl.1 (Nat.le_of_ble_eq_true rfl) hW dX0_isOther_9 (fun H locs hW => ?_)
  refine lv_iconst (v := 2) hx hb dX0_isOther_12 (by decide) ?_
  refine lv_isub hx hb dX0_isOther_13 ?_
  refine kX0_X0_isIn FX ⟨Nat.le_of_ble_eq_true rfl, Nat.le_of_ble_eq_true rfl⟩ ⟨Nat.zero_le _, Nat.zero_le _⟩ hl.1 (Nat.le_of_ble_eq_true rfl) hW hf dX0_isOther_14 (fun r1 H locs hW hf => ?_)
  exact g_zret FX hr hlk hW (zrt_some hf).1 (zrt_some hf).2 dX0_isOther_17
end D03
