section D01
variable {p : Program} {l : Launch} {e : Env} {R : Room} {s : State} {m : MethodId} {args : Array Value} {below : List Frame} {meth : Method} {c : Code} {H : Heap} {locs : List Loc} {cells slots : Nat} {Q : State → Prop}
variable {cc : ByteArray} {pc nL : Nat} {ls : Array Slot} {rest : List Value} {D : va_G} {dA : Nat → ClassId} {A : Nat → Prop}


/-! TrunkLitters.need(I)I: kind R -/
def fD_need_16 (dA : Nat → Nat) (B : Bk) (σ : Dst) : Nat → Int32 → Int32 → Int32 → Option Int32
  | 0, _, _, _ => none
  | n + 1, x1, x2, x3 => (if (8 : Int32) ≤ x3 then some x2 else (fX3_has x3 (tN σ)).bind fun r1 => (if r1 = 0 then fD_need_16 dA B σ n x1 (x2 + (0 : Int32)) (x3 + (1 : Int32)) else ald 8 (hA (tN σ) 3) x3 fun v2 => fD_need_16 dA B σ n x1 (x2 + (if (0 : Int32) < (x1 - v2) then (x1 - v2) else (0 : Int32))) (x3 + (1 : Int32))))
def fD_need (dA : Nat → Nat) (B : Bk) (x1 : Int32) (σ : Dst) : Option Int32 := (fX0_isIn x1 (0 : Int32) (30 : Int32)).bind fun r1 => (if r1 = 0 then some (-1 : Int32) else fD_need_16 dA B σ FU x1 (0 : Int32) (0 : Int32))
abbrev rD_need : Room := { frames := 1, cells := 0, slots := 0, locals := 22 }
set_option maxHeartbeats 4000000 in
set_option maxRecDepth 100000 in
theorem wD_need_16 {t0 : Nat} {ad : Nat → Nat} {B : Bk} {wr : va_W} {q : Int32} {σ : Dst} (FX : CallFix p m c cX0_need 4 s args lw_all RX0) (hr : meth.sig.returnType = (some .int)) (hlk : meth.locks = false) : ∀ n : Nat, ∀ (x1 : Int32) (x2 : Int32) (x3 : Int32) (H : Heap) (locs : List Loc) (ls : Array Slot), lv_has ls 4 [(0, .ref t0), (1, .int x1), (2, .int x2), (3, .int x3)] → Wd D dA A s (Dx dA t0 ad B wr σ) H locs → fD_need_16 dA B σ n x1 x2 x3 = some q → W p l e rD_need s m args below meth c H locs 0 0 (QI D dA A below args s 0 0 q (Dx dA t0 ad B wr σ)) (F0 m 16 ls []) := by
  have hx := FX.1; have hb := FX.2.1; have hown := FX.2.2.2.1; have hts := FX.2.2.2.2
  intro n
  induction n with
  | zero =>
    intro x1 x2 x3 H locs ls hl hW hf
    cases (show (none : Option Int32) = some q from hf)
  | succ n ih =>
    intro x1 x2 x3 H locs ls hl hW hf
    rw [fD_need_16] at hf
    refine lv_iload_n hx hb dX0_need_16 rfl (lv_at hl 3 rfl) ?_
    refine lv_bipush (v := 8) hx hb dX0_need_17 (by decide) ?_
    refine lv_icmp_ge (tgt := 61) hx hb dX0_need_19 (by decide) (fun c19 => ?_) (fun c19 => ?_)
    · have hf := ifp c19 hf
      refine lv_iload_n hx hb dX0_need_61 rfl (lv_at hl 2 rfl) ?_
      exact g_iret FX hr hlk hW (Option.some.inj hf) dX0_need_62
    · have hf := ifn c19 hf
      refine lv_iload_n hx hb dX0_need_22 rfl (lv_at hl 2 rfl) ?_
      refine lv_aload_n hx hb dX0_need_23 rfl (lv_at hl 0 rfl) ?_
      refine DgX0_0_5 FX hW dX0_need_24 ?_
      refine lv_iload_n hx hb dX0_need_27 rfl (lv_at hl 3 rfl) ?_
      refine kD_now_has FX ⟨Nat.le_of_ble_eq_true rfl, Nat.le_of_ble_eq_true rfl⟩ ⟨Nat.zero_le _, Nat.zero_le _⟩ hl.1 (Nat.le_of_ble_eq_true rfl) hW hf dX0_need_28 (fun r1 H locs hW hf => ?_)
      refine lv_if_eq (tgt := 52) hx hb dX0_need_31 (by decide) (fun c31 => ?_) (fun c31 => ?_)
      · have hf := ifp c31 hf
        refine lv_iconst (v := 0) hx hb dX0_need_52 (by decide) ?_
        refine lv_iadd hx hb dX0_need_53 ?_
        refine lv_istore_n (lv' := [(2, .int (x2 + (0 : Int32))), (0, .ref t0), (1, .int x1), (3, .int x3)]) hx hb dX0_need_54 rfl hl (by decide) rfl (fun ls hl => ?_)
        refine lv_iinc (v := (x3 + (1 : Int32))) (lv' := [(3, .int (x3 + (1 : Int32))), (2, .int (x2 + (0 : Int32))), (0, .ref t0), (1, .int x1)]) hx hb dX0_need_55 hl (k := 3) rfl rfl (by decide) rfl (fun ls hl => ?_)
        refine lv_goto (tgt := 16) hx hb dX0_need_58 (by decide) ?_
        exact ih x1 (x2 + (0 : Int32)) (x3 + (1 : Int32)) _ _ _ (lv_sub hl [2, 3, 1, 0] rfl) hW hf
      · have hf := ifn c31 hf
        refine lv_iconst (v := 0) hx hb dX0_need_34 (by decide) ?_
        refine lv_iload_n hx hb dX0_need_35 rfl (lv_at hl 1 rfl) ?_
        refine lv_aload_n hx hb dX0_need_36 rfl (lv_at hl 0 rfl) ?_
        refine DgX0_0_5 FX hW dX0_need_37 ?_
        refine DgX0_18_3 FX hW dX0_need_40 ?_
        refine lv_iload_n hx hb dX0_need_43 rfl (lv_at hl 3 rfl) ?_
        refine g_iald FX hW 22 Dp22 hf dX0_need_44 (fun v2 hf => ?_)
        refine lv_isub hx hb dX0_need_45 ?_
        refine va_mmax hx hb (FX.2.2.1.trans hl.1.symm) hown (hts _ q1355) (hts _ q572) (hts _ q139) (hts _ q573) (Nat.le_of_ble_eq_true rfl) (Nat.le_of_ble_eq_true rfl) (Nat.zero_le _) (Nat.zero_le _) dX0_need_46 ?_
        refine lv_goto (tgt := 53) hx hb dX0_need_49 (by decide) ?_
        refine lv_iadd hx hb dX0_need_53 ?_
        refine lv_istore_n (lv' := [(2, .int (x2 + (if (0 : Int32) < (x1 - v2) then (x1 - v2) else (0 : Int32)))), (0, .ref t0), (1, .int x1), (3, .int x3)]) hx hb dX0_need_54 rfl hl (by decide) rfl (fun ls hl => ?_)
        refine lv_iinc (v := (x3 + (1 : Int32))) (lv' := [(3, .int (x3 + (1 : Int32))), (2, .int (x2 + (if (0 : Int32) < (x1 - v2) then (x1 - v2) else (0 : Int32)))), (0, .ref t0), (1, .int x1)]) hx hb dX0_need_55 hl (k := 3) rfl rfl (by decide) rfl (fun ls hl => ?_)
        refine lv_goto (tgt := 16) hx hb dX0_need_58 (by decide) ?_
        exact ih x1 (x2 + (if (0 : Int32) < (x1 - v2) then (x1 - v2) else (0 : Int32))) (x3 + (1 : Int32)) _ _ _ (lv_sub hl [2, 3, 1, 0] rfl) hW hf
set_option maxHeartbeats 4000000 in
set_option maxRecDepth 100000 in
theorem mD_need {t0 : Nat} {ad : Nat → Nat} {B : Bk} {wr : va_W}  {x1 : Int32} {σ : Dst} {q : Int32} (hf : fD_need dA B x1 σ = some q) : CtI l yX0_need cX0_need 4 (some .int) rD_need D dA [.ref t0, .int x1] (Dx dA t0 ad B wr σ) q (Dx dA t0 ad B wr σ) := by
  refine e_I (by decide) (Nat.le_of_ble_eq_true rfl) ?_
  intro p e s m below meth c ls A FX hr hlk hl hW
  have hx := FX.1; have hb := FX.2.1; have hown := FX.2.2.2.1; have hts := FX.2.2.2.2
  have hl : lv_has ls 4 [(0, .ref t0), (1, .int x1)] := hl
  rw [fD_need] at hf
  refine lv_iload_n hx hb dX0_need_0 rfl (lv_at hl 1 rfl) ?_
  refine lv_iconst (v := 0) hx hb dX0_need_1 (by decide) ?_
  refine lv_bipush (v := 30) hx hb dX0_need_2 (by decide) ?_
  refine kX0_X0_isIn FX ⟨Nat.le_of_ble_eq_true rfl, Nat.le_of_ble_eq_true rfl⟩ ⟨Nat.zero_le _, Nat.zero_le _⟩ hl.1 (Nat.le_of_ble_eq_true rfl) hW hf dX0_need_4 (fun r1 H locs hW hf => ?_)
  refine lv_if_ne (tgt := 12) hx hb dX0_need_7 (by decide) (fun c7 => ?_) (fun c7 => ?_)
  · have hf := ifn c7 hf
    refine lv_iconst (v := 0) hx hb dX0_need_12 (by decide) ?_
    refine lv_istore_n (lv' := [(2, .int (0 : Int32)), (0, .ref t0), (1, .int x1)]) hx hb dX0_need_13 rfl hl (by decide) rfl (fun ls hl => ?_)
    refine lv_iconst (v := 0) hx hb dX0_need_14 (by decide) ?_
    refine lv_istore_n (lv' := [(3, .int (0 : Int32)), (2, .int (0 : Int32)), (0, .ref t0), (1, .int x1)]) hx hb dX0_need_15 rfl hl (by decide) rfl (fun ls hl => ?_)
    exact wD_need_16 FX hr hlk _ x1 (0 : Int32) (0 : Int32) _ _ _ (lv_sub hl [2, 3, 1, 0] rfl) hW hf
  · have hf := ifp c7 hf
    refine lv_iconst (v := -1) hx hb dX0_need_10 (by decide) ?_
    exact g_iret FX hr hlk hW (Option.some.inj hf) dX0_need_11


/-! TrunkLitters.pining()I: kind R -/
def fD_pining_40 (dA : Nat → Nat) (B : Bk) (σ : Dst) (k4 : Int32 → Int32 → Option Int32) (x2 : Int32) (y0 : Int32) : Option Int32 := k4 (y0 ||| (0 : Int32)) (x2 + (1 : Int32))
def fD_pining_4 (dA : Nat → Nat) (B : Bk) (σ : Dst) : Nat → Int32 → Int32 → Option Int32
  | 0, _, _ => none
  | n + 1, x1, x2 => (if (8 : Int32) ≤ x2 then some x1 else (fX3_has x2 (tN σ)).bind fun r1 => (if r1 = 0 then fD_pining_40 dA B σ (fD_pining_4 dA B σ n) x2 x1 else ald 8 (hA (tN σ) 4) x2 fun v2 => (if v2 ≤ 0 then fD_pining_40 dA B σ (fD_pining_4 dA B σ n) x2 x1 else fD_pining_4 dA B σ n (x1 ||| ((1 : Int32) <<< (x2 &&& 31))) (x2 + (1 : Int32)))))
def fD_pining (dA : Nat → Nat) (B : Bk) (σ : Dst) : Option Int32 := fD_pining_4 dA B σ FU (0 : Int32) (0 : Int32)
abbrev rD_pining : Room := { frames := 1, cells := 0, slots := 0, locals := 21 }
set_option maxHeartbeats 4000000 in
set_option maxRecDepth 100000 in
theorem wD_pining_40 {t0 : Nat} {ad : Nat → Nat} {B : Bk} {wr : va_W} {q : Int32} {σ : Dst} (FX : CallFix p m c cX0_pining 3 s args lw_all RX0) (hr : meth.sig.returnType = (some .int)) (hlk : meth.locks = false) {k4 : Int32 → Int32 → Option Int32} (hk4 : ∀ (x1 : Int32) (x2 : Int32) (H : Heap) (locs : List Loc) (ls : Array Slot), lv_has ls 3 [(0, .ref t0), (1, .int x1), (2, .int x2)] → Wd D dA A s (Dx dA t0 ad B wr σ) H locs → k4 x1 x2 = some q → W p l e rD_pining s m args below meth c H locs 0 0 (QI D dA A below args s 0 0 q (Dx dA t0 ad B wr σ)) (F0 m 4 ls [])) : ∀ (x2 : Int32) (y0 : Int32) (H : Heap) (locs : List Loc) (ls : Array Slot), lv_has ls 3 [(0, .ref t0), (2, .int x2)] → Wd D dA A s (Dx dA t0 ad B wr σ) H locs → fD_pining_40 dA B σ k4 x2 y0 = some q → W p l e rD_pining s m args below meth c H locs 0 0 (QI D dA A below args s 0 0 q (Dx dA t0 ad B wr σ)) (F0 m 40 ls [.int y0]) := by
  have hx := FX.1; have hb := FX.2.1; have hown := FX.2.2.2.1; have hts := FX.2.2.2.2
  intro x2 y0 H locs ls hl hW hf
  rw [fD_pining_40] at hf
  refine lv_iconst (v := 0) hx hb dX0_pining_40 (by decide) ?_
  refine lv_ior hx hb dX0_pining_41 ?_
  refine lv_istore_n (lv' := [(1, .int (y0 ||| (0 : Int32))), (0, .ref t0), (2, .int x2)]) hx hb dX0_pining_42 rfl hl (by decide) rfl (fun ls hl => ?_)
  refine lv_iinc (v := (x2 + (1 : Int32))) (lv' := [(2, .int (x2 + (1 : Int32))), (1, .int (y0 ||| (0 : Int32))), (0, .ref t0)]) hx hb dX0_pining_43 hl (k := 2) rfl rfl (by decide) rfl (fun ls hl => ?_)
  refine lv_goto (tgt := 4) hx hb dX0_pining_46 (by decide) ?_
  exact hk4 (y0 ||| (0 : Int32)) (x2 + (1 : Int32)) _ _ _ (lv_sub hl [2, 1, 0] rfl) hW hf
set_option maxHeartbeats 4000000 in
set_option maxRecDepth 100000 in
theorem wD_pining_4 {t0 : Nat} {ad : Nat → Nat} {B : Bk} {wr : va_W} {q : Int32} {σ : Dst} (FX : CallFix p m c cX0_pining 3 s args lw_all RX0) (hr : meth.sig.returnType = (some .int)) (hlk : meth.locks = false) : ∀ n : Nat, ∀ (x1 : Int32) (x2 : Int32) (H : Heap) (locs : List Loc) (ls : Array Slot), lv_has ls 3 [(0, .ref t0), (1, .int x1), (2, .int x2)] → Wd D dA A s (Dx dA t0 ad B wr σ) H locs → fD_pining_4 dA B σ n x1 x2 = some q → W p l e rD_pining s m args below meth c H locs 0 0 (QI D dA A below args s 0 0 q (Dx dA t0 ad B wr σ)) (F0 m 4 ls []) := by
  have hx := FX.1; have hb := FX.2.1; have hown := FX.2.2.2.1; have hts := FX.2.2.2.2
  intro n
  induction n with
  | zero =>
    intro x1 x2 H locs ls hl hW hf
    cases (show (none : Option Int32) = some q from hf)
  | succ n ih =>
    intro x1 x2 H locs ls hl hW hf
    rw [fD_pining_4] at hf
    refine lv_iload_n hx hb dX0_pining_4 rfl (lv_at hl 2 rfl) ?_
    refine lv_bipush (v := 8) hx hb dX0_pining_5 (by decide) ?_
    refine lv_icmp_ge (tgt := 49) hx hb dX0_pining_7 (by decide) (fun c7 => ?_) (fun c7 => ?_)
    · have hf := ifp c7 hf
      refine lv_iload_n hx hb dX0_pining_49 rfl (lv_at hl 1 rfl) ?_
      exact g_iret FX hr hlk hW (Option.some.inj hf) dX0_pining_50
    · have hf := ifn c7 hf
      refine lv_iload_n hx hb dX0_pining_10 rfl (lv_at hl 1 rfl) ?_
      refine lv_aload_n hx hb dX0_pining_11 rfl (lv_at hl 0 rfl) ?_
      refine DgX0_0_5 FX hW dX0_pining_12 ?_
      refine lv_iload_n hx hb dX0_pining_15 rfl (lv_at hl 2 rfl) ?_
      refine kD_now_has FX ⟨Nat.le_of_ble_eq_true rfl, Nat.le_of_ble_eq_true rfl⟩ ⟨Nat.zero_le _, Nat.zero_le _⟩ hl.1 (Nat.le_of_ble_eq_true rfl) hW hf dX0_pining_16 (fun r1 H locs hW hf => ?_)
      refine lv_if_eq (tgt := 40) hx hb dX0_pining_19 (by decide) (fun c19 => ?_) (fun c19 => ?_)
      · have hf := ifp c19 hf
        exact wD_pining_40 FX hr hlk (ih) x2 x1 _ _ _ (lv_sub hl [0, 2] rfl) hW hf
      · have hf := ifn c19 hf
        refine lv_aload_n hx hb dX0_pining_22 rfl (lv_at hl 0 rfl) ?_
        refine DgX0_0_5 FX hW dX0_pining_23 ?_
        refine DgX0_18_4 FX hW dX0_pining_26 ?_
        refine lv_iload_n hx hb dX0_pining_29 rfl (lv_at hl 2 rfl) ?_
        refine g_iald FX hW 23 Dp23 hf dX0_pining_30 (fun v2 hf => ?_)
        refine lv_if_le (tgt := 40) hx hb dX0_pining_31 (by decide) (fun c31 => ?_) (fun c31 => ?_)
        · have hf := ifp c31 hf
          exact wD_pining_40 FX hr hlk (ih) x2 x1 _ _ _ (lv_sub hl [0, 2] rfl) hW hf
        · have hf := ifn c31 hf
          refine lv_iconst (v := 1) hx hb dX0_pining_34 (by decide) ?_
          refine lv_iload_n hx hb dX0_pining_35 rfl (lv_at hl 2 rfl) ?_
          refine lv_ishl hx hb dX0_pining_36 ?_
          refine lv_goto (tgt := 41) hx hb dX0_pining_37 (by decide) ?_
          refine lv_ior hx hb dX0_pining_41 ?_
          refine lv_istore_n (lv' := [(1, .int (x1 ||| ((1 : Int32) <<< (x2 &&& 31)))), (0, .ref t0), (2, .int x2)]) hx hb dX0_pining_42 rfl hl (by decide) rfl (fun ls hl => ?_)
          refine lv_iinc (v := (x2 + (1 : Int32))) (lv' := [(2, .int (x2 + (1 : Int32))), (1, .int (x1 ||| ((1 : Int32) <<< (x2 &&& 31)))), (0, .ref t0)]) hx hb dX0_pining_43 hl (k := 2) rfl rfl (by decide) rfl (fun ls hl => ?_)
          refine lv_goto (tgt := 4) hx hb dX0_pining_46 (by decide) ?_
          exact ih (x1 ||| ((1 : Int32) <<< (x2 &&& 31))) (x2 + (1 : Int32)) _ _ _ (lv_sub hl [2, 1, 0] rfl) hW hf
set_option maxHeartbeats 4000000 in
set_option maxRecDepth 100000 in
theorem mD_pining {t0 : Nat} {ad : Nat → Nat} {B : Bk} {wr : va_W}  {σ : Dst} {q : Int32} (hf : fD_pining dA B σ = some q) : CtI l yX0_pining cX0_pining 3 (some .int) rD_pining D dA [.ref t0] (Dx dA t0 ad B wr σ) q (Dx dA t0 ad B wr σ) := by
  refine e_I (by decide) (Nat.le_of_ble_eq_true rfl) ?_
  intro p e s m below meth c ls A FX hr hlk hl hW
  have hx := FX.1; have hb := FX.2.1; have hown := FX.2.2.2.1; have hts := FX.2.2.2.2
  have hl : lv_has ls 3 [(0, .ref t0)] := hl
  rw [fD_pining] at hf
  refine lv_iconst (v := 0) hx hb dX0_pining_0 (by decide) ?_
  refine lv_istore_n (lv' := [(1, .int (0 : Int32)), (0, .ref t0)]) hx hb dX0_pining_1 rfl hl (by decide) rfl (fun ls hl => ?_)
  refine lv_iconst (v := 0) hx hb dX0_pining_2 (by decide) ?_
  refine lv_istore_n (lv' := [(2, .int (0 : Int32)), (1, .int (0 : Int32)), (0, .ref t0)]) hx hb dX0_pining_3 rfl hl (by decide) rfl (fun ls hl => ?_)
  exact wD_pining_4 FX hr hlk _ (0 : Int32) (0 : Int32) _ _ _ (lv_sub hl [2, 1, 0] rfl) hW hf
theorem DgX0_18_8 {t0 : Nat} {ad : Nat → Nat} {B : Bk} {wr : va_W} {σ : Dst} (FX : CallFix p m c cc nL s args lw_all RX0) (hW : Wd D dA A s (Dx dA t0 ad B wr σ) H locs) (hdg : decode cc pc = .ok (.getfield 246, 3)) (kk : W p l e R s m args below meth c H locs cells slots Q (F0 m (pc + 3) ls (.int (hF (tN σ) 8) :: rest))) : W p l e R s m args below meth c H locs cells slots Q (F0 m pc ls (.ref (ad 5) :: rest)) :=
  g_get FX hW (C := RX3) (T := TX3) (N := 14) (ci := 3) in_X3 18 rfl rfl 8 (by decide) q288 (fun _ h => h) rfl hdg kk
set_option maxHeartbeats 4000000 in
set_option maxRecDepth 100000 in
theorem kD_now_bulkOf {t0 : Nat} {ad : Nat → Nat} {B : Bk} {wr : va_W} {α : Type} {q : α} {k : Int32 → Option α} {x1 : Int32} {σ : Dst} (FX : CallFix p m c cc nL s args lw_all RX0) (hR : rX3_bulkOf.frames + 1 ≤ R.frames ∧ 8 + (4 + 11) + rX3_bulkOf.locals ≤ R.locals) (hcs : cells ≤ R.cells ∧ slots ≤ R.slots) (hl : ls.size = nL) (hrm : (rest.map fun v => v.category).sum ≤ 8) (hW : Wd D dA A s (Dx dA t0 ad B wr σ) H locs) (hf : (fX3_bulkOf x1 (tN σ)).bind k = some q) (hdg : decode cc pc = .ok (.invokevirtual 272, 3)) (kk : ∀ (r : Int32) (H1 : Heap) (locs1 : List Loc), Wd D dA A s (Dx dA t0 ad B wr σ) H1 locs1 → k r = some q → W p l e R s m args below meth c H1 locs1 cells slots Q (F0 m (pc + 3) ls (.int r :: rest))) : W p l e R s m args below meth c H locs cells slots Q (F0 m pc ls (.int x1 :: .ref (ad 5) :: rest)) := by
  obtain ⟨r1, h1, hf⟩ := bnd hf
  have hW2 := HB_in (D_now_in hW)
  refine w_Vi (C := RX3) (As := [.int x1]) (rest := rest) (n := 1) (wr := []) FX (mX3_bulkOf h1) (cwV 1 FX.2.2.2.2 (lw_V q1372 q1144 q1145 q129 q1146) rfl rfl rfl (by decide +kernel) hR) (va_recv hW2.2.2.2.1 hW2.1 (ci := 3) (q0 := 0) rfl rfl) rfl hl rfl hrm ⟨Nat.le_trans (Nat.le_of_eq (Nat.add_zero cells)) hcs.1, Nat.le_trans (Nat.le_of_eq (Nat.add_zero slots)) hcs.2⟩ hdg hW2.nil ?_
  exact fun H1 locs1 hW1 => kk r1 H1 locs1 (D_now_outR (HB_out hW1.nil')) hf
/-! TrunkLitters.fill(II)I: kind R -/
def fD_fill_129 (dA : Nat → Nat) (B : Bk) (σ : Dst) (k24 : Int32 → Int32 → Int32 → Int32 → Option Int32) (x1 : Int32) (x2 : Int32) (x4 : Int32) (y0 : Int32) : Option Int32 := k24 x1 x2 y0 (x4 + (1 : Int32))
def fD_fill_123 (dA : Nat → Nat) (B : Bk) (σ : Dst) (k24 : Int32 → Int32 → Int32 → Int32 → Option Int32) (x1 : Int32) (x2 : Int32) (x4 : Int32) : Option Int32 := fD_fill_129 dA B σ k24 x1 x2 x4 x4
def fD_fill_128 (dA : Nat → Nat) (B : Bk) (σ : Dst) (k24 : Int32 → Int32 → Int32 → Int32 → Option Int32) (x1 : Int32) (x2 : Int32) (x3 : Int32) (x4 : Int32) : Option Int32 := fD_fill_129 dA B σ k24 x1 x2 x4 x3
def fD_fill_24 (dA : Nat → Nat) (B : Bk) (σ : Dst) : Nat → Int32 → Int32 → Int32 → Int32 → Option Int32
  | 0, _, _, _, _ => none
  | n + 1, x1, x2, x3, x4 => (if (hF (tN σ) 8) < x4 then (if x2 = 0 then (fX3_bulkOf x3 (tN σ)).bind fun r1 => some r1 else some x3) else (fX3_bulkOf x4 (tN σ)).bind fun r2 => (fX3_bulkOf x3 (tN σ)).bind fun r3 => (if (x4 &&& ((hF (tN σ) 8) ^^^ (-1 : Int32))) = 0 then lget (bA B 6) (bI B 5) (bR B) x1 fun a4 => pck (bP B) a4 6 (pgi (bP B) a4 6 1 fun v5 => (if r2 ≤ v5 then (if r3 < r2 then fD_fill_123 dA B σ (fD_fill_24 dA B σ n) x1 x2 x4 else (if r2 = r3 then (fJ15_bitCount x4).bind fun r6 => (fJ15_bitCount x3).bind fun r7 => (if r7 ≤ r6 then fD_fill_128 dA B σ (fD_fill_24 dA B σ n) x1 x2 x3 x4 else fD_fill_123 dA B σ (fD_fill_24 dA B σ n) x1 x2 x4) else fD_fill_128 dA B σ (fD_fill_24 dA B σ n) x1 x2 x3 x4)) else fD_fill_24 dA B σ n x1 x2 x3 (x4 + (1 : Int32)))) else fD_fill_24 dA B σ n x1 x2 x3 (x4 + (1 : Int32))))
def fD_fill (dA : Nat → Nat) (B : Bk) (x1 : Int32) (x2 : Int32) (σ : Dst) : Option Int32 := (fD_isRoom dA B x1 σ).bind fun r1 => (if r1 = 0 then some (-1 : Int32) else (fX0_isIn x2 (0 : Int32) (1 : Int32)).bind fun r2 => (if r2 = 0 then some (-1 : Int32) else fD_fill_24 dA B σ FU x1 x2 (0 : Int32) (1 : Int32)))
abbrev rD_fill : Room := { frames := 4, cells := 0, slots := 0, locals := 91 }
set_option maxHeartbeats 4000000 in
set_option maxRecDepth 100000 in
theorem wD_fill_129 {t0 : Nat} {ad : Nat → Nat} {B : Bk} {wr : va_W} {q : Int32} {σ : Dst} (FX : CallFix p m c cX0_fill 7 s args lw_all RX0) (hr : meth.sig.returnType = (some .int)) (hlk : meth.locks = false) {k24 : Int32 → Int32 → Int32 → Int32 → Option Int32} (hk24 : ∀ (x1 : Int32) (x2 : Int32) (x3 : Int32) (x4 : Int32) (H : Heap) (locs : List Loc) (ls : Array Slot), lv_has ls 7 [(0, .ref t0), (1, .int x1), (2, .int x2), (3, .int x3), (4, .int x4)] → Wd D dA A s (Dx dA t0 ad B wr σ) H locs → k24 x1 x2 x3 x4 = some q → W p l e rD_fill s m args below meth c H locs 0 0 (QI D dA A below args s 0 0 q (Dx dA t0 ad B wr σ)) (F0 m 24 ls [])) : ∀ (x1 : Int32) (x2 : Int32) (x4 : Int32) (y0 : Int32) (H : Heap) (locs : List Loc) (ls : Array Slot), lv_has ls 7 [(0, .ref t0), (1, .int x1), (2, .int x2), (4, .int x4)] → Wd D dA A s (Dx dA t0 ad B wr σ) H locs → fD_fill_129 dA B σ k24 x1 x2 x4 y0 = some q → W p l e rD_fill s m args below meth c H locs 0 0 (QI D dA A below args s 0 0 q (Dx dA t0 ad B wr σ)) (F0 m 129 ls [.int y0]) := by
  have hx := FX.1; have hb := FX.2.1; have hown := FX.2.2.2.1; have hts := FX.2.2.2.2
  intro x1 x2 x4 y0 H locs ls hl hW hf
  rw [fD_fill_129] at hf
  refine lv_istore_n (lv' := [(3, .int y0), (0, .ref t0), (1, .int x1), (2, .int x2), (4, .int x4)]) hx hb dX0_fill_129 rfl hl (by decide) rfl (fun ls hl => ?_)
  refine lv_iinc (v := (x4 + (1 : Int32))) (lv' := [(4, .int (x4 + (1 : Int32))), (3, .int y0), (0, .ref t0), (1, .int x1), (2, .int x2)]) hx hb dX0_fill_130 hl (k := 4) rfl rfl (by decide) rfl (fun ls hl => ?_)
  refine lv_goto (tgt := 24) hx hb dX0_fill_133 (by decide) ?_
  exact hk24 x1 x2 y0 (x4 + (1 : Int32)) _ _ _ (lv_sub hl [2, 3, 4, 1, 0] rfl) hW hf
set_option maxHeartbeats 4000000 in
set_option maxRecDepth 100000 in
theorem wD_fill_123 {t0 : Nat} {ad : Nat → Nat} {B : Bk} {wr : va_W} {q : Int32} {σ : Dst} (FX : CallFix p m c cX0_fill 7 s args lw_all RX0) (hr : meth.sig.returnType = (some .int)) (hlk : meth.locks = false) {k24 : Int32 → Int32 → Int32 → Int32 → Option Int32} (hk24 : ∀ (x1 : Int32) (x2 : Int32) (x3 : Int32) (x4 : Int32) (H : Heap) (locs : List Loc) (ls : Array Slot), lv_has ls 7 [(0, .ref t0), (1, .int x1), (2, .int x2), (3, .int x3), (4, .int x4)] → Wd D dA A s (Dx dA t0 ad B wr σ) H locs → k24 x1 x2 x3 x4 = some q → W p l e rD_fill s m args below meth c H locs 0 0 (QI D dA A below args s 0 0 q (Dx dA t0 ad B wr σ)) (F0 m 24 ls [])) : ∀ (x1 : Int32) (x2 : Int32) (x4 : Int32) (H : Heap) (locs : List Loc) (ls : Array Slot), lv_has ls 7 [(0, .ref t0), (1, .int x1), (2, .int x2), (4, .int x4)] → Wd D dA A s (Dx dA t0 ad B wr σ) H locs → fD_fill_123 dA B σ k24 x1 x2 x4 = some q → W p l e rD_fill s m args below meth c H locs 0 0 (QI D dA A below args s 0 0 q (Dx dA t0 ad B wr σ)) (F0 m 123 ls []) := by
  have hx := FX.1; have hb := FX.2.1; have hown := FX.2.2.2.1; have hts := FX.2.2.2.2
  intro x1 x2 x4 H locs ls hl hW hf
  rw [fD_fill_123] at hf
  refine lv_iload hx hb dX0_fill_123 (lv_at hl 3 rfl) ?_
  refine lv_goto (tgt := 129) hx hb dX0_fill_125 (by decide) ?_
  exact wD_fill_129 FX hr hlk hk24 x1 x2 x4 x4 _ _ _ (lv_sub hl [0, 1, 2, 3] rfl) hW hf
set_option maxHeartbeats 4000000 in
set_option maxRecDepth 100000 in
theorem wD_fill_128 {t0 : Nat} {ad : Nat → Nat} {B : Bk} {wr : va_W} {q : Int32} {σ : Dst} (FX : CallFix p m c cX0_fill 7 s args lw_all RX0) (hr : meth.sig.returnType = (some .int)) (hlk : meth.locks = false) {k24 : Int32 → Int32 → Int32 → Int32 → Option Int32} (hk24 : ∀ (x1 : Int32) (x2 : Int32) (x3 : Int32) (x4 : Int32) (H : Heap) (locs : List Loc) (ls : Array Slot), lv_has ls 7 [(0, .ref t0), (1, .int x1), (2, .int x2), (3, .int x3), (4, .int x4)] → Wd D dA A s (Dx dA t0 ad B wr σ) H locs → k24 x1 x2 x3 x4 = some q → W p l e rD_fill s m args below meth c H locs 0 0 (QI D dA A below args s 0 0 q (Dx dA t0 ad B wr σ)) (F0 m 24 ls [])) : ∀ (x1 : Int32) (x2 : Int32) (x3 : Int32) (x4 : Int32) (H : Heap) (locs : List Loc) (ls : Array Slot), lv_has ls 7 [(0, .ref t0), (1, .int x1), (2, .int x2), (3, .int x3), (4, .int x4)] → Wd D dA A s (Dx dA t0 ad B wr σ) H locs → fD_fill_128 dA B σ k24 x1 x2 x3 x4 = some q → W p l e rD_fill s m args below meth c H locs 0 0 (QI D dA A below args s 0 0 q (Dx dA t0 ad B wr σ)) (F0 m 128 ls []) := by
  have hx := FX.1; have hb := FX.2.1; have hown := FX.2.2.2.1; have hts := FX.2.2.2.2
  intro x1 x2 x3 x4 H locs ls hl hW hf
  rw [fD_fill_128] at hf
  refine lv_iload_n hx hb dX0_fill_128 rfl (lv_at hl 3 rfl) ?_
  exact wD_fill_129 FX hr hlk hk24 x1 x2 x4 x3 _ _ _ (lv_sub hl [0, 1, 2, 4] rfl) hW hf
set_option maxHeartbeats 4000000 in
set_option maxRecDepth 100000 in
theorem wD_fill_24 {t0 : Nat} {ad : Nat → Nat} {B : Bk} {wr : va_W} {q : Int32} {σ : Dst} (FX : CallFix p m c cX0_fill 7 s args lw_all RX0) (hr : meth.sig.returnType = (some .int)) (hlk : meth.locks = false) : ∀ n : Nat, ∀ (x1 : Int32) (x2 : Int32) (x3 : Int32) (x4 : Int32) (H : Heap) (locs : List Loc) (ls : Array Slot), lv_has ls 7 [(0, .ref t0), (1, .int x1), (2, .int x2), (3, .int x3), (4, .int x4)] → Wd D dA A s (Dx dA t0 ad B wr σ) H locs → fD_fill_24 dA B σ n x1 x2 x3 x4 = some q → W p l e rD_fill s m args below meth c H locs 0 0 (QI D dA A below args s 0 0 q (Dx dA t0 ad B wr σ)) (F0 m 24 ls []) := by
  have hx := FX.1; have hb := FX.2.1; have hown := FX.2.2.2.1; have hts := FX.2.2.2.2
  intro n
  induction n with
  | zero =>
    intro x1 x2 x3 x4 H locs ls hl hW hf
    cases (show (none : Option Int32) = some q from hf)
  | succ n ih =>
    intro x1 x2 x3 x4 H locs ls hl hW hf
    rw [fD_fill_24] at hf
    refine lv_iload hx hb dX0_fill_24 (lv_at hl 4 rfl) ?_
    refine lv_aload_n hx hb dX0_fill_26 rfl (lv_at hl 0 rfl) ?_
    refine DgX0_0_5 FX hW dX0_fill_27 ?_
    refine DgX0_18_8 FX hW dX0_fill_30 ?_
    refine lv_icmp_gt (tgt := 136) hx hb dX0_fill_33 (by decide) (fun c33 => ?_) (fun c33 => ?_)
    · have hf := ifp c33 hf
      refine lv_iload_n hx hb dX0_fill_136 rfl (lv_at hl 2 rfl) ?_
      refine lv_if_ne (tgt := 151) hx hb dX0_fill_137 (by decide) (fun c137 => ?_) (fun c137 => ?_)
      · have hf := ifn c137 hf
        refine lv_iload_n hx hb dX0_fill_151 rfl (lv_at hl 3 rfl) ?_
        exact g_iret FX hr hlk hW (Option.some.inj hf) dX0_fill_152
      · have hf := ifp c137 hf
        refine lv_aload_n hx hb dX0_fill_140 rfl (lv_at hl 0 rfl) ?_
        refine DgX0_0_5 FX hW dX0_fill_141 ?_
        refine lv_iload_n hx hb dX0_fill_144 rfl (lv_at hl 3 rfl) ?_
        refine kD_now_bulkOf FX ⟨Nat.le_of_ble_eq_true rfl, Nat.le_of_ble_eq_true rfl⟩ ⟨Nat.zero_le _, Nat.zero_le _⟩ hl.1 (Nat.le_of_ble_eq_true rfl) hW hf dX0_fill_145 (fun r1 H locs hW hf => ?_)
        refine lv_goto (tgt := 152) hx hb dX0_fill_148 (by decide) ?_
        exact g_iret FX hr hlk hW (Option.some.inj hf) dX0_fill_152
    · have hf := ifn c33 hf
      refine lv_aload_n hx hb dX0_fill_36 rfl (lv_at hl 0 rfl) ?_
      refine DgX0_0_5 FX hW dX0_fill_37 ?_
      refine lv_iload hx hb dX0_fill_40 (lv_at hl 4 rfl) ?_
      refine kD_now_bulkOf FX ⟨Nat.le_of_ble_eq_true rfl, Nat.le_of_ble_eq_true rfl⟩ ⟨Nat.zero_le _, Nat.zero_le _⟩ hl.1 (Nat.le_of_ble_eq_true rfl) hW hf dX0_fill_42 (fun r2 H locs hW hf => ?_)
      refine lv_istore (lv' := [(5, .int r2), (0, .ref t0), (1, .int x1), (2, .int x2), (3, .int x3), (4, .int x4)]) hx hb dX0_fill_45 hl (by decide) rfl (fun ls hl => ?_)
      refine lv_aload_n hx hb dX0_fill_47 rfl (lv_at hl 1 rfl) ?_
      refine DgX0_0_5 FX hW dX0_fill_48 ?_
      refine lv_iload_n hx hb dX0_fill_51 rfl (lv_at hl 4 rfl) ?_
      refine kD_now_bulkOf FX ⟨Nat.le_of_ble_eq_true rfl, Nat.le_of_ble_eq_true rfl⟩ ⟨Nat.zero_le _, Nat.zero_le _⟩ hl.1 (Nat.le_of_ble_eq_true rfl) hW hf dX0_fill_52 (fun r3 H locs hW hf => ?_)
      refine lv_istore (lv' := [(6, .int r3), (5, .int r2), (0, .ref t0), (1, .int x1), (2, .int x2), (3, .int x3), (4, .int x4)]) hx hb dX0_fill_55 hl (by decide) rfl (fun ls hl => ?_)
      refine lv_iload hx hb dX0_fill_57 (lv_at hl 6 rfl) ?_
      refine lv_aload_n hx hb dX0_fill_59 rfl (lv_at hl 2 rfl) ?_
      refine DgX0_0_5 FX hW dX0_fill_60 ?_
      refine DgX0_18_8 FX hW dX0_fill_63 ?_
      refine lv_iconst (v := -1) hx hb dX0_fill_66 (by decide) ?_
      refine lv_ixor hx hb dX0_fill_67 ?_
      refine lv_iand hx hb dX0_fill_68 ?_
      refine lv_if_ne (tgt := 130) hx hb dX0_fill_69 (by decide) (fun c69 => ?_) (fun c69 => ?_)
      · have hf := ifn c69 hf
        refine lv_iinc (v := (x4 + (1 : Int32))) (lv' := [(4, .int (x4 + (1 : Int32))), (6, .int r3), (5, .int r2), (0, .ref t0), (1, .int x1), (2, .int x2), (3, .int x3)]) hx hb dX0_fill_130 hl (k := 6) rfl rfl (by decide) rfl (fun ls hl => ?_)
        refine lv_goto (tgt := 24) hx hb dX0_fill_133 (by decide) ?_
        exact ih x1 x2 x3 (x4 + (1 : Int32)) _ _ _ (lv_sub hl [3, 4, 5, 6, 0] rfl) hW hf
      · have hf := ifp c69 hf
        refine lv_iload hx hb dX0_fill_72 (lv_at hl 1 rfl) ?_
        refine lv_aload_n hx hb dX0_fill_74 rfl (lv_at hl 2 rfl) ?_
        refine DgX0_0_4 FX hW dX0_fill_75 ?_
        refine DgX0_45_0 FX hW dX0_fill_78 ?_
        refine lv_iload_n hx hb dX0_fill_81 rfl (lv_at hl 3 rfl) ?_
        refine DgetX0_47 FX ⟨Nat.le_of_ble_eq_true rfl, Nat.le_of_ble_eq_true rfl⟩ ⟨Nat.zero_le _, Nat.zero_le _⟩ hl.1 (Nat.le_of_ble_eq_true rfl) hW hf dX0_fill_82 (fun a4 H locs hW hf => ?_)
        refine DcstX0_X7 FX hW hf dX0_fill_85 (fun hf => ?_)
        refine DpgX0_X7_1 FX hW hf dX0_fill_88 (fun v5 hf => ?_)
        refine lv_icmp_le (tgt := 97) hx hb dX0_fill_91 (by decide) (fun c91 => ?_) (fun c91 => ?_)
        · have hf := ifp c91 hf
          refine lv_iload hx hb dX0_fill_97 (lv_at hl 1 rfl) ?_
          refine lv_iload hx hb dX0_fill_99 (lv_at hl 0 rfl) ?_
          refine lv_icmp_gt (tgt := 123) hx hb dX0_fill_101 (by decide) (fun c101 => ?_) (fun c101 => ?_)
          · have hf := ifp c101 hf
            exact wD_fill_123 FX hr hlk (ih) x1 x2 x4 _ _ _ (lv_sub hl [2, 3, 4, 6] rfl) hW hf
          · have hf := ifn c101 hf
            refine lv_iload hx hb dX0_fill_104 (lv_at hl 1 rfl) ?_
            refine lv_iload hx hb dX0_fill_106 (lv_at hl 0 rfl) ?_
            refine lv_icmp_ne (tgt := 128) hx hb dX0_fill_108 (by decide) (fun c108 => ?_) (fun c108 => ?_)
            · have hf := ifn c108 hf
              exact wD_fill_128 FX hr hlk (ih) x1 x2 x3 x4 _ _ _ (lv_sub hl [2, 3, 4, 5, 6] rfl) hW hf
            · have hf := ifp c108 hf
              refine lv_iload hx hb dX0_fill_111 (lv_at hl 6 rfl) ?_
              refine kX0_J15_bitCount FX ⟨Nat.le_of_ble_eq_true rfl, Nat.le_of_ble_eq_true rfl⟩ ⟨Nat.zero_le _, Nat.zero_le _⟩ hl.1 (Nat.le_of_ble_eq_true rfl) hW hf dX0_fill_113 (fun r6 H locs hW hf => ?_)
              refine lv_iload_n hx hb dX0_fill_116 rfl (lv_at hl 5 rfl) ?_
              refine kX0_J15_bitCount FX ⟨Nat.le_of_ble_eq_true rfl, Nat.le_of_ble_eq_true rfl⟩ ⟨Nat.zero_le _, Nat.zero_le _⟩ hl.1 (Nat.le_of_ble_eq_true rfl) hW hf dX0_fill_117 (fun r7 H locs hW hf => ?_)
              refine lv_icmp_ge (tgt := 128) hx hb dX0_fill_120 (by decide) (fun c120 => ?_) (fun c120 => ?_)
              · have hf := ifp c120 hf
                exact wD_fill_128 FX hr hlk (ih) x1 x2 x3 x4 _ _ _ (lv_sub hl [2, 3, 4, 5, 6] rfl) hW hf
              · have hf := ifn c120 hf
                exact wD_fill_123 FX hr hlk (ih) x1 x2 x4 _ _ _ (lv_sub hl [2, 3, 4, 6] rfl) hW hf
        · have hf := ifn c91 hf
          refine lv_goto (tgt := 130) hx hb dX0_fill_94 (by decide) ?_
          refine lv_iinc (v := (x4 + (1 : Int32))) (lv' := [(4, .int (x4 + (1 : Int32))), (6, .int r3), (5, .int r2), (0, .ref t0), (1, .int x1), (2, .int x2), (3, .int x3)]) hx hb dX0_fill_130 hl (k := 6) rfl rfl (by decide) rfl (fun ls hl => ?_)
          refine lv_goto (tgt := 24) hx hb dX0_fill_133 (by decide) ?_
          exact ih x1 x2 x3 (x4 + (1 : Int32)) _ _ _ (lv_sub hl [3, 4, 5, 6, 0] rfl) hW hf
set_option maxHeartbeats 4000000 in
set_option maxRecDepth 100000 in
theorem mD_fill {t0 : Nat} {ad : Nat → Nat} {B : Bk} {wr : va_W}  {x1 : Int32} {x2 : Int32} {σ : Dst} {q : Int32} (hf : fD_fill dA B x1 x2 σ = some q) : CtI l yX0_fill cX0_fill 7 (some .int) rD_fill D dA [.ref t0, .int x1, .int x2] (Dx dA t0 ad B wr σ) q (Dx dA t0 ad B wr σ) := by
  refine e_I (by decide) (Nat.le_of_ble_eq_true rfl) ?_
  intro p e s m below meth c ls A FX hr hlk hl hW
  have hx := FX.1; have hb := FX.2.1; have hown := FX.2.2.2.1; have hts := FX.2.2.2.2
  have hl : lv_has ls 7 [(0, .ref t0), (1, .int x1), (2, .int x2)] := hl
  rw [fD_fill] at hf
  refine lv_aload_n hx hb dX0_fill_0 rfl (lv_at hl 0 rfl) ?_
  refine lv_iload_n hx hb dX0_fill_1 rfl (lv_at hl 1 rfl) ?_
  refine kD_isRoom FX ⟨Nat.le_of_ble_eq_true rfl, Nat.le_of_ble_eq_true rfl⟩ ⟨Nat.zero_le _, Nat.zero_le _⟩ hl.1 (Nat.le_of_ble_eq_true rfl) hW hf dX0_fill_2 (fun r1 H locs hW hf => ?_)
  refine lv_if_eq (tgt := 17) hx hb dX0_fill_5 (by decide) (fun c5 => ?_) (fun c5 => ?_)
  · have hf := ifp c5 hf
    refine lv_iconst (v := -1) hx hb dX0_fill_17 (by decide) ?_
    exact g_iret FX hr hlk hW (Option.some.inj hf) dX0_fill_18
  · have hf := ifn c5 hf
    refine lv_iload_n hx hb dX0_fill_8 rfl (lv_at hl 2 rfl) ?_
    refine lv_iconst (v := 0) hx hb dX0_fill_9 (by decide) ?_
    refine lv_iconst (v := 1) hx hb dX0_fill_10 (by decide) ?_
    refine kX0_X0_isIn FX ⟨Nat.le_of_ble_eq_true rfl, Nat.le_of_ble_eq_true rfl⟩ ⟨Nat.zero_le _, Nat.zero_le _⟩ hl.1 (Nat.le_of_ble_eq_true rfl) hW hf dX0_fill_11 (fun r2 H locs hW hf => ?_)
    refine lv_if_ne (tgt := 19) hx hb dX0_fill_14 (by decide) (fun c14 => ?_) (fun c14 => ?_)
    · have hf := ifn c14 hf
      refine lv_iconst (v := 0) hx hb dX0_fill_19 (by decide) ?_
      refine lv_istore_n (lv' := [(3, .int (0 : Int32)), (0, .ref t0), (1, .int x1), (2, .int x2)]) hx hb dX0_fill_20 rfl hl (by decide) rfl (fun ls hl => ?_)
      refine lv_iconst (v := 1) hx hb dX0_fill_21 (by decide) ?_
      refine lv_istore (lv' := [(4, .int (1 : Int32)), (3, .int (0 : Int32)), (0, .ref t0), (1, .int x1), (2, .int x2)]) hx hb dX0_fill_22 hl (by decide) rfl (fun ls hl => ?_)
      exact wD_fill_24 FX hr hlk _ x1 x2 (0 : Int32) (1 : Int32) _ _ _ (lv_sub hl [2, 3, 4, 1, 0] rfl) hW hf
    · have hf := ifp c14 hf
      refine lv_iconst (v := -1) hx hb dX0_fill_17 (by decide) ?_
      exact g_iret FX hr hlk hW (Option.some.inj hf) dX0_fill_18

set_option maxHeartbeats 4000000 in
set_option maxRecDepth 100000 in
theorem kX0_X0_shared {α : Type} {q : α} {k : Int32 → Option α} {x0 : Int32} {x1 : Int32} {ws : va_W} (FX : CallFix p m c cc nL s args lw_all RX0) (hR : rX0_shared.frames + 1 ≤ R.frames ∧ 8 + (2 + 11) + rX0_shared.locals ≤ R.locals) (hcs : cells ≤ R.cells ∧ slots ≤ R.slots) (hl : ls.size = nL) (hrm : (rest.map fun v => v.category).sum ≤ 8) (hW : Wd D dA A s ws H locs) (hf : (fX0_shared x0 x1).bind k = some q) (hdg : decode cc pc = .ok (.invokestatic 275, 3)) (kk : ∀ (r : Int32) (H1 : Heap) (locs1 : List Loc), Wd D dA A s ws H1 locs1 → k r = some q → W p l e R s m args below meth c H1 locs1 cells slots Q (F0 m (pc + 3) ls (.int r :: rest))) : W p l e R s m args below meth c H locs cells slots Q (F0 m pc ls (.int x1 :: .int x0 :: rest)) := by
  obtain ⟨r1, h1, hf⟩ := bnd hf
  have hW2 := hW
  refine w_Si (As := [.int x0, .int x1]) (rest := rest) (n := 2) (wr := ws) FX (mX0_shared h1) (va_cwS 2 FX.2.2.2.2 (lw_S q1377 q1166 q123 q1167) rfl rfl rfl (by decide +kernel) hR) rfl hl rfl hrm ⟨Nat.le_trans (Nat.le_of_eq (Nat.add_zero cells)) hcs.1, Nat.le_trans (Nat.le_of_eq (Nat.add_zero slots)) hcs.2⟩ hdg hW ?_
  exact fun H1 locs1 hW1 => kk r1 H1 locs1 hW1 hf
/-! TrunkLitters.alike(II)I: kind R -/
def fD_alike (dA : Nat → Nat) (B : Bk) (x1 : Int32) (x2 : Int32) (σ : Dst) : Option Int32 := (fD_isTrunk dA B x1 σ).bind fun r1 => (if r1 = 0 then some (-1 : Int32) else (fD_isTrunk dA B x2 σ).bind fun r2 => (if r2 = 0 then some (-1 : Int32) else ald 8 (hA (tN σ) 2) x1 fun v3 => ald 8 (hA (tN σ) 2) x2 fun v4 => (fX0_shared v3 v4).bind fun r5 => some r5))
abbrev rD_alike : Room := { frames := 2, cells := 0, slots := 0, locals := 43 }
set_option maxHeartbeats 4000000 in
set_option maxRecDepth 100000 in
theorem mD_alike {t0 : Nat} {ad : Nat → Nat} {B : Bk} {wr : va_W}  {x1 : Int32} {x2 : Int32} {σ : Dst} {q : Int32} (hf : fD_alike dA B x1 x2 σ = some q) : CtI l yX0_alike cX0_alike 3 (some .int) rD_alike D dA [.ref t0, .int x1, .int x2] (Dx dA t0 ad B wr σ) q (Dx dA t0 ad B wr σ) := by
  refine e_I (by decide) (Nat.le_of_ble_eq_true rfl) ?_
  intro p e s m below meth c ls A FX hr hlk hl hW
  have hx := FX.1; have hb := FX.2.1; have hown := FX.2.2.2.1; have hts := FX.2.2.2.2
  have hl : lv_has ls 3 [(0, .ref t0), (1, .int x1), (2, .int x2)] := hl
  rw [fD_alike] at hf
  refine lv_aload_n hx hb dX0_alike_0 rfl (lv_at hl 0 rfl) ?_
  refine lv_iload_n hx hb dX0_alike_1 rfl (lv_at hl 1 rfl) ?_
  refine kD_isTrunk FX ⟨Nat.le_of_ble_eq_true rfl, Nat.le_of_ble_eq_true rfl⟩ ⟨Nat.zero_le _, Nat.zero_le _⟩ hl.1 (Nat.le_of_ble_eq_true rfl) hW hf dX0_alike_2 (fun r1 H locs hW hf => ?_)
  refine lv_if_eq (tgt := 40) hx hb dX0_alike_5 (by decide) (fun c5 => ?_) (fun c5 => ?_)
  · have hf := ifp c5 hf
    refine lv_iconst (v := -1) hx hb dX0_alike_40 (by decide) ?_
    exact g_iret FX hr hlk hW (Option.some.inj hf) dX0_alike_41
  · have hf := ifn c5 hf
    refine lv_aload_n hx hb dX0_alike_8 rfl (lv_at hl 0 rfl) ?_
    refine lv_iload_n hx hb dX0_alike_9 rfl (lv_at hl 2 rfl) ?_
    refine kD_isTrunk FX ⟨Nat.le_of_ble_eq_true rfl, Nat.le_of_ble_eq_true rfl⟩ ⟨Nat.zero_le _, Nat.zero_le _⟩ hl.1 (Nat.le_of_ble_eq_true rfl) hW hf dX0_alike_10 (fun r2 H locs hW hf => ?_)
    refine lv_if_eq (tgt := 40) hx hb dX0_alike_13 (by decide) (fun c13 => ?_) (fun c13 => ?_)
    · have hf := ifp c13 hf
      refine lv_iconst (v := -1) hx hb dX0_alike_40 (by decide) ?_
      exact g_iret FX hr hlk hW (Option.some.inj hf) dX0_alike_41
    · have hf := ifn c13 hf
      refine lv_aload_n hx hb dX0_alike_16 rfl (lv_at hl 0 rfl) ?_
      refine DgX0_0_5 FX hW dX0_alike_17 ?_
      refine DgX0_18_2 FX hW dX0_alike_20 ?_
      refine lv_iload_n hx hb dX0_alike_23 rfl (lv_at hl 1 rfl) ?_
      refine g_iald FX hW 21 Dp21 hf dX0_alike_24 (fun v3 hf => ?_)
      refine lv_aload_n hx hb dX0_alike_25 rfl (lv_at hl 0 rfl) ?_
      refine DgX0_0_5 FX hW dX0_alike_26 ?_
      refine DgX0_18_2 FX hW dX0_alike_29 ?_
      refine lv_iload_n hx hb dX0_alike_32 rfl (lv_at hl 2 rfl) ?_
      refine g_iald FX hW 21 Dp21 hf dX0_alike_33 (fun v4 hf => ?_)
      refine kX0_X0_shared FX ⟨Nat.le_of_ble_eq_true rfl, Nat.le_of_ble_eq_true rfl⟩ ⟨Nat.zero_le _, Nat.zero_le _⟩ hl.1 (Nat.le_of_ble_eq_true rfl) hW hf dX0_alike_34 (fun r5 H locs hW hf => ?_)
      refine lv_goto (tgt := 41) hx hb dX0_alike_37 (by decide) ?_
      exact g_iret FX hr hlk hW (Option.some.inj hf) dX0_alike_41


/-! TrunkLitters.foreign(III)I: kind R -/
def fD_foreign (dA : Nat → Nat) (B : Bk) (x1 : Int32) (x2 : Int32) (x3 : Int32) (σ : Dst) : Option Int32 := ald 8 (hA (tN σ) 2) x1 fun v1 => ald 8 (hA (tN σ) 2) x2 fun v2 => ald 8 (hA (tN σ) 2) x1 fun v3 => ald 8 (hA (tN σ) 2) x3 fun v4 => (fJ15_bitCount ((v1 ^^^ v2) &&& (v3 ^^^ v4))).bind fun r5 => some r5
abbrev rD_foreign : Room := { frames := 1, cells := 0, slots := 0, locals := 20 }
set_option maxHeartbeats 4000000 in
set_option maxRecDepth 100000 in
theorem mD_foreign {t0 : Nat} {ad : Nat → Nat} {B : Bk} {wr : va_W}  {x1 : Int32} {x2 : Int32} {x3 : Int32} {σ : Dst} {q : Int32} (hf : fD_foreign dA B x1 x2 x3 σ = some q) : CtI l yX0_foreign cX0_foreign 4 (some .int) rD_foreign D dA [.ref t0, .int x1, .int x2, .int x3] (Dx dA t0 ad B wr σ) q (Dx dA t0 ad B wr σ) := by
  refine e_I (by decide) (Nat.le_of_ble_eq_true rfl) ?_
  intro p e s m below meth c ls A FX hr hlk hl hW
  have hx := FX.1; have hb := FX.2.1; have hown := FX.2.2.2.1; have hts := FX.2.2.2.2
  have hl : lv_has ls 4 [(0, .ref t0), (1, .int x1), (2, .int x2), (3, .int x3)] := hl
  rw [fD_foreign] at hf
  refine lv_aload_n hx hb dX0_foreign_0 rfl (lv_at hl 0 rfl) ?_
  refine DgX0_0_5 FX hW dX0_foreign_1 ?_
  refine DgX0_18_2 FX hW dX0_foreign_4 ?_
  refine lv_iload_n hx hb dX0_foreign_7 rfl (lv_at hl 1 rfl) ?_
  refine g_iald FX hW 21 Dp21 hf dX0_foreign_8 (fun v1 hf => ?_)
  refine lv_aload_n hx hb dX0_foreign_9 rfl (lv_at hl 0 rfl) ?_
  refine DgX0_0_5 FX hW dX0_foreign_10 ?_
  refine DgX0_18_2 FX hW dX0_foreign_13 ?_
  refine lv_iload_n hx hb dX0_foreign_16 rfl (lv_at hl 2 rfl) ?_
  refine g_iald FX hW 21 Dp21 hf dX0_foreign_17 (fun v2 hf => ?_)
  refine lv_ixor hx hb dX0_foreign_18 ?_
  refine lv_aload_n hx hb dX0_foreign_19 rfl (lv_at hl 0 rfl) ?_
  refine DgX0_0_5 FX hW dX0_foreign_20 ?_
  refine DgX0_18_2 FX hW dX0_foreign_23 ?_
  refine lv_iload_n hx hb dX0_foreign_26 rfl (lv_at hl 1 rfl) ?_
  refine g_iald FX hW 21 Dp21 hf dX0_foreign_27 (fun v3 hf => ?_)
  refine lv_aload_n hx hb dX0_foreign_28 rfl (lv_at hl 0 rfl) ?_
  refine DgX0_0_5 FX hW dX0_foreign_29 ?_
  refine DgX0_18_2 FX hW dX0_foreign_32 ?_
  refine lv_iload_n hx hb dX0_foreign_35 rfl (lv_at hl 3 rfl) ?_
  refine g_iald FX hW 21 Dp21 hf dX0_foreign_36 (fun v4 hf => ?_)
  refine lv_ixor hx hb dX0_foreign_37 ?_
  refine lv_iand hx hb dX0_foreign_38 ?_
  refine kX0_J15_bitCount FX ⟨Nat.le_of_ble_eq_true rfl, Nat.le_of_ble_eq_true rfl⟩ ⟨Nat.zero_le _, Nat.zero_le _⟩ hl.1 (Nat.le_of_ble_eq_true rfl) hW hf dX0_foreign_39 (fun r5 H locs hW hf => ?_)
  exact g_iret FX hr hlk hW (Option.some.inj hf) dX0_foreign_42

set_option maxHeartbeats 4000000 in
set_option maxRecDepth 100000 in
theorem kD_foreign {t0 : Nat} {ad : Nat → Nat} {B : Bk} {wr : va_W} {α : Type} {q : α} {k : Int32 → Option α} {x1 : Int32} {x2 : Int32} {x3 : Int32} {σ : Dst} (FX : CallFix p m c cc nL s args lw_all RX0) (hR : rD_foreign.frames + 1 ≤ R.frames ∧ 8 + (4 + 11) + rD_foreign.locals ≤ R.locals) (hcs : cells ≤ R.cells ∧ slots ≤ R.slots) (hl : ls.size = nL) (hrm : (rest.map fun v => v.category).sum ≤ 8) (hW : Wd D dA A s (Dx dA t0 ad B wr σ) H locs) (hf : (fD_foreign dA B x1 x2 x3 σ).bind k = some q) (hdg : decode cc pc = .ok (.invokevirtual 278, 3)) (kk : ∀ (r : Int32) (H1 : Heap) (locs1 : List Loc), Wd D dA A s (Dx dA t0 ad B wr σ) H1 locs1 → k r = some q → W p l e R s m args below meth c H1 locs1 cells slots Q (F0 m (pc + 3) ls (.int r :: rest))) : W p l e R s m args below meth c H locs cells slots Q (F0 m pc ls (.int x3 :: .int x2 :: .int x1 :: .ref t0 :: rest)) := by
  obtain ⟨r1, h1, hf⟩ := bnd hf
  have hW2 := hW
  refine w_Vi (C := RX0) (As := [.int x1, .int x2, .int x3]) (rest := rest) (n := 3) (wr := []) FX (mD_foreign h1) (cwV 3 FX.2.2.2.2 (lw_V q1382 q1384 qs43 q123 q1385) rfl rfl rfl (by decide +kernel) hR) (va_recv hW2.2.2.2.1 hW2.1 (ci := 0) (q0 := 0) rfl rfl) rfl hl rfl hrm ⟨Nat.le_trans (Nat.le_of_eq (Nat.add_zero cells)) hcs.1, Nat.le_trans (Nat.le_of_eq (Nat.add_zero slots)) hcs.2⟩ hdg hW2.nil ?_
  exact fun H1 locs1 hW1 => kk r1 H1 locs1 (hW1.nil') hf
/-! TrunkLitters.sires(II)I: kind R -/
def fD_sires_44 (dA : Nat → Nat) (B : Bk) (σ : Dst) (k31 : Int32 → Int32 → Int32 → Int32 → Int32 → Int32 → Option Int32) : Nat → Int32 → Int32 → Int32 → Int32 → Int32 → Int32 → Int32 → Option Int32
  | 0, _, _, _, _, _, _, _ => none
  | n + 1, x1, x2, x3, x4, x5, x6, x7 => (if (8 : Int32) ≤ x7 then k31 x1 x2 x3 x4 x5 (x6 + (1 : Int32)) else (fX3_has x6 (tN σ)).bind fun r1 => (if r1 = 0 then fD_sires_44 dA B σ k31 n x1 x2 x3 x4 x5 x6 (x7 + (1 : Int32)) else (fX3_has x7 (tN σ)).bind fun r2 => (if r2 = 0 then fD_sires_44 dA B σ k31 n x1 x2 x3 x4 x5 x6 (x7 + (1 : Int32)) else (if x6 = x1 then fD_sires_44 dA B σ k31 n x1 x2 x3 x4 x5 x6 (x7 + (1 : Int32)) else (if x7 = x1 then fD_sires_44 dA B σ k31 n x1 x2 x3 x4 x5 x6 (x7 + (1 : Int32)) else (fD_foreign dA B x1 x6 x7 σ).bind fun r3 => (if r3 < x5 then (fD_foreign dA B x1 x6 x7 σ).bind fun r4 => fD_sires_44 dA B σ k31 n x1 x2 x6 x7 r4 x6 (x7 + (1 : Int32)) else fD_sires_44 dA B σ k31 n x1 x2 x3 x4 x5 x6 (x7 + (1 : Int32))))))))
def fD_sires_31 (dA : Nat → Nat) (B : Bk) (σ : Dst) : Nat → Int32 → Int32 → Int32 → Int32 → Int32 → Int32 → Option Int32
  | 0, _, _, _, _, _, _ => none
  | n + 1, x1, x2, x3, x4, x5, x6 => (if (8 : Int32) ≤ x6 then (if 0 ≤ x3 then (if x2 = 0 then some x3 else (if x2 = (1 : Int32) then some x4 else some x5)) else some (-1 : Int32)) else fD_sires_44 dA B σ (fD_sires_31 dA B σ n) FU x1 x2 x3 x4 x5 x6 (x6 + (1 : Int32)))
def fD_sires (dA : Nat → Nat) (B : Bk) (x1 : Int32) (x2 : Int32) (σ : Dst) : Option Int32 := (fD_isTrunk dA B x1 σ).bind fun r1 => (if r1 = 0 then some (-1 : Int32) else (fX0_isIn x2 (0 : Int32) (2 : Int32)).bind fun r2 => (if r2 = 0 then some (-1 : Int32) else fD_sires_31 dA B σ FU x1 x2 (-1 : Int32) (-1 : Int32) (7 : Int32) (0 : Int32)))
abbrev rD_sires : Room := { frames := 2, cells := 0, slots := 0, locals := 43 }
set_option maxHeartbeats 4000000 in
set_option maxRecDepth 100000 in
theorem wD_sires_44 {t0 : Nat} {ad : Nat → Nat} {B : Bk} {wr : va_W} {q : Int32} {σ : Dst} (FX : CallFix p m c cX0_sires 8 s args lw_all RX0) (hr : meth.sig.returnType = (some .int)) (hlk : meth.locks = false) {k31 : Int32 → Int32 → Int32 → Int32 → Int32 → Int32 → Option Int32} (hk31 : ∀ (x1 : Int32) (x2 : Int32) (x3 : Int32) (x4 : Int32) (x5 : Int32) (x6 : Int32) (H : Heap) (locs : List Loc) (ls : Array Slot), lv_has ls 8 [(0, .ref t0), (1, .int x1), (2, .int x2), (3, .int x3), (4, .int x4), (5, .int x5), (6, .int x6)] → Wd D dA A s (Dx dA t0 ad B wr σ) H locs → k31 x1 x2 x3 x4 x5 x6 = some q → W p l e rD_sires s m args below meth c H locs 0 0 (QI D dA A below args s 0 0 q (Dx dA t0 ad B wr σ)) (F0 m 31 ls [])) : ∀ n : Nat, ∀ (x1 : Int32) (x2 : Int32) (x3 : Int32) (x4 : Int32) (x5 : Int32) (x6 : Int32) (x7 : Int32) (H : Heap) (locs : List Loc) (ls : Array Slot), lv_has ls 8 [(0, .ref t0), (1, .int x1), (2, .int x2), (3, .int x3), (4, .int x4), (5, .int x5), (6, .int x6), (7, .int x7)] → Wd D dA A s (Dx dA t0 ad B wr σ) H locs → fD_sires_44 dA B σ k31 n x1 x2 x3 x4 x5 x6 x7 = some q → W p l e rD_sires s m args below meth c H locs 0 0 (QI D dA A below args s 0 0 q (Dx dA t0 ad B wr σ)) (F0 m 44 ls []) := by
  have hx := FX.1; have hb := FX.2.1; have hown := FX.2.2.2.1; have hts := FX.2.2.2.2
  intro n
  induction n with
  | zero =>
    intro x1 x2 x3 x4 x5 x6 x7 H locs ls hl hW hf
    cases (show (none : Option Int32) = some q from hf)
  | succ n ih =>
    intro x1 x2 x3 x4 x5 x6 x7 H locs ls hl hW hf
    rw [fD_sires_44] at hf
    refine lv_iload hx hb dX0_sires_44 (lv_at hl 7 rfl) ?_
    refine lv_bipush (v := 8) hx hb dX0_sires_46 (by decide) ?_
    refine lv_icmp_ge (tgt := 128) hx hb dX0_sires_48 (by decide) (fun c48 => ?_) (fun c48 => ?_)
    · have hf := ifp c48 hf
      refine lv_iinc (v := (x6 + (1 : Int32))) (lv' := [(6, .int (x6 + (1 : Int32))), (0, .ref t0), (1, .int x1), (2, .int x2), (3, .int x3), (4, .int x4), (5, .int x5), (7, .int x7)]) hx hb dX0_sires_128 hl (k := 6) rfl rfl (by decide) rfl (fun ls hl => ?_)
      refine lv_goto (tgt := 31) hx hb dX0_sires_131 (by decide) ?_
      exact hk31 x1 x2 x3 x4 x5 (x6 + (1 : Int32)) _ _ _ (lv_sub hl [1, 2, 3, 4, 5, 6, 0] rfl) hW hf
    · have hf := ifn c48 hf
      refine lv_aload_n hx hb dX0_sires_51 rfl (lv_at hl 0 rfl) ?_
      refine DgX0_0_5 FX hW dX0_sires_52 ?_
      refine lv_iload hx hb dX0_sires_55 (lv_at hl 6 rfl) ?_
      refine kD_now_has FX ⟨Nat.le_of_ble_eq_true rfl, Nat.le_of_ble_eq_true rfl⟩ ⟨Nat.zero_le _, Nat.zero_le _⟩ hl.1 (Nat.le_of_ble_eq_true rfl) hW hf dX0_sires_57 (fun r1 H locs hW hf => ?_)
      refine lv_if_eq (tgt := 122) hx hb dX0_sires_60 (by decide) (fun c60 => ?_) (fun c60 => ?_)
      · have hf := ifp c60 hf
        refine lv_iinc (v := (x7 + (1 : Int32))) (lv' := [(7, .int (x7 + (1 : Int32))), (0, .ref t0), (1, .int x1), (2, .int x2), (3, .int x3), (4, .int x4), (5, .int x5), (6, .int x6)]) hx hb dX0_sires_122 hl (k := 7) rfl rfl (by decide) rfl (fun ls hl => ?_)
        refine lv_goto (tgt := 44) hx hb dX0_sires_125 (by decide) ?_
        exact ih x1 x2 x3 x4 x5 x6 (x7 + (1 : Int32)) _ _ _ (lv_sub hl [1, 2, 3, 4, 5, 6, 7, 0] rfl) hW hf
      · have hf := ifn c60 hf
        refine lv_aload_n hx hb dX0_sires_63 rfl (lv_at hl 0 rfl) ?_
        refine DgX0_0_5 FX hW dX0_sires_64 ?_
        refine lv_iload hx hb dX0_sires_67 (lv_at hl 7 rfl) ?_
        refine kD_now_has FX ⟨Nat.le_of_ble_eq_true rfl, Nat.le_of_ble_eq_true rfl⟩ ⟨Nat.zero_le _, Nat.zero_le _⟩ hl.1 (Nat.le_of_ble_eq_true rfl) hW hf dX0_sires_69 (fun r2 H locs hW hf => ?_)
        refine lv_if_eq (tgt := 122) hx hb dX0_sires_72 (by decide) (fun c72 => ?_) (fun c72 => ?_)
        · have hf := ifp c72 hf
          refine lv_iinc (v := (x7 + (1 : Int32))) (lv' := [(7, .int (x7 + (1 : Int32))), (0, .ref t0), (1, .int x1), (2, .int x2), (3, .int x3), (4, .int x4), (5, .int x5), (6, .int x6)]) hx hb dX0_sires_122 hl (k := 7) rfl rfl (by decide) rfl (fun ls hl => ?_)
          refine lv_goto (tgt := 44) hx hb dX0_sires_125 (by decide) ?_
          exact ih x1 x2 x3 x4 x5 x6 (x7 + (1 : Int32)) _ _ _ (lv_sub hl [1, 2, 3, 4, 5, 6, 7, 0] rfl) hW hf
        · have hf := ifn c72 hf
          refine lv_iload hx hb dX0_sires_75 (lv_at hl 6 rfl) ?_
          refine lv_iload_n hx hb dX0_sires_77 rfl (lv_at hl 1 rfl) ?_
          refine lv_icmp_eq (tgt := 122) hx hb dX0_sires_78 (by decide) (fun c78 => ?_) (fun c78 => ?_)
          · have hf := ifp c78 hf
            refine lv_iinc (v := (x7 + (1 : Int32))) (lv' := [(7, .int (x7 + (1 : Int32))), (0, .ref t0), (1, .int x1), (2, .int x2), (3, .int x3), (4, .int x4), (5, .int x5), (6, .int x6)]) hx hb dX0_sires_122 hl (k := 7) rfl rfl (by decide) rfl (fun ls hl => ?_)
            refine lv_goto (tgt := 44) hx hb dX0_sires_125 (by decide) ?_
            exact ih x1 x2 x3 x4 x5 x6 (x7 + (1 : Int32)) _ _ _ (lv_sub hl [1, 2, 3, 4, 5, 6, 7, 0] rfl) hW hf
          · have hf := ifn c78 hf
            refine lv_iload hx hb dX0_sires_81 (lv_at hl 7 rfl) ?_
            refine lv_iload_n hx hb dX0_sires_83 rfl (lv_at hl 1 rfl) ?_
            refine lv_icmp_eq (tgt := 122) hx hb dX0_sires_84 (by decide) (fun c84 => ?_) (fun c84 => ?_)
            · have hf := ifp c84 hf
              refine lv_iinc (v := (x7 + (1 : Int32))) (lv' := [(7, .int (x7 + (1 : Int32))), (0, .ref t0), (1, .int x1), (2, .int x2), (3, .int x3), (4, .int x4), (5, .int x5), (6, .int x6)]) hx hb dX0_sires_122 hl (k := 7) rfl rfl (by decide) rfl (fun ls hl => ?_)
              refine lv_goto (tgt := 44) hx hb dX0_sires_125 (by decide) ?_
              exact ih x1 x2 x3 x4 x5 x6 (x7 + (1 : Int32)) _ _ _ (lv_sub hl [1, 2, 3, 4, 5, 6, 7, 0] rfl) hW hf
            · have hf := ifn c84 hf
              refine lv_aload_n hx hb dX0_sires_87 rfl (lv_at hl 0 rfl) ?_
              refine lv_iload_n hx hb dX0_sires_88 rfl (lv_at hl 1 rfl) ?_
              refine lv_iload hx hb dX0_sires_89 (lv_at hl 6 rfl) ?_
              refine lv_iload hx hb dX0_sires_91 (lv_at hl 7 rfl) ?_
              refine kD_foreign FX ⟨Nat.le_of_ble_eq_true rfl, Nat.le_of_ble_eq_true rfl⟩ ⟨Nat.zero_le _, Nat.zero_le _⟩ hl.1 (Nat.le_of_ble_eq_true rfl) hW hf dX0_sires_93 (fun r3 H locs hW hf => ?_)
              refine lv_iload hx hb dX0_sires_96 (lv_at hl 5 rfl) ?_
              refine lv_icmp_lt (tgt := 104) hx hb dX0_sires_98 (by decide) (fun c98 => ?_) (fun c98 => ?_)
              · have hf := ifp c98 hf
                refine lv_iload hx hb dX0_sires_104 (lv_at hl 6 rfl) ?_
                refine lv_istore_n (lv' := [(3, .int x6), (0, .ref t0), (1, .int x1), (2, .int x2), (4, .int x4), (5, .int x5), (6, .int x6), (7, .int x7)]) hx hb dX0_sires_106 rfl hl (by decide) rfl (fun ls hl => ?_)
                refine lv_iload hx hb dX0_sires_107 (lv_at hl 7 rfl) ?_
                refine lv_istore (lv' := [(4, .int x7), (3, .int x6), (0, .ref t0), (1, .int x1), (2, .int x2), (5, .int x5), (6, .int x6), (7, .int x7)]) hx hb dX0_sires_109 hl (by decide) rfl (fun ls hl => ?_)
                refine lv_aload_n hx hb dX0_sires_111 rfl (lv_at hl 2 rfl) ?_
                refine lv_iload_n hx hb dX0_sires_112 rfl (lv_at hl 3 rfl) ?_
                refine lv_iload hx hb dX0_sires_113 (lv_at hl 6 rfl) ?_
                refine lv_iload hx hb dX0_sires_115 (lv_at hl 7 rfl) ?_
                refine kD_foreign FX ⟨Nat.le_of_ble_eq_true rfl, Nat.le_of_ble_eq_true rfl⟩ ⟨Nat.zero_le _, Nat.zero_le _⟩ hl.1 (Nat.le_of_ble_eq_true rfl) hW hf dX0_sires_117 (fun r4 H locs hW hf => ?_)
                refine lv_istore (lv' := [(5, .int r4), (4, .int x7), (3, .int x6), (0, .ref t0), (1, .int x1), (2, .int x2), (6, .int x6), (7, .int x7)]) hx hb dX0_sires_120 hl (by decide) rfl (fun ls hl => ?_)
                refine lv_iinc (v := (x7 + (1 : Int32))) (lv' := [(7, .int (x7 + (1 : Int32))), (5, .int r4), (4, .int x7), (3, .int x6), (0, .ref t0), (1, .int x1), (2, .int x2), (6, .int x6)]) hx hb dX0_sires_122 hl (k := 7) rfl rfl (by decide) rfl (fun ls hl => ?_)
                refine lv_goto (tgt := 44) hx hb dX0_sires_125 (by decide) ?_
                exact ih x1 x2 x6 x7 r4 x6 (x7 + (1 : Int32)) _ _ _ (lv_sub hl [4, 5, 6, 3, 2, 1, 7, 0] rfl) hW hf
              · have hf := ifn c98 hf
                refine lv_goto (tgt := 122) hx hb dX0_sires_101 (by decide) ?_
                refine lv_iinc (v := (x7 + (1 : Int32))) (lv' := [(7, .int (x7 + (1 : Int32))), (0, .ref t0), (1, .int x1), (2, .int x2), (3, .int x3), (4, .int x4), (5, .int x5), (6, .int x6)]) hx hb dX0_sires_122 hl (k := 7) rfl rfl (by decide) rfl (fun ls hl => ?_)
                refine lv_goto (tgt := 44) hx hb dX0_sires_125 (by decide) ?_
                exact ih x1 x2 x3 x4 x5 x6 (x7 + (1 : Int32)) _ _ _ (lv_sub hl [1, 2, 3, 4, 5, 6, 7, 0] rfl) hW hf
set_option maxHeartbeats 4000000 in
set_option maxRecDepth 100000 in
theorem wD_sires_31 {t0 : Nat} {ad : Nat → Nat} {B : Bk} {wr : va_W} {q : Int32} {σ : Dst} (FX : CallFix p m c cX0_sires 8 s args lw_all RX0) (hr : meth.sig.returnType = (some .int)) (hlk : meth.locks = false) : ∀ n : Nat, ∀ (x1 : Int32) (x2 : Int32) (x3 : Int32) (x4 : Int32) (x5 : Int32) (x6 : Int32) (H : Heap) (locs : List Loc) (ls : Array Slot), lv_has ls 8 [(0, .ref t0), (1, .int x1), (2, .int x2), (3, .int x3), (4, .int x4), (5, .int x5), (6, .int x6)] → Wd D dA A s (Dx dA t0 ad B wr σ) H locs → fD_sires_31 dA B σ n x1 x2 x3 x4 x5 x6 = some q → W p l e rD_sires s m args below meth c H locs 0 0 (QI D dA A below args s 0 0 q (Dx dA t0 ad B wr σ)) (F0 m 31 ls []) := by
  have hx := FX.1; have hb := FX.2.1; have hown := FX.2.2.2.1; have hts := FX.2.2.2.2
  intro n
  induction n with
  | zero =>
    intro x1 x2 x3 x4 x5 x6 H locs ls hl hW hf
    cases (show (none : Option Int32) = some q from hf)
  | succ n ih =>
    intro x1 x2 x3 x4 x5 x6 H locs ls hl hW hf
    rw [fD_sires_31] at hf
    refine lv_iload hx hb dX0_sires_31 (lv_at hl 6 rfl) ?_
    refine lv_bipush (v := 8) hx hb dX0_sires_33 (by decide) ?_
    refine lv_icmp_ge (tgt := 134) hx hb dX0_sires_35 (by decide) (fun c35 => ?_) (fun c35 => ?_)
    · have hf := ifp c35 hf
      refine lv_iload_n hx hb dX0_sires_134 rfl (lv_at hl 3 rfl) ?_
      refine lv_if_ge (tgt := 142) hx hb dX0_sires_135 (by decide) (fun c135 => ?_) (fun c135 => ?_)
      · have hf := ifp c135 hf
        refine lv_iload_n hx hb dX0_sires_142 rfl (lv_at hl 2 rfl) ?_
        refine lv_if_ne (tgt := 150) hx hb dX0_sires_143 (by decide) (fun c143 => ?_) (fun c143 => ?_)
        · have hf := ifn c143 hf
          refine lv_iload_n hx hb dX0_sires_150 rfl (lv_at hl 2 rfl) ?_
          refine lv_iconst (v := 1) hx hb dX0_sires_151 (by decide) ?_
          refine lv_icmp_ne (tgt := 160) hx hb dX0_sires_152 (by decide) (fun c152 => ?_) (fun c152 => ?_)
          · have hf := ifn c152 hf
            refine lv_iload hx hb dX0_sires_160 (lv_at hl 5 rfl) ?_
            exact g_iret FX hr hlk hW (Option.some.inj hf) dX0_sires_162
          · have hf := ifp c152 hf
            refine lv_iload hx hb dX0_sires_155 (lv_at hl 4 rfl) ?_
            refine lv_goto (tgt := 162) hx hb dX0_sires_157 (by decide) ?_
            exact g_iret FX hr hlk hW (Option.some.inj hf) dX0_sires_162
        · have hf := ifp c143 hf
          refine lv_iload_n hx hb dX0_sires_146 rfl (lv_at hl 3 rfl) ?_
          refine lv_goto (tgt := 162) hx hb dX0_sires_147 (by decide) ?_
          exact g_iret FX hr hlk hW (Option.some.inj hf) dX0_sires_162
      · have hf := ifn c135 hf
        refine lv_iconst (v := -1) hx hb dX0_sires_138 (by decide) ?_
        refine lv_goto (tgt := 162) hx hb dX0_sires_139 (by decide) ?_
        exact g_iret FX hr hlk hW (Option.some.inj hf) dX0_sires_162
    · have hf := ifn c35 hf
      refine lv_iload hx hb dX0_sires_38 (lv_at hl 6 rfl) ?_
      refine lv_iconst (v := 1) hx hb dX0_sires_40 (by decide) ?_
      refine lv_iadd hx hb dX0_sires_41 ?_
      refine lv_istore (lv' := [(7, .int (x6 + (1 : Int32))), (0, .ref t0), (1, .int x1), (2, .int x2), (3, .int x3), (4, .int x4), (5, .int x5), (6, .int x6)]) hx hb dX0_sires_42 hl (by decide) rfl (fun ls hl => ?_)
      exact wD_sires_44 FX hr hlk (ih) _ x1 x2 x3 x4 x5 x6 (x6 + (1 : Int32)) _ _ _ (lv_sub hl [1, 2, 3, 4, 5, 6, 7, 0] rfl) hW hf
set_option maxHeartbeats 4000000 in
set_option maxRecDepth 100000 in
theorem mD_sires {t0 : Nat} {ad : Nat → Nat} {B : Bk} {wr : va_W}  {x1 : Int32} {x2 : Int32} {σ : Dst} {q : Int32} (hf : fD_sires dA B x1 x2 σ = some q) : CtI l yX0_sires cX0_sires 8 (some .int) rD_sires D dA [.ref t0, .int x1, .int x2] (Dx dA t0 ad B wr σ) q (Dx dA t0 ad B wr σ) := by
  refine e_I (by decide) (Nat.le_of_ble_eq_true rfl) ?_
  intro p e s m below meth c ls A FX hr hlk hl hW
  have hx := FX.1; have hb := FX.2.1; have hown := FX.2.2.2.1; have hts := FX.2.2.2.2
  have hl : lv_has ls 8 [(0, .ref t0), (1, .int x1), (2, .int x2)] := hl
  rw [fD_sires] at hf
  refine lv_aload_n hx hb dX0_sires_0 rfl (lv_at hl 0 rfl) ?_
  refine lv_iload_n hx hb dX0_sires_1 rfl (lv_at hl 1 rfl) ?_
  refine kD_isTrunk FX ⟨Nat.le_of_ble_eq_true rfl, Nat.le_of_ble_eq_true rfl⟩ ⟨Nat.zero_le _, Nat.zero_le _⟩ hl.1 (Nat.le_of_ble_eq_true rfl) hW hf dX0_sires_2 (fun r1 H locs hW hf => ?_)
  refine lv_if_eq (tgt := 17) hx hb dX0_sires_5 (by decide) (fun c5 => ?_) (fun c5 => ?_)
  · have hf := ifp c5 hf
    refine lv_iconst (v := -1) hx hb dX0_sires_17 (by decide) ?_
    exact g_iret FX hr hlk hW (Option.some.inj hf) dX0_sires_18
  · have hf := ifn c5 hf
    refine lv_iload_n hx hb dX0_sires_8 rfl (lv_at hl 2 rfl) ?_
    refine lv_iconst (v := 0) hx hb dX0_sires_9 (by decide) ?_
    refine lv_iconst (v := 2) hx hb dX0_sires_10 (by decide) ?_
    refine kX0_X0_isIn FX ⟨Nat.le_of_ble_eq_true rfl, Nat.le_of_ble_eq_true rfl⟩ ⟨Nat.zero_le _, Nat.zero_le _⟩ hl.1 (Nat.le_of_ble_eq_true rfl) hW hf dX0_sires_11 (fun r2 H locs hW hf => ?_)
    refine lv_if_ne (tgt := 19) hx hb dX0_sires_14 (by decide) (fun c14 => ?_) (fun c14 => ?_)
    · have hf := ifn c14 hf
      refine lv_iconst (v := -1) hx hb dX0_sires_19 (by decide) ?_
      refine lv_istore_n (lv' := [(3, .int (-1 : Int32)), (0, .ref t0), (1, .int x1), (2, .int x2)]) hx hb dX0_sires_20 rfl hl (by decide) rfl (fun ls hl => ?_)
      refine lv_iconst (v := -1) hx hb dX0_sires_21 (by decide) ?_
      refine lv_istore (lv' := [(4, .int (-1 : Int32)), (3, .int (-1 : Int32)), (0, .ref t0), (1, .int x1), (2, .int x2)]) hx hb dX0_sires_22 hl (by decide) rfl (fun ls hl => ?_)
      refine lv_bipush (v := 7) hx hb dX0_sires_24 (by decide) ?_
      refine lv_istore (lv' := [(5, .int (7 : Int32)), (4, .int (-1 : Int32)), (3, .int (-1 : Int32)), (0, .ref t0), (1, .int x1), (2, .int x2)]) hx hb dX0_sires_26 hl (by decide) rfl (fun ls hl => ?_)
      refine lv_iconst (v := 0) hx hb dX0_sires_28 (by decide) ?_
      refine lv_istore (lv' := [(6, .int (0 : Int32)), (5, .int (7 : Int32)), (4, .int (-1 : Int32)), (3, .int (-1 : Int32)), (0, .ref t0), (1, .int x1), (2, .int x2)]) hx hb dX0_sires_29 hl (by decide) rfl (fun ls hl => ?_)
      exact wD_sires_31 FX hr hlk _ x1 x2 (-1 : Int32) (-1 : Int32) (7 : Int32) (0 : Int32) _ _ _ (lv_sub hl [4, 5, 6, 3, 2, 1, 0] rfl) hW hf
    · have hf := ifp c14 hf
      refine lv_iconst (v := -1) hx hb dX0_sires_17 (by decide) ?_
      exact g_iret FX hr hlk hW (Option.some.inj hf) dX0_sires_18


/-! TrunkLitters.changes(IIII)I: kind R -/
def fD_changes_104 (dA : Nat → Nat) (B : Bk) (σ : Dst) (k6 : Int32 → Int32 → Int32 → Int32 → Int32 → Int32 → Option Int32) (x1 : Int32) (x2 : Int32) (x3 : Int32) (x4 : Int32) (x6 : Int32) (y0 : Int32) : Option Int32 := k6 x1 x2 x3 x4 (y0 + (0 : Int32)) (x6 + (1 : Int32))
def fD_changes_125 (dA : Nat → Nat) (B : Bk) (σ : Dst) (k6 : Int32 → Int32 → Int32 → Int32 → Int32 → Int32 → Option Int32) (x1 : Int32) (x2 : Int32) (x3 : Int32) (x4 : Int32) (x6 : Int32) (y0 : Int32) : Option Int32 := k6 x1 x2 x3 x4 (y0 + (1 : Int32)) (x6 + (1 : Int32))
def fD_changes_6 (dA : Nat → Nat) (B : Bk) (σ : Dst) : Nat → Int32 → Int32 → Int32 → Int32 → Int32 → Int32 → Option Int32
  | 0, _, _, _, _, _, _ => none
  | n + 1, x1, x2, x3, x4, x5, x6 => (if (6 : Int32) ≤ x6 then some x5 else ald 8 (hA (tN σ) 2) x1 fun v1 => ald 8 (hA (tN σ) 2) x2 fun v2 => ald 8 (hA (tN σ) 2) x3 fun v3 => ald 8 (hA (tN σ) 2) x4 fun v4 => (if (((((v1 >>> (x6 &&& 31)) &&& (1 : Int32)) + ((v2 >>> (x6 &&& 31)) &&& (1 : Int32))) + ((v3 >>> (x6 &&& 31)) &&& (1 : Int32))) + ((v4 >>> (x6 &&& 31)) &&& (1 : Int32))) = 0 then fD_changes_104 dA B σ (fD_changes_6 dA B σ n) x1 x2 x3 x4 x6 x5 else (if (((((v1 >>> (x6 &&& 31)) &&& (1 : Int32)) + ((v2 >>> (x6 &&& 31)) &&& (1 : Int32))) + ((v3 >>> (x6 &&& 31)) &&& (1 : Int32))) + ((v4 >>> (x6 &&& 31)) &&& (1 : Int32))) = (4 : Int32) then fD_changes_104 dA B σ (fD_changes_6 dA B σ n) x1 x2 x3 x4 x6 x5 else (if (((((v1 >>> (x6 &&& 31)) &&& (1 : Int32)) + ((v2 >>> (x6 &&& 31)) &&& (1 : Int32))) + ((v3 >>> (x6 &&& 31)) &&& (1 : Int32))) + ((v4 >>> (x6 &&& 31)) &&& (1 : Int32))) = (2 : Int32) then (if ((v1 >>> (x6 &&& 31)) &&& (1 : Int32)) = ((v2 >>> (x6 &&& 31)) &&& (1 : Int32)) then fD_changes_125 dA B σ (fD_changes_6 dA B σ n) x1 x2 x3 x4 x6 x5 else fD_changes_6 dA B σ n x1 x2 x3 x4 (x5 + (2 : Int32)) (x6 + (1 : Int32))) else fD_changes_125 dA B σ (fD_changes_6 dA B σ n) x1 x2 x3 x4 x6 x5))))
def fD_changes (dA : Nat → Nat) (B : Bk) (x1 : Int32) (x2 : Int32) (x3 : Int32) (x4 : Int32) (σ : Dst) : Option Int32 := fD_changes_6 dA B σ FU x1 x2 x3 x4 (0 : Int32) (0 : Int32)
abbrev rD_changes : Room := { frames := 0, cells := 0, slots := 0, locals := 0 }
set_option maxHeartbeats 4000000 in
set_option maxRecDepth 100000 in
theorem wD_changes_104 {t0 : Nat} {ad : Nat → Nat} {B : Bk} {wr : va_W} {q : Int32} {σ : Dst} (FX : CallFix p m c cX0_changes 12 s args lw_all RX0) (hr : meth.sig.returnType = (some .int)) (hlk : meth.locks = false) {k6 : Int32 → Int32 → Int32 → Int32 → Int32 → Int32 → Option Int32} (hk6 : ∀ (x1 : Int32) (x2 : Int32) (x3 : Int32) (x4 : Int32) (x5 : Int32) (x6 : Int32) (H : Heap) (locs : List Loc) (ls : Array Slot), lv_has ls 12 [(0, .ref t0), (1, .int x1), (2, .int x2), (3, .int x3), (4, .int x4), (5, .int x5), (6, .int x6)] → Wd D dA A s (Dx dA t0 ad B wr σ) H locs → k6 x1 x2 x3 x4 x5 x6 = some q → W p l e rD_changes s m args below meth c H locs 0 0 (QI D dA A below args s 0 0 q (Dx dA t0 ad B wr σ)) (F0 m 6 ls [])) : ∀ (x1 : Int32) (x2 : Int32) (x3 : Int32) (x4 : Int32) (x6 : Int32) (y0 : Int32) (H : Heap) (locs : List Loc) (ls : Array Slot), lv_has ls 12 [(0, .ref t0), (1, .int x1), (2, .int x2), (3, .int x3), (4, .int x4), (6, .int x6)] → Wd D dA A s (Dx dA t0 ad B wr σ) H locs → fD_changes_104 dA B σ k6 x1 x2 x3 x4 x6 y0 = some q → W p l e rD_changes s m args below meth c H locs 0 0 (QI D dA A below args s 0 0 q (Dx dA t0 ad B wr σ)) (F0 m 104 ls [.int y0]) := by
  have hx := FX.1; have hb := FX.2.1; have hown := FX.2.2.2.1; have hts := FX.2.2.2.2
  intro x1 x2 x3 x4 x6 y0 H locs ls hl hW hf
  rw [fD_changes_104] at hf
  refine lv_iconst (v := 0) hx hb dX0_changes_104 (by decide) ?_
  refine lv_goto (tgt := 126) hx hb dX0_changes_105 (by decide) ?_
  refine lv_iadd hx hb dX0_changes_126 ?_
  refine lv_istore (lv' := [(5, .int (y0 + (0 : Int32))), (0, .ref t0), (1, .int x1), (2, .int x2), (3, .int x3), (4, .int x4), (6, .int x6)]) hx hb dX0_changes_127 hl (by decide) rfl (fun ls hl => ?_)
  refine lv_iinc (v := (x6 + (1 : Int32))) (lv' := [(6, .int (x6 + (1 : Int32))), (5, .int (y0 + (0 : Int32))), (0, .ref t0), (1, .int x1), (2, .int x2), (3, .int x3), (4, .int x4)]) hx hb dX0_changes_129 hl (k := 6) rfl rfl (by decide) rfl (fun ls hl => ?_)
  refine lv_goto (tgt := 6) hx hb dX0_changes_132 (by decide) ?_
  exact hk6 x1 x2 x3 x4 (y0 + (0 : Int32)) (x6 + (1 : Int32)) _ _ _ (lv_sub hl [2, 3, 4, 5, 6, 1, 0] rfl) hW hf
set_option maxHeartbeats 4000000 in
set_option maxRecDepth 100000 in
theorem wD_changes_125 {t0 : Nat} {ad : Nat → Nat} {B : Bk} {wr : va_W} {q : Int32} {σ : Dst} (FX : CallFix p m c cX0_changes 12 s args lw_all RX0) (hr : meth.sig.returnType = (some .int)) (hlk : meth.locks = false) {k6 : Int32 → Int32 → Int32 → Int32 → Int32 → Int32 → Option Int32} (hk6 : ∀ (x1 : Int32) (x2 : Int32) (x3 : Int32) (x4 : Int32) (x5 : Int32) (x6 : Int32) (H : Heap) (locs : List Loc) (ls : Array Slot), lv_has ls 12 [(0, .ref t0), (1, .int x1), (2, .int x2), (3, .int x3), (4, .int x4), (5, .int x5), (6, .int x6)] → Wd D dA A s (Dx dA t0 ad B wr σ) H locs → k6 x1 x2 x3 x4 x5 x6 = some q → W p l e rD_changes s m args below meth c H locs 0 0 (QI D dA A below args s 0 0 q (Dx dA t0 ad B wr σ)) (F0 m 6 ls [])) : ∀ (x1 : Int32) (x2 : Int32) (x3 : Int32) (x4 : Int32) (x6 : Int32) (y0 : Int32) (H : Heap) (locs : List Loc) (ls : Array Slot), lv_has ls 12 [(0, .ref t0), (1, .int x1), (2, .int x2), (3, .int x3), (4, .int x4), (6, .int x6)] → Wd D dA A s (Dx dA t0 ad B wr σ) H locs → fD_changes_125 dA B σ k6 x1 x2 x3 x4 x6 y0 = some q → W p l e rD_changes s m args below meth c H locs 0 0 (QI D dA A below args s 0 0 q (Dx dA t0 ad B wr σ)) (F0 m 125 ls [.int y0]) := by
  have hx := FX.1; have hb := FX.2.1; have hown := FX.2.2.2.1; have hts := FX.2.2.2.2
  intro x1 x2 x3 x4 x6 y0 H locs ls hl hW hf
  rw [fD_changes_125] at hf
  refine lv_iconst (v := 1) hx hb dX0_changes_125 (by decide) ?_
  refine lv_iadd hx hb dX0_changes_126 ?_
  refine lv_istore (lv' := [(5, .int (y0 + (1 : Int32))), (0, .ref t0), (1, .int x1), (2, .int x2), (3, .int x3), (4, .int x4), (6, .int x6)]) hx hb dX0_changes_127 hl (by decide) rfl (fun ls hl => ?_)
  refine lv_iinc (v := (x6 + (1 : Int32))) (lv' := [(6, .int (x6 + (1 : Int32))), (5, .int (y0 + (1 : Int32))), (0, .ref t0), (1, .int x1), (2, .int x2), (3, .int x3), (4, .int x4)]) hx hb dX0_changes_129 hl (k := 6) rfl rfl (by decide) rfl (fun ls hl => ?_)
  refine lv_goto (tgt := 6) hx hb dX0_changes_132 (by decide) ?_
  exact hk6 x1 x2 x3 x4 (y0 + (1 : Int32)) (x6 + (1 : Int32)) _ _ _ (lv_sub hl [2, 3, 4, 5, 6, 1, 0] rfl) hW hf
set_option maxHeartbeats 4000000 in
set_option maxRecDepth 100000 in
theorem wD_changes_6 {t0 : Nat} {ad : Nat → Nat} {B : Bk} {wr : va_W} {q : Int32} {σ : Dst} (FX : CallFix p m c cX0_changes 12 s args lw_all RX0) (hr : meth.sig.returnType = (some .int)) (hlk : meth.locks = false) : ∀ n : Nat, ∀ (x1 : Int32) (x2 : Int32) (x3 : Int32) (x4 : Int32) (x5 : Int32) (x6 : Int32) (H : Heap) (locs : List Loc) (ls : Array Slot), lv_has ls 12 [(0, .ref t0), (1, .int x1), (2, .int x2), (3, .int x3), (4, .int x4), (5, .int x5), (6, .int x6)] → Wd D dA A s (Dx dA t0 ad B wr σ) H locs → fD_changes_6 dA B σ n x1 x2 x3 x4 x5 x6 = some q → W p l e rD_changes s m args below meth c H locs 0 0 (QI D dA A below args s 0 0 q (Dx dA t0 ad B wr σ)) (F0 m 6 ls []) := by
  have hx := FX.1; have hb := FX.2.1; have hown := FX.2.2.2.1; have hts := FX.2.2.2.2
  intro n
  induction n with
  | zero =>
    intro x1 x2 x3 x4 x5 x6 H locs ls hl hW hf
    cases (show (none : Option Int32) = some q from hf)
  | succ n ih =>
    intro x1 x2 x3 x4 x5 x6 H locs ls hl hW hf
    rw [fD_changes_6] at hf
    refine lv_iload hx hb dX0_changes_6 (lv_at hl 6 rfl) ?_
    refine lv_bipush (v := 6) hx hb dX0_changes_8 (by decide) ?_
    refine lv_icmp_ge (tgt := 135) hx hb dX0_changes_10 (by decide) (fun c10 => ?_) (fun c10 => ?_)
    · have hf := ifp c10 hf
      refine lv_iload hx hb dX0_changes_135 (lv_at hl 5 rfl) ?_
      exact g_iret FX hr hlk hW (Option.some.inj hf) dX0_changes_137
    · have hf := ifn c10 hf
      refine lv_aload_n hx hb dX0_changes_13 rfl (lv_at hl 0 rfl) ?_
      refine DgX0_0_5 FX hW dX0_changes_14 ?_
      refine DgX0_18_2 FX hW dX0_changes_17 ?_
      refine lv_iload_n hx hb dX0_changes_20 rfl (lv_at hl 1 rfl) ?_
      refine g_iald FX hW 21 Dp21 hf dX0_changes_21 (fun v1 hf => ?_)
      refine lv_iload hx hb dX0_changes_22 (lv_at hl 6 rfl) ?_
      refine lv_ishr hx hb dX0_changes_24 ?_
      refine lv_iconst (v := 1) hx hb dX0_changes_25 (by decide) ?_
      refine lv_iand hx hb dX0_changes_26 ?_
      refine lv_istore (lv' := [(7, .int ((v1 >>> (x6 &&& 31)) &&& (1 : Int32))), (0, .ref t0), (1, .int x1), (2, .int x2), (3, .int x3), (4, .int x4), (5, .int x5), (6, .int x6)]) hx hb dX0_changes_27 hl (by decide) rfl (fun ls hl => ?_)
      refine lv_aload_n hx hb dX0_changes_29 rfl (lv_at hl 1 rfl) ?_
      refine DgX0_0_5 FX hW dX0_changes_30 ?_
      refine DgX0_18_2 FX hW dX0_changes_33 ?_
      refine lv_iload_n hx hb dX0_changes_36 rfl (lv_at hl 3 rfl) ?_
      refine g_iald FX hW 21 Dp21 hf dX0_changes_37 (fun v2 hf => ?_)
      refine lv_iload hx hb dX0_changes_38 (lv_at hl 7 rfl) ?_
      refine lv_ishr hx hb dX0_changes_40 ?_
      refine lv_iconst (v := 1) hx hb dX0_changes_41 (by decide) ?_
      refine lv_iand hx hb dX0_changes_42 ?_
      refine lv_istore (lv' := [(8, .int ((v2 >>> (x6 &&& 31)) &&& (1 : Int32))), (7, .int ((v1 >>> (x6 &&& 31)) &&& (1 : Int32))), (0, .ref t0), (1, .int x1), (2, .int x2), (3, .int x3), (4, .int x4), (5, .int x5), (6, .int x6)]) hx hb dX0_changes_43 hl (by decide) rfl (fun ls hl => ?_)
      refine lv_aload_n hx hb dX0_changes_45 rfl (lv_at hl 2 rfl) ?_
      refine DgX0_0_5 FX hW dX0_changes_46 ?_
      refine DgX0_18_2 FX hW dX0_changes_49 ?_
      refine lv_iload_n hx hb dX0_changes_52 rfl (lv_at hl 5 rfl) ?_
      refine g_iald FX hW 21 Dp21 hf dX0_changes_53 (fun v3 hf => ?_)
      refine lv_iload hx hb dX0_changes_54 (lv_at hl 8 rfl) ?_
      refine lv_ishr hx hb dX0_changes_56 ?_
      refine lv_iconst (v := 1) hx hb dX0_changes_57 (by decide) ?_
      refine lv_iand hx hb dX0_changes_58 ?_
      refine lv_istore (lv' := [(9, .int ((v3 >>> (x6 &&& 31)) &&& (1 : Int32))), (8, .int ((v2 >>> (x6 &&& 31)) &&& (1 : Int32))), (7, .int ((v1 >>> (x6 &&& 31)) &&& (1 : Int32))), (0, .ref t0), (1, .int x1), (2, .int x2), (3, .int x3), (4, .int x4), (5, .int x5), (6, .int x6)]) hx hb dX0_changes_59 hl (by decide) rfl (fun ls hl => ?_)
      refine lv_aload_n hx hb dX0_changes_61 rfl (lv_at hl 3 rfl) ?_
      refine DgX0_0_5 FX hW dX0_changes_62 ?_
      refine DgX0_18_2 FX hW dX0_changes_65 ?_
      refine lv_iload hx hb dX0_changes_68 (lv_at hl 7 rfl) ?_
      refine g_iald FX hW 21 Dp21 hf dX0_changes_70 (fun v4 hf => ?_)
      refine lv_iload hx hb dX0_changes_71 (lv_at hl 9 rfl) ?_
      refine lv_ishr hx hb dX0_changes_73 ?_
      refine lv_iconst (v := 1) hx hb dX0_changes_74 (by decide) ?_
      refine lv_iand hx hb dX0_changes_75 ?_
      refine lv_istore (lv' := [(10, .int ((v4 >>> (x6 &&& 31)) &&& (1 : Int32))), (9, .int ((v3 >>> (x6 &&& 31)) &&& (1 : Int32))), (8, .int ((v2 >>> (x6 &&& 31)) &&& (1 : Int32))), (7, .int ((v1 >>> (x6 &&& 31)) &&& (1 : Int32))), (0, .ref t0), (1, .int x1), (2, .int x2), (3, .int x3), (4, .int x4), (5, .int x5), (6, .int x6)]) hx hb dX0_changes_76 hl (by decide) rfl (fun ls hl => ?_)
      refine lv_iload hx hb dX0_changes_78 (lv_at hl 3 rfl) ?_
      refine lv_iload hx hb dX0_changes_80 (lv_at hl 2 rfl) ?_
      refine lv_iadd hx hb dX0_changes_82 ?_
      refine lv_iload hx hb dX0_changes_83 (lv_at hl 1 rfl) ?_
      refine lv_iadd hx hb dX0_changes_85 ?_
      refine lv_iload hx hb dX0_changes_86 (lv_at hl 0 rfl) ?_
      refine lv_iadd hx hb dX0_changes_88 ?_
      refine lv_istore (lv' := [(11, .int (((((v1 >>> (x6 &&& 31)) &&& (1 : Int32)) + ((v2 >>> (x6 &&& 31)) &&& (1 : Int32))) + ((v3 >>> (x6 &&& 31)) &&& (1 : Int32))) + ((v4 >>> (x6 &&& 31)) &&& (1 : Int32)))), (10, .int ((v4 >>> (x6 &&& 31)) &&& (1 : Int32))), (9, .int ((v3 >>> (x6 &&& 31)) &&& (1 : Int32))), (8, .int ((v2 >>> (x6 &&& 31)) &&& (1 : Int32))), (7, .int ((v1 >>> (x6 &&& 31)) &&& (1 : Int32))), (0, .ref t0), (1, .int x1), (2, .int x2), (3, .int x3), (4, .int x4), (5, .int x5), (6, .int x6)]) hx hb dX0_changes_89 hl (by decide) rfl (fun ls hl => ?_)
      refine lv_iload hx hb dX0_changes_91 (lv_at hl 10 rfl) ?_
      refine lv_iload hx hb dX0_changes_93 (lv_at hl 0 rfl) ?_
      refine lv_if_eq (tgt := 104) hx hb dX0_changes_95 (by decide) (fun c95 => ?_) (fun c95 => ?_)
      · have hf := ifp c95 hf
        exact wD_changes_104 FX hr hlk (ih) x1 x2 x3 x4 x6 x5 _ _ _ (lv_sub hl [5, 6, 7, 8, 9, 11] rfl) hW hf
      · have hf := ifn c95 hf
        refine lv_iload hx hb dX0_changes_98 (lv_at hl 0 rfl) ?_
        refine lv_iconst (v := 4) hx hb dX0_changes_100 (by decide) ?_
        refine lv_icmp_ne (tgt := 108) hx hb dX0_changes_101 (by decide) (fun c101 => ?_) (fun c101 => ?_)
        · have hf := ifn c101 hf
          refine lv_iload hx hb dX0_changes_108 (lv_at hl 0 rfl) ?_
          refine lv_iconst (v := 2) hx hb dX0_changes_110 (by decide) ?_
          refine lv_icmp_ne (tgt := 125) hx hb dX0_changes_111 (by decide) (fun c111 => ?_) (fun c111 => ?_)
          · have hf := ifn c111 hf
            exact wD_changes_125 FX hr hlk (ih) x1 x2 x3 x4 x6 x5 _ _ _ (lv_sub hl [5, 6, 7, 8, 9, 11] rfl) hW hf
          · have hf := ifp c111 hf
            refine lv_iload hx hb dX0_changes_114 (lv_at hl 4 rfl) ?_
            refine lv_iload hx hb dX0_changes_116 (lv_at hl 3 rfl) ?_
            refine lv_icmp_eq (tgt := 125) hx hb dX0_changes_118 (by decide) (fun c118 => ?_) (fun c118 => ?_)
            · have hf := ifp c118 hf
              exact wD_changes_125 FX hr hlk (ih) x1 x2 x3 x4 x6 x5 _ _ _ (lv_sub hl [5, 6, 7, 8, 9, 11] rfl) hW hf
            · have hf := ifn c118 hf
              refine lv_iconst (v := 2) hx hb dX0_changes_121 (by decide) ?_
              refine lv_goto (tgt := 126) hx hb dX0_changes_122 (by decide) ?_
              refine lv_iadd hx hb dX0_changes_126 ?_
              refine lv_istore (lv' := [(5, .int (x5 + (2 : Int32))), (11, .int (((((v1 >>> (x6 &&& 31)) &&& (1 : Int32)) + ((v2 >>> (x6 &&& 31)) &&& (1 : Int32))) + ((v3 >>> (x6 &&& 31)) &&& (1 : Int32))) + ((v4 >>> (x6 &&& 31)) &&& (1 : Int32)))), (10, .int ((v4 >>> (x6 &&& 31)) &&& (1 : Int32))), (9, .int ((v3 >>> (x6 &&& 31)) &&& (1 : Int32))), (8, .int ((v2 >>> (x6 &&& 31)) &&& (1 : Int32))), (7, .int ((v1 >>> (x6 &&& 31)) &&& (1 : Int32))), (0, .ref t0), (1, .int x1), (2, .int x2), (3, .int x3), (4, .int x4), (6, .int x6)]) hx hb dX0_changes_127 hl (by decide) rfl (fun ls hl => ?_)
              refine lv_iinc (v := (x6 + (1 : Int32))) (lv' := [(6, .int (x6 + (1 : Int32))), (5, .int (x5 + (2 : Int32))), (11, .int (((((v1 >>> (x6 &&& 31)) &&& (1 : Int32)) + ((v2 >>> (x6 &&& 31)) &&& (1 : Int32))) + ((v3 >>> (x6 &&& 31)) &&& (1 : Int32))) + ((v4 >>> (x6 &&& 31)) &&& (1 : Int32)))), (10, .int ((v4 >>> (x6 &&& 31)) &&& (1 : Int32))), (9, .int ((v3 >>> (x6 &&& 31)) &&& (1 : Int32))), (8, .int ((v2 >>> (x6 &&& 31)) &&& (1 : Int32))), (7, .int ((v1 >>> (x6 &&& 31)) &&& (1 : Int32))), (0, .ref t0), (1, .int x1), (2, .int x2), (3, .int x3), (4, .int x4)]) hx hb dX0_changes_129 hl (k := 11) rfl rfl (by decide) rfl (fun ls hl => ?_)
              refine lv_goto (tgt := 6) hx hb dX0_changes_132 (by decide) ?_
              exact ih x1 x2 x3 x4 (x5 + (2 : Int32)) (x6 + (1 : Int32)) _ _ _ (lv_sub hl [7, 8, 9, 10, 11, 1, 0] rfl) hW hf
        · have hf := ifp c101 hf
          exact wD_changes_104 FX hr hlk (ih) x1 x2 x3 x4 x6 x5 _ _ _ (lv_sub hl [5, 6, 7, 8, 9, 11] rfl) hW hf
set_option maxHeartbeats 4000000 in
set_option maxRecDepth 100000 in
theorem mD_changes {t0 : Nat} {ad : Nat → Nat} {B : Bk} {wr : va_W}  {x1 : Int32} {x2 : Int32} {x3 : Int32} {x4 : Int32} {σ : Dst} {q : Int32} (hf : fD_changes dA B x1 x2 x3 x4 σ = some q) : CtI l yX0_changes cX0_changes 12 (some .int) rD_changes D dA [.ref t0, .int x1, .int x2, .int x3, .int x4] (Dx dA t0 ad B wr σ) q (Dx dA t0 ad B wr σ) := by
  refine e_I (by decide) (Nat.le_of_ble_eq_true rfl) ?_
  intro p e s m below meth c ls A FX hr hlk hl hW
  have hx := FX.1; have hb := FX.2.1; have hown := FX.2.2.2.1; have hts := FX.2.2.2.2
  have hl : lv_has ls 12 [(0, .ref t0), (1, .int x1), (2, .int x2), (3, .int x3), (4, .int x4)] := hl
  rw [fD_changes] at hf
  refine lv_iconst (v := 0) hx hb dX0_changes_0 (by decide) ?_
  refine lv_istore (lv' := [(5, .int (0 : Int32)), (0, .ref t0), (1, .int x1), (2, .int x2), (3, .int x3), (4, .int x4)]) hx hb dX0_changes_1 hl (by decide) rfl (fun ls hl => ?_)
  refine lv_iconst (v := 0) hx hb dX0_changes_3 (by decide) ?_
  refine lv_istore (lv' := [(6, .int (0 : Int32)), (5, .int (0 : Int32)), (0, .ref t0), (1, .int x1), (2, .int x2), (3, .int x3), (4, .int x4)]) hx hb dX0_changes_4 hl (by decide) rfl (fun ls hl => ?_)
  exact wD_changes_6 FX hr hlk _ x1 x2 x3 x4 (0 : Int32) (0 : Int32) _ _ _ (lv_sub hl [2, 3, 4, 5, 6, 1, 0] rfl) hW hf

set_option maxHeartbeats 4000000 in
set_option maxRecDepth 100000 in
theorem kD_changes {t0 : Nat} {ad : Nat → Nat} {B : Bk} {wr : va_W} {α : Type} {q : α} {k : Int32 → Option α} {x1 : Int32} {x2 : Int32} {x3 : Int32} {x4 : Int32} {σ : Dst} (FX : CallFix p m c cc nL s args lw_all RX0) (hR : rD_changes.frames + 1 ≤ R.frames ∧ 8 + (12 + 11) + rD_changes.locals ≤ R.locals) (hcs : cells ≤ R.cells ∧ slots ≤ R.slots) (hl : ls.size = nL) (hrm : (rest.map fun v => v.category).sum ≤ 8) (hW : Wd D dA A s (Dx dA t0 ad B wr σ) H locs) (hf : (fD_changes dA B x1 x2 x3 x4 σ).bind k = some q) (hdg : decode cc pc = .ok (.invokevirtual 282, 3)) (kk : ∀ (r : Int32) (H1 : Heap) (locs1 : List Loc), Wd D dA A s (Dx dA t0 ad B wr σ) H1 locs1 → k r = some q → W p l e R s m args below meth c H1 locs1 cells slots Q (F0 m (pc + 3) ls (.int r :: rest))) : W p l e R s m args below meth c H locs cells slots Q (F0 m pc ls (.int x4 :: .int x3 :: .int x2 :: .int x1 :: .ref t0 :: rest)) := by
  obtain ⟨r1, h1, hf⟩ := bnd hf
  have hW2 := hW
  refine w_Vi (C := RX0) (As := [.int x1, .int x2, .int x3, .int x4]) (rest := rest) (n := 4) (wr := []) FX (mD_changes h1) (cwV 4 FX.2.2.2.2 (lw_V q1390 q1392 qs44 q123 q1393) rfl rfl rfl (by decide +kernel) hR) (va_recv hW2.2.2.2.1 hW2.1 (ci := 0) (q0 := 0) rfl rfl) rfl hl rfl hrm ⟨Nat.le_trans (Nat.le_of_eq (Nat.add_zero cells)) hcs.1, Nat.le_trans (Nat.le_of_eq (Nat.add_zero slots)) hcs.2⟩ hdg hW2.nil ?_
  exact fun H1 locs1 hW1 => kk r1 H1 locs1 (hW1.nil') hf
/-! TrunkLitters.quartet(IIIII)I: kind R -/
def fD_quartet (dA : Nat → Nat) (B : Bk) (x1 : Int32) (x2 : Int32) (x3 : Int32) (x4 : Int32) (x5 : Int32) (σ : Dst) : Option Int32 := (fD_isTrunk dA B x1 σ).bind fun r1 => (if r1 = 0 then some (-1 : Int32) else (fD_isTrunk dA B x2 σ).bind fun r2 => (if r2 = 0 then some (-1 : Int32) else (fD_isTrunk dA B x3 σ).bind fun r3 => (if r3 = 0 then some (-1 : Int32) else (fD_isTrunk dA B x4 σ).bind fun r4 => (if r4 = 0 then some (-1 : Int32) else (fJ15_bitCount (((((1 : Int32) <<< (x1 &&& 31)) ||| ((1 : Int32) <<< (x2 &&& 31))) ||| ((1 : Int32) <<< (x3 &&& 31))) ||| ((1 : Int32) <<< (x4 &&& 31)))).bind fun r5 => (if r5 < (4 : Int32) then some (-1 : Int32) else (fX0_isIn x5 (0 : Int32) (1 : Int32)).bind fun r6 => (if r6 = 0 then some (-1 : Int32) else (fD_changes dA B x1 x2 x3 x4 σ).bind fun r7 => (fD_changes dA B x1 x3 x2 x4 σ).bind fun r8 => (fD_changes dA B x1 x4 x2 x3 σ).bind fun r9 => (if x5 = (1 : Int32) then some (if (if r9 < r8 then r9 else r8) < r7 then (if r9 < r8 then r9 else r8) else r7) else (if r7 = (if (if r9 < r8 then r9 else r8) < r7 then (if r9 < r8 then r9 else r8) else r7) then some (0 : Int32) else (if r8 = (if (if r9 < r8 then r9 else r8) < r7 then (if r9 < r8 then r9 else r8) else r7) then some (1 : Int32) else some (2 : Int32))))))))))
abbrev rD_quartet : Room := { frames := 2, cells := 0, slots := 0, locals := 43 }
set_option maxHeartbeats 4000000 in
set_option maxRecDepth 100000 in
theorem mD_quartet {t0 : Nat} {ad : Nat → Nat} {B : Bk} {wr : va_W}  {x1 : Int32} {x2 : Int32} {x3 : Int32} {x4 : Int32} {x5 : Int32} {σ : Dst} {q : Int32} (hf : fD_quartet dA B x1 x2 x3 x4 x5 σ = some q) : CtI l yX0_quartet cX0_quartet 10 (some .int) rD_quartet D dA [.ref t0, .int x1, .int x2, .int x3, .int x4, .int x5] (Dx dA t0 ad B wr σ) q (Dx dA t0 ad B wr σ) := by
  refine e_I (by decide) (Nat.le_of_ble_eq_true rfl) ?_
  intro p e s m below meth c ls A FX hr hlk hl hW
  have hx := FX.1; have hb := FX.2.1; have hown := FX.2.2.2.1; have hts := FX.2.2.2.2
  have hl : lv_has ls 10 [(0, .ref t0), (1, .int x1), (2, .int x2), (3, .int x3), (4, .int x4), (5, .int x5)] := hl
  rw [fD_quartet] at hf
  refine lv_aload_n hx hb dX0_quartet_0 rfl (lv_at hl 0 rfl) ?_
  refine lv_iload_n hx hb dX0_quartet_1 rfl (lv_at hl 1 rfl) ?_
  refine kD_isTrunk FX ⟨Nat.le_of_ble_eq_true rfl, Nat.le_of_ble_eq_true rfl⟩ ⟨Nat.zero_le _, Nat.zero_le _⟩ hl.1 (Nat.le_of_ble_eq_true rfl) hW hf dX0_quartet_2 (fun r1 H locs hW hf => ?_)
  refine lv_if_eq (tgt := 66) hx hb dX0_quartet_5 (by decide) (fun c5 => ?_) (fun c5 => ?_)
  · have hf := ifp c5 hf
    refine lv_iconst (v := -1) hx hb dX0_quartet_66 (by decide) ?_
    exact g_iret FX hr hlk hW (Option.some.inj hf) dX0_quartet_67
  · have hf := ifn c5 hf
    refine lv_aload_n hx hb dX0_quartet_8 rfl (lv_at hl 0 rfl) ?_
    refine lv_iload_n hx hb dX0_quartet_9 rfl (lv_at hl 2 rfl) ?_
    refine kD_isTrunk FX ⟨Nat.le_of_ble_eq_true rfl, Nat.le_of_ble_eq_true rfl⟩ ⟨Nat.zero_le _, Nat.zero_le _⟩ hl.1 (Nat.le_of_ble_eq_true rfl) hW hf dX0_quartet_10 (fun r2 H locs hW hf => ?_)
    refine lv_if_eq (tgt := 66) hx hb dX0_quartet_13 (by decide) (fun c13 => ?_) (fun c13 => ?_)
    · have hf := ifp c13 hf
      refine lv_iconst (v := -1) hx hb dX0_quartet_66 (by decide) ?_
      exact g_iret FX hr hlk hW (Option.some.inj hf) dX0_quartet_67
    · have hf := ifn c13 hf
      refine lv_aload_n hx hb dX0_quartet_16 rfl (lv_at hl 0 rfl) ?_
      refine lv_iload_n hx hb dX0_quartet_17 rfl (lv_at hl 3 rfl) ?_
      refine kD_isTrunk FX ⟨Nat.le_of_ble_eq_true rfl, Nat.le_of_ble_eq_true rfl⟩ ⟨Nat.zero_le _, Nat.zero_le _⟩ hl.1 (Nat.le_of_ble_eq_true rfl) hW hf dX0_quartet_18 (fun r3 H locs hW hf => ?_)
      refine lv_if_eq (tgt := 66) hx hb dX0_quartet_21 (by decide) (fun c21 => ?_) (fun c21 => ?_)
      · have hf := ifp c21 hf
        refine lv_iconst (v := -1) hx hb dX0_quartet_66 (by decide) ?_
        exact g_iret FX hr hlk hW (Option.some.inj hf) dX0_quartet_67
      · have hf := ifn c21 hf
        refine lv_aload_n hx hb dX0_quartet_24 rfl (lv_at hl 0 rfl) ?_
        refine lv_iload hx hb dX0_quartet_25 (lv_at hl 4 rfl) ?_
        refine kD_isTrunk FX ⟨Nat.le_of_ble_eq_true rfl, Nat.le_of_ble_eq_true rfl⟩ ⟨Nat.zero_le _, Nat.zero_le _⟩ hl.1 (Nat.le_of_ble_eq_true rfl) hW hf dX0_quartet_27 (fun r4 H locs hW hf => ?_)
        refine lv_if_eq (tgt := 66) hx hb dX0_quartet_30 (by decide) (fun c30 => ?_) (fun c30 => ?_)
        · have hf := ifp c30 hf
          refine lv_iconst (v := -1) hx hb dX0_quartet_66 (by decide) ?_
          exact g_iret FX hr hlk hW (Option.some.inj hf) dX0_quartet_67
        · have hf := ifn c30 hf
          refine lv_iconst (v := 1) hx hb dX0_quartet_33 (by decide) ?_
          refine lv_iload_n hx hb dX0_quartet_34 rfl (lv_at hl 1 rfl) ?_
          refine lv_ishl hx hb dX0_quartet_35 ?_
          refine lv_iconst (v := 1) hx hb dX0_quartet_36 (by decide) ?_
          refine lv_iload_n hx hb dX0_quartet_37 rfl (lv_at hl 2 rfl) ?_
          refine lv_ishl hx hb dX0_quartet_38 ?_
          refine lv_ior hx hb dX0_quartet_39 ?_
          refine lv_iconst (v := 1) hx hb dX0_quartet_40 (by decide) ?_
          refine lv_iload_n hx hb dX0_quartet_41 rfl (lv_at hl 3 rfl) ?_
          refine lv_ishl hx hb dX0_quartet_42 ?_
          refine lv_ior hx hb dX0_quartet_43 ?_
          refine lv_iconst (v := 1) hx hb dX0_quartet_44 (by decide) ?_
          refine lv_iload hx hb dX0_quartet_45 (lv_at hl 4 rfl) ?_
          refine lv_ishl hx hb dX0_quartet_47 ?_
          refine lv_ior hx hb dX0_quartet_48 ?_
          refine kX0_J15_bitCount FX ⟨Nat.le_of_ble_eq_true rfl, Nat.le_of_ble_eq_true rfl⟩ ⟨Nat.zero_le _, Nat.zero_le _⟩ hl.1 (Nat.le_of_ble_eq_true rfl) hW hf dX0_quartet_49 (fun r5 H locs hW hf => ?_)
          refine lv_iconst (v := 4) hx hb dX0_quartet_52 (by decide) ?_
          refine lv_icmp_lt (tgt := 66) hx hb dX0_quartet_53 (by decide) (fun c53 => ?_) (fun c53 => ?_)
          · have hf := ifp c53 hf
            refine lv_iconst (v := -1) hx hb dX0_quartet_66 (by decide) ?_
            exact g_iret FX hr hlk hW (Option.some.inj hf) dX0_quartet_67
          · have hf := ifn c53 hf
            refine lv_iload hx hb dX0_quartet_56 (lv_at hl 5 rfl) ?_
            refine lv_iconst (v := 0) hx hb dX0_quartet_58 (by decide) ?_
            refine lv_iconst (v := 1) hx hb dX0_quartet_59 (by decide) ?_
            refine kX0_X0_isIn FX ⟨Nat.le_of_ble_eq_true rfl, Nat.le_of_ble_eq_true rfl⟩ ⟨Nat.zero_le _, Nat.zero_le _⟩ hl.1 (Nat.le_of_ble_eq_true rfl) hW hf dX0_quartet_60 (fun r6 H locs hW hf => ?_)
            refine lv_if_ne (tgt := 68) hx hb dX0_quartet_63 (by decide) (fun c63 => ?_) (fun c63 => ?_)
            · have hf := ifn c63 hf
              refine lv_aload_n hx hb dX0_quartet_68 rfl (lv_at hl 0 rfl) ?_
              refine lv_iload_n hx hb dX0_quartet_69 rfl (lv_at hl 1 rfl) ?_
              refine lv_iload_n hx hb dX0_quartet_70 rfl (lv_at hl 2 rfl) ?_
              refine lv_iload_n hx hb dX0_quartet_71 rfl (lv_at hl 3 rfl) ?_
              refine lv_iload hx hb dX0_quartet_72 (lv_at hl 4 rfl) ?_
              refine kD_changes FX ⟨Nat.le_of_ble_eq_true rfl, Nat.le_of_ble_eq_true rfl⟩ ⟨Nat.zero_le _, Nat.zero_le _⟩ hl.1 (Nat.le_of_ble_eq_true rfl) hW hf dX0_quartet_74 (fun r7 H locs hW hf => ?_)
              refine lv_istore (lv' := [(6, .int r7), (0, .ref t0), (1, .int x1), (2, .int x2), (3, .int x3), (4, .int x4), (5, .int x5)]) hx hb dX0_quartet_77 hl (by decide) rfl (fun ls hl => ?_)
              refine lv_aload_n hx hb dX0_quartet_79 rfl (lv_at hl 1 rfl) ?_
              refine lv_iload_n hx hb dX0_quartet_80 rfl (lv_at hl 2 rfl) ?_
              refine lv_iload_n hx hb dX0_quartet_81 rfl (lv_at hl 4 rfl) ?_
              refine lv_iload_n hx hb dX0_quartet_82 rfl (lv_at hl 3 rfl) ?_
              refine lv_iload hx hb dX0_quartet_83 (lv_at hl 5 rfl) ?_
              refine kD_changes FX ⟨Nat.le_of_ble_eq_true rfl, Nat.le_of_ble_eq_true rfl⟩ ⟨Nat.zero_le _, Nat.zero_le _⟩ hl.1 (Nat.le_of_ble_eq_true rfl) hW hf dX0_quartet_85 (fun r8 H locs hW hf => ?_)
              refine lv_istore (lv' := [(7, .int r8), (6, .int r7), (0, .ref t0), (1, .int x1), (2, .int x2), (3, .int x3), (4, .int x4), (5, .int x5)]) hx hb dX0_quartet_88 hl (by decide) rfl (fun ls hl => ?_)
              refine lv_aload_n hx hb dX0_quartet_90 rfl (lv_at hl 2 rfl) ?_
              refine lv_iload_n hx hb dX0_quartet_91 rfl (lv_at hl 3 rfl) ?_
              refine lv_iload hx hb dX0_quartet_92 (lv_at hl 6 rfl) ?_
              refine lv_iload_n hx hb dX0_quartet_94 rfl (lv_at hl 4 rfl) ?_
              refine lv_iload_n hx hb dX0_quartet_95 rfl (lv_at hl 5 rfl) ?_
              refine kD_changes FX ⟨Nat.le_of_ble_eq_true rfl, Nat.le_of_ble_eq_true rfl⟩ ⟨Nat.zero_le _, Nat.zero_le _⟩ hl.1 (Nat.le_of_ble_eq_true rfl) hW hf dX0_quartet_96 (fun r9 H locs hW hf => ?_)
              refine lv_istore (lv' := [(8, .int r9), (7, .int r8), (6, .int r7), (0, .ref t0), (1, .int x1), (2, .int x2), (3, .int x3), (4, .int x4), (5, .int x5)]) hx hb dX0_quartet_99 hl (by decide) rfl (fun ls hl => ?_)
              refine lv_iload hx hb dX0_quartet_101 (lv_at hl 2 rfl) ?_
              refine lv_iload hx hb dX0_quartet_103 (lv_at hl 1 rfl) ?_
              refine lv_iload hx hb dX0_quartet_105 (lv_at hl 0 rfl) ?_
              refine va_mmin hx hb (FX.2.2.1.trans hl.1.symm) hown (hts _ q1394) (hts _ q590) (hts _ q139) (hts _ q591) (Nat.le_of_ble_eq_true rfl) (Nat.le_of_ble_eq_true rfl) (Nat.zero_le _) (Nat.zero_le _) dX0_quartet_107 ?_
              refine va_mmin hx hb (FX.2.2.1.trans hl.1.symm) hown (hts _ q1394) (hts _ q590) (hts _ q139) (hts _ q591) (Nat.le_of_ble_eq_true rfl) (Nat.le_of_ble_eq_true rfl) (Nat.zero_le _) (Nat.zero_le _) dX0_quartet_110 ?_
              refine lv_istore (lv' := [(9, .int (if (if r9 < r8 then r9 else r8) < r7 then (if r9 < r8 then r9 else r8) else r7)), (8, .int r9), (7, .int r8), (6, .int r7), (0, .ref t0), (1, .int x1), (2, .int x2), (3, .int x3), (4, .int x4), (5, .int x5)]) hx hb dX0_quartet_113 hl (by decide) rfl (fun ls hl => ?_)
              refine lv_iload hx hb dX0_quartet_115 (lv_at hl 9 rfl) ?_
              refine lv_iconst (v := 1) hx hb dX0_quartet_117 (by decide) ?_
              refine lv_icmp_ne (tgt := 126) hx hb dX0_quartet_118 (by decide) (fun c118 => ?_) (fun c118 => ?_)
              · have hf := ifn c118 hf
                refine lv_iload hx hb dX0_quartet_126 (lv_at hl 3 rfl) ?_
                refine lv_iload hx hb dX0_quartet_128 (lv_at hl 0 rfl) ?_
                refine lv_icmp_ne (tgt := 137) hx hb dX0_quartet_130 (by decide) (fun c130 => ?_) (fun c130 => ?_)
                · have hf := ifn c130 hf
                  refine lv_iload hx hb dX0_quartet_137 (lv_at hl 2 rfl) ?_
                  refine lv_iload hx hb dX0_quartet_139 (lv_at hl 0 rfl) ?_
                  refine lv_icmp_ne (tgt := 148) hx hb dX0_quartet_141 (by decide) (fun c141 => ?_) (fun c141 => ?_)
                  · have hf := ifn c141 hf
                    refine lv_iconst (v := 2) hx hb dX0_quartet_148 (by decide) ?_
                    exact g_iret FX hr hlk hW (Option.some.inj hf) dX0_quartet_149
                  · have hf := ifp c141 hf
                    refine lv_iconst (v := 1) hx hb dX0_quartet_144 (by decide) ?_
                    refine lv_goto (tgt := 149) hx hb dX0_quartet_145 (by decide) ?_
                    exact g_iret FX hr hlk hW (Option.some.inj hf) dX0_quartet_149
                · have hf := ifp c130 hf
                  refine lv_iconst (v := 0) hx hb dX0_quartet_133 (by decide) ?_
                  refine lv_goto (tgt := 149) hx hb dX0_quartet_134 (by decide) ?_
                  exact g_iret FX hr hlk hW (Option.some.inj hf) dX0_quartet_149
              · have hf := ifp c118 hf
                refine lv_iload hx hb dX0_quartet_121 (lv_at hl 0 rfl) ?_
                refine lv_goto (tgt := 149) hx hb dX0_quartet_123 (by decide) ?_
                exact g_iret FX hr hlk hW (Option.some.inj hf) dX0_quartet_149
            · have hf := ifp c63 hf
              refine lv_iconst (v := -1) hx hb dX0_quartet_66 (by decide) ?_
              exact g_iret FX hr hlk hW (Option.some.inj hf) dX0_quartet_67
end D01
