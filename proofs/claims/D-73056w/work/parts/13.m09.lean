section M09
variable {p : Program} {l : Launch} {e : Env} {R : Room} {s : State} {m : MethodId} {args : Array Value} {below : List Frame} {meth : Method} {c : Code} {H : Heap} {locs : List Loc} {cells slots : Nat} {Q : State → Prop}
variable {cc : ByteArray} {pc nL : Nat} {ls : Array Slot} {rest : List Value} {D : va_G} {dA : Nat → ClassId} {A : Nat → Prop} {h0 : Nat} {ad : Nat → Nat}
/-! TrunkLittersModel.fading(I)I: kind W -/
def fX4_fading (x1 : Int32) (σ : Mst) : Option (Int32 × Mst) := (fX4_isIn x1 (0 : Int32) (30 : Int32)).bind fun r1 => (if r1 = 0 then some ((-1 : Int32), σ) else (fX4_keepNow σ).bind fun s2 => (fX4_marksAll s2).bind fun r3 => bnd2 (fX4_goYears x1 s2) fun r4 s5 => (fX4_marksAll s5).bind fun r6 => (fX4_bringBack s5).bind fun s7 => some ((r3 &&& (r6 ^^^ (-1 : Int32))), s7))
abbrev rX4_fading : Room := { frames := 9, cells := 0, slots := 0, locals := 199 }
set_option maxHeartbeats 4000000 in
set_option maxRecDepth 100000 in
theorem mX4_fading  {x1 : Int32} {σ : Mst} {q : (Int32 × Mst)} (hf : fX4_fading x1 σ = some q) : CtI l yX4_fading cX4_fading 5 (some .int) rX4_fading D dA [.ref h0, .int x1] (Mc dA h0 ad σ) q.1 (Mc dA h0 ad q.2) := by
  refine e_I (by decide) (Nat.le_of_ble_eq_true rfl) ?_
  intro p e s m below meth c ls A FX hr hlk hl hW
  have hx := FX.1; have hb := FX.2.1; have hown := FX.2.2.2.1; have hts := FX.2.2.2.2
  have hl : lv_has ls 5 [(0, .ref h0), (1, .int x1)] := hl
  rw [fX4_fading] at hf
  refine lv_iload_n hx hb dX4_fading_0 rfl (lv_at hl 1 rfl) ?_
  refine lv_iconst (v := 0) hx hb dX4_fading_1 (by decide) ?_
  refine lv_bipush (v := 30) hx hb dX4_fading_2 (by decide) ?_
  refine kX4_isIn FX ⟨Nat.le_of_ble_eq_true rfl, Nat.le_of_ble_eq_true rfl⟩ ⟨Nat.zero_le _, Nat.zero_le _⟩ hl.1 (Nat.le_of_ble_eq_true rfl) hW hf dX4_fading_4 (fun r1 H locs hW hf => ?_)
  refine lv_if_ne (tgt := 12) hx hb dX4_fading_7 (by decide) (fun c7 => ?_) (fun c7 => ?_)
  · have hf := ifn c7 hf
    refine lv_aload_n hx hb dX4_fading_12 rfl (lv_at hl 0 rfl) ?_
    refine kX4_keepNow FX ⟨Nat.le_of_ble_eq_true rfl, Nat.le_of_ble_eq_true rfl⟩ ⟨Nat.zero_le _, Nat.zero_le _⟩ hl.1 (Nat.le_of_ble_eq_true rfl) hW hf dX4_fading_13 (fun s2 H locs hW hf => ?_)
    refine lv_aload_n hx hb dX4_fading_16 rfl (lv_at hl 0 rfl) ?_
    refine kX4_marksAll FX ⟨Nat.le_of_ble_eq_true rfl, Nat.le_of_ble_eq_true rfl⟩ ⟨Nat.zero_le _, Nat.zero_le _⟩ hl.1 (Nat.le_of_ble_eq_true rfl) hW hf dX4_fading_17 (fun r3 H locs hW hf => ?_)
    refine lv_istore_n (lv' := [(2, .int r3), (0, .ref h0), (1, .int x1)]) hx hb dX4_fading_20 rfl hl (by decide) rfl (fun ls hl => ?_)
    refine lv_aload_n hx hb dX4_fading_21 rfl (lv_at hl 1 rfl) ?_
    refine lv_iload_n hx hb dX4_fading_22 rfl (lv_at hl 2 rfl) ?_
    refine kX4_goYears FX ⟨Nat.le_of_ble_eq_true rfl, Nat.le_of_ble_eq_true rfl⟩ ⟨Nat.zero_le _, Nat.zero_le _⟩ hl.1 (Nat.le_of_ble_eq_true rfl) hW hf dX4_fading_23 (fun r4 s5 H locs hW hf => ?_)
    refine lv_istore_n (lv' := [(3, .int r4), (2, .int r3), (0, .ref h0), (1, .int x1)]) hx hb dX4_fading_26 rfl hl (by decide) rfl (fun ls hl => ?_)
    refine lv_iload_n hx hb dX4_fading_27 rfl (lv_at hl 1 rfl) ?_
    refine lv_aload_n hx hb dX4_fading_28 rfl (lv_at hl 2 rfl) ?_
    refine kX4_marksAll FX ⟨Nat.le_of_ble_eq_true rfl, Nat.le_of_ble_eq_true rfl⟩ ⟨Nat.zero_le _, Nat.zero_le _⟩ hl.1 (Nat.le_of_ble_eq_true rfl) hW hf dX4_fading_29 (fun r6 H locs hW hf => ?_)
    refine lv_iconst (v := -1) hx hb dX4_fading_32 (by decide) ?_
    refine lv_ixor hx hb dX4_fading_33 ?_
    refine lv_iand hx hb dX4_fading_34 ?_
    refine lv_istore (lv' := [(4, .int (r3 &&& (r6 ^^^ (-1 : Int32)))), (3, .int r4), (2, .int r3), (0, .ref h0), (1, .int x1)]) hx hb dX4_fading_35 hl (by decide) rfl (fun ls hl => ?_)
    refine lv_aload_n hx hb dX4_fading_37 rfl (lv_at hl 3 rfl) ?_
    refine kX4_bringBack FX ⟨Nat.le_of_ble_eq_true rfl, Nat.le_of_ble_eq_true rfl⟩ ⟨Nat.zero_le _, Nat.zero_le _⟩ hl.1 (Nat.le_of_ble_eq_true rfl) hW hf dX4_fading_38 (fun s7 H locs hW hf => ?_)
    refine lv_iload hx hb dX4_fading_41 (lv_at hl 0 rfl) ?_
    obtain rfl := Option.some.inj hf
    exact g_iret FX hr hlk hW rfl dX4_fading_43
  · have hf := ifp c7 hf
    refine lv_iconst (v := -1) hx hb dX4_fading_10 (by decide) ?_
    obtain rfl := Option.some.inj hf
    exact g_iret FX hr hlk hW rfl dX4_fading_11

/-! TrunkLittersModel.law(II)I: kind W -/
def fX4_law (x1 : Int32) (x2 : Int32) (σ : Mst) : Option (Int32 × Mst) := (fX4_isIn x1 (1 : Int32) (9 : Int32)).bind fun r1 => (if r1 = 0 then some ((-1 : Int32), σ) else (fX4_isIn x2 (0 : Int32) (30 : Int32)).bind fun r2 => (if r2 = 0 then some ((-1 : Int32), σ) else (fX4_keepNow σ).bind fun s3 => stp (sF s3 42 x1) fun s4 => bnd2 (fX4_goYears x2 s4) fun r5 s6 => stp (sF s6 42 (-1 : Int32)) fun s7 => (fX4_those s7).bind fun r8 => (fX4_bitsOf r8).bind fun r9 => (fX4_bringBack s7).bind fun s10 => some (r9, s10)))
abbrev rX4_law : Room := { frames := 9, cells := 0, slots := 0, locals := 199 }
set_option maxHeartbeats 4000000 in
set_option maxRecDepth 100000 in
theorem mX4_law  {x1 : Int32} {x2 : Int32} {σ : Mst} {q : (Int32 × Mst)} (hf : fX4_law x1 x2 σ = some q) : CtI l yX4_law cX4_law 5 (some .int) rX4_law D dA [.ref h0, .int x1, .int x2] (Mc dA h0 ad σ) q.1 (Mc dA h0 ad q.2) := by
  refine e_I (by decide) (Nat.le_of_ble_eq_true rfl) ?_
  intro p e s m below meth c ls A FX hr hlk hl hW
  have hx := FX.1; have hb := FX.2.1; have hown := FX.2.2.2.1; have hts := FX.2.2.2.2
  have hl : lv_has ls 5 [(0, .ref h0), (1, .int x1), (2, .int x2)] := hl
  rw [fX4_law] at hf
  refine lv_iload_n hx hb dX4_law_0 rfl (lv_at hl 1 rfl) ?_
  refine lv_iconst (v := 1) hx hb dX4_law_1 (by decide) ?_
  refine lv_bipush (v := 9) hx hb dX4_law_2 (by decide) ?_
  refine kX4_isIn FX ⟨Nat.le_of_ble_eq_true rfl, Nat.le_of_ble_eq_true rfl⟩ ⟨Nat.zero_le _, Nat.zero_le _⟩ hl.1 (Nat.le_of_ble_eq_true rfl) hW hf dX4_law_4 (fun r1 H locs hW hf => ?_)
  refine lv_if_eq (tgt := 20) hx hb dX4_law_7 (by decide) (fun c7 => ?_) (fun c7 => ?_)
  · have hf := ifp c7 hf
    refine lv_iconst (v := -1) hx hb dX4_law_20 (by decide) ?_
    obtain rfl := Option.some.inj hf
    exact g_iret FX hr hlk hW rfl dX4_law_21
  · have hf := ifn c7 hf
    refine lv_iload_n hx hb dX4_law_10 rfl (lv_at hl 2 rfl) ?_
    refine lv_iconst (v := 0) hx hb dX4_law_11 (by decide) ?_
    refine lv_bipush (v := 30) hx hb dX4_law_12 (by decide) ?_
    refine kX4_isIn FX ⟨Nat.le_of_ble_eq_true rfl, Nat.le_of_ble_eq_true rfl⟩ ⟨Nat.zero_le _, Nat.zero_le _⟩ hl.1 (Nat.le_of_ble_eq_true rfl) hW hf dX4_law_14 (fun r2 H locs hW hf => ?_)
    refine lv_if_ne (tgt := 22) hx hb dX4_law_17 (by decide) (fun c17 => ?_) (fun c17 => ?_)
    · have hf := ifn c17 hf
      refine lv_aload_n hx hb dX4_law_22 rfl (lv_at hl 0 rfl) ?_
      refine kX4_keepNow FX ⟨Nat.le_of_ble_eq_true rfl, Nat.le_of_ble_eq_true rfl⟩ ⟨Nat.zero_le _, Nat.zero_le _⟩ hl.1 (Nat.le_of_ble_eq_true rfl) hW hf dX4_law_23 (fun s3 H locs hW hf => ?_)
      refine lv_aload_n hx hb dX4_law_26 rfl (lv_at hl 0 rfl) ?_
      refine lv_iload_n hx hb dX4_law_27 rfl (lv_at hl 1 rfl) ?_
      refine Ms42 FX hW hf dX4_law_28 (fun s4 H locs hW hf => ?_)
      refine lv_aload_n hx hb dX4_law_31 rfl (lv_at hl 0 rfl) ?_
      refine lv_iload_n hx hb dX4_law_32 rfl (lv_at hl 2 rfl) ?_
      refine kX4_goYears FX ⟨Nat.le_of_ble_eq_true rfl, Nat.le_of_ble_eq_true rfl⟩ ⟨Nat.zero_le _, Nat.zero_le _⟩ hl.1 (Nat.le_of_ble_eq_true rfl) hW hf dX4_law_33 (fun r5 s6 H locs hW hf => ?_)
      refine lv_istore_n (lv' := [(3, .int r5), (0, .ref h0), (1, .int x1), (2, .int x2)]) hx hb dX4_law_36 rfl hl (by decide) rfl (fun ls hl => ?_)
      refine lv_aload_n hx hb dX4_law_37 rfl (lv_at hl 1 rfl) ?_
      refine lv_iconst (v := -1) hx hb dX4_law_38 (by decide) ?_
      refine Ms42 FX hW hf dX4_law_39 (fun s7 H locs hW hf => ?_)
      refine lv_aload_n hx hb dX4_law_42 rfl (lv_at hl 1 rfl) ?_
      refine kX4_those FX ⟨Nat.le_of_ble_eq_true rfl, Nat.le_of_ble_eq_true rfl⟩ ⟨Nat.zero_le _, Nat.zero_le _⟩ hl.1 (Nat.le_of_ble_eq_true rfl) hW hf dX4_law_43 (fun r8 H locs hW hf => ?_)
      refine kX4_bitsOf FX ⟨Nat.le_of_ble_eq_true rfl, Nat.le_of_ble_eq_true rfl⟩ ⟨Nat.zero_le _, Nat.zero_le _⟩ hl.1 (Nat.le_of_ble_eq_true rfl) hW hf dX4_law_46 (fun r9 H locs hW hf => ?_)
      refine lv_istore (lv' := [(4, .int r9), (3, .int r5), (0, .ref h0), (1, .int x1), (2, .int x2)]) hx hb dX4_law_49 hl (by decide) rfl (fun ls hl => ?_)
      refine lv_aload_n hx hb dX4_law_51 rfl (lv_at hl 2 rfl) ?_
      refine kX4_bringBack FX ⟨Nat.le_of_ble_eq_true rfl, Nat.le_of_ble_eq_true rfl⟩ ⟨Nat.zero_le _, Nat.zero_le _⟩ hl.1 (Nat.le_of_ble_eq_true rfl) hW hf dX4_law_52 (fun s10 H locs hW hf => ?_)
      refine lv_iload hx hb dX4_law_55 (lv_at hl 0 rfl) ?_
      obtain rfl := Option.some.inj hf
      exact g_iret FX hr hlk hW rfl dX4_law_57
    · have hf := ifp c17 hf
      refine lv_iconst (v := -1) hx hb dX4_law_20 (by decide) ?_
      obtain rfl := Option.some.inj hf
      exact g_iret FX hr hlk hW rfl dX4_law_21

/-! TrunkLittersModel.gone(I)I: kind W -/
def fX4_gone_59 (x2 : Int32) (σ : Mst) : Option (Int32 × Mst) := (fX4_bringBack σ).bind fun s1 => some (x2, s1)
def fX4_gone_51 (k18 : Int32 → Int32 → Int32 → Mst → Option (Int32 × Mst)) (x1 : Int32) (x3 : Int32) (σ : Mst) : Option (Int32 × Mst) := k18 x1 x3 (x3 + (1 : Int32)) σ
def fX4_gone_18 : Nat → Int32 → Int32 → Int32 → Mst → Option (Int32 × Mst)
  | 0, _, _, _, _ => none
  | n + 1, x1, x2, x3, σ => (if (30 : Int32) < x3 then fX4_gone_59 x2 σ else (if 0 ≤ x2 then fX4_gone_59 x2 σ else bnd2 (fX4_goYear σ) fun r1 s2 => (fX4_isThere x1 s2).bind fun r3 => (if r3 = 0 then fX4_gone_51 (fX4_gone_18 n) x1 x3 s2 else (fX4_bit r1 x1).bind fun r4 => (if r4 = 0 then fX4_gone_18 n x1 x2 (x3 + (1 : Int32)) s2 else fX4_gone_51 (fX4_gone_18 n) x1 x3 s2))))
def fX4_gone (x1 : Int32) (σ : Mst) : Option (Int32 × Mst) := (fX4_isThere x1 σ).bind fun r1 => (if r1 = 0 then some ((-1 : Int32), σ) else (fX4_keepNow σ).bind fun s2 => fX4_gone_18 FU x1 (-1 : Int32) (1 : Int32) s2)
abbrev rX4_gone : Room := { frames := 8, cells := 0, slots := 0, locals := 176 }
set_option maxHeartbeats 4000000 in
set_option maxRecDepth 100000 in
theorem wX4_gone_59 {q : (Int32 × Mst)} (FX : CallFix p m c cX4_gone 5 s args lw_all RX4) (hr : meth.sig.returnType = (some .int)) (hlk : meth.locks = false) : ∀ (x2 : Int32) (σ : Mst) (H : Heap) (locs : List Loc) (ls : Array Slot), lv_has ls 5 [(0, .ref h0), (2, .int x2)] → Wd D dA A s (Mc dA h0 ad σ) H locs → fX4_gone_59 x2 σ = some q → W p l e rX4_gone s m args below meth c H locs 0 0 (QI D dA A below args s 0 0 q.1 (Mc dA h0 ad q.2)) (F0 m 59 ls []) := by
  have hx := FX.1; have hb := FX.2.1; have hown := FX.2.2.2.1; have hts := FX.2.2.2.2
  intro x2 σ H locs ls hl hW hf
  rw [fX4_gone_59] at hf
  refine lv_aload_n hx hb dX4_gone_59 rfl (lv_at hl 0 rfl) ?_
  refine kX4_bringBack FX ⟨Nat.le_of_ble_eq_true rfl, Nat.le_of_ble_eq_true rfl⟩ ⟨Nat.zero_le _, Nat.zero_le _⟩ hl.1 (Nat.le_of_ble_eq_true rfl) hW hf dX4_gone_60 (fun s1 H locs hW hf => ?_)
  refine lv_iload_n hx hb dX4_gone_63 rfl (lv_at hl 1 rfl) ?_
  obtain rfl := Option.some.inj hf
  exact g_iret FX hr hlk hW rfl dX4_gone_64
set_option maxHeartbeats 4000000 in
set_option maxRecDepth 100000 in
theorem wX4_gone_51 {q : (Int32 × Mst)} (FX : CallFix p m c cX4_gone 5 s args lw_all RX4) (hr : meth.sig.returnType = (some .int)) (hlk : meth.locks = false) {k18 : Int32 → Int32 → Int32 → Mst → Option (Int32 × Mst)} (hk18 : ∀ (x1 : Int32) (x2 : Int32) (x3 : Int32) (σ : Mst) (H : Heap) (locs : List Loc) (ls : Array Slot), lv_has ls 5 [(0, .ref h0), (1, .int x1), (2, .int x2), (3, .int x3)] → Wd D dA A s (Mc dA h0 ad σ) H locs → k18 x1 x2 x3 σ = some q → W p l e rX4_gone s m args below meth c H locs 0 0 (QI D dA A below args s 0 0 q.1 (Mc dA h0 ad q.2)) (F0 m 18 ls [])) : ∀ (x1 : Int32) (x3 : Int32) (σ : Mst) (H : Heap) (locs : List Loc) (ls : Array Slot), lv_has ls 5 [(0, .ref h0), (1, .int x1), (3, .int x3)] → Wd D dA A s (Mc dA h0 ad σ) H locs → fX4_gone_51 k18 x1 x3 σ = some q → W p l e rX4_gone s m args below meth c H locs 0 0 (QI D dA A below args s 0 0 q.1 (Mc dA h0 ad q.2)) (F0 m 51 ls []) := by
  have hx := FX.1; have hb := FX.2.1; have hown := FX.2.2.2.1; have hts := FX.2.2.2.2
  intro x1 x3 σ H locs ls hl hW hf
  rw [fX4_gone_51] at hf
  refine lv_iload_n hx hb dX4_gone_51 rfl (lv_at hl 2 rfl) ?_
  refine lv_istore_n (lv' := [(2, .int x3), (0, .ref h0), (1, .int x1), (3, .int x3)]) hx hb dX4_gone_52 rfl hl (by decide) rfl (fun ls hl => ?_)
  refine lv_iinc (v := (x3 + (1 : Int32))) (lv' := [(3, .int (x3 + (1 : Int32))), (2, .int x3), (0, .ref h0), (1, .int x1)]) hx hb dX4_gone_53 hl (k := 3) rfl rfl (by decide) rfl (fun ls hl => ?_)
  refine lv_goto (tgt := 18) hx hb dX4_gone_56 (by decide) ?_
  exact hk18 x1 x3 (x3 + (1 : Int32)) σ _ _ _ (lv_sub hl [2, 3, 1, 0] rfl) hW hf
set_option maxHeartbeats 4000000 in
set_option maxRecDepth 100000 in
theorem wX4_gone_18 {q : (Int32 × Mst)} (FX : CallFix p m c cX4_gone 5 s args lw_all RX4) (hr : meth.sig.returnType = (some .int)) (hlk : meth.locks = false) : ∀ n : Nat, ∀ (x1 : Int32) (x2 : Int32) (x3 : Int32) (σ : Mst) (H : Heap) (locs : List Loc) (ls : Array Slot), lv_has ls 5 [(0, .ref h0), (1, .int x1), (2, .int x2), (3, .int x3)] → Wd D dA A s (Mc dA h0 ad σ) H locs → fX4_gone_18 n x1 x2 x3 σ = some q → W p l e rX4_gone s m args below meth c H locs 0 0 (QI D dA A below args s 0 0 q.1 (Mc dA h0 ad q.2)) (F0 m 18 ls []) := by
  have hx := FX.1; have hb := FX.2.1; have hown := FX.2.2.2.1; have hts := FX.2.2.2.2
  intro n
  induction n with
  | zero =>
    intro x1 x2 x3 σ H locs ls hl hW hf
    cases (show (none : Option (Int32 × Mst)) = some q from hf)
  | succ n ih =>
    intro x1 x2 x3 σ H locs ls hl hW hf
    rw [fX4_gone_18] at hf
    refine lv_iload_n hx hb dX4_gone_18 rfl (lv_at hl 3 rfl) ?_
    refine lv_bipush (v := 30) hx hb dX4_gone_19 (by decide) ?_
    refine lv_icmp_gt (tgt := 59) hx hb dX4_gone_21 (by decide) (fun c21 => ?_) (fun c21 => ?_)
    · have hf := ifp c21 hf
      exact wX4_gone_59 FX hr hlk x2 σ _ _ _ (lv_sub hl [0, 2] rfl) hW hf
    · have hf := ifn c21 hf
      refine lv_iload_n hx hb dX4_gone_24 rfl (lv_at hl 2 rfl) ?_
      refine lv_if_ge (tgt := 59) hx hb dX4_gone_25 (by decide) (fun c25 => ?_) (fun c25 => ?_)
      · have hf := ifp c25 hf
        exact wX4_gone_59 FX hr hlk x2 σ _ _ _ (lv_sub hl [0, 2] rfl) hW hf
      · have hf := ifn c25 hf
        refine lv_aload_n hx hb dX4_gone_28 rfl (lv_at hl 0 rfl) ?_
        refine kX4_goYear FX ⟨Nat.le_of_ble_eq_true rfl, Nat.le_of_ble_eq_true rfl⟩ ⟨Nat.zero_le _, Nat.zero_le _⟩ hl.1 (Nat.le_of_ble_eq_true rfl) hW hf dX4_gone_29 (fun r1 s2 H locs hW hf => ?_)
        refine lv_istore (lv' := [(4, .int r1), (0, .ref h0), (1, .int x1), (2, .int x2), (3, .int x3)]) hx hb dX4_gone_32 hl (by decide) rfl (fun ls hl => ?_)
        refine lv_aload_n hx hb dX4_gone_34 rfl (lv_at hl 1 rfl) ?_
        refine lv_iload_n hx hb dX4_gone_35 rfl (lv_at hl 2 rfl) ?_
        refine kX4_isThere FX ⟨Nat.le_of_ble_eq_true rfl, Nat.le_of_ble_eq_true rfl⟩ ⟨Nat.zero_le _, Nat.zero_le _⟩ hl.1 (Nat.le_of_ble_eq_true rfl) hW hf dX4_gone_36 (fun r3 H locs hW hf => ?_)
        refine lv_if_eq (tgt := 51) hx hb dX4_gone_39 (by decide) (fun c39 => ?_) (fun c39 => ?_)
        · have hf := ifp c39 hf
          exact wX4_gone_51 FX hr hlk (ih) x1 x3 s2 _ _ _ (lv_sub hl [1, 2, 4] rfl) hW hf
        · have hf := ifn c39 hf
          refine lv_iload hx hb dX4_gone_42 (lv_at hl 0 rfl) ?_
          refine lv_iload_n hx hb dX4_gone_44 rfl (lv_at hl 2 rfl) ?_
          refine kX4_bit FX ⟨Nat.le_of_ble_eq_true rfl, Nat.le_of_ble_eq_true rfl⟩ ⟨Nat.zero_le _, Nat.zero_le _⟩ hl.1 (Nat.le_of_ble_eq_true rfl) hW hf dX4_gone_45 (fun r4 H locs hW hf => ?_)
          refine lv_if_eq (tgt := 53) hx hb dX4_gone_48 (by decide) (fun c48 => ?_) (fun c48 => ?_)
          · have hf := ifp c48 hf
            refine lv_iinc (v := (x3 + (1 : Int32))) (lv' := [(3, .int (x3 + (1 : Int32))), (4, .int r1), (0, .ref h0), (1, .int x1), (2, .int x2)]) hx hb dX4_gone_53 hl (k := 4) rfl rfl (by decide) rfl (fun ls hl => ?_)
            refine lv_goto (tgt := 18) hx hb dX4_gone_56 (by decide) ?_
            exact ih x1 x2 (x3 + (1 : Int32)) s2 _ _ _ (lv_sub hl [2, 3, 4, 0] rfl) hW hf
          · have hf := ifn c48 hf
            exact wX4_gone_51 FX hr hlk (ih) x1 x3 s2 _ _ _ (lv_sub hl [1, 2, 4] rfl) hW hf
set_option maxHeartbeats 4000000 in
set_option maxRecDepth 100000 in
theorem mX4_gone  {x1 : Int32} {σ : Mst} {q : (Int32 × Mst)} (hf : fX4_gone x1 σ = some q) : CtI l yX4_gone cX4_gone 5 (some .int) rX4_gone D dA [.ref h0, .int x1] (Mc dA h0 ad σ) q.1 (Mc dA h0 ad q.2) := by
  refine e_I (by decide) (Nat.le_of_ble_eq_true rfl) ?_
  intro p e s m below meth c ls A FX hr hlk hl hW
  have hx := FX.1; have hb := FX.2.1; have hown := FX.2.2.2.1; have hts := FX.2.2.2.2
  have hl : lv_has ls 5 [(0, .ref h0), (1, .int x1)] := hl
  rw [fX4_gone] at hf
  refine lv_aload_n hx hb dX4_gone_0 rfl (lv_at hl 0 rfl) ?_
  refine lv_iload_n hx hb dX4_gone_1 rfl (lv_at hl 1 rfl) ?_
  refine kX4_isThere FX ⟨Nat.le_of_ble_eq_true rfl, Nat.le_of_ble_eq_true rfl⟩ ⟨Nat.zero_le _, Nat.zero_le _⟩ hl.1 (Nat.le_of_ble_eq_true rfl) hW hf dX4_gone_2 (fun r1 H locs hW hf => ?_)
  refine lv_if_ne (tgt := 10) hx hb dX4_gone_5 (by decide) (fun c5 => ?_) (fun c5 => ?_)
  · have hf := ifn c5 hf
    refine lv_aload_n hx hb dX4_gone_10 rfl (lv_at hl 0 rfl) ?_
    refine kX4_keepNow FX ⟨Nat.le_of_ble_eq_true rfl, Nat.le_of_ble_eq_true rfl⟩ ⟨Nat.zero_le _, Nat.zero_le _⟩ hl.1 (Nat.le_of_ble_eq_true rfl) hW hf dX4_gone_11 (fun s2 H locs hW hf => ?_)
    refine lv_iconst (v := -1) hx hb dX4_gone_14 (by decide) ?_
    refine lv_istore_n (lv' := [(2, .int (-1 : Int32)), (0, .ref h0), (1, .int x1)]) hx hb dX4_gone_15 rfl hl (by decide) rfl (fun ls hl => ?_)
    refine lv_iconst (v := 1) hx hb dX4_gone_16 (by decide) ?_
    refine lv_istore_n (lv' := [(3, .int (1 : Int32)), (2, .int (-1 : Int32)), (0, .ref h0), (1, .int x1)]) hx hb dX4_gone_17 rfl hl (by decide) rfl (fun ls hl => ?_)
    exact wX4_gone_18 FX hr hlk _ x1 (-1 : Int32) (1 : Int32) s2 _ _ _ (lv_sub hl [2, 3, 1, 0] rfl) hW hf
  · have hf := ifp c5 hf
    refine lv_iconst (v := -1) hx hb dX4_gone_8 (by decide) ?_
    obtain rfl := Option.some.inj hf
    exact g_iret FX hr hlk hW rfl dX4_gone_9

/-! TrunkLittersModel.need(I)I: kind R -/
def fX4_need_58 (σ : Mst) (k16 : Int32 → Int32 → Int32 → Option Int32) (x1 : Int32) (x3 : Int32) (y0 : Int32) : Option Int32 := k16 x1 (y0 + (0 : Int32)) (x3 + (1 : Int32))
def fX4_need_16 (σ : Mst) : Nat → Int32 → Int32 → Int32 → Option Int32
  | 0, _, _, _ => none
  | n + 1, x1, x2, x3 => (if (8 : Int32) ≤ x3 then some x2 else (fX4_isThere x3 σ).bind fun r1 => (if r1 = 0 then fX4_need_58 σ (fX4_need_16 σ n) x1 x3 x2 else ald 59 (gA σ 40) ((24 : Int32) + x3) fun v2 => (if x1 ≤ v2 then fX4_need_58 σ (fX4_need_16 σ n) x1 x3 x2 else ald 59 (gA σ 40) ((24 : Int32) + x3) fun v3 => fX4_need_16 σ n x1 (x2 + (x1 - v3)) (x3 + (1 : Int32)))))
def fX4_need (x1 : Int32) (σ : Mst) : Option Int32 := (fX4_isIn x1 (0 : Int32) (30 : Int32)).bind fun r1 => (if r1 = 0 then some (-1 : Int32) else fX4_need_16 σ FU x1 (0 : Int32) (0 : Int32))
abbrev rX4_need : Room := { frames := 2, cells := 0, slots := 0, locals := 43 }
set_option maxHeartbeats 4000000 in
set_option maxRecDepth 100000 in
theorem wX4_need_58 {q : Int32} {σ : Mst} (FX : CallFix p m c cX4_need 4 s args lw_all RX4) (hr : meth.sig.returnType = (some .int)) (hlk : meth.locks = false) {k16 : Int32 → Int32 → Int32 → Option Int32} (hk16 : ∀ (x1 : Int32) (x2 : Int32) (x3 : Int32) (H : Heap) (locs : List Loc) (ls : Array Slot), lv_has ls 4 [(0, .ref h0), (1, .int x1), (2, .int x2), (3, .int x3)] → Wd D dA A s (Mc dA h0 ad σ) H locs → k16 x1 x2 x3 = some q → W p l e rX4_need s m args below meth c H locs 0 0 (QI D dA A below args s 0 0 q (Mc dA h0 ad σ)) (F0 m 16 ls [])) : ∀ (x1 : Int32) (x3 : Int32) (y0 : Int32) (H : Heap) (locs : List Loc) (ls : Array Slot), lv_has ls 4 [(0, .ref h0), (1, .int x1), (3, .int x3)] → Wd D dA A s (Mc dA h0 ad σ) H locs → fX4_need_58 σ k16 x1 x3 y0 = some q → W p l e rX4_need s m args below meth c H locs 0 0 (QI D dA A below args s 0 0 q (Mc dA h0 ad σ)) (F0 m 58 ls [.int y0]) := by
  have hx := FX.1; have hb := FX.2.1; have hown := FX.2.2.2.1; have hts := FX.2.2.2.2
  intro x1 x3 y0 H locs ls hl hW hf
  rw [fX4_need_58] at hf
  refine lv_iconst (v := 0) hx hb dX4_need_58 (by decide) ?_
  refine lv_iadd hx hb dX4_need_59 ?_
  refine lv_istore_n (lv' := [(2, .int (y0 + (0 : Int32))), (0, .ref h0), (1, .int x1), (3, .int x3)]) hx hb dX4_need_60 rfl hl (by decide) rfl (fun ls hl => ?_)
  refine lv_iinc (v := (x3 + (1 : Int32))) (lv' := [(3, .int (x3 + (1 : Int32))), (2, .int (y0 + (0 : Int32))), (0, .ref h0), (1, .int x1)]) hx hb dX4_need_61 hl (k := 3) rfl rfl (by decide) rfl (fun ls hl => ?_)
  refine lv_goto (tgt := 16) hx hb dX4_need_64 (by decide) ?_
  exact hk16 x1 (y0 + (0 : Int32)) (x3 + (1 : Int32)) _ _ _ (lv_sub hl [2, 3, 1, 0] rfl) hW hf
set_option maxHeartbeats 4000000 in
set_option maxRecDepth 100000 in
theorem wX4_need_16 {q : Int32} {σ : Mst} (FX : CallFix p m c cX4_need 4 s args lw_all RX4) (hr : meth.sig.returnType = (some .int)) (hlk : meth.locks = false) : ∀ n : Nat, ∀ (x1 : Int32) (x2 : Int32) (x3 : Int32) (H : Heap) (locs : List Loc) (ls : Array Slot), lv_has ls 4 [(0, .ref h0), (1, .int x1), (2, .int x2), (3, .int x3)] → Wd D dA A s (Mc dA h0 ad σ) H locs → fX4_need_16 σ n x1 x2 x3 = some q → W p l e rX4_need s m args below meth c H locs 0 0 (QI D dA A below args s 0 0 q (Mc dA h0 ad σ)) (F0 m 16 ls []) := by
  have hx := FX.1; have hb := FX.2.1; have hown := FX.2.2.2.1; have hts := FX.2.2.2.2
  intro n
  induction n with
  | zero =>
    intro x1 x2 x3 H locs ls hl hW hf
    cases (show (none : Option Int32) = some q from hf)
  | succ n ih =>
    intro x1 x2 x3 H locs ls hl hW hf
    rw [fX4_need_16] at hf
    refine lv_iload_n hx hb dX4_need_16 rfl (lv_at hl 3 rfl) ?_
    refine lv_bipush (v := 8) hx hb dX4_need_17 (by decide) ?_
    refine lv_icmp_ge (tgt := 67) hx hb dX4_need_19 (by decide) (fun c19 => ?_) (fun c19 => ?_)
    · have hf := ifp c19 hf
      refine lv_iload_n hx hb dX4_need_67 rfl (lv_at hl 2 rfl) ?_
      exact g_iret FX hr hlk hW (Option.some.inj hf) dX4_need_68
    · have hf := ifn c19 hf
      refine lv_iload_n hx hb dX4_need_22 rfl (lv_at hl 2 rfl) ?_
      refine lv_aload_n hx hb dX4_need_23 rfl (lv_at hl 0 rfl) ?_
      refine lv_iload_n hx hb dX4_need_24 rfl (lv_at hl 3 rfl) ?_
      refine kX4_isThere FX ⟨Nat.le_of_ble_eq_true rfl, Nat.le_of_ble_eq_true rfl⟩ ⟨Nat.zero_le _, Nat.zero_le _⟩ hl.1 (Nat.le_of_ble_eq_true rfl) hW hf dX4_need_25 (fun r1 H locs hW hf => ?_)
      refine lv_if_eq (tgt := 58) hx hb dX4_need_28 (by decide) (fun c28 => ?_) (fun c28 => ?_)
      · have hf := ifp c28 hf
        exact wX4_need_58 FX hr hlk (ih) x1 x3 x2 _ _ _ (lv_sub hl [0, 1, 3] rfl) hW hf
      · have hf := ifn c28 hf
        refine lv_iload_n hx hb dX4_need_31 rfl (lv_at hl 1 rfl) ?_
        refine lv_aload_n hx hb dX4_need_32 rfl (lv_at hl 0 rfl) ?_
        refine Mg40 FX hW dX4_need_33 ?_
        refine lv_bipush (v := 24) hx hb dX4_need_36 (by decide) ?_
        refine lv_iload_n hx hb dX4_need_38 rfl (lv_at hl 3 rfl) ?_
        refine lv_iadd hx hb dX4_need_39 ?_
        refine g_iald FX hW 24 Mp40 hf dX4_need_40 (fun v2 hf => ?_)
        refine lv_icmp_le (tgt := 58) hx hb dX4_need_41 (by decide) (fun c41 => ?_) (fun c41 => ?_)
        · have hf := ifp c41 hf
          exact wX4_need_58 FX hr hlk (ih) x1 x3 x2 _ _ _ (lv_sub hl [0, 1, 3] rfl) hW hf
        · have hf := ifn c41 hf
          refine lv_iload_n hx hb dX4_need_44 rfl (lv_at hl 1 rfl) ?_
          refine lv_aload_n hx hb dX4_need_45 rfl (lv_at hl 0 rfl) ?_
          refine Mg40 FX hW dX4_need_46 ?_
          refine lv_bipush (v := 24) hx hb dX4_need_49 (by decide) ?_
          refine lv_iload_n hx hb dX4_need_51 rfl (lv_at hl 3 rfl) ?_
          refine lv_iadd hx hb dX4_need_52 ?_
          refine g_iald FX hW 24 Mp40 hf dX4_need_53 (fun v3 hf => ?_)
          refine lv_isub hx hb dX4_need_54 ?_
          refine lv_goto (tgt := 59) hx hb dX4_need_55 (by decide) ?_
          refine lv_iadd hx hb dX4_need_59 ?_
          refine lv_istore_n (lv' := [(2, .int (x2 + (x1 - v3))), (0, .ref h0), (1, .int x1), (3, .int x3)]) hx hb dX4_need_60 rfl hl (by decide) rfl (fun ls hl => ?_)
          refine lv_iinc (v := (x3 + (1 : Int32))) (lv' := [(3, .int (x3 + (1 : Int32))), (2, .int (x2 + (x1 - v3))), (0, .ref h0), (1, .int x1)]) hx hb dX4_need_61 hl (k := 3) rfl rfl (by decide) rfl (fun ls hl => ?_)
          refine lv_goto (tgt := 16) hx hb dX4_need_64 (by decide) ?_
          exact ih x1 (x2 + (x1 - v3)) (x3 + (1 : Int32)) _ _ _ (lv_sub hl [2, 3, 1, 0] rfl) hW hf
set_option maxHeartbeats 4000000 in
set_option maxRecDepth 100000 in
theorem mX4_need  {x1 : Int32} {σ : Mst} {q : Int32} (hf : fX4_need x1 σ = some q) : CtI l yX4_need cX4_need 4 (some .int) rX4_need D dA [.ref h0, .int x1] (Mc dA h0 ad σ) q (Mc dA h0 ad σ) := by
  refine e_I (by decide) (Nat.le_of_ble_eq_true rfl) ?_
  intro p e s m below meth c ls A FX hr hlk hl hW
  have hx := FX.1; have hb := FX.2.1; have hown := FX.2.2.2.1; have hts := FX.2.2.2.2
  have hl : lv_has ls 4 [(0, .ref h0), (1, .int x1)] := hl
  rw [fX4_need] at hf
  refine lv_iload_n hx hb dX4_need_0 rfl (lv_at hl 1 rfl) ?_
  refine lv_iconst (v := 0) hx hb dX4_need_1 (by decide) ?_
  refine lv_bipush (v := 30) hx hb dX4_need_2 (by decide) ?_
  refine kX4_isIn FX ⟨Nat.le_of_ble_eq_true rfl, Nat.le_of_ble_eq_true rfl⟩ ⟨Nat.zero_le _, Nat.zero_le _⟩ hl.1 (Nat.le_of_ble_eq_true rfl) hW hf dX4_need_4 (fun r1 H locs hW hf => ?_)
  refine lv_if_ne (tgt := 12) hx hb dX4_need_7 (by decide) (fun c7 => ?_) (fun c7 => ?_)
  · have hf := ifn c7 hf
    refine lv_iconst (v := 0) hx hb dX4_need_12 (by decide) ?_
    refine lv_istore_n (lv' := [(2, .int (0 : Int32)), (0, .ref h0), (1, .int x1)]) hx hb dX4_need_13 rfl hl (by decide) rfl (fun ls hl => ?_)
    refine lv_iconst (v := 0) hx hb dX4_need_14 (by decide) ?_
    refine lv_istore_n (lv' := [(3, .int (0 : Int32)), (2, .int (0 : Int32)), (0, .ref h0), (1, .int x1)]) hx hb dX4_need_15 rfl hl (by decide) rfl (fun ls hl => ?_)
    exact wX4_need_16 FX hr hlk _ x1 (0 : Int32) (0 : Int32) _ _ _ (lv_sub hl [2, 3, 1, 0] rfl) hW hf
  · have hf := ifp c7 hf
    refine lv_iconst (v := -1) hx hb dX4_need_10 (by decide) ?_
    exact g_iret FX hr hlk hW (Option.some.inj hf) dX4_need_11

/-! TrunkLittersModel.best(II)I: kind W -/
def fX4_best_63 (k27 : Int32 → Int32 → Int32 → Int32 → Int32 → Mst → Option (Int32 × Mst)) (x1 : Int32) (x2 : Int32) (x3 : Int32) (x4 : Int32) (x5 : Int32) (σ : Mst) : Option (Int32 × Mst) := (fX4_keepNow σ).bind fun s1 => ast 59 ((8 : Int32) + x1) (stp (sA s1 40 ((8 : Int32) + x1) x5) fun s2 => bnd2 (fX4_goYears (5 : Int32) s2) fun r3 s4 => (fX4_those s4).bind fun r5 => (fX4_bitsOf r5).bind fun r6 => (fX4_bringBack s4).bind fun s7 => (if x4 < r6 then k27 x1 x2 x5 r6 (x5 + (1 : Int32)) s7 else k27 x1 x2 x3 x4 (x5 + (1 : Int32)) s7))
def fX4_best_27 : Nat → Int32 → Int32 → Int32 → Int32 → Int32 → Mst → Option (Int32 × Mst)
  | 0, _, _, _, _, _, _ => none
  | n + 1, x1, x2, x3, x4, x5, σ => (fX4_chambers σ).bind fun r1 => (if r1 ≤ x5 then (if x2 = 0 then some (x3, σ) else some (x4, σ)) else ald 59 (gA σ 40) ((8 : Int32) + x1) fun v2 => (if v2 = x5 then fX4_best_63 (fX4_best_27 n) x1 x2 x3 x4 x5 σ else (fX4_canCarry x1 x5 σ).bind fun r3 => (if r3 = 0 then fX4_best_27 n x1 x2 x3 x4 (x5 + (1 : Int32)) σ else fX4_best_63 (fX4_best_27 n) x1 x2 x3 x4 x5 σ)))
def fX4_best (x1 : Int32) (x2 : Int32) (σ : Mst) : Option (Int32 × Mst) := (fX4_isThere x1 σ).bind fun r1 => (if r1 = 0 then some ((-1 : Int32), σ) else (fX4_isIn x2 (0 : Int32) (1 : Int32)).bind fun r2 => (if r2 = 0 then some ((-1 : Int32), σ) else fX4_best_27 FU x1 x2 (-1 : Int32) (-1 : Int32) (0 : Int32) σ))
abbrev rX4_best : Room := { frames := 9, cells := 0, slots := 0, locals := 199 }
set_option maxHeartbeats 4000000 in
set_option maxRecDepth 100000 in
theorem wX4_best_63 {q : (Int32 × Mst)} (FX : CallFix p m c cX4_best 8 s args lw_all RX4) (hr : meth.sig.returnType = (some .int)) (hlk : meth.locks = false) {k27 : Int32 → Int32 → Int32 → Int32 → Int32 → Mst → Option (Int32 × Mst)} (hk27 : ∀ (x1 : Int32) (x2 : Int32) (x3 : Int32) (x4 : Int32) (x5 : Int32) (σ : Mst) (H : Heap) (locs : List Loc) (ls : Array Slot), lv_has ls 8 [(0, .ref h0), (1, .int x1), (2, .int x2), (3, .int x3), (4, .int x4), (5, .int x5)] → Wd D dA A s (Mc dA h0 ad σ) H locs → k27 x1 x2 x3 x4 x5 σ = some q → W p l e rX4_best s m args below meth c H locs 0 0 (QI D dA A below args s 0 0 q.1 (Mc dA h0 ad q.2)) (F0 m 27 ls [])) : ∀ (x1 : Int32) (x2 : Int32) (x3 : Int32) (x4 : Int32) (x5 : Int32) (σ : Mst) (H : Heap) (locs : List Loc) (ls : Array Slot), lv_has ls 8 [(0, .ref h0), (1, .int x1), (2, .int x2), (3, .int x3), (4, .int x4), (5, .int x5)] → Wd D dA A s (Mc dA h0 ad σ) H locs → fX4_best_63 k27 x1 x2 x3 x4 x5 σ = some q → W p l e rX4_best s m args below meth c H locs 0 0 (QI D dA A below args s 0 0 q.1 (Mc dA h0 ad q.2)) (F0 m 63 ls []) := by
  have hx := FX.1; have hb := FX.2.1; have hown := FX.2.2.2.1; have hts := FX.2.2.2.2
  intro x1 x2 x3 x4 x5 σ H locs ls hl hW hf
  rw [fX4_best_63] at hf
  refine lv_aload_n hx hb dX4_best_63 rfl (lv_at hl 0 rfl) ?_
  refine kX4_keepNow FX ⟨Nat.le_of_ble_eq_true rfl, Nat.le_of_ble_eq_true rfl⟩ ⟨Nat.zero_le _, Nat.zero_le _⟩ hl.1 (Nat.le_of_ble_eq_true rfl) hW hf dX4_best_64 (fun s1 H locs hW hf => ?_)
  refine lv_aload_n hx hb dX4_best_67 rfl (lv_at hl 0 rfl) ?_
  refine Mg40 FX hW dX4_best_68 ?_
  refine lv_bipush (v := 8) hx hb dX4_best_71 (by decide) ?_
  refine lv_iload_n hx hb dX4_best_73 rfl (lv_at hl 1 rfl) ?_
  refine lv_iadd hx hb dX4_best_74 ?_
  refine lv_iload hx hb dX4_best_75 (lv_at hl 5 rfl) ?_
  refine g_iast FX hW 24 Mp40 (L := Mc dA h0 ad) (Mt40) hf dX4_best_77 (fun s2 H locs hW hf => ?_)
  refine lv_aload_n hx hb dX4_best_78 rfl (lv_at hl 0 rfl) ?_
  refine lv_iconst (v := 5) hx hb dX4_best_79 (by decide) ?_
  refine kX4_goYears FX ⟨Nat.le_of_ble_eq_true rfl, Nat.le_of_ble_eq_true rfl⟩ ⟨Nat.zero_le _, Nat.zero_le _⟩ hl.1 (Nat.le_of_ble_eq_true rfl) hW hf dX4_best_80 (fun r3 s4 H locs hW hf => ?_)
  refine lv_istore (lv' := [(6, .int r3), (0, .ref h0), (1, .int x1), (2, .int x2), (3, .int x3), (4, .int x4), (5, .int x5)]) hx hb dX4_best_83 hl (by decide) rfl (fun ls hl => ?_)
  refine lv_aload_n hx hb dX4_best_85 rfl (lv_at hl 1 rfl) ?_
  refine kX4_those FX ⟨Nat.le_of_ble_eq_true rfl, Nat.le_of_ble_eq_true rfl⟩ ⟨Nat.zero_le _, Nat.zero_le _⟩ hl.1 (Nat.le_of_ble_eq_true rfl) hW hf dX4_best_86 (fun r5 H locs hW hf => ?_)
  refine kX4_bitsOf FX ⟨Nat.le_of_ble_eq_true rfl, Nat.le_of_ble_eq_true rfl⟩ ⟨Nat.zero_le _, Nat.zero_le _⟩ hl.1 (Nat.le_of_ble_eq_true rfl) hW hf dX4_best_89 (fun r6 H locs hW hf => ?_)
  refine lv_istore (lv' := [(7, .int r6), (6, .int r3), (0, .ref h0), (1, .int x1), (2, .int x2), (3, .int x3), (4, .int x4), (5, .int x5)]) hx hb dX4_best_92 hl (by decide) rfl (fun ls hl => ?_)
  refine lv_aload_n hx hb dX4_best_94 rfl (lv_at hl 2 rfl) ?_
  refine kX4_bringBack FX ⟨Nat.le_of_ble_eq_true rfl, Nat.le_of_ble_eq_true rfl⟩ ⟨Nat.zero_le _, Nat.zero_le _⟩ hl.1 (Nat.le_of_ble_eq_true rfl) hW hf dX4_best_95 (fun s7 H locs hW hf => ?_)
  refine lv_iload hx hb dX4_best_98 (lv_at hl 0 rfl) ?_
  refine lv_iload hx hb dX4_best_100 (lv_at hl 6 rfl) ?_
  refine lv_icmp_gt (tgt := 108) hx hb dX4_best_102 (by decide) (fun c102 => ?_) (fun c102 => ?_)
  · have hf := ifp c102 hf
    refine lv_iload hx hb dX4_best_108 (lv_at hl 7 rfl) ?_
    refine lv_istore_n (lv' := [(3, .int x5), (7, .int r6), (6, .int r3), (0, .ref h0), (1, .int x1), (2, .int x2), (4, .int x4), (5, .int x5)]) hx hb dX4_best_110 rfl hl (by decide) rfl (fun ls hl => ?_)
    refine lv_iload hx hb dX4_best_111 (lv_at hl 1 rfl) ?_
    refine lv_istore (lv' := [(4, .int r6), (3, .int x5), (7, .int r6), (6, .int r3), (0, .ref h0), (1, .int x1), (2, .int x2), (5, .int x5)]) hx hb dX4_best_113 hl (by decide) rfl (fun ls hl => ?_)
    refine lv_iinc (v := (x5 + (1 : Int32))) (lv' := [(5, .int (x5 + (1 : Int32))), (4, .int r6), (3, .int x5), (7, .int r6), (6, .int r3), (0, .ref h0), (1, .int x1), (2, .int x2)]) hx hb dX4_best_115 hl (k := 7) rfl rfl (by decide) rfl (fun ls hl => ?_)
    refine lv_goto (tgt := 27) hx hb dX4_best_118 (by decide) ?_
    exact hk27 x1 x2 x5 r6 (x5 + (1 : Int32)) s7 _ _ _ (lv_sub hl [5, 6, 7, 2, 1, 0] rfl) hW hf
  · have hf := ifn c102 hf
    refine lv_goto (tgt := 115) hx hb dX4_best_105 (by decide) ?_
    refine lv_iinc (v := (x5 + (1 : Int32))) (lv' := [(5, .int (x5 + (1 : Int32))), (7, .int r6), (6, .int r3), (0, .ref h0), (1, .int x1), (2, .int x2), (3, .int x3), (4, .int x4)]) hx hb dX4_best_115 hl (k := 7) rfl rfl (by decide) rfl (fun ls hl => ?_)
    refine lv_goto (tgt := 27) hx hb dX4_best_118 (by decide) ?_
    exact hk27 x1 x2 x3 x4 (x5 + (1 : Int32)) s7 _ _ _ (lv_sub hl [3, 4, 5, 6, 7, 0] rfl) hW hf
set_option maxHeartbeats 4000000 in
set_option maxRecDepth 100000 in
theorem wX4_best_27 {q : (Int32 × Mst)} (FX : CallFix p m c cX4_best 8 s args lw_all RX4) (hr : meth.sig.returnType = (some .int)) (hlk : meth.locks = false) : ∀ n : Nat, ∀ (x1 : Int32) (x2 : Int32) (x3 : Int32) (x4 : Int32) (x5 : Int32) (σ : Mst) (H : Heap) (locs : List Loc) (ls : Array Slot), lv_has ls 8 [(0, .ref h0), (1, .int x1), (2, .int x2), (3, .int x3), (4, .int x4), (5, .int x5)] → Wd D dA A s (Mc dA h0 ad σ) H locs → fX4_best_27 n x1 x2 x3 x4 x5 σ = some q → W p l e rX4_best s m args below meth c H locs 0 0 (QI D dA A below args s 0 0 q.1 (Mc dA h0 ad q.2)) (F0 m 27 ls []) := by
  have hx := FX.1; have hb := FX.2.1; have hown := FX.2.2.2.1; have hts := FX.2.2.2.2
  intro n
  induction n with
  | zero =>
    intro x1 x2 x3 x4 x5 σ H locs ls hl hW hf
    cases (show (none : Option (Int32 × Mst)) = some q from hf)
  | succ n ih =>
    intro x1 x2 x3 x4 x5 σ H locs ls hl hW hf
    rw [fX4_best_27] at hf
    refine lv_iload hx hb dX4_best_27 (lv_at hl 5 rfl) ?_
    refine lv_aload_n hx hb dX4_best_29 rfl (lv_at hl 0 rfl) ?_
    refine kX4_chambers FX ⟨Nat.le_of_ble_eq_true rfl, Nat.le_of_ble_eq_true rfl⟩ ⟨Nat.zero_le _, Nat.zero_le _⟩ hl.1 (Nat.le_of_ble_eq_true rfl) hW hf dX4_best_30 (fun r1 H locs hW hf => ?_)
    refine lv_icmp_ge (tgt := 121) hx hb dX4_best_33 (by decide) (fun c33 => ?_) (fun c33 => ?_)
    · have hf := ifp c33 hf
      refine lv_iload_n hx hb dX4_best_121 rfl (lv_at hl 2 rfl) ?_
      refine lv_if_ne (tgt := 129) hx hb dX4_best_122 (by decide) (fun c122 => ?_) (fun c122 => ?_)
      · have hf := ifn c122 hf
        refine lv_iload hx hb dX4_best_129 (lv_at hl 4 rfl) ?_
        obtain rfl := Option.some.inj hf
        exact g_iret FX hr hlk hW rfl dX4_best_131
      · have hf := ifp c122 hf
        refine lv_iload_n hx hb dX4_best_125 rfl (lv_at hl 3 rfl) ?_
        refine lv_goto (tgt := 131) hx hb dX4_best_126 (by decide) ?_
        obtain rfl := Option.some.inj hf
        exact g_iret FX hr hlk hW rfl dX4_best_131
    · have hf := ifn c33 hf
      refine lv_aload_n hx hb dX4_best_36 rfl (lv_at hl 0 rfl) ?_
      refine Mg40 FX hW dX4_best_37 ?_
      refine lv_bipush (v := 8) hx hb dX4_best_40 (by decide) ?_
      refine lv_iload_n hx hb dX4_best_42 rfl (lv_at hl 1 rfl) ?_
      refine lv_iadd hx hb dX4_best_43 ?_
      refine g_iald FX hW 24 Mp40 hf dX4_best_44 (fun v2 hf => ?_)
      refine lv_iload hx hb dX4_best_45 (lv_at hl 5 rfl) ?_
      refine lv_icmp_eq (tgt := 63) hx hb dX4_best_47 (by decide) (fun c47 => ?_) (fun c47 => ?_)
      · have hf := ifp c47 hf
        exact wX4_best_63 FX hr hlk (ih) x1 x2 x3 x4 x5 σ _ _ _ (lv_sub hl [0, 1, 2, 3, 4, 5] rfl) hW hf
      · have hf := ifn c47 hf
        refine lv_aload_n hx hb dX4_best_50 rfl (lv_at hl 0 rfl) ?_
        refine lv_iload_n hx hb dX4_best_51 rfl (lv_at hl 1 rfl) ?_
        refine lv_iload hx hb dX4_best_52 (lv_at hl 5 rfl) ?_
        refine kX4_canCarry FX ⟨Nat.le_of_ble_eq_true rfl, Nat.le_of_ble_eq_true rfl⟩ ⟨Nat.zero_le _, Nat.zero_le _⟩ hl.1 (Nat.le_of_ble_eq_true rfl) hW hf dX4_best_54 (fun r3 H locs hW hf => ?_)
        refine lv_if_ne (tgt := 63) hx hb dX4_best_57 (by decide) (fun c57 => ?_) (fun c57 => ?_)
        · have hf := ifn c57 hf
          exact wX4_best_63 FX hr hlk (ih) x1 x2 x3 x4 x5 σ _ _ _ (lv_sub hl [0, 1, 2, 3, 4, 5] rfl) hW hf
        · have hf := ifp c57 hf
          refine lv_goto (tgt := 115) hx hb dX4_best_60 (by decide) ?_
          refine lv_iinc (v := (x5 + (1 : Int32))) (lv' := [(5, .int (x5 + (1 : Int32))), (0, .ref h0), (1, .int x1), (2, .int x2), (3, .int x3), (4, .int x4)]) hx hb dX4_best_115 hl (k := 5) rfl rfl (by decide) rfl (fun ls hl => ?_)
          refine lv_goto (tgt := 27) hx hb dX4_best_118 (by decide) ?_
          exact ih x1 x2 x3 x4 (x5 + (1 : Int32)) σ _ _ _ (lv_sub hl [1, 2, 3, 4, 5, 0] rfl) hW hf
set_option maxHeartbeats 4000000 in
set_option maxRecDepth 100000 in
theorem mX4_best  {x1 : Int32} {x2 : Int32} {σ : Mst} {q : (Int32 × Mst)} (hf : fX4_best x1 x2 σ = some q) : CtI l yX4_best cX4_best 8 (some .int) rX4_best D dA [.ref h0, .int x1, .int x2] (Mc dA h0 ad σ) q.1 (Mc dA h0 ad q.2) := by
  refine e_I (by decide) (Nat.le_of_ble_eq_true rfl) ?_
  intro p e s m below meth c ls A FX hr hlk hl hW
  have hx := FX.1; have hb := FX.2.1; have hown := FX.2.2.2.1; have hts := FX.2.2.2.2
  have hl : lv_has ls 8 [(0, .ref h0), (1, .int x1), (2, .int x2)] := hl
  rw [fX4_best] at hf
  refine lv_aload_n hx hb dX4_best_0 rfl (lv_at hl 0 rfl) ?_
  refine lv_iload_n hx hb dX4_best_1 rfl (lv_at hl 1 rfl) ?_
  refine kX4_isThere FX ⟨Nat.le_of_ble_eq_true rfl, Nat.le_of_ble_eq_true rfl⟩ ⟨Nat.zero_le _, Nat.zero_le _⟩ hl.1 (Nat.le_of_ble_eq_true rfl) hW hf dX4_best_2 (fun r1 H locs hW hf => ?_)
  refine lv_if_eq (tgt := 17) hx hb dX4_best_5 (by decide) (fun c5 => ?_) (fun c5 => ?_)
  · have hf := ifp c5 hf
    refine lv_iconst (v := -1) hx hb dX4_best_17 (by decide) ?_
    obtain rfl := Option.some.inj hf
    exact g_iret FX hr hlk hW rfl dX4_best_18
  · have hf := ifn c5 hf
    refine lv_iload_n hx hb dX4_best_8 rfl (lv_at hl 2 rfl) ?_
    refine lv_iconst (v := 0) hx hb dX4_best_9 (by decide) ?_
    refine lv_iconst (v := 1) hx hb dX4_best_10 (by decide) ?_
    refine kX4_isIn FX ⟨Nat.le_of_ble_eq_true rfl, Nat.le_of_ble_eq_true rfl⟩ ⟨Nat.zero_le _, Nat.zero_le _⟩ hl.1 (Nat.le_of_ble_eq_true rfl) hW hf dX4_best_11 (fun r2 H locs hW hf => ?_)
    refine lv_if_ne (tgt := 19) hx hb dX4_best_14 (by decide) (fun c14 => ?_) (fun c14 => ?_)
    · have hf := ifn c14 hf
      refine lv_iconst (v := -1) hx hb dX4_best_19 (by decide) ?_
      refine lv_istore_n (lv' := [(3, .int (-1 : Int32)), (0, .ref h0), (1, .int x1), (2, .int x2)]) hx hb dX4_best_20 rfl hl (by decide) rfl (fun ls hl => ?_)
      refine lv_iconst (v := -1) hx hb dX4_best_21 (by decide) ?_
      refine lv_istore (lv' := [(4, .int (-1 : Int32)), (3, .int (-1 : Int32)), (0, .ref h0), (1, .int x1), (2, .int x2)]) hx hb dX4_best_22 hl (by decide) rfl (fun ls hl => ?_)
      refine lv_iconst (v := 0) hx hb dX4_best_24 (by decide) ?_
      refine lv_istore (lv' := [(5, .int (0 : Int32)), (4, .int (-1 : Int32)), (3, .int (-1 : Int32)), (0, .ref h0), (1, .int x1), (2, .int x2)]) hx hb dX4_best_25 hl (by decide) rfl (fun ls hl => ?_)
      exact wX4_best_27 FX hr hlk _ x1 x2 (-1 : Int32) (-1 : Int32) (0 : Int32) σ _ _ _ (lv_sub hl [3, 4, 5, 2, 1, 0] rfl) hW hf
    · have hf := ifp c14 hf
      refine lv_iconst (v := -1) hx hb dX4_best_17 (by decide) ?_
      obtain rfl := Option.some.inj hf
      exact g_iret FX hr hlk hW rfl dX4_best_18

/-! TrunkLittersModel.lies(I)I: kind R -/
def fX4_lies (x1 : Int32) (σ : Mst) : Option Int32 := (fX4_isIn x1 (0 : Int32) ((gF σ 47) - (1 : Int32))).bind fun r1 => (if r1 = 0 then some (-2 : Int32) else ald 8 (gA σ 46) x1 fun v2 => some v2)
abbrev rX4_lies : Room := { frames := 1, cells := 0, slots := 0, locals := 22 }
set_option maxHeartbeats 4000000 in
set_option maxRecDepth 100000 in
theorem mX4_lies  {x1 : Int32} {σ : Mst} {q : Int32} (hf : fX4_lies x1 σ = some q) : CtI l yX4_lies cX4_lies 2 (some .int) rX4_lies D dA [.ref h0, .int x1] (Mc dA h0 ad σ) q (Mc dA h0 ad σ) := by
  refine e_I (by decide) (Nat.le_of_ble_eq_true rfl) ?_
  intro p e s m below meth c ls A FX hr hlk hl hW
  have hx := FX.1; have hb := FX.2.1; have hown := FX.2.2.2.1; have hts := FX.2.2.2.2
  have hl : lv_has ls 2 [(0, .ref h0), (1, .int x1)] := hl
  rw [fX4_lies] at hf
  refine lv_iload_n hx hb dX4_lies_0 rfl (lv_at hl 1 rfl) ?_
  refine lv_iconst (v := 0) hx hb dX4_lies_1 (by decide) ?_
  refine lv_aload_n hx hb dX4_lies_2 rfl (lv_at hl 0 rfl) ?_
  refine Mg47 FX hW dX4_lies_3 ?_
  refine lv_iconst (v := 1) hx hb dX4_lies_6 (by decide) ?_
  refine lv_isub hx hb dX4_lies_7 ?_
  refine kX4_isIn FX ⟨Nat.le_of_ble_eq_true rfl, Nat.le_of_ble_eq_true rfl⟩ ⟨Nat.zero_le _, Nat.zero_le _⟩ hl.1 (Nat.le_of_ble_eq_true rfl) hW hf dX4_lies_8 (fun r1 H locs hW hf => ?_)
  refine lv_if_eq (tgt := 23) hx hb dX4_lies_11 (by decide) (fun c11 => ?_) (fun c11 => ?_)
  · have hf := ifp c11 hf
    refine lv_bipush (v := -2) hx hb dX4_lies_23 (by decide) ?_
    exact g_iret FX hr hlk hW (Option.some.inj hf) dX4_lies_25
  · have hf := ifn c11 hf
    refine lv_aload_n hx hb dX4_lies_14 rfl (lv_at hl 0 rfl) ?_
    refine Mg46 FX hW dX4_lies_15 ?_
    refine lv_iload_n hx hb dX4_lies_18 rfl (lv_at hl 1 rfl) ?_
    refine g_iald FX hW 27 Mp46 hf dX4_lies_19 (fun v2 hf => ?_)
    refine lv_goto (tgt := 25) hx hb dX4_lies_20 (by decide) ?_
    exact g_iret FX hr hlk hW (Option.some.inj hf) dX4_lies_25

/-! TrunkLittersModel.twoBits(II)I: kind S -/
def fX4_twoBits (x0 : Int32) (x1 : Int32) : Option Int32 := some ((x0 >>> (((2 : Int32) * ((7 : Int32) - x1)) &&& 31)) &&& (3 : Int32))
abbrev rX4_twoBits : Room := { frames := 0, cells := 0, slots := 0, locals := 0 }
set_option maxHeartbeats 4000000 in
set_option maxRecDepth 100000 in
theorem mX4_twoBits  {x0 : Int32} {x1 : Int32} {q : Int32} (hf : fX4_twoBits x0 x1 = some q) : CtI l yX4_twoBits cX4_twoBits 2 (some .int) rX4_twoBits D dA [.int x0, .int x1] [] q [] := by
  refine e_I (by decide) (Nat.le_of_ble_eq_true rfl) ?_
  intro p e s m below meth c ls A FX hr hlk hl hW
  have hx := FX.1; have hb := FX.2.1; have hown := FX.2.2.2.1; have hts := FX.2.2.2.2
  have hl : lv_has ls 2 [(0, .int x0), (1, .int x1)] := hl
  rw [fX4_twoBits] at hf
  refine lv_iload_n hx hb dX4_twoBits_0 rfl (lv_at hl 0 rfl) ?_
  refine lv_iconst (v := 2) hx hb dX4_twoBits_1 (by decide) ?_
  refine lv_bipush (v := 7) hx hb dX4_twoBits_2 (by decide) ?_
  refine lv_iload_n hx hb dX4_twoBits_4 rfl (lv_at hl 1 rfl) ?_
  refine lv_isub hx hb dX4_twoBits_5 ?_
  refine lv_imul hx hb dX4_twoBits_6 ?_
  refine lv_ishr hx hb dX4_twoBits_7 ?_
  refine lv_iconst (v := 3) hx hb dX4_twoBits_8 (by decide) ?_
  refine lv_iand hx hb dX4_twoBits_9 ?_
  exact g_iret FX hr hlk hW (Option.some.inj hf) dX4_twoBits_10
set_option maxHeartbeats 4000000 in
set_option maxRecDepth 100000 in
theorem kX4_twoBits {α : Type} {q : α} {k : Int32 → Option α} {x0 : Int32} {x1 : Int32} {ws : va_W} (FX : CallFix p m c cc nL s args lw_all RX4) (hR : rX4_twoBits.frames + 1 ≤ R.frames ∧ 8 + (2 + 11) + rX4_twoBits.locals ≤ R.locals) (hcs : cells ≤ R.cells ∧ slots ≤ R.slots) (hl : ls.size = nL) (hrm : (rest.map fun v => v.category).sum ≤ 8) (hW : Wd D dA A s ws H locs) (hf : (fX4_twoBits x0 x1).bind k = some q) (hdg : decode cc pc = .ok (.invokestatic 442, 3)) (kk : ∀ (r : Int32) (H1 : Heap) (locs1 : List Loc), Wd D dA A s ws H1 locs1 → k r = some q → W p l e R s m args below meth c H1 locs1 cells slots Q (F0 m (pc + 3) ls (.int r :: rest))) : W p l e R s m args below meth c H locs cells slots Q (F0 m pc ls (.int x1 :: .int x0 :: rest)) := by
  obtain ⟨r1, h1, hf⟩ := bnd hf
  refine w_Si (As := [.int x0, .int x1]) (rest := rest) (n := 2) (wr := ws) FX (mX4_twoBits h1) (va_cwS 2 FX.2.2.2.2 (lw_S q2127 q2128 q132 q2129) rfl rfl rfl (by decide +kernel) hR) rfl hl rfl hrm ⟨Nat.le_trans (Nat.le_of_eq (Nat.add_zero cells)) hcs.1, Nat.le_trans (Nat.le_of_eq (Nat.add_zero slots)) hcs.2⟩ hdg hW ?_
  exact fun H1 locs1 hW1 => kk r1 H1 locs1 hW1 hf
/-! TrunkLittersModel.roomsIn(I)I: kind R -/
def fX4_roomsIn_18 (σ : Mst) (k4 : Int32 → Int32 → Int32 → Option Int32) : Nat → Int32 → Int32 → Int32 → Int32 → Int32 → Int32 → Option Int32
  | 0, _, _, _, _, _, _ => none
  | n + 1, x1, x2, x3, x4, x5, x6 => (if (8 : Int32) ≤ x6 then (if x5 = 0 then k4 x1 x2 (x3 + (1 : Int32)) else (fX4_chambers σ).bind fun r1 => (if r1 ≤ x3 then some (-1 : Int32) else (fX4_holdsOf x3 σ).bind fun r2 => (if x4 ≤ r2 then k4 x1 (x2 ||| ((1 : Int32) <<< (x3 &&& 31))) (x3 + (1 : Int32)) else some (-1 : Int32)))) else (fX4_twoBits x1 x6).bind fun r3 => (if r3 = x3 then ald 59 (gA σ 40) ((0 : Int32) + x6) fun v4 => (if v4 = 0 then fX4_roomsIn_18 σ k4 n x1 x2 x3 x4 x5 (x6 + (1 : Int32)) else ald 59 (gA σ 40) ((0 : Int32) + x6) fun v5 => fX4_roomsIn_18 σ k4 n x1 x2 x3 (x4 + v5) (x5 + (1 : Int32)) (x6 + (1 : Int32))) else fX4_roomsIn_18 σ k4 n x1 x2 x3 x4 x5 (x6 + (1 : Int32))))
def fX4_roomsIn_4 (σ : Mst) : Nat → Int32 → Int32 → Int32 → Option Int32
  | 0, _, _, _ => none
  | n + 1, x1, x2, x3 => (if (4 : Int32) ≤ x3 then some x2 else fX4_roomsIn_18 σ (fX4_roomsIn_4 σ n) FU x1 x2 x3 (0 : Int32) (0 : Int32) (0 : Int32))
def fX4_roomsIn (x1 : Int32) (σ : Mst) : Option Int32 := fX4_roomsIn_4 σ FU x1 (0 : Int32) (0 : Int32)
abbrev rX4_roomsIn : Room := { frames := 1, cells := 0, slots := 0, locals := 21 }
set_option maxHeartbeats 4000000 in
set_option maxRecDepth 100000 in
theorem wX4_roomsIn_18 {q : Int32} {σ : Mst} (FX : CallFix p m c cX4_roomsIn 7 s args lw_all RX4) (hr : meth.sig.returnType = (some .int)) (hlk : meth.locks = false) {k4 : Int32 → Int32 → Int32 → Option Int32} (hk4 : ∀ (x1 : Int32) (x2 : Int32) (x3 : Int32) (H : Heap) (locs : List Loc) (ls : Array Slot), lv_has ls 7 [(0, .ref h0), (1, .int x1), (2, .int x2), (3, .int x3)] → Wd D dA A s (Mc dA h0 ad σ) H locs → k4 x1 x2 x3 = some q → W p l e rX4_roomsIn s m args below meth c H locs 0 0 (QI D dA A below args s 0 0 q (Mc dA h0 ad σ)) (F0 m 4 ls [])) : ∀ n : Nat, ∀ (x1 : Int32) (x2 : Int32) (x3 : Int32) (x4 : Int32) (x5 : Int32) (x6 : Int32) (H : Heap) (locs : List Loc) (ls : Array Slot), lv_has ls 7 [(0, .ref h0), (1, .int x1), (2, .int x2), (3, .int x3), (4, .int x4), (5, .int x5), (6, .int x6)] → Wd D dA A s (Mc dA h0 ad σ) H locs → fX4_roomsIn_18 σ k4 n x1 x2 x3 x4 x5 x6 = some q → W p l e rX4_roomsIn s m args below meth c H locs 0 0 (QI D dA A below args s 0 0 q (Mc dA h0 ad σ)) (F0 m 18 ls []) := by
  have hx := FX.1; have hb := FX.2.1; have hown := FX.2.2.2.1; have hts := FX.2.2.2.2
  intro n
  induction n with
  | zero =>
    intro x1 x2 x3 x4 x5 x6 H locs ls hl hW hf
    cases (show (none : Option Int32) = some q from hf)
  | succ n ih =>
    intro x1 x2 x3 x4 x5 x6 H locs ls hl hW hf
    rw [fX4_roomsIn_18] at hf
    refine lv_iload hx hb dX4_roomsIn_18 (lv_at hl 6 rfl) ?_
    refine lv_bipush (v := 8) hx hb dX4_roomsIn_20 (by decide) ?_
    refine lv_icmp_ge (tgt := 73) hx hb dX4_roomsIn_22 (by decide) (fun c22 => ?_) (fun c22 => ?_)
    · have hf := ifp c22 hf
      refine lv_iload hx hb dX4_roomsIn_73 (lv_at hl 5 rfl) ?_
      refine lv_if_ne (tgt := 81) hx hb dX4_roomsIn_75 (by decide) (fun c75 => ?_) (fun c75 => ?_)
      · have hf := ifn c75 hf
        refine lv_iload_n hx hb dX4_roomsIn_81 rfl (lv_at hl 3 rfl) ?_
        refine lv_aload_n hx hb dX4_roomsIn_82 rfl (lv_at hl 0 rfl) ?_
        refine kX4_chambers FX ⟨Nat.le_of_ble_eq_true rfl, Nat.le_of_ble_eq_true rfl⟩ ⟨Nat.zero_le _, Nat.zero_le _⟩ hl.1 (Nat.le_of_ble_eq_true rfl) hW hf dX4_roomsIn_83 (fun r1 H locs hW hf => ?_)
        refine lv_icmp_ge (tgt := 99) hx hb dX4_roomsIn_86 (by decide) (fun c86 => ?_) (fun c86 => ?_)
        · have hf := ifp c86 hf
          refine lv_iconst (v := -1) hx hb dX4_roomsIn_99 (by decide) ?_
          exact g_iret FX hr hlk hW (Option.some.inj hf) dX4_roomsIn_100
        · have hf := ifn c86 hf
          refine lv_iload hx hb dX4_roomsIn_89 (lv_at hl 4 rfl) ?_
          refine lv_aload_n hx hb dX4_roomsIn_91 rfl (lv_at hl 0 rfl) ?_
          refine lv_iload_n hx hb dX4_roomsIn_92 rfl (lv_at hl 3 rfl) ?_
          refine kX4_holdsOf FX ⟨Nat.le_of_ble_eq_true rfl, Nat.le_of_ble_eq_true rfl⟩ ⟨Nat.zero_le _, Nat.zero_le _⟩ hl.1 (Nat.le_of_ble_eq_true rfl) hW hf dX4_roomsIn_93 (fun r2 H locs hW hf => ?_)
          refine lv_icmp_le (tgt := 101) hx hb dX4_roomsIn_96 (by decide) (fun c96 => ?_) (fun c96 => ?_)
          · have hf := ifp c96 hf
            refine lv_iload_n hx hb dX4_roomsIn_101 rfl (lv_at hl 2 rfl) ?_
            refine lv_iconst (v := 1) hx hb dX4_roomsIn_102 (by decide) ?_
            refine lv_iload_n hx hb dX4_roomsIn_103 rfl (lv_at hl 3 rfl) ?_
            refine lv_ishl hx hb dX4_roomsIn_104 ?_
            refine lv_ior hx hb dX4_roomsIn_105 ?_
            refine lv_istore_n (lv' := [(2, .int (x2 ||| ((1 : Int32) <<< (x3 &&& 31)))), (0, .ref h0), (1, .int x1), (3, .int x3), (4, .int x4), (5, .int x5), (6, .int x6)]) hx hb dX4_roomsIn_106 rfl hl (by decide) rfl (fun ls hl => ?_)
            refine lv_iinc (v := (x3 + (1 : Int32))) (lv' := [(3, .int (x3 + (1 : Int32))), (2, .int (x2 ||| ((1 : Int32) <<< (x3 &&& 31)))), (0, .ref h0), (1, .int x1), (4, .int x4), (5, .int x5), (6, .int x6)]) hx hb dX4_roomsIn_107 hl (k := 3) rfl rfl (by decide) rfl (fun ls hl => ?_)
            refine lv_goto (tgt := 4) hx hb dX4_roomsIn_110 (by decide) ?_
            exact hk4 x1 (x2 ||| ((1 : Int32) <<< (x3 &&& 31))) (x3 + (1 : Int32)) _ _ _ (lv_sub hl [2, 3, 1, 0] rfl) hW hf
          · have hf := ifn c96 hf
            refine lv_iconst (v := -1) hx hb dX4_roomsIn_99 (by decide) ?_
            exact g_iret FX hr hlk hW (Option.some.inj hf) dX4_roomsIn_100
      · have hf := ifp c75 hf
        refine lv_goto (tgt := 107) hx hb dX4_roomsIn_78 (by decide) ?_
        refine lv_iinc (v := (x3 + (1 : Int32))) (lv' := [(3, .int (x3 + (1 : Int32))), (0, .ref h0), (1, .int x1), (2, .int x2), (4, .int x4), (5, .int x5), (6, .int x6)]) hx hb dX4_roomsIn_107 hl (k := 3) rfl rfl (by decide) rfl (fun ls hl => ?_)
        refine lv_goto (tgt := 4) hx hb dX4_roomsIn_110 (by decide) ?_
        exact hk4 x1 x2 (x3 + (1 : Int32)) _ _ _ (lv_sub hl [1, 2, 3, 0] rfl) hW hf
    · have hf := ifn c22 hf
      refine lv_iload_n hx hb dX4_roomsIn_25 rfl (lv_at hl 1 rfl) ?_
      refine lv_iload hx hb dX4_roomsIn_26 (lv_at hl 6 rfl) ?_
      refine kX4_twoBits FX ⟨Nat.le_of_ble_eq_true rfl, Nat.le_of_ble_eq_true rfl⟩ ⟨Nat.zero_le _, Nat.zero_le _⟩ hl.1 (Nat.le_of_ble_eq_true rfl) hW hf dX4_roomsIn_28 (fun r3 H locs hW hf => ?_)
      refine lv_iload_n hx hb dX4_roomsIn_31 rfl (lv_at hl 3 rfl) ?_
      refine lv_icmp_ne (tgt := 67) hx hb dX4_roomsIn_32 (by decide) (fun c32 => ?_) (fun c32 => ?_)
      · have hf := ifn c32 hf
        refine lv_iinc (v := (x6 + (1 : Int32))) (lv' := [(6, .int (x6 + (1 : Int32))), (0, .ref h0), (1, .int x1), (2, .int x2), (3, .int x3), (4, .int x4), (5, .int x5)]) hx hb dX4_roomsIn_67 hl (k := 6) rfl rfl (by decide) rfl (fun ls hl => ?_)
        refine lv_goto (tgt := 18) hx hb dX4_roomsIn_70 (by decide) ?_
        exact ih x1 x2 x3 x4 x5 (x6 + (1 : Int32)) _ _ _ (lv_sub hl [1, 2, 3, 4, 5, 6, 0] rfl) hW hf
      · have hf := ifp c32 hf
        refine lv_aload_n hx hb dX4_roomsIn_35 rfl (lv_at hl 0 rfl) ?_
        refine Mg40 FX hW dX4_roomsIn_36 ?_
        refine lv_iconst (v := 0) hx hb dX4_roomsIn_39 (by decide) ?_
        refine lv_iload hx hb dX4_roomsIn_40 (lv_at hl 6 rfl) ?_
        refine lv_iadd hx hb dX4_roomsIn_42 ?_
        refine g_iald FX hW 24 Mp40 hf dX4_roomsIn_43 (fun v4 hf => ?_)
        refine lv_if_ne (tgt := 50) hx hb dX4_roomsIn_44 (by decide) (fun c44 => ?_) (fun c44 => ?_)
        · have hf := ifn c44 hf
          refine lv_iload hx hb dX4_roomsIn_50 (lv_at hl 4 rfl) ?_
          refine lv_aload_n hx hb dX4_roomsIn_52 rfl (lv_at hl 0 rfl) ?_
          refine Mg40 FX hW dX4_roomsIn_53 ?_
          refine lv_iconst (v := 0) hx hb dX4_roomsIn_56 (by decide) ?_
          refine lv_iload hx hb dX4_roomsIn_57 (lv_at hl 6 rfl) ?_
          refine lv_iadd hx hb dX4_roomsIn_59 ?_
          refine g_iald FX hW 24 Mp40 hf dX4_roomsIn_60 (fun v5 hf => ?_)
          refine lv_iadd hx hb dX4_roomsIn_61 ?_
          refine lv_istore (lv' := [(4, .int (x4 + v5)), (0, .ref h0), (1, .int x1), (2, .int x2), (3, .int x3), (5, .int x5), (6, .int x6)]) hx hb dX4_roomsIn_62 hl (by decide) rfl (fun ls hl => ?_)
          refine lv_iinc (v := (x5 + (1 : Int32))) (lv' := [(5, .int (x5 + (1 : Int32))), (4, .int (x4 + v5)), (0, .ref h0), (1, .int x1), (2, .int x2), (3, .int x3), (6, .int x6)]) hx hb dX4_roomsIn_64 hl (k := 5) rfl rfl (by decide) rfl (fun ls hl => ?_)
          refine lv_iinc (v := (x6 + (1 : Int32))) (lv' := [(6, .int (x6 + (1 : Int32))), (5, .int (x5 + (1 : Int32))), (4, .int (x4 + v5)), (0, .ref h0), (1, .int x1), (2, .int x2), (3, .int x3)]) hx hb dX4_roomsIn_67 hl (k := 6) rfl rfl (by decide) rfl (fun ls hl => ?_)
          refine lv_goto (tgt := 18) hx hb dX4_roomsIn_70 (by decide) ?_
          exact ih x1 x2 x3 (x4 + v5) (x5 + (1 : Int32)) (x6 + (1 : Int32)) _ _ _ (lv_sub hl [3, 4, 5, 6, 2, 1, 0] rfl) hW hf
        · have hf := ifp c44 hf
          refine lv_goto (tgt := 67) hx hb dX4_roomsIn_47 (by decide) ?_
          refine lv_iinc (v := (x6 + (1 : Int32))) (lv' := [(6, .int (x6 + (1 : Int32))), (0, .ref h0), (1, .int x1), (2, .int x2), (3, .int x3), (4, .int x4), (5, .int x5)]) hx hb dX4_roomsIn_67 hl (k := 6) rfl rfl (by decide) rfl (fun ls hl => ?_)
          refine lv_goto (tgt := 18) hx hb dX4_roomsIn_70 (by decide) ?_
          exact ih x1 x2 x3 x4 x5 (x6 + (1 : Int32)) _ _ _ (lv_sub hl [1, 2, 3, 4, 5, 6, 0] rfl) hW hf
set_option maxHeartbeats 4000000 in
set_option maxRecDepth 100000 in
theorem wX4_roomsIn_4 {q : Int32} {σ : Mst} (FX : CallFix p m c cX4_roomsIn 7 s args lw_all RX4) (hr : meth.sig.returnType = (some .int)) (hlk : meth.locks = false) : ∀ n : Nat, ∀ (x1 : Int32) (x2 : Int32) (x3 : Int32) (H : Heap) (locs : List Loc) (ls : Array Slot), lv_has ls 7 [(0, .ref h0), (1, .int x1), (2, .int x2), (3, .int x3)] → Wd D dA A s (Mc dA h0 ad σ) H locs → fX4_roomsIn_4 σ n x1 x2 x3 = some q → W p l e rX4_roomsIn s m args below meth c H locs 0 0 (QI D dA A below args s 0 0 q (Mc dA h0 ad σ)) (F0 m 4 ls []) := by
  have hx := FX.1; have hb := FX.2.1; have hown := FX.2.2.2.1; have hts := FX.2.2.2.2
  intro n
  induction n with
  | zero =>
    intro x1 x2 x3 H locs ls hl hW hf
    cases (show (none : Option Int32) = some q from hf)
  | succ n ih =>
    intro x1 x2 x3 H locs ls hl hW hf
    rw [fX4_roomsIn_4] at hf
    refine lv_iload_n hx hb dX4_roomsIn_4 rfl (lv_at hl 3 rfl) ?_
    refine lv_iconst (v := 4) hx hb dX4_roomsIn_5 (by decide) ?_
    refine lv_icmp_ge (tgt := 113) hx hb dX4_roomsIn_6 (by decide) (fun c6 => ?_) (fun c6 => ?_)
    · have hf := ifp c6 hf
      refine lv_iload_n hx hb dX4_roomsIn_113 rfl (lv_at hl 2 rfl) ?_
      exact g_iret FX hr hlk hW (Option.some.inj hf) dX4_roomsIn_114
    · have hf := ifn c6 hf
      refine lv_iconst (v := 0) hx hb dX4_roomsIn_9 (by decide) ?_
      refine lv_istore (lv' := [(4, .int (0 : Int32)), (0, .ref h0), (1, .int x1), (2, .int x2), (3, .int x3)]) hx hb dX4_roomsIn_10 hl (by decide) rfl (fun ls hl => ?_)
      refine lv_iconst (v := 0) hx hb dX4_roomsIn_12 (by decide) ?_
      refine lv_istore (lv' := [(5, .int (0 : Int32)), (4, .int (0 : Int32)), (0, .ref h0), (1, .int x1), (2, .int x2), (3, .int x3)]) hx hb dX4_roomsIn_13 hl (by decide) rfl (fun ls hl => ?_)
      refine lv_iconst (v := 0) hx hb dX4_roomsIn_15 (by decide) ?_
      refine lv_istore (lv' := [(6, .int (0 : Int32)), (5, .int (0 : Int32)), (4, .int (0 : Int32)), (0, .ref h0), (1, .int x1), (2, .int x2), (3, .int x3)]) hx hb dX4_roomsIn_16 hl (by decide) rfl (fun ls hl => ?_)
      exact wX4_roomsIn_18 FX hr hlk (ih) _ x1 x2 x3 (0 : Int32) (0 : Int32) (0 : Int32) _ _ _ (lv_sub hl [3, 4, 5, 6, 2, 1, 0] rfl) hW hf
set_option maxHeartbeats 4000000 in
set_option maxRecDepth 100000 in
theorem mX4_roomsIn  {x1 : Int32} {σ : Mst} {q : Int32} (hf : fX4_roomsIn x1 σ = some q) : CtI l yX4_roomsIn cX4_roomsIn 7 (some .int) rX4_roomsIn D dA [.ref h0, .int x1] (Mc dA h0 ad σ) q (Mc dA h0 ad σ) := by
  refine e_I (by decide) (Nat.le_of_ble_eq_true rfl) ?_
  intro p e s m below meth c ls A FX hr hlk hl hW
  have hx := FX.1; have hb := FX.2.1; have hown := FX.2.2.2.1; have hts := FX.2.2.2.2
  have hl : lv_has ls 7 [(0, .ref h0), (1, .int x1)] := hl
  rw [fX4_roomsIn] at hf
  refine lv_iconst (v := 0) hx hb dX4_roomsIn_0 (by decide) ?_
  refine lv_istore_n (lv' := [(2, .int (0 : Int32)), (0, .ref h0), (1, .int x1)]) hx hb dX4_roomsIn_1 rfl hl (by decide) rfl (fun ls hl => ?_)
  refine lv_iconst (v := 0) hx hb dX4_roomsIn_2 (by decide) ?_
  refine lv_istore_n (lv' := [(3, .int (0 : Int32)), (2, .int (0 : Int32)), (0, .ref h0), (1, .int x1)]) hx hb dX4_roomsIn_3 rfl hl (by decide) rfl (fun ls hl => ?_)
  exact wX4_roomsIn_4 FX hr hlk _ x1 (0 : Int32) (0 : Int32) _ _ _ (lv_sub hl [2, 3, 1, 0] rfl) hW hf
set_option maxHeartbeats 4000000 in
set_option maxRecDepth 100000 in
theorem kX4_roomsIn {α : Type} {q : α} {k : Int32 → Option α} {x1 : Int32} {σ : Mst} (FX : CallFix p m c cc nL s args lw_all RX4) (hR : rX4_roomsIn.frames + 1 ≤ R.frames ∧ 8 + (7 + 11) + rX4_roomsIn.locals ≤ R.locals) (hcs : cells ≤ R.cells ∧ slots ≤ R.slots) (hl : ls.size = nL) (hrm : (rest.map fun v => v.category).sum ≤ 8) (hW : Wd D dA A s (Mc dA h0 ad σ) H locs) (hf : (fX4_roomsIn x1 σ).bind k = some q) (hdg : decode cc pc = .ok (.invokevirtual 446, 3)) (kk : ∀ (r : Int32) (H1 : Heap) (locs1 : List Loc), Wd D dA A s (Mc dA h0 ad σ) H1 locs1 → k r = some q → W p l e R s m args below meth c H1 locs1 cells slots Q (F0 m (pc + 3) ls (.int r :: rest))) : W p l e R s m args below meth c H locs cells slots Q (F0 m pc ls (.int x1 :: .ref h0 :: rest)) := by
  obtain ⟨r1, h1, hf⟩ := bnd hf
  refine w_Vi (C := RX4) (As := [.int x1]) (rest := rest) (n := 1) (wr := []) FX (mX4_roomsIn h1) (cwV 1 FX.2.2.2.2 (lw_V q2123 q2125 qs110 q132 q2126) rfl rfl rfl (by decide +kernel) hR) (va_recv hW.2.2.2.1 hW.1 (ci := 4) (q0 := 0) rfl rfl) rfl hl rfl hrm ⟨Nat.le_trans (Nat.le_of_eq (Nat.add_zero cells)) hcs.1, Nat.le_trans (Nat.le_of_eq (Nat.add_zero slots)) hcs.2⟩ hdg hW.nil ?_
  exact fun H1 locs1 hW1 => kk r1 H1 locs1 hW1.nil' hf
/-! TrunkLittersModel.pack()I: kind W -/
def fX4_pack_158 (k123 : Int32 → Int32 → Int32 → Mst → Option (Int32 × Mst)) (x1 : Int32) (x2 : Int32) (x4 : Int32) (y1 : Int32) (y2 : Int32) (σ : Mst) : Option (Int32 × Mst) := ast 8 y1 (stp (sA σ 46 y1 y2) fun s1 => k123 x1 x2 (x4 + (1 : Int32)) s1)
def fX4_pack_123 : Nat → Int32 → Int32 → Int32 → Mst → Option (Int32 × Mst)
  | 0, _, _, _, _ => none
  | n + 1, x1, x2, x4, σ => (if (8 : Int32) ≤ x4 then stp (sF σ 47 (8 : Int32)) fun s1 => some (x2, s1) else ald 59 (gA σ 40) ((0 : Int32) + x4) fun v2 => (if v2 = 0 then fX4_pack_158 (fX4_pack_123 n) x1 x2 x4 x4 (-1 : Int32) σ else (fX4_twoBits x1 x4).bind fun r3 => fX4_pack_158 (fX4_pack_123 n) x1 x2 x4 x4 r3 σ))
def fX4_pack_56 : Nat → Int32 → Int32 → Int32 → Int32 → Mst → Option (Int32 × Mst)
  | 0, _, _, _, _, _ => none
  | n + 1, x1, x2, x3, x4, σ => (if (65536 : Int32) ≤ x4 then (if 0 ≤ x1 then fX4_pack_123 FU x1 x2 (0 : Int32) σ else some ((-1 : Int32), σ)) else (if (x4 &&& x3) = 0 then (fX4_roomsIn x4 σ).bind fun r1 => (if r1 < 0 then fX4_pack_56 n x1 x2 x3 (x4 + (1 : Int32)) σ else (fX4_bitsOf r1).bind fun r2 => (if r2 < x2 then (fX4_bitsOf r1).bind fun r3 => fX4_pack_56 n x4 r3 x3 (x4 + (1 : Int32)) σ else fX4_pack_56 n x1 x2 x3 (x4 + (1 : Int32)) σ)) else fX4_pack_56 n x1 x2 x3 (x4 + (1 : Int32)) σ))
def fX4_pack_16 : Nat → Int32 → Int32 → Int32 → Int32 → Mst → Option (Int32 × Mst)
  | 0, _, _, _, _, _ => none
  | n + 1, x1, x2, x3, x4, σ => (if (8 : Int32) ≤ x4 then fX4_pack_56 FU x1 x2 x3 (0 : Int32) σ else ald 59 (gA σ 40) ((0 : Int32) + x4) fun v1 => (if v1 = 0 then fX4_pack_16 n x1 x2 (x3 ||| ((3 : Int32) <<< (((2 : Int32) * ((7 : Int32) - x4)) &&& 31))) (x4 + (1 : Int32)) σ else fX4_pack_16 n x1 x2 x3 (x4 + (1 : Int32)) σ))
def fX4_pack (σ : Mst) : Option (Int32 × Mst) := stp (sF σ 47 (0 : Int32)) fun s1 => fX4_pack_16 FU (-1 : Int32) (1000 : Int32) (0 : Int32) (0 : Int32) s1
abbrev rX4_pack : Room := { frames := 2, cells := 0, slots := 0, locals := 47 }
set_option maxHeartbeats 4000000 in
set_option maxRecDepth 100000 in
theorem wX4_pack_158 {q : (Int32 × Mst)} (FX : CallFix p m c cX4_pack 6 s args lw_all RX4) (hr : meth.sig.returnType = (some .int)) (hlk : meth.locks = false) {k123 : Int32 → Int32 → Int32 → Mst → Option (Int32 × Mst)} (hk123 : ∀ (x1 : Int32) (x2 : Int32) (x4 : Int32) (σ : Mst) (H : Heap) (locs : List Loc) (ls : Array Slot), lv_has ls 6 [(0, .ref h0), (1, .int x1), (2, .int x2), (4, .int x4)] → Wd D dA A s (Mc dA h0 ad σ) H locs → k123 x1 x2 x4 σ = some q → W p l e rX4_pack s m args below meth c H locs 0 0 (QI D dA A below args s 0 0 q.1 (Mc dA h0 ad q.2)) (F0 m 123 ls [])) : ∀ (x1 : Int32) (x2 : Int32) (x4 : Int32) (y1 : Int32) (y2 : Int32) (σ : Mst) (H : Heap) (locs : List Loc) (ls : Array Slot), lv_has ls 6 [(0, .ref h0), (1, .int x1), (2, .int x2), (4, .int x4)] → Wd D dA A s (Mc dA h0 ad σ) H locs → fX4_pack_158 k123 x1 x2 x4 y1 y2 σ = some q → W p l e rX4_pack s m args below meth c H locs 0 0 (QI D dA A below args s 0 0 q.1 (Mc dA h0 ad q.2)) (F0 m 158 ls [.int y2, .int y1, .ref (ad 46)]) := by
  have hx := FX.1; have hb := FX.2.1; have hown := FX.2.2.2.1; have hts := FX.2.2.2.2
  intro x1 x2 x4 y1 y2 σ H locs ls hl hW hf
  rw [fX4_pack_158] at hf
  refine g_iast FX hW 27 Mp46 (L := Mc dA h0 ad) (Mt46) hf dX4_pack_158 (fun s1 H locs hW hf => ?_)
  refine lv_iinc (v := (x4 + (1 : Int32))) (lv' := [(4, .int (x4 + (1 : Int32))), (0, .ref h0), (1, .int x1), (2, .int x2)]) hx hb dX4_pack_159 hl (k := 3) rfl rfl (by decide) rfl (fun ls hl => ?_)
  refine lv_goto (tgt := 123) hx hb dX4_pack_162 (by decide) ?_
  exact hk123 x1 x2 (x4 + (1 : Int32)) s1 _ _ _ (lv_sub hl [1, 2, 3, 0] rfl) hW hf
set_option maxHeartbeats 4000000 in
set_option maxRecDepth 100000 in
theorem wX4_pack_123 {q : (Int32 × Mst)} (FX : CallFix p m c cX4_pack 6 s args lw_all RX4) (hr : meth.sig.returnType = (some .int)) (hlk : meth.locks = false) : ∀ n : Nat, ∀ (x1 : Int32) (x2 : Int32) (x4 : Int32) (σ : Mst) (H : Heap) (locs : List Loc) (ls : Array Slot), lv_has ls 6 [(0, .ref h0), (1, .int x1), (2, .int x2), (4, .int x4)] → Wd D dA A s (Mc dA h0 ad σ) H locs → fX4_pack_123 n x1 x2 x4 σ = some q → W p l e rX4_pack s m args below meth c H locs 0 0 (QI D dA A below args s 0 0 q.1 (Mc dA h0 ad q.2)) (F0 m 123 ls []) := by
  have hx := FX.1; have hb := FX.2.1; have hown := FX.2.2.2.1; have hts := FX.2.2.2.2
  intro n
  induction n with
  | zero =>
    intro x1 x2 x4 σ H locs ls hl hW hf
    cases (show (none : Option (Int32 × Mst)) = some q from hf)
  | succ n ih =>
    intro x1 x2 x4 σ H locs ls hl hW hf
    rw [fX4_pack_123] at hf
    refine lv_iload hx hb dX4_pack_123 (lv_at hl 3 rfl) ?_
    refine lv_bipush (v := 8) hx hb dX4_pack_125 (by decide) ?_
    refine lv_icmp_ge (tgt := 165) hx hb dX4_pack_127 (by decide) (fun c127 => ?_) (fun c127 => ?_)
    · have hf := ifp c127 hf
      refine lv_aload_n hx hb dX4_pack_165 rfl (lv_at hl 0 rfl) ?_
      refine lv_bipush (v := 8) hx hb dX4_pack_166 (by decide) ?_
      refine Ms47 FX hW hf dX4_pack_168 (fun s1 H locs hW hf => ?_)
      refine lv_iload_n hx hb dX4_pack_171 rfl (lv_at hl 2 rfl) ?_
      obtain rfl := Option.some.inj hf
      exact g_iret FX hr hlk hW rfl dX4_pack_172
    · have hf := ifn c127 hf
      refine lv_aload_n hx hb dX4_pack_130 rfl (lv_at hl 0 rfl) ?_
      refine Mg46 FX hW dX4_pack_131 ?_
      refine lv_iload hx hb dX4_pack_134 (lv_at hl 3 rfl) ?_
      refine lv_aload_n hx hb dX4_pack_136 rfl (lv_at hl 0 rfl) ?_
      refine Mg40 FX hW dX4_pack_137 ?_
      refine lv_iconst (v := 0) hx hb dX4_pack_140 (by decide) ?_
      refine lv_iload hx hb dX4_pack_141 (lv_at hl 3 rfl) ?_
      refine lv_iadd hx hb dX4_pack_143 ?_
      refine g_iald FX hW 24 Mp40 hf dX4_pack_144 (fun v2 hf => ?_)
      refine lv_if_ne (tgt := 152) hx hb dX4_pack_145 (by decide) (fun c145 => ?_) (fun c145 => ?_)
      · have hf := ifn c145 hf
        refine lv_iload_n hx hb dX4_pack_152 rfl (lv_at hl 1 rfl) ?_
        refine lv_iload hx hb dX4_pack_153 (lv_at hl 3 rfl) ?_
        refine kX4_twoBits FX ⟨Nat.le_of_ble_eq_true rfl, Nat.le_of_ble_eq_true rfl⟩ ⟨Nat.zero_le _, Nat.zero_le _⟩ hl.1 (Nat.le_of_ble_eq_true rfl) hW hf dX4_pack_155 (fun r3 H locs hW hf => ?_)
        exact wX4_pack_158 FX hr hlk (ih) x1 x2 x4 x4 r3 σ _ _ _ (lv_sub hl [0, 1, 2, 3] rfl) hW hf
      · have hf := ifp c145 hf
        refine lv_iconst (v := -1) hx hb dX4_pack_148 (by decide) ?_
        refine lv_goto (tgt := 158) hx hb dX4_pack_149 (by decide) ?_
        exact wX4_pack_158 FX hr hlk (ih) x1 x2 x4 x4 (-1 : Int32) σ _ _ _ (lv_sub hl [0, 1, 2, 3] rfl) hW hf
set_option maxHeartbeats 4000000 in
set_option maxRecDepth 100000 in
theorem wX4_pack_56 {q : (Int32 × Mst)} (FX : CallFix p m c cX4_pack 6 s args lw_all RX4) (hr : meth.sig.returnType = (some .int)) (hlk : meth.locks = false) : ∀ n : Nat, ∀ (x1 : Int32) (x2 : Int32) (x3 : Int32) (x4 : Int32) (σ : Mst) (H : Heap) (locs : List Loc) (ls : Array Slot), lv_has ls 6 [(0, .ref h0), (1, .int x1), (2, .int x2), (3, .int x3), (4, .int x4)] → Wd D dA A s (Mc dA h0 ad σ) H locs → fX4_pack_56 n x1 x2 x3 x4 σ = some q → W p l e rX4_pack s m args below meth c H locs 0 0 (QI D dA A below args s 0 0 q.1 (Mc dA h0 ad q.2)) (F0 m 56 ls []) := by
  have hx := FX.1; have hb := FX.2.1; have hown := FX.2.2.2.1; have hts := FX.2.2.2.2
  intro n
  induction n with
  | zero =>
    intro x1 x2 x3 x4 σ H locs ls hl hW hf
    cases (show (none : Option (Int32 × Mst)) = some q from hf)
  | succ n ih =>
    intro x1 x2 x3 x4 σ H locs ls hl hW hf
    rw [fX4_pack_56] at hf
    refine lv_iload hx hb dX4_pack_56 (lv_at hl 4 rfl) ?_
    refine lv_ldcw (v := 65536) hx hb hown (hts _ q2122) dX4_pack_58 ?_
    refine lv_icmp_ge (tgt := 114) hx hb dX4_pack_61 (by decide) (fun c61 => ?_) (fun c61 => ?_)
    · have hf := ifp c61 hf
      refine lv_iload_n hx hb dX4_pack_114 rfl (lv_at hl 1 rfl) ?_
      refine lv_if_ge (tgt := 120) hx hb dX4_pack_115 (by decide) (fun c115 => ?_) (fun c115 => ?_)
      · have hf := ifp c115 hf
        refine lv_iconst (v := 0) hx hb dX4_pack_120 (by decide) ?_
        refine lv_istore (lv' := [(4, .int (0 : Int32)), (0, .ref h0), (1, .int x1), (2, .int x2), (3, .int x3)]) hx hb dX4_pack_121 hl (by decide) rfl (fun ls hl => ?_)
        exact wX4_pack_123 FX hr hlk _ x1 x2 (0 : Int32) σ _ _ _ (lv_sub hl [1, 2, 3, 0] rfl) hW hf
      · have hf := ifn c115 hf
        refine lv_iconst (v := -1) hx hb dX4_pack_118 (by decide) ?_
        obtain rfl := Option.some.inj hf
        exact g_iret FX hr hlk hW rfl dX4_pack_119
    · have hf := ifn c61 hf
      refine lv_iload hx hb dX4_pack_64 (lv_at hl 4 rfl) ?_
      refine lv_iload_n hx hb dX4_pack_66 rfl (lv_at hl 3 rfl) ?_
      refine lv_iand hx hb dX4_pack_67 ?_
      refine lv_if_eq (tgt := 74) hx hb dX4_pack_68 (by decide) (fun c68 => ?_) (fun c68 => ?_)
      · have hf := ifp c68 hf
        refine lv_aload_n hx hb dX4_pack_74 rfl (lv_at hl 0 rfl) ?_
        refine lv_iload hx hb dX4_pack_75 (lv_at hl 4 rfl) ?_
        refine kX4_roomsIn FX ⟨Nat.le_of_ble_eq_true rfl, Nat.le_of_ble_eq_true rfl⟩ ⟨Nat.zero_le _, Nat.zero_le _⟩ hl.1 (Nat.le_of_ble_eq_true rfl) hW hf dX4_pack_77 (fun r1 H locs hW hf => ?_)
        refine lv_istore (lv' := [(5, .int r1), (0, .ref h0), (1, .int x1), (2, .int x2), (3, .int x3), (4, .int x4)]) hx hb dX4_pack_80 hl (by decide) rfl (fun ls hl => ?_)
        refine lv_iload hx hb dX4_pack_82 (lv_at hl 0 rfl) ?_
        refine lv_if_lt (tgt := 108) hx hb dX4_pack_84 (by decide) (fun c84 => ?_) (fun c84 => ?_)
        · have hf := ifp c84 hf
          refine lv_iinc (v := (x4 + (1 : Int32))) (lv' := [(4, .int (x4 + (1 : Int32))), (5, .int r1), (0, .ref h0), (1, .int x1), (2, .int x2), (3, .int x3)]) hx hb dX4_pack_108 hl (k := 5) rfl rfl (by decide) rfl (fun ls hl => ?_)
          refine lv_goto (tgt := 56) hx hb dX4_pack_111 (by decide) ?_
          exact ih x1 x2 x3 (x4 + (1 : Int32)) σ _ _ _ (lv_sub hl [2, 3, 4, 5, 0] rfl) hW hf
        · have hf := ifn c84 hf
          refine lv_iload hx hb dX4_pack_87 (lv_at hl 0 rfl) ?_
          refine kX4_bitsOf FX ⟨Nat.le_of_ble_eq_true rfl, Nat.le_of_ble_eq_true rfl⟩ ⟨Nat.zero_le _, Nat.zero_le _⟩ hl.1 (Nat.le_of_ble_eq_true rfl) hW hf dX4_pack_89 (fun r2 H locs hW hf => ?_)
          refine lv_iload_n hx hb dX4_pack_92 rfl (lv_at hl 3 rfl) ?_
          refine lv_icmp_lt (tgt := 99) hx hb dX4_pack_93 (by decide) (fun c93 => ?_) (fun c93 => ?_)
          · have hf := ifp c93 hf
            refine lv_iload hx hb dX4_pack_99 (lv_at hl 5 rfl) ?_
            refine lv_istore_n (lv' := [(1, .int x4), (5, .int r1), (0, .ref h0), (2, .int x2), (3, .int x3), (4, .int x4)]) hx hb dX4_pack_101 rfl hl (by decide) rfl (fun ls hl => ?_)
            refine lv_iload hx hb dX4_pack_102 (lv_at hl 1 rfl) ?_
            refine kX4_bitsOf FX ⟨Nat.le_of_ble_eq_true rfl, Nat.le_of_ble_eq_true rfl⟩ ⟨Nat.zero_le _, Nat.zero_le _⟩ hl.1 (Nat.le_of_ble_eq_true rfl) hW hf dX4_pack_104 (fun r3 H locs hW hf => ?_)
            refine lv_istore_n (lv' := [(2, .int r3), (1, .int x4), (5, .int r1), (0, .ref h0), (3, .int x3), (4, .int x4)]) hx hb dX4_pack_107 rfl hl (by decide) rfl (fun ls hl => ?_)
            refine lv_iinc (v := (x4 + (1 : Int32))) (lv' := [(4, .int (x4 + (1 : Int32))), (2, .int r3), (1, .int x4), (5, .int r1), (0, .ref h0), (3, .int x3)]) hx hb dX4_pack_108 hl (k := 5) rfl rfl (by decide) rfl (fun ls hl => ?_)
            refine lv_goto (tgt := 56) hx hb dX4_pack_111 (by decide) ?_
            exact ih x4 r3 x3 (x4 + (1 : Int32)) σ _ _ _ (lv_sub hl [4, 2, 1, 5, 0] rfl) hW hf
          · have hf := ifn c93 hf
            refine lv_goto (tgt := 108) hx hb dX4_pack_96 (by decide) ?_
            refine lv_iinc (v := (x4 + (1 : Int32))) (lv' := [(4, .int (x4 + (1 : Int32))), (5, .int r1), (0, .ref h0), (1, .int x1), (2, .int x2), (3, .int x3)]) hx hb dX4_pack_108 hl (k := 5) rfl rfl (by decide) rfl (fun ls hl => ?_)
            refine lv_goto (tgt := 56) hx hb dX4_pack_111 (by decide) ?_
            exact ih x1 x2 x3 (x4 + (1 : Int32)) σ _ _ _ (lv_sub hl [2, 3, 4, 5, 0] rfl) hW hf
      · have hf := ifn c68 hf
        refine lv_goto (tgt := 108) hx hb dX4_pack_71 (by decide) ?_
        refine lv_iinc (v := (x4 + (1 : Int32))) (lv' := [(4, .int (x4 + (1 : Int32))), (0, .ref h0), (1, .int x1), (2, .int x2), (3, .int x3)]) hx hb dX4_pack_108 hl (k := 4) rfl rfl (by decide) rfl (fun ls hl => ?_)
        refine lv_goto (tgt := 56) hx hb dX4_pack_111 (by decide) ?_
        exact ih x1 x2 x3 (x4 + (1 : Int32)) σ _ _ _ (lv_sub hl [1, 2, 3, 4, 0] rfl) hW hf
set_option maxHeartbeats 4000000 in
set_option maxRecDepth 100000 in
theorem wX4_pack_16 {q : (Int32 × Mst)} (FX : CallFix p m c cX4_pack 6 s args lw_all RX4) (hr : meth.sig.returnType = (some .int)) (hlk : meth.locks = false) : ∀ n : Nat, ∀ (x1 : Int32) (x2 : Int32) (x3 : Int32) (x4 : Int32) (σ : Mst) (H : Heap) (locs : List Loc) (ls : Array Slot), lv_has ls 6 [(0, .ref h0), (1, .int x1), (2, .int x2), (3, .int x3), (4, .int x4)] → Wd D dA A s (Mc dA h0 ad σ) H locs → fX4_pack_16 n x1 x2 x3 x4 σ = some q → W p l e rX4_pack s m args below meth c H locs 0 0 (QI D dA A below args s 0 0 q.1 (Mc dA h0 ad q.2)) (F0 m 16 ls []) := by
  have hx := FX.1; have hb := FX.2.1; have hown := FX.2.2.2.1; have hts := FX.2.2.2.2
  intro n
  induction n with
  | zero =>
    intro x1 x2 x3 x4 σ H locs ls hl hW hf
    cases (show (none : Option (Int32 × Mst)) = some q from hf)
  | succ n ih =>
    intro x1 x2 x3 x4 σ H locs ls hl hW hf
    rw [fX4_pack_16] at hf
    refine lv_iload hx hb dX4_pack_16 (lv_at hl 4 rfl) ?_
    refine lv_bipush (v := 8) hx hb dX4_pack_18 (by decide) ?_
    refine lv_icmp_ge (tgt := 53) hx hb dX4_pack_20 (by decide) (fun c20 => ?_) (fun c20 => ?_)
    · have hf := ifp c20 hf
      refine lv_iconst (v := 0) hx hb dX4_pack_53 (by decide) ?_
      refine lv_istore (lv' := [(4, .int (0 : Int32)), (0, .ref h0), (1, .int x1), (2, .int x2), (3, .int x3)]) hx hb dX4_pack_54 hl (by decide) rfl (fun ls hl => ?_)
      exact wX4_pack_56 FX hr hlk _ x1 x2 x3 (0 : Int32) σ _ _ _ (lv_sub hl [1, 2, 3, 4, 0] rfl) hW hf
    · have hf := ifn c20 hf
      refine lv_aload_n hx hb dX4_pack_23 rfl (lv_at hl 0 rfl) ?_
      refine Mg40 FX hW dX4_pack_24 ?_
      refine lv_iconst (v := 0) hx hb dX4_pack_27 (by decide) ?_
      refine lv_iload hx hb dX4_pack_28 (lv_at hl 4 rfl) ?_
      refine lv_iadd hx hb dX4_pack_30 ?_
      refine g_iald FX hW 24 Mp40 hf dX4_pack_31 (fun v1 hf => ?_)
      refine lv_if_ne (tgt := 47) hx hb dX4_pack_32 (by decide) (fun c32 => ?_) (fun c32 => ?_)
      · have hf := ifn c32 hf
        refine lv_iinc (v := (x4 + (1 : Int32))) (lv' := [(4, .int (x4 + (1 : Int32))), (0, .ref h0), (1, .int x1), (2, .int x2), (3, .int x3)]) hx hb dX4_pack_47 hl (k := 4) rfl rfl (by decide) rfl (fun ls hl => ?_)
        refine lv_goto (tgt := 16) hx hb dX4_pack_50 (by decide) ?_
        exact ih x1 x2 x3 (x4 + (1 : Int32)) σ _ _ _ (lv_sub hl [1, 2, 3, 4, 0] rfl) hW hf
      · have hf := ifp c32 hf
        refine lv_iload_n hx hb dX4_pack_35 rfl (lv_at hl 3 rfl) ?_
        refine lv_iconst (v := 3) hx hb dX4_pack_36 (by decide) ?_
        refine lv_iconst (v := 2) hx hb dX4_pack_37 (by decide) ?_
        refine lv_bipush (v := 7) hx hb dX4_pack_38 (by decide) ?_
        refine lv_iload hx hb dX4_pack_40 (lv_at hl 4 rfl) ?_
        refine lv_isub hx hb dX4_pack_42 ?_
        refine lv_imul hx hb dX4_pack_43 ?_
        refine lv_ishl hx hb dX4_pack_44 ?_
        refine lv_ior hx hb dX4_pack_45 ?_
        refine lv_istore_n (lv' := [(3, .int (x3 ||| ((3 : Int32) <<< (((2 : Int32) * ((7 : Int32) - x4)) &&& 31)))), (0, .ref h0), (1, .int x1), (2, .int x2), (4, .int x4)]) hx hb dX4_pack_46 rfl hl (by decide) rfl (fun ls hl => ?_)
        refine lv_iinc (v := (x4 + (1 : Int32))) (lv' := [(4, .int (x4 + (1 : Int32))), (3, .int (x3 ||| ((3 : Int32) <<< (((2 : Int32) * ((7 : Int32) - x4)) &&& 31)))), (0, .ref h0), (1, .int x1), (2, .int x2)]) hx hb dX4_pack_47 hl (k := 4) rfl rfl (by decide) rfl (fun ls hl => ?_)
        refine lv_goto (tgt := 16) hx hb dX4_pack_50 (by decide) ?_
        exact ih x1 x2 (x3 ||| ((3 : Int32) <<< (((2 : Int32) * ((7 : Int32) - x4)) &&& 31))) (x4 + (1 : Int32)) σ _ _ _ (lv_sub hl [2, 3, 4, 1, 0] rfl) hW hf
set_option maxHeartbeats 4000000 in
set_option maxRecDepth 100000 in
theorem mX4_pack  {σ : Mst} {q : (Int32 × Mst)} (hf : fX4_pack σ = some q) : CtI l yX4_pack cX4_pack 6 (some .int) rX4_pack D dA [.ref h0] (Mc dA h0 ad σ) q.1 (Mc dA h0 ad q.2) := by
  refine e_I (by decide) (Nat.le_of_ble_eq_true rfl) ?_
  intro p e s m below meth c ls A FX hr hlk hl hW
  have hx := FX.1; have hb := FX.2.1; have hown := FX.2.2.2.1; have hts := FX.2.2.2.2
  have hl : lv_has ls 6 [(0, .ref h0)] := hl
  rw [fX4_pack] at hf
  refine lv_aload_n hx hb dX4_pack_0 rfl (lv_at hl 0 rfl) ?_
  refine lv_iconst (v := 0) hx hb dX4_pack_1 (by decide) ?_
  refine Ms47 FX hW hf dX4_pack_2 (fun s1 H locs hW hf => ?_)
  refine lv_iconst (v := -1) hx hb dX4_pack_5 (by decide) ?_
  refine lv_istore_n (lv' := [(1, .int (-1 : Int32)), (0, .ref h0)]) hx hb dX4_pack_6 rfl hl (by decide) rfl (fun ls hl => ?_)
  refine lv_sipush (v := 1000) hx hb dX4_pack_7 (by decide) ?_
  refine lv_istore_n (lv' := [(2, .int (1000 : Int32)), (1, .int (-1 : Int32)), (0, .ref h0)]) hx hb dX4_pack_10 rfl hl (by decide) rfl (fun ls hl => ?_)
  refine lv_iconst (v := 0) hx hb dX4_pack_11 (by decide) ?_
  refine lv_istore_n (lv' := [(3, .int (0 : Int32)), (2, .int (1000 : Int32)), (1, .int (-1 : Int32)), (0, .ref h0)]) hx hb dX4_pack_12 rfl hl (by decide) rfl (fun ls hl => ?_)
  refine lv_iconst (v := 0) hx hb dX4_pack_13 (by decide) ?_
  refine lv_istore (lv' := [(4, .int (0 : Int32)), (3, .int (0 : Int32)), (2, .int (1000 : Int32)), (1, .int (-1 : Int32)), (0, .ref h0)]) hx hb dX4_pack_14 hl (by decide) rfl (fun ls hl => ?_)
  exact wX4_pack_16 FX hr hlk _ (-1 : Int32) (1000 : Int32) (0 : Int32) (0 : Int32) s1 _ _ _ (lv_sub hl [4, 3, 2, 1, 0] rfl) hW hf

/-! TrunkLittersModel.fill(II)I: kind R -/
def fX4_fill_97 (σ : Mst) (k24 : Int32 → Int32 → Int32 → Int32 → Option Int32) (x1 : Int32) (x2 : Int32) (x4 : Int32) : Option Int32 := k24 x1 x2 x4 (x4 + (1 : Int32))
def fX4_fill_24 (σ : Mst) : Nat → Int32 → Int32 → Int32 → Int32 → Option Int32
  | 0, _, _, _, _ => none
  | n + 1, x1, x2, x3, x4 => (if (256 : Int32) ≤ x4 then (if x2 = 0 then (fX4_bulkOf x3 σ).bind fun r1 => some r1 else some x3) else (fX4_those σ).bind fun r2 => (if (x4 &&& (r2 ^^^ (-1 : Int32))) = 0 then (fX4_bulkOf x4 σ).bind fun r3 => (fX4_holdsOf x1 σ).bind fun r4 => (if r3 ≤ r4 then (fX4_bulkOf x4 σ).bind fun r5 => (fX4_bulkOf x3 σ).bind fun r6 => (if 0 < (r5 - r6) then fX4_fill_97 σ (fX4_fill_24 σ n) x1 x2 x4 else (if (r5 - r6) = 0 then (fX4_bitsOf x4).bind fun r7 => (fX4_bitsOf x3).bind fun r8 => (if r8 ≤ r7 then fX4_fill_24 σ n x1 x2 x3 (x4 + (1 : Int32)) else fX4_fill_97 σ (fX4_fill_24 σ n) x1 x2 x4) else fX4_fill_24 σ n x1 x2 x3 (x4 + (1 : Int32)))) else fX4_fill_24 σ n x1 x2 x3 (x4 + (1 : Int32))) else fX4_fill_24 σ n x1 x2 x3 (x4 + (1 : Int32))))
def fX4_fill (x1 : Int32) (x2 : Int32) (σ : Mst) : Option Int32 := (fX4_isRoom x1 σ).bind fun r1 => (if r1 = 0 then some (-1 : Int32) else (fX4_isIn x2 (0 : Int32) (1 : Int32)).bind fun r2 => (if r2 = 0 then some (-1 : Int32) else fX4_fill_24 σ FU x1 x2 (0 : Int32) (1 : Int32)))
abbrev rX4_fill : Room := { frames := 2, cells := 0, slots := 0, locals := 44 }
set_option maxHeartbeats 4000000 in
set_option maxRecDepth 100000 in
theorem wX4_fill_97 {q : Int32} {σ : Mst} (FX : CallFix p m c cX4_fill 6 s args lw_all RX4) (hr : meth.sig.returnType = (some .int)) (hlk : meth.locks = false) {k24 : Int32 → Int32 → Int32 → Int32 → Option Int32} (hk24 : ∀ (x1 : Int32) (x2 : Int32) (x3 : Int32) (x4 : Int32) (H : Heap) (locs : List Loc) (ls : Array Slot), lv_has ls 6 [(0, .ref h0), (1, .int x1), (2, .int x2), (3, .int x3), (4, .int x4)] → Wd D dA A s (Mc dA h0 ad σ) H locs → k24 x1 x2 x3 x4 = some q → W p l e rX4_fill s m args below meth c H locs 0 0 (QI D dA A below args s 0 0 q (Mc dA h0 ad σ)) (F0 m 24 ls [])) : ∀ (x1 : Int32) (x2 : Int32) (x4 : Int32) (H : Heap) (locs : List Loc) (ls : Array Slot), lv_has ls 6 [(0, .ref h0), (1, .int x1), (2, .int x2), (4, .int x4)] → Wd D dA A s (Mc dA h0 ad σ) H locs → fX4_fill_97 σ k24 x1 x2 x4 = some q → W p l e rX4_fill s m args below meth c H locs 0 0 (QI D dA A below args s 0 0 q (Mc dA h0 ad σ)) (F0 m 97 ls []) := by
  have hx := FX.1; have hb := FX.2.1; have hown := FX.2.2.2.1; have hts := FX.2.2.2.2
  intro x1 x2 x4 H locs ls hl hW hf
  rw [fX4_fill_97] at hf
  refine lv_iload hx hb dX4_fill_97 (lv_at hl 3 rfl) ?_
  refine lv_istore_n (lv' := [(3, .int x4), (0, .ref h0), (1, .int x1), (2, .int x2), (4, .int x4)]) hx hb dX4_fill_99 rfl hl (by decide) rfl (fun ls hl => ?_)
  refine lv_iinc (v := (x4 + (1 : Int32))) (lv' := [(4, .int (x4 + (1 : Int32))), (3, .int x4), (0, .ref h0), (1, .int x1), (2, .int x2)]) hx hb dX4_fill_100 hl (k := 4) rfl rfl (by decide) rfl (fun ls hl => ?_)
  refine lv_goto (tgt := 24) hx hb dX4_fill_103 (by decide) ?_
  exact hk24 x1 x2 x4 (x4 + (1 : Int32)) _ _ _ (lv_sub hl [2, 3, 4, 1, 0] rfl) hW hf
set_option maxHeartbeats 4000000 in
set_option maxRecDepth 100000 in
theorem wX4_fill_24 {q : Int32} {σ : Mst} (FX : CallFix p m c cX4_fill 6 s args lw_all RX4) (hr : meth.sig.returnType = (some .int)) (hlk : meth.locks = false) : ∀ n : Nat, ∀ (x1 : Int32) (x2 : Int32) (x3 : Int32) (x4 : Int32) (H : Heap) (locs : List Loc) (ls : Array Slot), lv_has ls 6 [(0, .ref h0), (1, .int x1), (2, .int x2), (3, .int x3), (4, .int x4)] → Wd D dA A s (Mc dA h0 ad σ) H locs → fX4_fill_24 σ n x1 x2 x3 x4 = some q → W p l e rX4_fill s m args below meth c H locs 0 0 (QI D dA A below args s 0 0 q (Mc dA h0 ad σ)) (F0 m 24 ls []) := by
  have hx := FX.1; have hb := FX.2.1; have hown := FX.2.2.2.1; have hts := FX.2.2.2.2
  intro n
  induction n with
  | zero =>
    intro x1 x2 x3 x4 H locs ls hl hW hf
    cases (show (none : Option Int32) = some q from hf)
  | succ n ih =>
    intro x1 x2 x3 x4 H locs ls hl hW hf
    rw [fX4_fill_24] at hf
    refine lv_iload hx hb dX4_fill_24 (lv_at hl 4 rfl) ?_
    refine lv_sipush (v := 256) hx hb dX4_fill_26 (by decide) ?_
    refine lv_icmp_ge (tgt := 106) hx hb dX4_fill_29 (by decide) (fun c29 => ?_) (fun c29 => ?_)
    · have hf := ifp c29 hf
      refine lv_iload_n hx hb dX4_fill_106 rfl (lv_at hl 2 rfl) ?_
      refine lv_if_ne (tgt := 118) hx hb dX4_fill_107 (by decide) (fun c107 => ?_) (fun c107 => ?_)
      · have hf := ifn c107 hf
        refine lv_iload_n hx hb dX4_fill_118 rfl (lv_at hl 3 rfl) ?_
        exact g_iret FX hr hlk hW (Option.some.inj hf) dX4_fill_119
      · have hf := ifp c107 hf
        refine lv_aload_n hx hb dX4_fill_110 rfl (lv_at hl 0 rfl) ?_
        refine lv_iload_n hx hb dX4_fill_111 rfl (lv_at hl 3 rfl) ?_
        refine kX4_bulkOf FX ⟨Nat.le_of_ble_eq_true rfl, Nat.le_of_ble_eq_true rfl⟩ ⟨Nat.zero_le _, Nat.zero_le _⟩ hl.1 (Nat.le_of_ble_eq_true rfl) hW hf dX4_fill_112 (fun r1 H locs hW hf => ?_)
        refine lv_goto (tgt := 119) hx hb dX4_fill_115 (by decide) ?_
        exact g_iret FX hr hlk hW (Option.some.inj hf) dX4_fill_119
    · have hf := ifn c29 hf
      refine lv_iload hx hb dX4_fill_32 (lv_at hl 4 rfl) ?_
      refine lv_aload_n hx hb dX4_fill_34 rfl (lv_at hl 0 rfl) ?_
      refine kX4_those FX ⟨Nat.le_of_ble_eq_true rfl, Nat.le_of_ble_eq_true rfl⟩ ⟨Nat.zero_le _, Nat.zero_le _⟩ hl.1 (Nat.le_of_ble_eq_true rfl) hW hf dX4_fill_35 (fun r2 H locs hW hf => ?_)
      refine lv_iconst (v := -1) hx hb dX4_fill_38 (by decide) ?_
      refine lv_ixor hx hb dX4_fill_39 ?_
      refine lv_iand hx hb dX4_fill_40 ?_
      refine lv_if_ne (tgt := 100) hx hb dX4_fill_41 (by decide) (fun c41 => ?_) (fun c41 => ?_)
      · have hf := ifn c41 hf
        refine lv_iinc (v := (x4 + (1 : Int32))) (lv' := [(4, .int (x4 + (1 : Int32))), (0, .ref h0), (1, .int x1), (2, .int x2), (3, .int x3)]) hx hb dX4_fill_100 hl (k := 4) rfl rfl (by decide) rfl (fun ls hl => ?_)
        refine lv_goto (tgt := 24) hx hb dX4_fill_103 (by decide) ?_
        exact ih x1 x2 x3 (x4 + (1 : Int32)) _ _ _ (lv_sub hl [1, 2, 3, 4, 0] rfl) hW hf
      · have hf := ifp c41 hf
        refine lv_aload_n hx hb dX4_fill_44 rfl (lv_at hl 0 rfl) ?_
        refine lv_iload hx hb dX4_fill_45 (lv_at hl 4 rfl) ?_
        refine kX4_bulkOf FX ⟨Nat.le_of_ble_eq_true rfl, Nat.le_of_ble_eq_true rfl⟩ ⟨Nat.zero_le _, Nat.zero_le _⟩ hl.1 (Nat.le_of_ble_eq_true rfl) hW hf dX4_fill_47 (fun r3 H locs hW hf => ?_)
        refine lv_aload_n hx hb dX4_fill_50 rfl (lv_at hl 0 rfl) ?_
        refine lv_iload_n hx hb dX4_fill_51 rfl (lv_at hl 1 rfl) ?_
        refine kX4_holdsOf FX ⟨Nat.le_of_ble_eq_true rfl, Nat.le_of_ble_eq_true rfl⟩ ⟨Nat.zero_le _, Nat.zero_le _⟩ hl.1 (Nat.le_of_ble_eq_true rfl) hW hf dX4_fill_52 (fun r4 H locs hW hf => ?_)
        refine lv_icmp_le (tgt := 61) hx hb dX4_fill_55 (by decide) (fun c55 => ?_) (fun c55 => ?_)
        · have hf := ifp c55 hf
          refine lv_aload_n hx hb dX4_fill_61 rfl (lv_at hl 0 rfl) ?_
          refine lv_iload hx hb dX4_fill_62 (lv_at hl 4 rfl) ?_
          refine kX4_bulkOf FX ⟨Nat.le_of_ble_eq_true rfl, Nat.le_of_ble_eq_true rfl⟩ ⟨Nat.zero_le _, Nat.zero_le _⟩ hl.1 (Nat.le_of_ble_eq_true rfl) hW hf dX4_fill_64 (fun r5 H locs hW hf => ?_)
          refine lv_aload_n hx hb dX4_fill_67 rfl (lv_at hl 0 rfl) ?_
          refine lv_iload_n hx hb dX4_fill_68 rfl (lv_at hl 3 rfl) ?_
          refine kX4_bulkOf FX ⟨Nat.le_of_ble_eq_true rfl, Nat.le_of_ble_eq_true rfl⟩ ⟨Nat.zero_le _, Nat.zero_le _⟩ hl.1 (Nat.le_of_ble_eq_true rfl) hW hf dX4_fill_69 (fun r6 H locs hW hf => ?_)
          refine lv_isub hx hb dX4_fill_72 ?_
          refine lv_istore (lv' := [(5, .int (r5 - r6)), (0, .ref h0), (1, .int x1), (2, .int x2), (3, .int x3), (4, .int x4)]) hx hb dX4_fill_73 hl (by decide) rfl (fun ls hl => ?_)
          refine lv_iload hx hb dX4_fill_75 (lv_at hl 0 rfl) ?_
          refine lv_if_gt (tgt := 97) hx hb dX4_fill_77 (by decide) (fun c77 => ?_) (fun c77 => ?_)
          · have hf := ifp c77 hf
            exact wX4_fill_97 FX hr hlk (ih) x1 x2 x4 _ _ _ (lv_sub hl [1, 2, 3, 5] rfl) hW hf
          · have hf := ifn c77 hf
            refine lv_iload hx hb dX4_fill_80 (lv_at hl 0 rfl) ?_
            refine lv_if_ne (tgt := 100) hx hb dX4_fill_82 (by decide) (fun c82 => ?_) (fun c82 => ?_)
            · have hf := ifn c82 hf
              refine lv_iinc (v := (x4 + (1 : Int32))) (lv' := [(4, .int (x4 + (1 : Int32))), (5, .int (r5 - r6)), (0, .ref h0), (1, .int x1), (2, .int x2), (3, .int x3)]) hx hb dX4_fill_100 hl (k := 5) rfl rfl (by decide) rfl (fun ls hl => ?_)
              refine lv_goto (tgt := 24) hx hb dX4_fill_103 (by decide) ?_
              exact ih x1 x2 x3 (x4 + (1 : Int32)) _ _ _ (lv_sub hl [2, 3, 4, 5, 0] rfl) hW hf
            · have hf := ifp c82 hf
              refine lv_iload hx hb dX4_fill_85 (lv_at hl 5 rfl) ?_
              refine kX4_bitsOf FX ⟨Nat.le_of_ble_eq_true rfl, Nat.le_of_ble_eq_true rfl⟩ ⟨Nat.zero_le _, Nat.zero_le _⟩ hl.1 (Nat.le_of_ble_eq_true rfl) hW hf dX4_fill_87 (fun r7 H locs hW hf => ?_)
              refine lv_iload_n hx hb dX4_fill_90 rfl (lv_at hl 4 rfl) ?_
              refine kX4_bitsOf FX ⟨Nat.le_of_ble_eq_true rfl, Nat.le_of_ble_eq_true rfl⟩ ⟨Nat.zero_le _, Nat.zero_le _⟩ hl.1 (Nat.le_of_ble_eq_true rfl) hW hf dX4_fill_91 (fun r8 H locs hW hf => ?_)
              refine lv_icmp_ge (tgt := 100) hx hb dX4_fill_94 (by decide) (fun c94 => ?_) (fun c94 => ?_)
              · have hf := ifp c94 hf
                refine lv_iinc (v := (x4 + (1 : Int32))) (lv' := [(4, .int (x4 + (1 : Int32))), (5, .int (r5 - r6)), (0, .ref h0), (1, .int x1), (2, .int x2), (3, .int x3)]) hx hb dX4_fill_100 hl (k := 5) rfl rfl (by decide) rfl (fun ls hl => ?_)
                refine lv_goto (tgt := 24) hx hb dX4_fill_103 (by decide) ?_
                exact ih x1 x2 x3 (x4 + (1 : Int32)) _ _ _ (lv_sub hl [2, 3, 4, 5, 0] rfl) hW hf
              · have hf := ifn c94 hf
                exact wX4_fill_97 FX hr hlk (ih) x1 x2 x4 _ _ _ (lv_sub hl [1, 2, 3, 5] rfl) hW hf
        · have hf := ifn c55 hf
          refine lv_goto (tgt := 100) hx hb dX4_fill_58 (by decide) ?_
          refine lv_iinc (v := (x4 + (1 : Int32))) (lv' := [(4, .int (x4 + (1 : Int32))), (0, .ref h0), (1, .int x1), (2, .int x2), (3, .int x3)]) hx hb dX4_fill_100 hl (k := 4) rfl rfl (by decide) rfl (fun ls hl => ?_)
          refine lv_goto (tgt := 24) hx hb dX4_fill_103 (by decide) ?_
          exact ih x1 x2 x3 (x4 + (1 : Int32)) _ _ _ (lv_sub hl [1, 2, 3, 4, 0] rfl) hW hf
set_option maxHeartbeats 4000000 in
set_option maxRecDepth 100000 in
theorem mX4_fill  {x1 : Int32} {x2 : Int32} {σ : Mst} {q : Int32} (hf : fX4_fill x1 x2 σ = some q) : CtI l yX4_fill cX4_fill 6 (some .int) rX4_fill D dA [.ref h0, .int x1, .int x2] (Mc dA h0 ad σ) q (Mc dA h0 ad σ) := by
  refine e_I (by decide) (Nat.le_of_ble_eq_true rfl) ?_
  intro p e s m below meth c ls A FX hr hlk hl hW
  have hx := FX.1; have hb := FX.2.1; have hown := FX.2.2.2.1; have hts := FX.2.2.2.2
  have hl : lv_has ls 6 [(0, .ref h0), (1, .int x1), (2, .int x2)] := hl
  rw [fX4_fill] at hf
  refine lv_aload_n hx hb dX4_fill_0 rfl (lv_at hl 0 rfl) ?_
  refine lv_iload_n hx hb dX4_fill_1 rfl (lv_at hl 1 rfl) ?_
  refine kX4_isRoom FX ⟨Nat.le_of_ble_eq_true rfl, Nat.le_of_ble_eq_true rfl⟩ ⟨Nat.zero_le _, Nat.zero_le _⟩ hl.1 (Nat.le_of_ble_eq_true rfl) hW hf dX4_fill_2 (fun r1 H locs hW hf => ?_)
  refine lv_if_eq (tgt := 17) hx hb dX4_fill_5 (by decide) (fun c5 => ?_) (fun c5 => ?_)
  · have hf := ifp c5 hf
    refine lv_iconst (v := -1) hx hb dX4_fill_17 (by decide) ?_
    exact g_iret FX hr hlk hW (Option.some.inj hf) dX4_fill_18
  · have hf := ifn c5 hf
    refine lv_iload_n hx hb dX4_fill_8 rfl (lv_at hl 2 rfl) ?_
    refine lv_iconst (v := 0) hx hb dX4_fill_9 (by decide) ?_
    refine lv_iconst (v := 1) hx hb dX4_fill_10 (by decide) ?_
    refine kX4_isIn FX ⟨Nat.le_of_ble_eq_true rfl, Nat.le_of_ble_eq_true rfl⟩ ⟨Nat.zero_le _, Nat.zero_le _⟩ hl.1 (Nat.le_of_ble_eq_true rfl) hW hf dX4_fill_11 (fun r2 H locs hW hf => ?_)
    refine lv_if_ne (tgt := 19) hx hb dX4_fill_14 (by decide) (fun c14 => ?_) (fun c14 => ?_)
    · have hf := ifn c14 hf
      refine lv_iconst (v := 0) hx hb dX4_fill_19 (by decide) ?_
      refine lv_istore_n (lv' := [(3, .int (0 : Int32)), (0, .ref h0), (1, .int x1), (2, .int x2)]) hx hb dX4_fill_20 rfl hl (by decide) rfl (fun ls hl => ?_)
      refine lv_iconst (v := 1) hx hb dX4_fill_21 (by decide) ?_
      refine lv_istore (lv' := [(4, .int (1 : Int32)), (3, .int (0 : Int32)), (0, .ref h0), (1, .int x1), (2, .int x2)]) hx hb dX4_fill_22 hl (by decide) rfl (fun ls hl => ?_)
      exact wX4_fill_24 FX hr hlk _ x1 x2 (0 : Int32) (1 : Int32) _ _ _ (lv_sub hl [2, 3, 4, 1, 0] rfl) hW hf
    · have hf := ifp c14 hf
      refine lv_iconst (v := -1) hx hb dX4_fill_17 (by decide) ?_
      exact g_iret FX hr hlk hW (Option.some.inj hf) dX4_fill_18

end M09
