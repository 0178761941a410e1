section M08
variable {p : Program} {l : Launch} {e : Env} {R : Room} {s : State} {m : MethodId} {args : Array Value} {below : List Frame} {meth : Method} {c : Code} {H : Heap} {locs : List Loc} {cells slots : Nat} {Q : State → Prop}
variable {cc : ByteArray} {pc nL : Nat} {ls : Array Slot} {rest : List Value} {D : va_G} {dA : Nat → ClassId} {A : Nat → Prop} {h0 : Nat} {ad : Nat → Nat}
/-! TrunkLittersModel.pining()I: kind R -/
def fX4_pining_4 (σ : Mst) : Nat → Int32 → Int32 → Option Int32
  | 0, _, _ => none
  | n + 1, x1, x2 => (if (8 : Int32) ≤ x2 then some x1 else ald 59 (gA σ 40) ((32 : Int32) + x2) fun v1 => (if v1 ≤ 0 then fX4_pining_4 σ n x1 (x2 + (1 : Int32)) else fX4_pining_4 σ n (x1 ||| ((1 : Int32) <<< (x2 &&& 31))) (x2 + (1 : Int32))))
def fX4_pining (σ : Mst) : Option Int32 := fX4_pining_4 σ FU (0 : Int32) (0 : Int32)
abbrev rX4_pining : Room := { frames := 0, cells := 0, slots := 0, locals := 0 }
set_option maxHeartbeats 4000000 in
set_option maxRecDepth 100000 in
theorem wX4_pining_4 {q : Int32} {σ : Mst} (FX : CallFix p m c cX4_pining 3 s args lw_all RX4) (hr : meth.sig.returnType = (some .int)) (hlk : meth.locks = false) : ∀ n : Nat, ∀ (x1 : Int32) (x2 : Int32) (H : Heap) (locs : List Loc) (ls : Array Slot), lv_has ls 3 [(0, .ref h0), (1, .int x1), (2, .int x2)] → Wd D dA A s (Mc dA h0 ad σ) H locs → fX4_pining_4 σ n x1 x2 = some q → W p l e rX4_pining s m args below meth c H locs 0 0 (QI D dA A below args s 0 0 q (Mc dA h0 ad σ)) (F0 m 4 ls []) := by
  have hx := FX.1; have hb := FX.2.1; have hown := FX.2.2.2.1; have hts := FX.2.2.2.2
  intro n
  induction n with
  | zero =>
    intro x1 x2 H locs ls hl hW hf
    cases (show (none : Option Int32) = some q from hf)
  | succ n ih =>
    intro x1 x2 H locs ls hl hW hf
    rw [fX4_pining_4] at hf
    refine lv_iload_n hx hb dX4_pining_4 rfl (lv_at hl 2 rfl) ?_
    refine lv_bipush (v := 8) hx hb dX4_pining_5 (by decide) ?_
    refine lv_icmp_ge (tgt := 34) hx hb dX4_pining_7 (by decide) (fun c7 => ?_) (fun c7 => ?_)
    · have hf := ifp c7 hf
      refine lv_iload_n hx hb dX4_pining_34 rfl (lv_at hl 1 rfl) ?_
      exact g_iret FX hr hlk hW (Option.some.inj hf) dX4_pining_35
    · have hf := ifn c7 hf
      refine lv_aload_n hx hb dX4_pining_10 rfl (lv_at hl 0 rfl) ?_
      refine Mg40 FX hW dX4_pining_11 ?_
      refine lv_bipush (v := 32) hx hb dX4_pining_14 (by decide) ?_
      refine lv_iload_n hx hb dX4_pining_16 rfl (lv_at hl 2 rfl) ?_
      refine lv_iadd hx hb dX4_pining_17 ?_
      refine g_iald FX hW 24 Mp40 hf dX4_pining_18 (fun v1 hf => ?_)
      refine lv_if_le (tgt := 28) hx hb dX4_pining_19 (by decide) (fun c19 => ?_) (fun c19 => ?_)
      · have hf := ifp c19 hf
        refine lv_iinc (v := (x2 + (1 : Int32))) (lv' := [(2, .int (x2 + (1 : Int32))), (0, .ref h0), (1, .int x1)]) hx hb dX4_pining_28 hl (k := 2) rfl rfl (by decide) rfl (fun ls hl => ?_)
        refine lv_goto (tgt := 4) hx hb dX4_pining_31 (by decide) ?_
        exact ih x1 (x2 + (1 : Int32)) _ _ _ (lv_sub hl [1, 2, 0] rfl) hW hf
      · have hf := ifn c19 hf
        refine lv_iload_n hx hb dX4_pining_22 rfl (lv_at hl 1 rfl) ?_
        refine lv_iconst (v := 1) hx hb dX4_pining_23 (by decide) ?_
        refine lv_iload_n hx hb dX4_pining_24 rfl (lv_at hl 2 rfl) ?_
        refine lv_ishl hx hb dX4_pining_25 ?_
        refine lv_ior hx hb dX4_pining_26 ?_
        refine lv_istore_n (lv' := [(1, .int (x1 ||| ((1 : Int32) <<< (x2 &&& 31)))), (0, .ref h0), (2, .int x2)]) hx hb dX4_pining_27 rfl hl (by decide) rfl (fun ls hl => ?_)
        refine lv_iinc (v := (x2 + (1 : Int32))) (lv' := [(2, .int (x2 + (1 : Int32))), (1, .int (x1 ||| ((1 : Int32) <<< (x2 &&& 31)))), (0, .ref h0)]) hx hb dX4_pining_28 hl (k := 2) rfl rfl (by decide) rfl (fun ls hl => ?_)
        refine lv_goto (tgt := 4) hx hb dX4_pining_31 (by decide) ?_
        exact ih (x1 ||| ((1 : Int32) <<< (x2 &&& 31))) (x2 + (1 : Int32)) _ _ _ (lv_sub hl [2, 1, 0] rfl) hW hf
set_option maxHeartbeats 4000000 in
set_option maxRecDepth 100000 in
theorem mX4_pining  {σ : Mst} {q : Int32} (hf : fX4_pining σ = some q) : CtI l yX4_pining cX4_pining 3 (some .int) rX4_pining D dA [.ref h0] (Mc dA h0 ad σ) q (Mc dA h0 ad σ) := by
  refine e_I (by decide) (Nat.le_of_ble_eq_true rfl) ?_
  intro p e s m below meth c ls A FX hr hlk hl hW
  have hx := FX.1; have hb := FX.2.1; have hown := FX.2.2.2.1; have hts := FX.2.2.2.2
  have hl : lv_has ls 3 [(0, .ref h0)] := hl
  rw [fX4_pining] at hf
  refine lv_iconst (v := 0) hx hb dX4_pining_0 (by decide) ?_
  refine lv_istore_n (lv' := [(1, .int (0 : Int32)), (0, .ref h0)]) hx hb dX4_pining_1 rfl hl (by decide) rfl (fun ls hl => ?_)
  refine lv_iconst (v := 0) hx hb dX4_pining_2 (by decide) ?_
  refine lv_istore_n (lv' := [(2, .int (0 : Int32)), (1, .int (0 : Int32)), (0, .ref h0)]) hx hb dX4_pining_3 rfl hl (by decide) rfl (fun ls hl => ?_)
  exact wX4_pining_4 FX hr hlk _ (0 : Int32) (0 : Int32) _ _ _ (lv_sub hl [2, 1, 0] rfl) hW hf

/-! TrunkLittersModel.like(I)I: kind R -/
def fX4_like_52 (σ : Mst) (k14 : Int32 → Int32 → Int32 → Option Int32) (x1 : Int32) (x3 : Int32) : Option Int32 := k14 x1 x3 (x3 + (1 : Int32))
def fX4_like_14 (σ : Mst) : Nat → Int32 → Int32 → Int32 → Option Int32
  | 0, _, _, _ => none
  | n + 1, x1, x2, x3 => (if (8 : Int32) ≤ x3 then some x2 else (fX4_isThere x3 σ).bind fun r1 => (if r1 = 0 then fX4_like_14 σ n x1 x2 (x3 + (1 : Int32)) else (if x3 = x1 then fX4_like_14 σ n x1 x2 (x3 + (1 : Int32)) else (if x2 < 0 then fX4_like_52 σ (fX4_like_14 σ n) x1 x3 else (fX4_alike x1 x3 σ).bind fun r2 => (fX4_alike x1 x2 σ).bind fun r3 => (if r2 ≤ r3 then fX4_like_14 σ n x1 x2 (x3 + (1 : Int32)) else fX4_like_52 σ (fX4_like_14 σ n) x1 x3)))))
def fX4_like (x1 : Int32) (σ : Mst) : Option Int32 := (fX4_isThere x1 σ).bind fun r1 => (if r1 = 0 then some (-1 : Int32) else fX4_like_14 σ FU x1 (-1 : Int32) (0 : Int32))
abbrev rX4_like : Room := { frames := 3, cells := 0, slots := 0, locals := 65 }
set_option maxHeartbeats 4000000 in
set_option maxRecDepth 100000 in
theorem wX4_like_52 {q : Int32} {σ : Mst} (FX : CallFix p m c cX4_like 4 s args lw_all RX4) (hr : meth.sig.returnType = (some .int)) (hlk : meth.locks = false) {k14 : Int32 → Int32 → Int32 → Option Int32} (hk14 : ∀ (x1 : Int32) (x2 : Int32) (x3 : Int32) (H : Heap) (locs : List Loc) (ls : Array Slot), lv_has ls 4 [(0, .ref h0), (1, .int x1), (2, .int x2), (3, .int x3)] → Wd D dA A s (Mc dA h0 ad σ) H locs → k14 x1 x2 x3 = some q → W p l e rX4_like s m args below meth c H locs 0 0 (QI D dA A below args s 0 0 q (Mc dA h0 ad σ)) (F0 m 14 ls [])) : ∀ (x1 : Int32) (x3 : Int32) (H : Heap) (locs : List Loc) (ls : Array Slot), lv_has ls 4 [(0, .ref h0), (1, .int x1), (3, .int x3)] → Wd D dA A s (Mc dA h0 ad σ) H locs → fX4_like_52 σ k14 x1 x3 = some q → W p l e rX4_like s m args below meth c H locs 0 0 (QI D dA A below args s 0 0 q (Mc dA h0 ad σ)) (F0 m 52 ls []) := by
  have hx := FX.1; have hb := FX.2.1; have hown := FX.2.2.2.1; have hts := FX.2.2.2.2
  intro x1 x3 H locs ls hl hW hf
  rw [fX4_like_52] at hf
  refine lv_iload_n hx hb dX4_like_52 rfl (lv_at hl 2 rfl) ?_
  refine lv_istore_n (lv' := [(2, .int x3), (0, .ref h0), (1, .int x1), (3, .int x3)]) hx hb dX4_like_53 rfl hl (by decide) rfl (fun ls hl => ?_)
  refine lv_iinc (v := (x3 + (1 : Int32))) (lv' := [(3, .int (x3 + (1 : Int32))), (2, .int x3), (0, .ref h0), (1, .int x1)]) hx hb dX4_like_54 hl (k := 3) rfl rfl (by decide) rfl (fun ls hl => ?_)
  refine lv_goto (tgt := 14) hx hb dX4_like_57 (by decide) ?_
  exact hk14 x1 x3 (x3 + (1 : Int32)) _ _ _ (lv_sub hl [2, 3, 1, 0] rfl) hW hf
set_option maxHeartbeats 4000000 in
set_option maxRecDepth 100000 in
theorem wX4_like_14 {q : Int32} {σ : Mst} (FX : CallFix p m c cX4_like 4 s args lw_all RX4) (hr : meth.sig.returnType = (some .int)) (hlk : meth.locks = false) : ∀ n : Nat, ∀ (x1 : Int32) (x2 : Int32) (x3 : Int32) (H : Heap) (locs : List Loc) (ls : Array Slot), lv_has ls 4 [(0, .ref h0), (1, .int x1), (2, .int x2), (3, .int x3)] → Wd D dA A s (Mc dA h0 ad σ) H locs → fX4_like_14 σ n x1 x2 x3 = some q → W p l e rX4_like s m args below meth c H locs 0 0 (QI D dA A below args s 0 0 q (Mc dA h0 ad σ)) (F0 m 14 ls []) := by
  have hx := FX.1; have hb := FX.2.1; have hown := FX.2.2.2.1; have hts := FX.2.2.2.2
  intro n
  induction n with
  | zero =>
    intro x1 x2 x3 H locs ls hl hW hf
    cases (show (none : Option Int32) = some q from hf)
  | succ n ih =>
    intro x1 x2 x3 H locs ls hl hW hf
    rw [fX4_like_14] at hf
    refine lv_iload_n hx hb dX4_like_14 rfl (lv_at hl 3 rfl) ?_
    refine lv_bipush (v := 8) hx hb dX4_like_15 (by decide) ?_
    refine lv_icmp_ge (tgt := 60) hx hb dX4_like_17 (by decide) (fun c17 => ?_) (fun c17 => ?_)
    · have hf := ifp c17 hf
      refine lv_iload_n hx hb dX4_like_60 rfl (lv_at hl 2 rfl) ?_
      exact g_iret FX hr hlk hW (Option.some.inj hf) dX4_like_61
    · have hf := ifn c17 hf
      refine lv_aload_n hx hb dX4_like_20 rfl (lv_at hl 0 rfl) ?_
      refine lv_iload_n hx hb dX4_like_21 rfl (lv_at hl 3 rfl) ?_
      refine kX4_isThere FX ⟨Nat.le_of_ble_eq_true rfl, Nat.le_of_ble_eq_true rfl⟩ ⟨Nat.zero_le _, Nat.zero_le _⟩ hl.1 (Nat.le_of_ble_eq_true rfl) hW hf dX4_like_22 (fun r1 H locs hW hf => ?_)
      refine lv_if_eq (tgt := 54) hx hb dX4_like_25 (by decide) (fun c25 => ?_) (fun c25 => ?_)
      · have hf := ifp c25 hf
        refine lv_iinc (v := (x3 + (1 : Int32))) (lv' := [(3, .int (x3 + (1 : Int32))), (0, .ref h0), (1, .int x1), (2, .int x2)]) hx hb dX4_like_54 hl (k := 3) rfl rfl (by decide) rfl (fun ls hl => ?_)
        refine lv_goto (tgt := 14) hx hb dX4_like_57 (by decide) ?_
        exact ih x1 x2 (x3 + (1 : Int32)) _ _ _ (lv_sub hl [1, 2, 3, 0] rfl) hW hf
      · have hf := ifn c25 hf
        refine lv_iload_n hx hb dX4_like_28 rfl (lv_at hl 3 rfl) ?_
        refine lv_iload_n hx hb dX4_like_29 rfl (lv_at hl 1 rfl) ?_
        refine lv_icmp_eq (tgt := 54) hx hb dX4_like_30 (by decide) (fun c30 => ?_) (fun c30 => ?_)
        · have hf := ifp c30 hf
          refine lv_iinc (v := (x3 + (1 : Int32))) (lv' := [(3, .int (x3 + (1 : Int32))), (0, .ref h0), (1, .int x1), (2, .int x2)]) hx hb dX4_like_54 hl (k := 3) rfl rfl (by decide) rfl (fun ls hl => ?_)
          refine lv_goto (tgt := 14) hx hb dX4_like_57 (by decide) ?_
          exact ih x1 x2 (x3 + (1 : Int32)) _ _ _ (lv_sub hl [1, 2, 3, 0] rfl) hW hf
        · have hf := ifn c30 hf
          refine lv_iload_n hx hb dX4_like_33 rfl (lv_at hl 2 rfl) ?_
          refine lv_if_lt (tgt := 52) hx hb dX4_like_34 (by decide) (fun c34 => ?_) (fun c34 => ?_)
          · have hf := ifp c34 hf
            exact wX4_like_52 FX hr hlk (ih) x1 x3 _ _ _ (lv_sub hl [0, 1, 3] rfl) hW hf
          · have hf := ifn c34 hf
            refine lv_aload_n hx hb dX4_like_37 rfl (lv_at hl 0 rfl) ?_
            refine lv_iload_n hx hb dX4_like_38 rfl (lv_at hl 1 rfl) ?_
            refine lv_iload_n hx hb dX4_like_39 rfl (lv_at hl 3 rfl) ?_
            refine kX4_alike FX ⟨Nat.le_of_ble_eq_true rfl, Nat.le_of_ble_eq_true rfl⟩ ⟨Nat.zero_le _, Nat.zero_le _⟩ hl.1 (Nat.le_of_ble_eq_true rfl) hW hf dX4_like_40 (fun r2 H locs hW hf => ?_)
            refine lv_aload_n hx hb dX4_like_43 rfl (lv_at hl 0 rfl) ?_
            refine lv_iload_n hx hb dX4_like_44 rfl (lv_at hl 1 rfl) ?_
            refine lv_iload_n hx hb dX4_like_45 rfl (lv_at hl 2 rfl) ?_
            refine kX4_alike FX ⟨Nat.le_of_ble_eq_true rfl, Nat.le_of_ble_eq_true rfl⟩ ⟨Nat.zero_le _, Nat.zero_le _⟩ hl.1 (Nat.le_of_ble_eq_true rfl) hW hf dX4_like_46 (fun r3 H locs hW hf => ?_)
            refine lv_icmp_le (tgt := 54) hx hb dX4_like_49 (by decide) (fun c49 => ?_) (fun c49 => ?_)
            · have hf := ifp c49 hf
              refine lv_iinc (v := (x3 + (1 : Int32))) (lv' := [(3, .int (x3 + (1 : Int32))), (0, .ref h0), (1, .int x1), (2, .int x2)]) hx hb dX4_like_54 hl (k := 3) rfl rfl (by decide) rfl (fun ls hl => ?_)
              refine lv_goto (tgt := 14) hx hb dX4_like_57 (by decide) ?_
              exact ih x1 x2 (x3 + (1 : Int32)) _ _ _ (lv_sub hl [1, 2, 3, 0] rfl) hW hf
            · have hf := ifn c49 hf
              exact wX4_like_52 FX hr hlk (ih) x1 x3 _ _ _ (lv_sub hl [0, 1, 3] rfl) hW hf
set_option maxHeartbeats 4000000 in
set_option maxRecDepth 100000 in
theorem mX4_like  {x1 : Int32} {σ : Mst} {q : Int32} (hf : fX4_like x1 σ = some q) : CtI l yX4_like cX4_like 4 (some .int) rX4_like D dA [.ref h0, .int x1] (Mc dA h0 ad σ) q (Mc dA h0 ad σ) := by
  refine e_I (by decide) (Nat.le_of_ble_eq_true rfl) ?_
  intro p e s m below meth c ls A FX hr hlk hl hW
  have hx := FX.1; have hb := FX.2.1; have hown := FX.2.2.2.1; have hts := FX.2.2.2.2
  have hl : lv_has ls 4 [(0, .ref h0), (1, .int x1)] := hl
  rw [fX4_like] at hf
  refine lv_aload_n hx hb dX4_like_0 rfl (lv_at hl 0 rfl) ?_
  refine lv_iload_n hx hb dX4_like_1 rfl (lv_at hl 1 rfl) ?_
  refine kX4_isThere FX ⟨Nat.le_of_ble_eq_true rfl, Nat.le_of_ble_eq_true rfl⟩ ⟨Nat.zero_le _, Nat.zero_le _⟩ hl.1 (Nat.le_of_ble_eq_true rfl) hW hf dX4_like_2 (fun r1 H locs hW hf => ?_)
  refine lv_if_ne (tgt := 10) hx hb dX4_like_5 (by decide) (fun c5 => ?_) (fun c5 => ?_)
  · have hf := ifn c5 hf
    refine lv_iconst (v := -1) hx hb dX4_like_10 (by decide) ?_
    refine lv_istore_n (lv' := [(2, .int (-1 : Int32)), (0, .ref h0), (1, .int x1)]) hx hb dX4_like_11 rfl hl (by decide) rfl (fun ls hl => ?_)
    refine lv_iconst (v := 0) hx hb dX4_like_12 (by decide) ?_
    refine lv_istore_n (lv' := [(3, .int (0 : Int32)), (2, .int (-1 : Int32)), (0, .ref h0), (1, .int x1)]) hx hb dX4_like_13 rfl hl (by decide) rfl (fun ls hl => ?_)
    exact wX4_like_14 FX hr hlk _ x1 (-1 : Int32) (0 : Int32) _ _ _ (lv_sub hl [2, 3, 1, 0] rfl) hW hf
  · have hf := ifp c5 hf
    refine lv_iconst (v := -1) hx hb dX4_like_8 (by decide) ?_
    exact g_iret FX hr hlk hW (Option.some.inj hf) dX4_like_9

/-! TrunkLittersModel.sharesAll(I)I: kind R -/
def fX4_sharesAll_33 (σ : Mst) (k4 : Int32 → Int32 → Int32 → Option Int32) (x1 : Int32) (x3 : Int32) (y0 : Int32) : Option Int32 := k4 x1 (y0 + (0 : Int32)) (x3 + (1 : Int32))
def fX4_sharesAll_4 (σ : Mst) : Nat → Int32 → Int32 → Int32 → Option Int32
  | 0, _, _, _ => none
  | n + 1, x1, x2, x3 => (if (8 : Int32) ≤ x3 then some x2 else (if x3 = x1 then fX4_sharesAll_33 σ (fX4_sharesAll_4 σ n) x1 x3 x2 else (fX4_isThere x3 σ).bind fun r1 => (if r1 = 0 then fX4_sharesAll_33 σ (fX4_sharesAll_4 σ n) x1 x3 x2 else (fX4_alike x1 x3 σ).bind fun r2 => fX4_sharesAll_4 σ n x1 (x2 + r2) (x3 + (1 : Int32)))))
def fX4_sharesAll (x1 : Int32) (σ : Mst) : Option Int32 := fX4_sharesAll_4 σ FU x1 (0 : Int32) (0 : Int32)
abbrev rX4_sharesAll : Room := { frames := 3, cells := 0, slots := 0, locals := 65 }
set_option maxHeartbeats 4000000 in
set_option maxRecDepth 100000 in
theorem wX4_sharesAll_33 {q : Int32} {σ : Mst} (FX : CallFix p m c cX4_sharesAll 4 s args lw_all RX4) (hr : meth.sig.returnType = (some .int)) (hlk : meth.locks = false) {k4 : Int32 → Int32 → Int32 → Option Int32} (hk4 : ∀ (x1 : Int32) (x2 : Int32) (x3 : Int32) (H : Heap) (locs : List Loc) (ls : Array Slot), lv_has ls 4 [(0, .ref h0), (1, .int x1), (2, .int x2), (3, .int x3)] → Wd D dA A s (Mc dA h0 ad σ) H locs → k4 x1 x2 x3 = some q → W p l e rX4_sharesAll s m args below meth c H locs 0 0 (QI D dA A below args s 0 0 q (Mc dA h0 ad σ)) (F0 m 4 ls [])) : ∀ (x1 : Int32) (x3 : Int32) (y0 : Int32) (H : Heap) (locs : List Loc) (ls : Array Slot), lv_has ls 4 [(0, .ref h0), (1, .int x1), (3, .int x3)] → Wd D dA A s (Mc dA h0 ad σ) H locs → fX4_sharesAll_33 σ k4 x1 x3 y0 = some q → W p l e rX4_sharesAll s m args below meth c H locs 0 0 (QI D dA A below args s 0 0 q (Mc dA h0 ad σ)) (F0 m 33 ls [.int y0]) := by
  have hx := FX.1; have hb := FX.2.1; have hown := FX.2.2.2.1; have hts := FX.2.2.2.2
  intro x1 x3 y0 H locs ls hl hW hf
  rw [fX4_sharesAll_33] at hf
  refine lv_iconst (v := 0) hx hb dX4_sharesAll_33 (by decide) ?_
  refine lv_iadd hx hb dX4_sharesAll_34 ?_
  refine lv_istore_n (lv' := [(2, .int (y0 + (0 : Int32))), (0, .ref h0), (1, .int x1), (3, .int x3)]) hx hb dX4_sharesAll_35 rfl hl (by decide) rfl (fun ls hl => ?_)
  refine lv_iinc (v := (x3 + (1 : Int32))) (lv' := [(3, .int (x3 + (1 : Int32))), (2, .int (y0 + (0 : Int32))), (0, .ref h0), (1, .int x1)]) hx hb dX4_sharesAll_36 hl (k := 3) rfl rfl (by decide) rfl (fun ls hl => ?_)
  refine lv_goto (tgt := 4) hx hb dX4_sharesAll_39 (by decide) ?_
  exact hk4 x1 (y0 + (0 : Int32)) (x3 + (1 : Int32)) _ _ _ (lv_sub hl [2, 3, 1, 0] rfl) hW hf
set_option maxHeartbeats 4000000 in
set_option maxRecDepth 100000 in
theorem wX4_sharesAll_4 {q : Int32} {σ : Mst} (FX : CallFix p m c cX4_sharesAll 4 s args lw_all RX4) (hr : meth.sig.returnType = (some .int)) (hlk : meth.locks = false) : ∀ n : Nat, ∀ (x1 : Int32) (x2 : Int32) (x3 : Int32) (H : Heap) (locs : List Loc) (ls : Array Slot), lv_has ls 4 [(0, .ref h0), (1, .int x1), (2, .int x2), (3, .int x3)] → Wd D dA A s (Mc dA h0 ad σ) H locs → fX4_sharesAll_4 σ n x1 x2 x3 = some q → W p l e rX4_sharesAll s m args below meth c H locs 0 0 (QI D dA A below args s 0 0 q (Mc dA h0 ad σ)) (F0 m 4 ls []) := by
  have hx := FX.1; have hb := FX.2.1; have hown := FX.2.2.2.1; have hts := FX.2.2.2.2
  intro n
  induction n with
  | zero =>
    intro x1 x2 x3 H locs ls hl hW hf
    cases (show (none : Option Int32) = some q from hf)
  | succ n ih =>
    intro x1 x2 x3 H locs ls hl hW hf
    rw [fX4_sharesAll_4] at hf
    refine lv_iload_n hx hb dX4_sharesAll_4 rfl (lv_at hl 3 rfl) ?_
    refine lv_bipush (v := 8) hx hb dX4_sharesAll_5 (by decide) ?_
    refine lv_icmp_ge (tgt := 42) hx hb dX4_sharesAll_7 (by decide) (fun c7 => ?_) (fun c7 => ?_)
    · have hf := ifp c7 hf
      refine lv_iload_n hx hb dX4_sharesAll_42 rfl (lv_at hl 2 rfl) ?_
      exact g_iret FX hr hlk hW (Option.some.inj hf) dX4_sharesAll_43
    · have hf := ifn c7 hf
      refine lv_iload_n hx hb dX4_sharesAll_10 rfl (lv_at hl 2 rfl) ?_
      refine lv_iload_n hx hb dX4_sharesAll_11 rfl (lv_at hl 3 rfl) ?_
      refine lv_iload_n hx hb dX4_sharesAll_12 rfl (lv_at hl 1 rfl) ?_
      refine lv_icmp_eq (tgt := 33) hx hb dX4_sharesAll_13 (by decide) (fun c13 => ?_) (fun c13 => ?_)
      · have hf := ifp c13 hf
        exact wX4_sharesAll_33 FX hr hlk (ih) x1 x3 x2 _ _ _ (lv_sub hl [0, 1, 3] rfl) hW hf
      · have hf := ifn c13 hf
        refine lv_aload_n hx hb dX4_sharesAll_16 rfl (lv_at hl 0 rfl) ?_
        refine lv_iload_n hx hb dX4_sharesAll_17 rfl (lv_at hl 3 rfl) ?_
        refine kX4_isThere FX ⟨Nat.le_of_ble_eq_true rfl, Nat.le_of_ble_eq_true rfl⟩ ⟨Nat.zero_le _, Nat.zero_le _⟩ hl.1 (Nat.le_of_ble_eq_true rfl) hW hf dX4_sharesAll_18 (fun r1 H locs hW hf => ?_)
        refine lv_if_eq (tgt := 33) hx hb dX4_sharesAll_21 (by decide) (fun c21 => ?_) (fun c21 => ?_)
        · have hf := ifp c21 hf
          exact wX4_sharesAll_33 FX hr hlk (ih) x1 x3 x2 _ _ _ (lv_sub hl [0, 1, 3] rfl) hW hf
        · have hf := ifn c21 hf
          refine lv_aload_n hx hb dX4_sharesAll_24 rfl (lv_at hl 0 rfl) ?_
          refine lv_iload_n hx hb dX4_sharesAll_25 rfl (lv_at hl 1 rfl) ?_
          refine lv_iload_n hx hb dX4_sharesAll_26 rfl (lv_at hl 3 rfl) ?_
          refine kX4_alike FX ⟨Nat.le_of_ble_eq_true rfl, Nat.le_of_ble_eq_true rfl⟩ ⟨Nat.zero_le _, Nat.zero_le _⟩ hl.1 (Nat.le_of_ble_eq_true rfl) hW hf dX4_sharesAll_27 (fun r2 H locs hW hf => ?_)
          refine lv_goto (tgt := 34) hx hb dX4_sharesAll_30 (by decide) ?_
          refine lv_iadd hx hb dX4_sharesAll_34 ?_
          refine lv_istore_n (lv' := [(2, .int (x2 + r2)), (0, .ref h0), (1, .int x1), (3, .int x3)]) hx hb dX4_sharesAll_35 rfl hl (by decide) rfl (fun ls hl => ?_)
          refine lv_iinc (v := (x3 + (1 : Int32))) (lv' := [(3, .int (x3 + (1 : Int32))), (2, .int (x2 + r2)), (0, .ref h0), (1, .int x1)]) hx hb dX4_sharesAll_36 hl (k := 3) rfl rfl (by decide) rfl (fun ls hl => ?_)
          refine lv_goto (tgt := 4) hx hb dX4_sharesAll_39 (by decide) ?_
          exact ih x1 (x2 + r2) (x3 + (1 : Int32)) _ _ _ (lv_sub hl [2, 3, 1, 0] rfl) hW hf
set_option maxHeartbeats 4000000 in
set_option maxRecDepth 100000 in
theorem mX4_sharesAll  {x1 : Int32} {σ : Mst} {q : Int32} (hf : fX4_sharesAll x1 σ = some q) : CtI l yX4_sharesAll cX4_sharesAll 4 (some .int) rX4_sharesAll D dA [.ref h0, .int x1] (Mc dA h0 ad σ) q (Mc dA h0 ad σ) := by
  refine e_I (by decide) (Nat.le_of_ble_eq_true rfl) ?_
  intro p e s m below meth c ls A FX hr hlk hl hW
  have hx := FX.1; have hb := FX.2.1; have hown := FX.2.2.2.1; have hts := FX.2.2.2.2
  have hl : lv_has ls 4 [(0, .ref h0), (1, .int x1)] := hl
  rw [fX4_sharesAll] at hf
  refine lv_iconst (v := 0) hx hb dX4_sharesAll_0 (by decide) ?_
  refine lv_istore_n (lv' := [(2, .int (0 : Int32)), (0, .ref h0), (1, .int x1)]) hx hb dX4_sharesAll_1 rfl hl (by decide) rfl (fun ls hl => ?_)
  refine lv_iconst (v := 0) hx hb dX4_sharesAll_2 (by decide) ?_
  refine lv_istore_n (lv' := [(3, .int (0 : Int32)), (2, .int (0 : Int32)), (0, .ref h0), (1, .int x1)]) hx hb dX4_sharesAll_3 rfl hl (by decide) rfl (fun ls hl => ?_)
  exact wX4_sharesAll_4 FX hr hlk _ x1 (0 : Int32) (0 : Int32) _ _ _ (lv_sub hl [2, 3, 1, 0] rfl) hW hf
set_option maxHeartbeats 4000000 in
set_option maxRecDepth 100000 in
theorem kX4_sharesAll {α : Type} {q : α} {k : Int32 → Option α} {x1 : Int32} {σ : Mst} (FX : CallFix p m c cc nL s args lw_all RX4) (hR : rX4_sharesAll.frames + 1 ≤ R.frames ∧ 8 + (4 + 11) + rX4_sharesAll.locals ≤ R.locals) (hcs : cells ≤ R.cells ∧ slots ≤ R.slots) (hl : ls.size = nL) (hrm : (rest.map fun v => v.category).sum ≤ 8) (hW : Wd D dA A s (Mc dA h0 ad σ) H locs) (hf : (fX4_sharesAll x1 σ).bind k = some q) (hdg : decode cc pc = .ok (.invokevirtual 418, 3)) (kk : ∀ (r : Int32) (H1 : Heap) (locs1 : List Loc), Wd D dA A s (Mc dA h0 ad σ) H1 locs1 → k r = some q → W p l e R s m args below meth c H1 locs1 cells slots Q (F0 m (pc + 3) ls (.int r :: rest))) : W p l e R s m args below meth c H locs cells slots Q (F0 m pc ls (.int x1 :: .ref h0 :: rest)) := by
  obtain ⟨r1, h1, hf⟩ := bnd hf
  refine w_Vi (C := RX4) (As := [.int x1]) (rest := rest) (n := 1) (wr := []) FX (mX4_sharesAll h1) (cwV 1 FX.2.2.2.2 (lw_V q2006 q2008 qs98 q132 q2009) rfl rfl rfl (by decide +kernel) hR) (va_recv hW.2.2.2.1 hW.1 (ci := 4) (q0 := 0) rfl rfl) rfl hl rfl hrm ⟨Nat.le_trans (Nat.le_of_eq (Nat.add_zero cells)) hcs.1, Nat.le_trans (Nat.le_of_eq (Nat.add_zero slots)) hcs.2⟩ hdg hW.nil ?_
  exact fun H1 locs1 hW1 => kk r1 H1 locs1 hW1.nil' hf
/-! TrunkLittersModel.odd()I: kind R -/
def fX4_odd_35 (σ : Mst) (k4 : Int32 → Int32 → Option Int32) (x2 : Int32) : Option Int32 := k4 x2 (x2 + (1 : Int32))
def fX4_odd_4 (σ : Mst) : Nat → Int32 → Int32 → Option Int32
  | 0, _, _ => none
  | n + 1, x1, x2 => (if (8 : Int32) ≤ x2 then some x1 else (fX4_isThere x2 σ).bind fun r1 => (if r1 = 0 then fX4_odd_4 σ n x1 (x2 + (1 : Int32)) else (if x1 < 0 then fX4_odd_35 σ (fX4_odd_4 σ n) x2 else (fX4_sharesAll x2 σ).bind fun r2 => (fX4_sharesAll x1 σ).bind fun r3 => (if r3 ≤ r2 then fX4_odd_4 σ n x1 (x2 + (1 : Int32)) else fX4_odd_35 σ (fX4_odd_4 σ n) x2))))
def fX4_odd (σ : Mst) : Option Int32 := fX4_odd_4 σ FU (-1 : Int32) (0 : Int32)
abbrev rX4_odd : Room := { frames := 4, cells := 0, slots := 0, locals := 88 }
set_option maxHeartbeats 4000000 in
set_option maxRecDepth 100000 in
theorem wX4_odd_35 {q : Int32} {σ : Mst} (FX : CallFix p m c cX4_odd 3 s args lw_all RX4) (hr : meth.sig.returnType = (some .int)) (hlk : meth.locks = false) {k4 : Int32 → Int32 → Option Int32} (hk4 : ∀ (x1 : Int32) (x2 : Int32) (H : Heap) (locs : List Loc) (ls : Array Slot), lv_has ls 3 [(0, .ref h0), (1, .int x1), (2, .int x2)] → Wd D dA A s (Mc dA h0 ad σ) H locs → k4 x1 x2 = some q → W p l e rX4_odd s m args below meth c H locs 0 0 (QI D dA A below args s 0 0 q (Mc dA h0 ad σ)) (F0 m 4 ls [])) : ∀ (x2 : Int32) (H : Heap) (locs : List Loc) (ls : Array Slot), lv_has ls 3 [(0, .ref h0), (2, .int x2)] → Wd D dA A s (Mc dA h0 ad σ) H locs → fX4_odd_35 σ k4 x2 = some q → W p l e rX4_odd s m args below meth c H locs 0 0 (QI D dA A below args s 0 0 q (Mc dA h0 ad σ)) (F0 m 35 ls []) := by
  have hx := FX.1; have hb := FX.2.1; have hown := FX.2.2.2.1; have hts := FX.2.2.2.2
  intro x2 H locs ls hl hW hf
  rw [fX4_odd_35] at hf
  refine lv_iload_n hx hb dX4_odd_35 rfl (lv_at hl 1 rfl) ?_
  refine lv_istore_n (lv' := [(1, .int x2), (0, .ref h0), (2, .int x2)]) hx hb dX4_odd_36 rfl hl (by decide) rfl (fun ls hl => ?_)
  refine lv_iinc (v := (x2 + (1 : Int32))) (lv' := [(2, .int (x2 + (1 : Int32))), (1, .int x2), (0, .ref h0)]) hx hb dX4_odd_37 hl (k := 2) rfl rfl (by decide) rfl (fun ls hl => ?_)
  refine lv_goto (tgt := 4) hx hb dX4_odd_40 (by decide) ?_
  exact hk4 x2 (x2 + (1 : Int32)) _ _ _ (lv_sub hl [2, 1, 0] rfl) hW hf
set_option maxHeartbeats 4000000 in
set_option maxRecDepth 100000 in
theorem wX4_odd_4 {q : Int32} {σ : Mst} (FX : CallFix p m c cX4_odd 3 s args lw_all RX4) (hr : meth.sig.returnType = (some .int)) (hlk : meth.locks = false) : ∀ n : Nat, ∀ (x1 : Int32) (x2 : Int32) (H : Heap) (locs : List Loc) (ls : Array Slot), lv_has ls 3 [(0, .ref h0), (1, .int x1), (2, .int x2)] → Wd D dA A s (Mc dA h0 ad σ) H locs → fX4_odd_4 σ n x1 x2 = some q → W p l e rX4_odd s m args below meth c H locs 0 0 (QI D dA A below args s 0 0 q (Mc dA h0 ad σ)) (F0 m 4 ls []) := by
  have hx := FX.1; have hb := FX.2.1; have hown := FX.2.2.2.1; have hts := FX.2.2.2.2
  intro n
  induction n with
  | zero =>
    intro x1 x2 H locs ls hl hW hf
    cases (show (none : Option Int32) = some q from hf)
  | succ n ih =>
    intro x1 x2 H locs ls hl hW hf
    rw [fX4_odd_4] at hf
    refine lv_iload_n hx hb dX4_odd_4 rfl (lv_at hl 2 rfl) ?_
    refine lv_bipush (v := 8) hx hb dX4_odd_5 (by decide) ?_
    refine lv_icmp_ge (tgt := 43) hx hb dX4_odd_7 (by decide) (fun c7 => ?_) (fun c7 => ?_)
    · have hf := ifp c7 hf
      refine lv_iload_n hx hb dX4_odd_43 rfl (lv_at hl 1 rfl) ?_
      exact g_iret FX hr hlk hW (Option.some.inj hf) dX4_odd_44
    · have hf := ifn c7 hf
      refine lv_aload_n hx hb dX4_odd_10 rfl (lv_at hl 0 rfl) ?_
      refine lv_iload_n hx hb dX4_odd_11 rfl (lv_at hl 2 rfl) ?_
      refine kX4_isThere FX ⟨Nat.le_of_ble_eq_true rfl, Nat.le_of_ble_eq_true rfl⟩ ⟨Nat.zero_le _, Nat.zero_le _⟩ hl.1 (Nat.le_of_ble_eq_true rfl) hW hf dX4_odd_12 (fun r1 H locs hW hf => ?_)
      refine lv_if_eq (tgt := 37) hx hb dX4_odd_15 (by decide) (fun c15 => ?_) (fun c15 => ?_)
      · have hf := ifp c15 hf
        refine lv_iinc (v := (x2 + (1 : Int32))) (lv' := [(2, .int (x2 + (1 : Int32))), (0, .ref h0), (1, .int x1)]) hx hb dX4_odd_37 hl (k := 2) rfl rfl (by decide) rfl (fun ls hl => ?_)
        refine lv_goto (tgt := 4) hx hb dX4_odd_40 (by decide) ?_
        exact ih x1 (x2 + (1 : Int32)) _ _ _ (lv_sub hl [1, 2, 0] rfl) hW hf
      · have hf := ifn c15 hf
        refine lv_iload_n hx hb dX4_odd_18 rfl (lv_at hl 1 rfl) ?_
        refine lv_if_lt (tgt := 35) hx hb dX4_odd_19 (by decide) (fun c19 => ?_) (fun c19 => ?_)
        · have hf := ifp c19 hf
          exact wX4_odd_35 FX hr hlk (ih) x2 _ _ _ (lv_sub hl [0, 2] rfl) hW hf
        · have hf := ifn c19 hf
          refine lv_aload_n hx hb dX4_odd_22 rfl (lv_at hl 0 rfl) ?_
          refine lv_iload_n hx hb dX4_odd_23 rfl (lv_at hl 2 rfl) ?_
          refine kX4_sharesAll FX ⟨Nat.le_of_ble_eq_true rfl, Nat.le_of_ble_eq_true rfl⟩ ⟨Nat.zero_le _, Nat.zero_le _⟩ hl.1 (Nat.le_of_ble_eq_true rfl) hW hf dX4_odd_24 (fun r2 H locs hW hf => ?_)
          refine lv_aload_n hx hb dX4_odd_27 rfl (lv_at hl 0 rfl) ?_
          refine lv_iload_n hx hb dX4_odd_28 rfl (lv_at hl 1 rfl) ?_
          refine kX4_sharesAll FX ⟨Nat.le_of_ble_eq_true rfl, Nat.le_of_ble_eq_true rfl⟩ ⟨Nat.zero_le _, Nat.zero_le _⟩ hl.1 (Nat.le_of_ble_eq_true rfl) hW hf dX4_odd_29 (fun r3 H locs hW hf => ?_)
          refine lv_icmp_ge (tgt := 37) hx hb dX4_odd_32 (by decide) (fun c32 => ?_) (fun c32 => ?_)
          · have hf := ifp c32 hf
            refine lv_iinc (v := (x2 + (1 : Int32))) (lv' := [(2, .int (x2 + (1 : Int32))), (0, .ref h0), (1, .int x1)]) hx hb dX4_odd_37 hl (k := 2) rfl rfl (by decide) rfl (fun ls hl => ?_)
            refine lv_goto (tgt := 4) hx hb dX4_odd_40 (by decide) ?_
            exact ih x1 (x2 + (1 : Int32)) _ _ _ (lv_sub hl [1, 2, 0] rfl) hW hf
          · have hf := ifn c32 hf
            exact wX4_odd_35 FX hr hlk (ih) x2 _ _ _ (lv_sub hl [0, 2] rfl) hW hf
set_option maxHeartbeats 4000000 in
set_option maxRecDepth 100000 in
theorem mX4_odd  {σ : Mst} {q : Int32} (hf : fX4_odd σ = some q) : CtI l yX4_odd cX4_odd 3 (some .int) rX4_odd D dA [.ref h0] (Mc dA h0 ad σ) q (Mc dA h0 ad σ) := by
  refine e_I (by decide) (Nat.le_of_ble_eq_true rfl) ?_
  intro p e s m below meth c ls A FX hr hlk hl hW
  have hx := FX.1; have hb := FX.2.1; have hown := FX.2.2.2.1; have hts := FX.2.2.2.2
  have hl : lv_has ls 3 [(0, .ref h0)] := hl
  rw [fX4_odd] at hf
  refine lv_iconst (v := -1) hx hb dX4_odd_0 (by decide) ?_
  refine lv_istore_n (lv' := [(1, .int (-1 : Int32)), (0, .ref h0)]) hx hb dX4_odd_1 rfl hl (by decide) rfl (fun ls hl => ?_)
  refine lv_iconst (v := 0) hx hb dX4_odd_2 (by decide) ?_
  refine lv_istore_n (lv' := [(2, .int (0 : Int32)), (1, .int (-1 : Int32)), (0, .ref h0)]) hx hb dX4_odd_3 rfl hl (by decide) rfl (fun ls hl => ?_)
  exact wX4_odd_4 FX hr hlk _ (-1 : Int32) (0 : Int32) _ _ _ (lv_sub hl [2, 1, 0] rfl) hW hf

/-! TrunkLittersModel.bearers(I)I: kind R -/
def fX4_bearers_15 (σ : Mst) : Nat → Int32 → Int32 → Int32 → Option Int32
  | 0, _, _, _ => none
  | n + 1, x1, x2, x3 => (if (8 : Int32) ≤ x3 then some x2 else (fX4_isThere x3 σ).bind fun r1 => (if r1 = 0 then fX4_bearers_15 σ n x1 (x2 + (0 : Int32)) (x3 + (1 : Int32)) else ald 59 (gA σ 40) ((16 : Int32) + x3) fun v2 => fX4_bearers_15 σ n x1 (x2 + ((v2 >>> (x1 &&& 31)) &&& (1 : Int32))) (x3 + (1 : Int32))))
def fX4_bearers (x1 : Int32) (σ : Mst) : Option Int32 := (fX4_isIn x1 (0 : Int32) (5 : Int32)).bind fun r1 => (if r1 = 0 then some (-1 : Int32) else fX4_bearers_15 σ FU x1 (0 : Int32) (0 : Int32))
abbrev rX4_bearers : Room := { frames := 2, cells := 0, slots := 0, locals := 43 }
set_option maxHeartbeats 4000000 in
set_option maxRecDepth 100000 in
theorem wX4_bearers_15 {q : Int32} {σ : Mst} (FX : CallFix p m c cX4_bearers 4 s args lw_all RX4) (hr : meth.sig.returnType = (some .int)) (hlk : meth.locks = false) : ∀ n : Nat, ∀ (x1 : Int32) (x2 : Int32) (x3 : Int32) (H : Heap) (locs : List Loc) (ls : Array Slot), lv_has ls 4 [(0, .ref h0), (1, .int x1), (2, .int x2), (3, .int x3)] → Wd D dA A s (Mc dA h0 ad σ) H locs → fX4_bearers_15 σ n x1 x2 x3 = some q → W p l e rX4_bearers s m args below meth c H locs 0 0 (QI D dA A below args s 0 0 q (Mc dA h0 ad σ)) (F0 m 15 ls []) := by
  have hx := FX.1; have hb := FX.2.1; have hown := FX.2.2.2.1; have hts := FX.2.2.2.2
  intro n
  induction n with
  | zero =>
    intro x1 x2 x3 H locs ls hl hW hf
    cases (show (none : Option Int32) = some q from hf)
  | succ n ih =>
    intro x1 x2 x3 H locs ls hl hW hf
    rw [fX4_bearers_15] at hf
    refine lv_iload_n hx hb dX4_bearers_15 rfl (lv_at hl 3 rfl) ?_
    refine lv_bipush (v := 8) hx hb dX4_bearers_16 (by decide) ?_
    refine lv_icmp_ge (tgt := 55) hx hb dX4_bearers_18 (by decide) (fun c18 => ?_) (fun c18 => ?_)
    · have hf := ifp c18 hf
      refine lv_iload_n hx hb dX4_bearers_55 rfl (lv_at hl 2 rfl) ?_
      exact g_iret FX hr hlk hW (Option.some.inj hf) dX4_bearers_56
    · have hf := ifn c18 hf
      refine lv_iload_n hx hb dX4_bearers_21 rfl (lv_at hl 2 rfl) ?_
      refine lv_aload_n hx hb dX4_bearers_22 rfl (lv_at hl 0 rfl) ?_
      refine lv_iload_n hx hb dX4_bearers_23 rfl (lv_at hl 3 rfl) ?_
      refine kX4_isThere FX ⟨Nat.le_of_ble_eq_true rfl, Nat.le_of_ble_eq_true rfl⟩ ⟨Nat.zero_le _, Nat.zero_le _⟩ hl.1 (Nat.le_of_ble_eq_true rfl) hW hf dX4_bearers_24 (fun r1 H locs hW hf => ?_)
      refine lv_if_eq (tgt := 46) hx hb dX4_bearers_27 (by decide) (fun c27 => ?_) (fun c27 => ?_)
      · have hf := ifp c27 hf
        refine lv_iconst (v := 0) hx hb dX4_bearers_46 (by decide) ?_
        refine lv_iadd hx hb dX4_bearers_47 ?_
        refine lv_istore_n (lv' := [(2, .int (x2 + (0 : Int32))), (0, .ref h0), (1, .int x1), (3, .int x3)]) hx hb dX4_bearers_48 rfl hl (by decide) rfl (fun ls hl => ?_)
        refine lv_iinc (v := (x3 + (1 : Int32))) (lv' := [(3, .int (x3 + (1 : Int32))), (2, .int (x2 + (0 : Int32))), (0, .ref h0), (1, .int x1)]) hx hb dX4_bearers_49 hl (k := 3) rfl rfl (by decide) rfl (fun ls hl => ?_)
        refine lv_goto (tgt := 15) hx hb dX4_bearers_52 (by decide) ?_
        exact ih x1 (x2 + (0 : Int32)) (x3 + (1 : Int32)) _ _ _ (lv_sub hl [2, 3, 1, 0] rfl) hW hf
      · have hf := ifn c27 hf
        refine lv_aload_n hx hb dX4_bearers_30 rfl (lv_at hl 0 rfl) ?_
        refine Mg40 FX hW dX4_bearers_31 ?_
        refine lv_bipush (v := 16) hx hb dX4_bearers_34 (by decide) ?_
        refine lv_iload_n hx hb dX4_bearers_36 rfl (lv_at hl 3 rfl) ?_
        refine lv_iadd hx hb dX4_bearers_37 ?_
        refine g_iald FX hW 24 Mp40 hf dX4_bearers_38 (fun v2 hf => ?_)
        refine lv_iload_n hx hb dX4_bearers_39 rfl (lv_at hl 1 rfl) ?_
        refine lv_ishr hx hb dX4_bearers_40 ?_
        refine lv_iconst (v := 1) hx hb dX4_bearers_41 (by decide) ?_
        refine lv_iand hx hb dX4_bearers_42 ?_
        refine lv_goto (tgt := 47) hx hb dX4_bearers_43 (by decide) ?_
        refine lv_iadd hx hb dX4_bearers_47 ?_
        refine lv_istore_n (lv' := [(2, .int (x2 + ((v2 >>> (x1 &&& 31)) &&& (1 : Int32)))), (0, .ref h0), (1, .int x1), (3, .int x3)]) hx hb dX4_bearers_48 rfl hl (by decide) rfl (fun ls hl => ?_)
        refine lv_iinc (v := (x3 + (1 : Int32))) (lv' := [(3, .int (x3 + (1 : Int32))), (2, .int (x2 + ((v2 >>> (x1 &&& 31)) &&& (1 : Int32)))), (0, .ref h0), (1, .int x1)]) hx hb dX4_bearers_49 hl (k := 3) rfl rfl (by decide) rfl (fun ls hl => ?_)
        refine lv_goto (tgt := 15) hx hb dX4_bearers_52 (by decide) ?_
        exact ih x1 (x2 + ((v2 >>> (x1 &&& 31)) &&& (1 : Int32))) (x3 + (1 : Int32)) _ _ _ (lv_sub hl [2, 3, 1, 0] rfl) hW hf
set_option maxHeartbeats 4000000 in
set_option maxRecDepth 100000 in
theorem mX4_bearers  {x1 : Int32} {σ : Mst} {q : Int32} (hf : fX4_bearers x1 σ = some q) : CtI l yX4_bearers cX4_bearers 4 (some .int) rX4_bearers D dA [.ref h0, .int x1] (Mc dA h0 ad σ) q (Mc dA h0 ad σ) := by
  refine e_I (by decide) (Nat.le_of_ble_eq_true rfl) ?_
  intro p e s m below meth c ls A FX hr hlk hl hW
  have hx := FX.1; have hb := FX.2.1; have hown := FX.2.2.2.1; have hts := FX.2.2.2.2
  have hl : lv_has ls 4 [(0, .ref h0), (1, .int x1)] := hl
  rw [fX4_bearers] at hf
  refine lv_iload_n hx hb dX4_bearers_0 rfl (lv_at hl 1 rfl) ?_
  refine lv_iconst (v := 0) hx hb dX4_bearers_1 (by decide) ?_
  refine lv_iconst (v := 5) hx hb dX4_bearers_2 (by decide) ?_
  refine kX4_isIn FX ⟨Nat.le_of_ble_eq_true rfl, Nat.le_of_ble_eq_true rfl⟩ ⟨Nat.zero_le _, Nat.zero_le _⟩ hl.1 (Nat.le_of_ble_eq_true rfl) hW hf dX4_bearers_3 (fun r1 H locs hW hf => ?_)
  refine lv_if_ne (tgt := 11) hx hb dX4_bearers_6 (by decide) (fun c6 => ?_) (fun c6 => ?_)
  · have hf := ifn c6 hf
    refine lv_iconst (v := 0) hx hb dX4_bearers_11 (by decide) ?_
    refine lv_istore_n (lv' := [(2, .int (0 : Int32)), (0, .ref h0), (1, .int x1)]) hx hb dX4_bearers_12 rfl hl (by decide) rfl (fun ls hl => ?_)
    refine lv_iconst (v := 0) hx hb dX4_bearers_13 (by decide) ?_
    refine lv_istore_n (lv' := [(3, .int (0 : Int32)), (2, .int (0 : Int32)), (0, .ref h0), (1, .int x1)]) hx hb dX4_bearers_14 rfl hl (by decide) rfl (fun ls hl => ?_)
    exact wX4_bearers_15 FX hr hlk _ x1 (0 : Int32) (0 : Int32) _ _ _ (lv_sub hl [2, 3, 1, 0] rfl) hW hf
  · have hf := ifp c6 hf
    refine lv_iconst (v := -1) hx hb dX4_bearers_9 (by decide) ?_
    exact g_iret FX hr hlk hW (Option.some.inj hf) dX4_bearers_10

/-! TrunkLittersModel.roomiest()I: kind R -/
def fX4_roomiest_29 (σ : Mst) (k4 : Int32 → Int32 → Option Int32) (x2 : Int32) : Option Int32 := k4 x2 (x2 + (1 : Int32))
def fX4_roomiest_4 (σ : Mst) : Nat → Int32 → Int32 → Option Int32
  | 0, _, _ => none
  | n + 1, x1, x2 => (fX4_chambers σ).bind fun r1 => (if r1 ≤ x2 then some x1 else (if x1 < 0 then fX4_roomiest_29 σ (fX4_roomiest_4 σ n) x2 else (fX4_leftIn x2 σ).bind fun r2 => (fX4_leftIn x1 σ).bind fun r3 => (if r2 ≤ r3 then fX4_roomiest_4 σ n x1 (x2 + (1 : Int32)) else fX4_roomiest_29 σ (fX4_roomiest_4 σ n) x2)))
def fX4_roomiest (σ : Mst) : Option Int32 := fX4_roomiest_4 σ FU (-1 : Int32) (0 : Int32)
abbrev rX4_roomiest : Room := { frames := 3, cells := 0, slots := 0, locals := 65 }
set_option maxHeartbeats 4000000 in
set_option maxRecDepth 100000 in
theorem wX4_roomiest_29 {q : Int32} {σ : Mst} (FX : CallFix p m c cX4_roomiest 3 s args lw_all RX4) (hr : meth.sig.returnType = (some .int)) (hlk : meth.locks = false) {k4 : Int32 → Int32 → Option Int32} (hk4 : ∀ (x1 : Int32) (x2 : Int32) (H : Heap) (locs : List Loc) (ls : Array Slot), lv_has ls 3 [(0, .ref h0), (1, .int x1), (2, .int x2)] → Wd D dA A s (Mc dA h0 ad σ) H locs → k4 x1 x2 = some q → W p l e rX4_roomiest s m args below meth c H locs 0 0 (QI D dA A below args s 0 0 q (Mc dA h0 ad σ)) (F0 m 4 ls [])) : ∀ (x2 : Int32) (H : Heap) (locs : List Loc) (ls : Array Slot), lv_has ls 3 [(0, .ref h0), (2, .int x2)] → Wd D dA A s (Mc dA h0 ad σ) H locs → fX4_roomiest_29 σ k4 x2 = some q → W p l e rX4_roomiest s m args below meth c H locs 0 0 (QI D dA A below args s 0 0 q (Mc dA h0 ad σ)) (F0 m 29 ls []) := by
  have hx := FX.1; have hb := FX.2.1; have hown := FX.2.2.2.1; have hts := FX.2.2.2.2
  intro x2 H locs ls hl hW hf
  rw [fX4_roomiest_29] at hf
  refine lv_iload_n hx hb dX4_roomiest_29 rfl (lv_at hl 1 rfl) ?_
  refine lv_istore_n (lv' := [(1, .int x2), (0, .ref h0), (2, .int x2)]) hx hb dX4_roomiest_30 rfl hl (by decide) rfl (fun ls hl => ?_)
  refine lv_iinc (v := (x2 + (1 : Int32))) (lv' := [(2, .int (x2 + (1 : Int32))), (1, .int x2), (0, .ref h0)]) hx hb dX4_roomiest_31 hl (k := 2) rfl rfl (by decide) rfl (fun ls hl => ?_)
  refine lv_goto (tgt := 4) hx hb dX4_roomiest_34 (by decide) ?_
  exact hk4 x2 (x2 + (1 : Int32)) _ _ _ (lv_sub hl [2, 1, 0] rfl) hW hf
set_option maxHeartbeats 4000000 in
set_option maxRecDepth 100000 in
theorem wX4_roomiest_4 {q : Int32} {σ : Mst} (FX : CallFix p m c cX4_roomiest 3 s args lw_all RX4) (hr : meth.sig.returnType = (some .int)) (hlk : meth.locks = false) : ∀ n : Nat, ∀ (x1 : Int32) (x2 : Int32) (H : Heap) (locs : List Loc) (ls : Array Slot), lv_has ls 3 [(0, .ref h0), (1, .int x1), (2, .int x2)] → Wd D dA A s (Mc dA h0 ad σ) H locs → fX4_roomiest_4 σ n x1 x2 = some q → W p l e rX4_roomiest s m args below meth c H locs 0 0 (QI D dA A below args s 0 0 q (Mc dA h0 ad σ)) (F0 m 4 ls []) := by
  have hx := FX.1; have hb := FX.2.1; have hown := FX.2.2.2.1; have hts := FX.2.2.2.2
  intro n
  induction n with
  | zero =>
    intro x1 x2 H locs ls hl hW hf
    cases (show (none : Option Int32) = some q from hf)
  | succ n ih =>
    intro x1 x2 H locs ls hl hW hf
    rw [fX4_roomiest_4] at hf
    refine lv_iload_n hx hb dX4_roomiest_4 rfl (lv_at hl 2 rfl) ?_
    refine lv_aload_n hx hb dX4_roomiest_5 rfl (lv_at hl 0 rfl) ?_
    refine kX4_chambers FX ⟨Nat.le_of_ble_eq_true rfl, Nat.le_of_ble_eq_true rfl⟩ ⟨Nat.zero_le _, Nat.zero_le _⟩ hl.1 (Nat.le_of_ble_eq_true rfl) hW hf dX4_roomiest_6 (fun r1 H locs hW hf => ?_)
    refine lv_icmp_ge (tgt := 37) hx hb dX4_roomiest_9 (by decide) (fun c9 => ?_) (fun c9 => ?_)
    · have hf := ifp c9 hf
      refine lv_iload_n hx hb dX4_roomiest_37 rfl (lv_at hl 1 rfl) ?_
      exact g_iret FX hr hlk hW (Option.some.inj hf) dX4_roomiest_38
    · have hf := ifn c9 hf
      refine lv_iload_n hx hb dX4_roomiest_12 rfl (lv_at hl 1 rfl) ?_
      refine lv_if_lt (tgt := 29) hx hb dX4_roomiest_13 (by decide) (fun c13 => ?_) (fun c13 => ?_)
      · have hf := ifp c13 hf
        exact wX4_roomiest_29 FX hr hlk (ih) x2 _ _ _ (lv_sub hl [0, 2] rfl) hW hf
      · have hf := ifn c13 hf
        refine lv_aload_n hx hb dX4_roomiest_16 rfl (lv_at hl 0 rfl) ?_
        refine lv_iload_n hx hb dX4_roomiest_17 rfl (lv_at hl 2 rfl) ?_
        refine kX4_leftIn FX ⟨Nat.le_of_ble_eq_true rfl, Nat.le_of_ble_eq_true rfl⟩ ⟨Nat.zero_le _, Nat.zero_le _⟩ hl.1 (Nat.le_of_ble_eq_true rfl) hW hf dX4_roomiest_18 (fun r2 H locs hW hf => ?_)
        refine lv_aload_n hx hb dX4_roomiest_21 rfl (lv_at hl 0 rfl) ?_
        refine lv_iload_n hx hb dX4_roomiest_22 rfl (lv_at hl 1 rfl) ?_
        refine kX4_leftIn FX ⟨Nat.le_of_ble_eq_true rfl, Nat.le_of_ble_eq_true rfl⟩ ⟨Nat.zero_le _, Nat.zero_le _⟩ hl.1 (Nat.le_of_ble_eq_true rfl) hW hf dX4_roomiest_23 (fun r3 H locs hW hf => ?_)
        refine lv_icmp_le (tgt := 31) hx hb dX4_roomiest_26 (by decide) (fun c26 => ?_) (fun c26 => ?_)
        · have hf := ifp c26 hf
          refine lv_iinc (v := (x2 + (1 : Int32))) (lv' := [(2, .int (x2 + (1 : Int32))), (0, .ref h0), (1, .int x1)]) hx hb dX4_roomiest_31 hl (k := 2) rfl rfl (by decide) rfl (fun ls hl => ?_)
          refine lv_goto (tgt := 4) hx hb dX4_roomiest_34 (by decide) ?_
          exact ih x1 (x2 + (1 : Int32)) _ _ _ (lv_sub hl [1, 2, 0] rfl) hW hf
        · have hf := ifn c26 hf
          exact wX4_roomiest_29 FX hr hlk (ih) x2 _ _ _ (lv_sub hl [0, 2] rfl) hW hf
set_option maxHeartbeats 4000000 in
set_option maxRecDepth 100000 in
theorem mX4_roomiest  {σ : Mst} {q : Int32} (hf : fX4_roomiest σ = some q) : CtI l yX4_roomiest cX4_roomiest 3 (some .int) rX4_roomiest D dA [.ref h0] (Mc dA h0 ad σ) q (Mc dA h0 ad σ) := by
  refine e_I (by decide) (Nat.le_of_ble_eq_true rfl) ?_
  intro p e s m below meth c ls A FX hr hlk hl hW
  have hx := FX.1; have hb := FX.2.1; have hown := FX.2.2.2.1; have hts := FX.2.2.2.2
  have hl : lv_has ls 3 [(0, .ref h0)] := hl
  rw [fX4_roomiest] at hf
  refine lv_iconst (v := -1) hx hb dX4_roomiest_0 (by decide) ?_
  refine lv_istore_n (lv' := [(1, .int (-1 : Int32)), (0, .ref h0)]) hx hb dX4_roomiest_1 rfl hl (by decide) rfl (fun ls hl => ?_)
  refine lv_iconst (v := 0) hx hb dX4_roomiest_2 (by decide) ?_
  refine lv_istore_n (lv' := [(2, .int (0 : Int32)), (1, .int (-1 : Int32)), (0, .ref h0)]) hx hb dX4_roomiest_3 rfl hl (by decide) rfl (fun ls hl => ?_)
  exact wX4_roomiest_4 FX hr hlk _ (-1 : Int32) (0 : Int32) _ _ _ (lv_sub hl [2, 1, 0] rfl) hW hf

/-! TrunkLittersModel.keepAct()V: kind W -/
def fX4_keepAct_51 : Nat → Int32 → Mst → Option Mst
  | 0, _, _ => none
  | n + 1, x1, σ => (if (59 : Int32) ≤ x1 then stp (sF σ 44 ((gF σ 44) + (1 : Int32))) fun s1 => stp (sF s1 45 (0 : Int32)) fun s2 => some s2 else ald 59 (gA σ 40) x1 fun v3 => ast 2419 (((59 : Int32) * (gF σ 44)) + x1) (stp (sA σ 43 (((59 : Int32) * (gF σ 44)) + x1) v3) fun s4 => fX4_keepAct_51 n (x1 + (1 : Int32)) s4))
def fX4_keepAct_11 : Nat → Int32 → Mst → Option Mst
  | 0, _, _ => none
  | n + 1, x1, σ => (if (2360 : Int32) ≤ x1 then stp (sF σ 44 ((gF σ 44) - (1 : Int32))) fun s1 => fX4_keepAct_51 FU (0 : Int32) s1 else ald 2419 (gA σ 43) (x1 + (59 : Int32)) fun v2 => ast 2419 x1 (stp (sA σ 43 x1 v2) fun s3 => fX4_keepAct_11 n (x1 + (1 : Int32)) s3))
def fX4_keepAct (σ : Mst) : Option Mst := (if (gF σ 44) = (40 : Int32) then fX4_keepAct_11 FU (0 : Int32) σ else fX4_keepAct_51 FU (0 : Int32) σ)
abbrev rX4_keepAct : Room := { frames := 0, cells := 0, slots := 0, locals := 0 }
set_option maxHeartbeats 4000000 in
set_option maxRecDepth 100000 in
theorem wX4_keepAct_51 {q : Mst} (FX : CallFix p m c cX4_keepAct 2 s args lw_all RX4) (hr : meth.sig.returnType = none) (hlk : meth.locks = false) : ∀ n : Nat, ∀ (x1 : Int32) (σ : Mst) (H : Heap) (locs : List Loc) (ls : Array Slot), lv_has ls 2 [(0, .ref h0), (1, .int x1)] → Wd D dA A s (Mc dA h0 ad σ) H locs → fX4_keepAct_51 n x1 σ = some q → W p l e rX4_keepAct s m args below meth c H locs 0 0 (QV D dA A below args s 0 0 (Mc dA h0 ad q)) (F0 m 51 ls []) := by
  have hx := FX.1; have hb := FX.2.1; have hown := FX.2.2.2.1; have hts := FX.2.2.2.2
  intro n
  induction n with
  | zero =>
    intro x1 σ H locs ls hl hW hf
    cases (show (none : Option Mst) = some q from hf)
  | succ n ih =>
    intro x1 σ H locs ls hl hW hf
    rw [fX4_keepAct_51] at hf
    refine lv_iload_n hx hb dX4_keepAct_51 rfl (lv_at hl 1 rfl) ?_
    refine lv_bipush (v := 59) hx hb dX4_keepAct_52 (by decide) ?_
    refine lv_icmp_ge (tgt := 83) hx hb dX4_keepAct_54 (by decide) (fun c54 => ?_) (fun c54 => ?_)
    · have hf := ifp c54 hf
      refine lv_aload_n hx hb dX4_keepAct_83 rfl (lv_at hl 0 rfl) ?_
      refine lv_dup hx hb dX4_keepAct_84 rfl ?_
      refine Mg44 FX hW dX4_keepAct_85 ?_
      refine lv_iconst (v := 1) hx hb dX4_keepAct_88 (by decide) ?_
      refine lv_iadd hx hb dX4_keepAct_89 ?_
      refine Ms44 FX hW hf dX4_keepAct_90 (fun s1 H locs hW hf => ?_)
      refine lv_aload_n hx hb dX4_keepAct_93 rfl (lv_at hl 0 rfl) ?_
      refine lv_iconst (v := 0) hx hb dX4_keepAct_94 (by decide) ?_
      refine Ms45 FX hW hf dX4_keepAct_95 (fun s2 H locs hW hf => ?_)
      obtain rfl := Option.some.inj hf
      exact g_vret FX hr hlk hW dX4_keepAct_98
    · have hf := ifn c54 hf
      refine lv_aload_n hx hb dX4_keepAct_57 rfl (lv_at hl 0 rfl) ?_
      refine Mg43 FX hW dX4_keepAct_58 ?_
      refine lv_bipush (v := 59) hx hb dX4_keepAct_61 (by decide) ?_
      refine lv_aload_n hx hb dX4_keepAct_63 rfl (lv_at hl 0 rfl) ?_
      refine Mg44 FX hW dX4_keepAct_64 ?_
      refine lv_imul hx hb dX4_keepAct_67 ?_
      refine lv_iload_n hx hb dX4_keepAct_68 rfl (lv_at hl 1 rfl) ?_
      refine lv_iadd hx hb dX4_keepAct_69 ?_
      refine lv_aload_n hx hb dX4_keepAct_70 rfl (lv_at hl 0 rfl) ?_
      refine Mg40 FX hW dX4_keepAct_71 ?_
      refine lv_iload_n hx hb dX4_keepAct_74 rfl (lv_at hl 1 rfl) ?_
      refine g_iald FX hW 24 Mp40 hf dX4_keepAct_75 (fun v3 hf => ?_)
      refine g_iast FX hW 26 Mp43 (L := Mc dA h0 ad) (Mt43) hf dX4_keepAct_76 (fun s4 H locs hW hf => ?_)
      refine lv_iinc (v := (x1 + (1 : Int32))) (lv' := [(1, .int (x1 + (1 : Int32))), (0, .ref h0)]) hx hb dX4_keepAct_77 hl (k := 1) rfl rfl (by decide) rfl (fun ls hl => ?_)
      refine lv_goto (tgt := 51) hx hb dX4_keepAct_80 (by decide) ?_
      exact ih (x1 + (1 : Int32)) s4 _ _ _ (lv_sub hl [1, 0] rfl) hW hf
set_option maxHeartbeats 4000000 in
set_option maxRecDepth 100000 in
theorem wX4_keepAct_11 {q : Mst} (FX : CallFix p m c cX4_keepAct 2 s args lw_all RX4) (hr : meth.sig.returnType = none) (hlk : meth.locks = false) : ∀ n : Nat, ∀ (x1 : Int32) (σ : Mst) (H : Heap) (locs : List Loc) (ls : Array Slot), lv_has ls 2 [(0, .ref h0), (1, .int x1)] → Wd D dA A s (Mc dA h0 ad σ) H locs → fX4_keepAct_11 n x1 σ = some q → W p l e rX4_keepAct s m args below meth c H locs 0 0 (QV D dA A below args s 0 0 (Mc dA h0 ad q)) (F0 m 11 ls []) := by
  have hx := FX.1; have hb := FX.2.1; have hown := FX.2.2.2.1; have hts := FX.2.2.2.2
  intro n
  induction n with
  | zero =>
    intro x1 σ H locs ls hl hW hf
    cases (show (none : Option Mst) = some q from hf)
  | succ n ih =>
    intro x1 σ H locs ls hl hW hf
    rw [fX4_keepAct_11] at hf
    refine lv_iload_n hx hb dX4_keepAct_11 rfl (lv_at hl 1 rfl) ?_
    refine lv_sipush (v := 2360) hx hb dX4_keepAct_12 (by decide) ?_
    refine lv_icmp_ge (tgt := 39) hx hb dX4_keepAct_15 (by decide) (fun c15 => ?_) (fun c15 => ?_)
    · have hf := ifp c15 hf
      refine lv_aload_n hx hb dX4_keepAct_39 rfl (lv_at hl 0 rfl) ?_
      refine lv_dup hx hb dX4_keepAct_40 rfl ?_
      refine Mg44 FX hW dX4_keepAct_41 ?_
      refine lv_iconst (v := 1) hx hb dX4_keepAct_44 (by decide) ?_
      refine lv_isub hx hb dX4_keepAct_45 ?_
      refine Ms44 FX hW hf dX4_keepAct_46 (fun s1 H locs hW hf => ?_)
      refine lv_iconst (v := 0) hx hb dX4_keepAct_49 (by decide) ?_
      refine lv_istore_n (lv' := [(1, .int (0 : Int32)), (0, .ref h0)]) hx hb dX4_keepAct_50 rfl hl (by decide) rfl (fun ls hl => ?_)
      exact wX4_keepAct_51 FX hr hlk _ (0 : Int32) s1 _ _ _ (lv_sub hl [1, 0] rfl) hW hf
    · have hf := ifn c15 hf
      refine lv_aload_n hx hb dX4_keepAct_18 rfl (lv_at hl 0 rfl) ?_
      refine Mg43 FX hW dX4_keepAct_19 ?_
      refine lv_iload_n hx hb dX4_keepAct_22 rfl (lv_at hl 1 rfl) ?_
      refine lv_aload_n hx hb dX4_keepAct_23 rfl (lv_at hl 0 rfl) ?_
      refine Mg43 FX hW dX4_keepAct_24 ?_
      refine lv_iload_n hx hb dX4_keepAct_27 rfl (lv_at hl 1 rfl) ?_
      refine lv_bipush (v := 59) hx hb dX4_keepAct_28 (by decide) ?_
      refine lv_iadd hx hb dX4_keepAct_30 ?_
      refine g_iald FX hW 26 Mp43 hf dX4_keepAct_31 (fun v2 hf => ?_)
      refine g_iast FX hW 26 Mp43 (L := Mc dA h0 ad) (Mt43) hf dX4_keepAct_32 (fun s3 H locs hW hf => ?_)
      refine lv_iinc (v := (x1 + (1 : Int32))) (lv' := [(1, .int (x1 + (1 : Int32))), (0, .ref h0)]) hx hb dX4_keepAct_33 hl (k := 1) rfl rfl (by decide) rfl (fun ls hl => ?_)
      refine lv_goto (tgt := 11) hx hb dX4_keepAct_36 (by decide) ?_
      exact ih (x1 + (1 : Int32)) s3 _ _ _ (lv_sub hl [1, 0] rfl) hW hf
set_option maxHeartbeats 4000000 in
set_option maxRecDepth 100000 in
theorem mX4_keepAct  {σ : Mst} {q : Mst} (hf : fX4_keepAct σ = some q) : CtV l yX4_keepAct cX4_keepAct 2 none rX4_keepAct D dA [.ref h0] (Mc dA h0 ad σ) (Mc dA h0 ad q) := by
  refine e_V (by decide) (Nat.le_of_ble_eq_true rfl) ?_
  intro p e s m below meth c ls A FX hr hlk hl hW
  have hx := FX.1; have hb := FX.2.1; have hown := FX.2.2.2.1; have hts := FX.2.2.2.2
  have hl : lv_has ls 2 [(0, .ref h0)] := hl
  rw [fX4_keepAct] at hf
  refine lv_aload_n hx hb dX4_keepAct_0 rfl (lv_at hl 0 rfl) ?_
  refine Mg44 FX hW dX4_keepAct_1 ?_
  refine lv_bipush (v := 40) hx hb dX4_keepAct_4 (by decide) ?_
  refine lv_icmp_ne (tgt := 49) hx hb dX4_keepAct_6 (by decide) (fun c6 => ?_) (fun c6 => ?_)
  · have hf := ifn c6 hf
    refine lv_iconst (v := 0) hx hb dX4_keepAct_49 (by decide) ?_
    refine lv_istore_n (lv' := [(1, .int (0 : Int32)), (0, .ref h0)]) hx hb dX4_keepAct_50 rfl hl (by decide) rfl (fun ls hl => ?_)
    exact wX4_keepAct_51 FX hr hlk _ (0 : Int32) σ _ _ _ (lv_sub hl [1, 0] rfl) hW hf
  · have hf := ifp c6 hf
    refine lv_iconst (v := 0) hx hb dX4_keepAct_9 (by decide) ?_
    refine lv_istore_n (lv' := [(1, .int (0 : Int32)), (0, .ref h0)]) hx hb dX4_keepAct_10 rfl hl (by decide) rfl (fun ls hl => ?_)
    exact wX4_keepAct_11 FX hr hlk _ (0 : Int32) σ _ _ _ (lv_sub hl [1, 0] rfl) hW hf
set_option maxHeartbeats 4000000 in
set_option maxRecDepth 100000 in
theorem kX4_keepAct {α : Type} {q : α} {k : Mst → Option α} {σ : Mst} (FX : CallFix p m c cc nL s args lw_all RX4) (hR : rX4_keepAct.frames + 1 ≤ R.frames ∧ 8 + (2 + 11) + rX4_keepAct.locals ≤ R.locals) (hcs : cells ≤ R.cells ∧ slots ≤ R.slots) (hl : ls.size = nL) (hrm : (rest.map fun v => v.category).sum ≤ 8) (hW : Wd D dA A s (Mc dA h0 ad σ) H locs) (hf : (fX4_keepAct σ).bind k = some q) (hdg : decode cc pc = .ok (.invokevirtual 421, 3)) (kk : ∀ (σ1 : Mst) (H1 : Heap) (locs1 : List Loc), Wd D dA A s (Mc dA h0 ad σ1) H1 locs1 → k σ1 = some q → W p l e R s m args below meth c H1 locs1 cells slots Q (F0 m (pc + 3) ls (rest))) : W p l e R s m args below meth c H locs cells slots Q (F0 m pc ls (.ref h0 :: rest)) := by
  obtain ⟨r1, h1, hf⟩ := bnd hf
  refine w_Vv (C := RX4) (As := []) (rest := rest) (n := 0) (wr := []) FX (mX4_keepAct h1) (cwV 0 FX.2.2.2.2 (lw_V q2022 q2024 qs99 q132 q2025) rfl rfl rfl (by decide +kernel) hR) (va_recv hW.2.2.2.1 hW.1 (ci := 4) (q0 := 0) rfl rfl) rfl hl rfl hrm ⟨Nat.le_trans (Nat.le_of_eq (Nat.add_zero cells)) hcs.1, Nat.le_trans (Nat.le_of_eq (Nat.add_zero slots)) hcs.2⟩ hdg hW.nil ?_
  exact fun H1 locs1 hW1 => kk r1 H1 locs1 hW1.nil' hf
/-! TrunkLittersModel.swapAll()V: kind W -/
def fX4_swapAll_2 : Nat → Int32 → Mst → Option Mst
  | 0, _, _ => none
  | n + 1, x1, σ => (if (59 : Int32) ≤ x1 then some σ else ald 2419 (gA σ 43) (((59 : Int32) * (gF σ 44)) + x1) fun v1 => ald 59 (gA σ 40) x1 fun v2 => ast 2419 (((59 : Int32) * (gF σ 44)) + x1) (stp (sA σ 43 (((59 : Int32) * (gF σ 44)) + x1) v2) fun s3 => ast 59 x1 (stp (sA s3 40 x1 v1) fun s4 => fX4_swapAll_2 n (x1 + (1 : Int32)) s4)))
def fX4_swapAll (σ : Mst) : Option Mst := fX4_swapAll_2 FU (0 : Int32) σ
abbrev rX4_swapAll : Room := { frames := 0, cells := 0, slots := 0, locals := 0 }
set_option maxHeartbeats 4000000 in
set_option maxRecDepth 100000 in
theorem wX4_swapAll_2 {q : Mst} (FX : CallFix p m c cX4_swapAll 3 s args lw_all RX4) (hr : meth.sig.returnType = none) (hlk : meth.locks = false) : ∀ n : Nat, ∀ (x1 : Int32) (σ : Mst) (H : Heap) (locs : List Loc) (ls : Array Slot), lv_has ls 3 [(0, .ref h0), (1, .int x1)] → Wd D dA A s (Mc dA h0 ad σ) H locs → fX4_swapAll_2 n x1 σ = some q → W p l e rX4_swapAll s m args below meth c H locs 0 0 (QV D dA A below args s 0 0 (Mc dA h0 ad q)) (F0 m 2 ls []) := by
  have hx := FX.1; have hb := FX.2.1; have hown := FX.2.2.2.1; have hts := FX.2.2.2.2
  intro n
  induction n with
  | zero =>
    intro x1 σ H locs ls hl hW hf
    cases (show (none : Option Mst) = some q from hf)
  | succ n ih =>
    intro x1 σ H locs ls hl hW hf
    rw [fX4_swapAll_2] at hf
    refine lv_iload_n hx hb dX4_swapAll_2 rfl (lv_at hl 1 rfl) ?_
    refine lv_bipush (v := 59) hx hb dX4_swapAll_3 (by decide) ?_
    refine lv_icmp_ge (tgt := 56) hx hb dX4_swapAll_5 (by decide) (fun c5 => ?_) (fun c5 => ?_)
    · have hf := ifp c5 hf
      obtain rfl := Option.some.inj hf
      exact g_vret FX hr hlk hW dX4_swapAll_56
    · have hf := ifn c5 hf
      refine lv_aload_n hx hb dX4_swapAll_8 rfl (lv_at hl 0 rfl) ?_
      refine Mg43 FX hW dX4_swapAll_9 ?_
      refine lv_bipush (v := 59) hx hb dX4_swapAll_12 (by decide) ?_
      refine lv_aload_n hx hb dX4_swapAll_14 rfl (lv_at hl 0 rfl) ?_
      refine Mg44 FX hW dX4_swapAll_15 ?_
      refine lv_imul hx hb dX4_swapAll_18 ?_
      refine lv_iload_n hx hb dX4_swapAll_19 rfl (lv_at hl 1 rfl) ?_
      refine lv_iadd hx hb dX4_swapAll_20 ?_
      refine g_iald FX hW 26 Mp43 hf dX4_swapAll_21 (fun v1 hf => ?_)
      refine lv_istore_n (lv' := [(2, .int v1), (0, .ref h0), (1, .int x1)]) hx hb dX4_swapAll_22 rfl hl (by decide) rfl (fun ls hl => ?_)
      refine lv_aload_n hx hb dX4_swapAll_23 rfl (lv_at hl 1 rfl) ?_
      refine Mg43 FX hW dX4_swapAll_24 ?_
      refine lv_bipush (v := 59) hx hb dX4_swapAll_27 (by decide) ?_
      refine lv_aload_n hx hb dX4_swapAll_29 rfl (lv_at hl 1 rfl) ?_
      refine Mg44 FX hW dX4_swapAll_30 ?_
      refine lv_imul hx hb dX4_swapAll_33 ?_
      refine lv_iload_n hx hb dX4_swapAll_34 rfl (lv_at hl 2 rfl) ?_
      refine lv_iadd hx hb dX4_swapAll_35 ?_
      refine lv_aload_n hx hb dX4_swapAll_36 rfl (lv_at hl 1 rfl) ?_
      refine Mg40 FX hW dX4_swapAll_37 ?_
      refine lv_iload_n hx hb dX4_swapAll_40 rfl (lv_at hl 2 rfl) ?_
      refine g_iald FX hW 24 Mp40 hf dX4_swapAll_41 (fun v2 hf => ?_)
      refine g_iast FX hW 26 Mp43 (L := Mc dA h0 ad) (Mt43) hf dX4_swapAll_42 (fun s3 H locs hW hf => ?_)
      refine lv_aload_n hx hb dX4_swapAll_43 rfl (lv_at hl 1 rfl) ?_
      refine Mg40 FX hW dX4_swapAll_44 ?_
      refine lv_iload_n hx hb dX4_swapAll_47 rfl (lv_at hl 2 rfl) ?_
      refine lv_iload_n hx hb dX4_swapAll_48 rfl (lv_at hl 0 rfl) ?_
      refine g_iast FX hW 24 Mp40 (L := Mc dA h0 ad) (Mt40) hf dX4_swapAll_49 (fun s4 H locs hW hf => ?_)
      refine lv_iinc (v := (x1 + (1 : Int32))) (lv' := [(1, .int (x1 + (1 : Int32))), (2, .int v1), (0, .ref h0)]) hx hb dX4_swapAll_50 hl (k := 2) rfl rfl (by decide) rfl (fun ls hl => ?_)
      refine lv_goto (tgt := 2) hx hb dX4_swapAll_53 (by decide) ?_
      exact ih (x1 + (1 : Int32)) s4 _ _ _ (lv_sub hl [2, 0] rfl) hW hf
set_option maxHeartbeats 4000000 in
set_option maxRecDepth 100000 in
theorem mX4_swapAll  {σ : Mst} {q : Mst} (hf : fX4_swapAll σ = some q) : CtV l yX4_swapAll cX4_swapAll 3 none rX4_swapAll D dA [.ref h0] (Mc dA h0 ad σ) (Mc dA h0 ad q) := by
  refine e_V (by decide) (Nat.le_of_ble_eq_true rfl) ?_
  intro p e s m below meth c ls A FX hr hlk hl hW
  have hx := FX.1; have hb := FX.2.1; have hown := FX.2.2.2.1; have hts := FX.2.2.2.2
  have hl : lv_has ls 3 [(0, .ref h0)] := hl
  rw [fX4_swapAll] at hf
  refine lv_iconst (v := 0) hx hb dX4_swapAll_0 (by decide) ?_
  refine lv_istore_n (lv' := [(1, .int (0 : Int32)), (0, .ref h0)]) hx hb dX4_swapAll_1 rfl hl (by decide) rfl (fun ls hl => ?_)
  exact wX4_swapAll_2 FX hr hlk _ (0 : Int32) σ _ _ _ (lv_sub hl [1, 0] rfl) hW hf
set_option maxHeartbeats 4000000 in
set_option maxRecDepth 100000 in
theorem kX4_swapAll {α : Type} {q : α} {k : Mst → Option α} {σ : Mst} (FX : CallFix p m c cc nL s args lw_all RX4) (hR : rX4_swapAll.frames + 1 ≤ R.frames ∧ 8 + (3 + 11) + rX4_swapAll.locals ≤ R.locals) (hcs : cells ≤ R.cells ∧ slots ≤ R.slots) (hl : ls.size = nL) (hrm : (rest.map fun v => v.category).sum ≤ 8) (hW : Wd D dA A s (Mc dA h0 ad σ) H locs) (hf : (fX4_swapAll σ).bind k = some q) (hdg : decode cc pc = .ok (.invokevirtual 427, 3)) (kk : ∀ (σ1 : Mst) (H1 : Heap) (locs1 : List Loc), Wd D dA A s (Mc dA h0 ad σ1) H1 locs1 → k σ1 = some q → W p l e R s m args below meth c H1 locs1 cells slots Q (F0 m (pc + 3) ls (rest))) : W p l e R s m args below meth c H locs cells slots Q (F0 m pc ls (.ref h0 :: rest)) := by
  obtain ⟨r1, h1, hf⟩ := bnd hf
  refine w_Vv (C := RX4) (As := []) (rest := rest) (n := 0) (wr := []) FX (mX4_swapAll h1) (cwV 0 FX.2.2.2.2 (lw_V q2062 q2064 qs105 q132 q2065) rfl rfl rfl (by decide +kernel) hR) (va_recv hW.2.2.2.1 hW.1 (ci := 4) (q0 := 0) rfl rfl) rfl hl rfl hrm ⟨Nat.le_trans (Nat.le_of_eq (Nat.add_zero cells)) hcs.1, Nat.le_trans (Nat.le_of_eq (Nat.add_zero slots)) hcs.2⟩ hdg hW.nil ?_
  exact fun H1 locs1 hW1 => kk r1 H1 locs1 hW1.nil' hf
/-! TrunkLittersModel.year()I: kind W -/
def fX4_year (σ : Mst) : Option (Int32 × Mst) := ald 59 (gA σ 40) (57 : Int32) fun v1 => (if v1 = (999 : Int32) then some ((-1 : Int32), σ) else (fX4_keepAct σ).bind fun s2 => bnd2 (fX4_goYear s2) fun r3 s4 => some (r3, s4))
abbrev rX4_year : Room := { frames := 8, cells := 0, slots := 0, locals := 176 }
set_option maxHeartbeats 4000000 in
set_option maxRecDepth 100000 in
theorem mX4_year  {σ : Mst} {q : (Int32 × Mst)} (hf : fX4_year σ = some q) : CtI l yX4_year cX4_year 1 (some .int) rX4_year D dA [.ref h0] (Mc dA h0 ad σ) q.1 (Mc dA h0 ad q.2) := by
  refine e_I (by decide) (Nat.le_of_ble_eq_true rfl) ?_
  intro p e s m below meth c ls A FX hr hlk hl hW
  have hx := FX.1; have hb := FX.2.1; have hown := FX.2.2.2.1; have hts := FX.2.2.2.2
  have hl : lv_has ls 1 [(0, .ref h0)] := hl
  rw [fX4_year] at hf
  refine lv_aload_n hx hb dX4_year_0 rfl (lv_at hl 0 rfl) ?_
  refine Mg40 FX hW dX4_year_1 ?_
  refine lv_bipush (v := 57) hx hb dX4_year_4 (by decide) ?_
  refine g_iald FX hW 24 Mp40 hf dX4_year_6 (fun v1 hf => ?_)
  refine lv_sipush (v := 999) hx hb dX4_year_7 (by decide) ?_
  refine lv_icmp_ne (tgt := 15) hx hb dX4_year_10 (by decide) (fun c10 => ?_) (fun c10 => ?_)
  · have hf := ifn c10 hf
    refine lv_aload_n hx hb dX4_year_15 rfl (lv_at hl 0 rfl) ?_
    refine kX4_keepAct FX ⟨Nat.le_of_ble_eq_true rfl, Nat.le_of_ble_eq_true rfl⟩ ⟨Nat.zero_le _, Nat.zero_le _⟩ hl.1 (Nat.le_of_ble_eq_true rfl) hW hf dX4_year_16 (fun s2 H locs hW hf => ?_)
    refine lv_aload_n hx hb dX4_year_19 rfl (lv_at hl 0 rfl) ?_
    refine kX4_goYear FX ⟨Nat.le_of_ble_eq_true rfl, Nat.le_of_ble_eq_true rfl⟩ ⟨Nat.zero_le _, Nat.zero_le _⟩ hl.1 (Nat.le_of_ble_eq_true rfl) hW hf dX4_year_20 (fun r3 s4 H locs hW hf => ?_)
    obtain rfl := Option.some.inj hf
    exact g_iret FX hr hlk hW rfl dX4_year_23
  · have hf := ifp c10 hf
    refine lv_iconst (v := -1) hx hb dX4_year_13 (by decide) ?_
    obtain rfl := Option.some.inj hf
    exact g_iret FX hr hlk hW rfl dX4_year_14

/-! TrunkLittersModel.canCarry(II)Z: kind R -/
def fX4_canCarry (x1 : Int32) (x2 : Int32) (σ : Mst) : Option Int32 := (fX4_isThere x1 σ).bind fun r1 => (if r1 = 0 then some (0 : Int32) else (fX4_isRoom x2 σ).bind fun r2 => (if r2 = 0 then some (0 : Int32) else ald 59 (gA σ 40) ((8 : Int32) + x1) fun v3 => (if v3 = x2 then some (0 : Int32) else (fX4_leftIn x2 σ).bind fun r4 => ald 59 (gA σ 40) ((0 : Int32) + x1) fun v5 => (if r4 < v5 then some (0 : Int32) else some (1 : Int32)))))
abbrev rX4_canCarry : Room := { frames := 3, cells := 0, slots := 0, locals := 65 }
set_option maxHeartbeats 4000000 in
set_option maxRecDepth 100000 in
theorem mX4_canCarry  {x1 : Int32} {x2 : Int32} {σ : Mst} {q : Int32} (hf : fX4_canCarry x1 x2 σ = some q) : CtI l yX4_canCarry cX4_canCarry 3 (some .boolean) rX4_canCarry D dA [.ref h0, .int x1, .int x2] (Mc dA h0 ad σ) q (Mc dA h0 ad σ) := by
  refine e_I (by decide) (Nat.le_of_ble_eq_true rfl) ?_
  intro p e s m below meth c ls A FX hr hlk hl hW
  have hx := FX.1; have hb := FX.2.1; have hown := FX.2.2.2.1; have hts := FX.2.2.2.2
  have hl : lv_has ls 3 [(0, .ref h0), (1, .int x1), (2, .int x2)] := hl
  rw [fX4_canCarry] at hf
  refine lv_aload_n hx hb dX4_canCarry_0 rfl (lv_at hl 0 rfl) ?_
  refine lv_iload_n hx hb dX4_canCarry_1 rfl (lv_at hl 1 rfl) ?_
  refine kX4_isThere FX ⟨Nat.le_of_ble_eq_true rfl, Nat.le_of_ble_eq_true rfl⟩ ⟨Nat.zero_le _, Nat.zero_le _⟩ hl.1 (Nat.le_of_ble_eq_true rfl) hW hf dX4_canCarry_2 (fun r1 H locs hW hf => ?_)
  refine lv_if_eq (tgt := 49) hx hb dX4_canCarry_5 (by decide) (fun c5 => ?_) (fun c5 => ?_)
  · have hf := ifp c5 hf
    refine lv_iconst (v := 0) hx hb dX4_canCarry_49 (by decide) ?_
    exact g_zret FX hr hlk hW rfl (Option.some.inj hf) dX4_canCarry_50
  · have hf := ifn c5 hf
    refine lv_aload_n hx hb dX4_canCarry_8 rfl (lv_at hl 0 rfl) ?_
    refine lv_iload_n hx hb dX4_canCarry_9 rfl (lv_at hl 2 rfl) ?_
    refine kX4_isRoom FX ⟨Nat.le_of_ble_eq_true rfl, Nat.le_of_ble_eq_true rfl⟩ ⟨Nat.zero_le _, Nat.zero_le _⟩ hl.1 (Nat.le_of_ble_eq_true rfl) hW hf dX4_canCarry_10 (fun r2 H locs hW hf => ?_)
    refine lv_if_eq (tgt := 49) hx hb dX4_canCarry_13 (by decide) (fun c13 => ?_) (fun c13 => ?_)
    · have hf := ifp c13 hf
      refine lv_iconst (v := 0) hx hb dX4_canCarry_49 (by decide) ?_
      exact g_zret FX hr hlk hW rfl (Option.some.inj hf) dX4_canCarry_50
    · have hf := ifn c13 hf
      refine lv_aload_n hx hb dX4_canCarry_16 rfl (lv_at hl 0 rfl) ?_
      refine Mg40 FX hW dX4_canCarry_17 ?_
      refine lv_bipush (v := 8) hx hb dX4_canCarry_20 (by decide) ?_
      refine lv_iload_n hx hb dX4_canCarry_22 rfl (lv_at hl 1 rfl) ?_
      refine lv_iadd hx hb dX4_canCarry_23 ?_
      refine g_iald FX hW 24 Mp40 hf dX4_canCarry_24 (fun v3 hf => ?_)
      refine lv_iload_n hx hb dX4_canCarry_25 rfl (lv_at hl 2 rfl) ?_
      refine lv_icmp_eq (tgt := 49) hx hb dX4_canCarry_26 (by decide) (fun c26 => ?_) (fun c26 => ?_)
      · have hf := ifp c26 hf
        refine lv_iconst (v := 0) hx hb dX4_canCarry_49 (by decide) ?_
        exact g_zret FX hr hlk hW rfl (Option.some.inj hf) dX4_canCarry_50
      · have hf := ifn c26 hf
        refine lv_aload_n hx hb dX4_canCarry_29 rfl (lv_at hl 0 rfl) ?_
        refine lv_iload_n hx hb dX4_canCarry_30 rfl (lv_at hl 2 rfl) ?_
        refine kX4_leftIn FX ⟨Nat.le_of_ble_eq_true rfl, Nat.le_of_ble_eq_true rfl⟩ ⟨Nat.zero_le _, Nat.zero_le _⟩ hl.1 (Nat.le_of_ble_eq_true rfl) hW hf dX4_canCarry_31 (fun r4 H locs hW hf => ?_)
        refine lv_aload_n hx hb dX4_canCarry_34 rfl (lv_at hl 0 rfl) ?_
        refine Mg40 FX hW dX4_canCarry_35 ?_
        refine lv_iconst (v := 0) hx hb dX4_canCarry_38 (by decide) ?_
        refine lv_iload_n hx hb dX4_canCarry_39 rfl (lv_at hl 1 rfl) ?_
        refine lv_iadd hx hb dX4_canCarry_40 ?_
        refine g_iald FX hW 24 Mp40 hf dX4_canCarry_41 (fun v5 hf => ?_)
        refine lv_icmp_lt (tgt := 49) hx hb dX4_canCarry_42 (by decide) (fun c42 => ?_) (fun c42 => ?_)
        · have hf := ifp c42 hf
          refine lv_iconst (v := 0) hx hb dX4_canCarry_49 (by decide) ?_
          exact g_zret FX hr hlk hW rfl (Option.some.inj hf) dX4_canCarry_50
        · have hf := ifn c42 hf
          refine lv_iconst (v := 1) hx hb dX4_canCarry_45 (by decide) ?_
          refine lv_goto (tgt := 50) hx hb dX4_canCarry_46 (by decide) ?_
          exact g_zret FX hr hlk hW rfl (Option.some.inj hf) dX4_canCarry_50
set_option maxHeartbeats 4000000 in
set_option maxRecDepth 100000 in
theorem kX4_canCarry {α : Type} {q : α} {k : Int32 → Option α} {x1 : Int32} {x2 : Int32} {σ : Mst} (FX : CallFix p m c cc nL s args lw_all RX4) (hR : rX4_canCarry.frames + 1 ≤ R.frames ∧ 8 + (3 + 11) + rX4_canCarry.locals ≤ R.locals) (hcs : cells ≤ R.cells ∧ slots ≤ R.slots) (hl : ls.size = nL) (hrm : (rest.map fun v => v.category).sum ≤ 8) (hW : Wd D dA A s (Mc dA h0 ad σ) H locs) (hf : (fX4_canCarry x1 x2 σ).bind k = some q) (hdg : decode cc pc = .ok (.invokevirtual 424, 3)) (kk : ∀ (r : Int32) (H1 : Heap) (locs1 : List Loc), Wd D dA A s (Mc dA h0 ad σ) H1 locs1 → k r = some q → W p l e R s m args below meth c H1 locs1 cells slots Q (F0 m (pc + 3) ls (.int r :: rest))) : W p l e R s m args below meth c H locs cells slots Q (F0 m pc ls (.int x2 :: .int x1 :: .ref h0 :: rest)) := by
  obtain ⟨r1, h1, hf⟩ := bnd hf
  refine w_Vi (C := RX4) (As := [.int x1, .int x2]) (rest := rest) (n := 2) (wr := []) FX (mX4_canCarry h1) (cwV 2 FX.2.2.2.2 (lw_V q2046 q2048 qs104 q132 q2049) rfl rfl rfl (by decide +kernel) hR) (va_recv hW.2.2.2.1 hW.1 (ci := 4) (q0 := 0) rfl rfl) rfl hl rfl hrm ⟨Nat.le_trans (Nat.le_of_eq (Nat.add_zero cells)) hcs.1, Nat.le_trans (Nat.le_of_eq (Nat.add_zero slots)) hcs.2⟩ hdg hW.nil ?_
  exact fun H1 locs1 hW1 => kk r1 H1 locs1 hW1.nil' hf
/-! TrunkLittersModel.carry(II)I: kind W -/
def fX4_carry (x1 : Int32) (x2 : Int32) (σ : Mst) : Option (Int32 × Mst) := (fX4_canCarry x1 x2 σ).bind fun r1 => (if r1 = 0 then some ((-1 : Int32), σ) else (fX4_keepAct σ).bind fun s2 => ald 59 (gA s2 40) ((8 : Int32) + x1) fun v3 => ast 59 ((8 : Int32) + x1) (stp (sA s2 40 ((8 : Int32) + x1) x2) fun s4 => some (v3, s4)))
abbrev rX4_carry : Room := { frames := 4, cells := 0, slots := 0, locals := 87 }
set_option maxHeartbeats 4000000 in
set_option maxRecDepth 100000 in
theorem mX4_carry  {x1 : Int32} {x2 : Int32} {σ : Mst} {q : (Int32 × Mst)} (hf : fX4_carry x1 x2 σ = some q) : CtI l yX4_carry cX4_carry 4 (some .int) rX4_carry D dA [.ref h0, .int x1, .int x2] (Mc dA h0 ad σ) q.1 (Mc dA h0 ad q.2) := by
  refine e_I (by decide) (Nat.le_of_ble_eq_true rfl) ?_
  intro p e s m below meth c ls A FX hr hlk hl hW
  have hx := FX.1; have hb := FX.2.1; have hown := FX.2.2.2.1; have hts := FX.2.2.2.2
  have hl : lv_has ls 4 [(0, .ref h0), (1, .int x1), (2, .int x2)] := hl
  rw [fX4_carry] at hf
  refine lv_aload_n hx hb dX4_carry_0 rfl (lv_at hl 0 rfl) ?_
  refine lv_iload_n hx hb dX4_carry_1 rfl (lv_at hl 1 rfl) ?_
  refine lv_iload_n hx hb dX4_carry_2 rfl (lv_at hl 2 rfl) ?_
  refine kX4_canCarry FX ⟨Nat.le_of_ble_eq_true rfl, Nat.le_of_ble_eq_true rfl⟩ ⟨Nat.zero_le _, Nat.zero_le _⟩ hl.1 (Nat.le_of_ble_eq_true rfl) hW hf dX4_carry_3 (fun r1 H locs hW hf => ?_)
  refine lv_if_ne (tgt := 11) hx hb dX4_carry_6 (by decide) (fun c6 => ?_) (fun c6 => ?_)
  · have hf := ifn c6 hf
    refine lv_aload_n hx hb dX4_carry_11 rfl (lv_at hl 0 rfl) ?_
    refine kX4_keepAct FX ⟨Nat.le_of_ble_eq_true rfl, Nat.le_of_ble_eq_true rfl⟩ ⟨Nat.zero_le _, Nat.zero_le _⟩ hl.1 (Nat.le_of_ble_eq_true rfl) hW hf dX4_carry_12 (fun s2 H locs hW hf => ?_)
    refine lv_aload_n hx hb dX4_carry_15 rfl (lv_at hl 0 rfl) ?_
    refine Mg40 FX hW dX4_carry_16 ?_
    refine lv_bipush (v := 8) hx hb dX4_carry_19 (by decide) ?_
    refine lv_iload_n hx hb dX4_carry_21 rfl (lv_at hl 1 rfl) ?_
    refine lv_iadd hx hb dX4_carry_22 ?_
    refine g_iald FX hW 24 Mp40 hf dX4_carry_23 (fun v3 hf => ?_)
    refine lv_istore_n (lv' := [(3, .int v3), (0, .ref h0), (1, .int x1), (2, .int x2)]) hx hb dX4_carry_24 rfl hl (by decide) rfl (fun ls hl => ?_)
    refine lv_aload_n hx hb dX4_carry_25 rfl (lv_at hl 1 rfl) ?_
    refine Mg40 FX hW dX4_carry_26 ?_
    refine lv_bipush (v := 8) hx hb dX4_carry_29 (by decide) ?_
    refine lv_iload_n hx hb dX4_carry_31 rfl (lv_at hl 2 rfl) ?_
    refine lv_iadd hx hb dX4_carry_32 ?_
    refine lv_iload_n hx hb dX4_carry_33 rfl (lv_at hl 3 rfl) ?_
    refine g_iast FX hW 24 Mp40 (L := Mc dA h0 ad) (Mt40) hf dX4_carry_34 (fun s4 H locs hW hf => ?_)
    refine lv_iload_n hx hb dX4_carry_35 rfl (lv_at hl 0 rfl) ?_
    obtain rfl := Option.some.inj hf
    exact g_iret FX hr hlk hW rfl dX4_carry_36
  · have hf := ifp c6 hf
    refine lv_iconst (v := -1) hx hb dX4_carry_9 (by decide) ?_
    obtain rfl := Option.some.inj hf
    exact g_iret FX hr hlk hW rfl dX4_carry_10

/-! TrunkLittersModel.tell(I)I: kind W -/
def fX4_tell (x1 : Int32) (σ : Mst) : Option (Int32 × Mst) := (fX4_isThere x1 σ).bind fun r1 => (if r1 = 0 then some ((-1 : Int32), σ) else ald 59 (gA σ 40) (56 : Int32) fun v2 => (if v2 = 0 then some ((-1 : Int32), σ) else ald 59 (gA σ 40) ((24 : Int32) + x1) fun v3 => (if v3 = (9 : Int32) then some ((-1 : Int32), σ) else (fX4_keepAct σ).bind fun s4 => ald 59 (gA s4 40) (56 : Int32) fun v5 => ast 59 (56 : Int32) (stp (sA s4 40 (56 : Int32) (v5 - (1 : Int32))) fun s6 => ald 59 (gA s6 40) ((24 : Int32) + x1) fun v7 => ast 59 ((24 : Int32) + x1) (stp (sA s6 40 ((24 : Int32) + x1) (v7 + (1 : Int32))) fun s8 => ald 59 (gA s8 40) ((24 : Int32) + x1) fun v9 => some (v9, s8))))))
abbrev rX4_tell : Room := { frames := 2, cells := 0, slots := 0, locals := 43 }
set_option maxHeartbeats 4000000 in
set_option maxRecDepth 100000 in
theorem mX4_tell  {x1 : Int32} {σ : Mst} {q : (Int32 × Mst)} (hf : fX4_tell x1 σ = some q) : CtI l yX4_tell cX4_tell 2 (some .int) rX4_tell D dA [.ref h0, .int x1] (Mc dA h0 ad σ) q.1 (Mc dA h0 ad q.2) := by
  refine e_I (by decide) (Nat.le_of_ble_eq_true rfl) ?_
  intro p e s m below meth c ls A FX hr hlk hl hW
  have hx := FX.1; have hb := FX.2.1; have hown := FX.2.2.2.1; have hts := FX.2.2.2.2
  have hl : lv_has ls 2 [(0, .ref h0), (1, .int x1)] := hl
  rw [fX4_tell] at hf
  refine lv_aload_n hx hb dX4_tell_0 rfl (lv_at hl 0 rfl) ?_
  refine lv_iload_n hx hb dX4_tell_1 rfl (lv_at hl 1 rfl) ?_
  refine kX4_isThere FX ⟨Nat.le_of_ble_eq_true rfl, Nat.le_of_ble_eq_true rfl⟩ ⟨Nat.zero_le _, Nat.zero_le _⟩ hl.1 (Nat.le_of_ble_eq_true rfl) hW hf dX4_tell_2 (fun r1 H locs hW hf => ?_)
  refine lv_if_eq (tgt := 32) hx hb dX4_tell_5 (by decide) (fun c5 => ?_) (fun c5 => ?_)
  · have hf := ifp c5 hf
    refine lv_iconst (v := -1) hx hb dX4_tell_32 (by decide) ?_
    obtain rfl := Option.some.inj hf
    exact g_iret FX hr hlk hW rfl dX4_tell_33
  · have hf := ifn c5 hf
    refine lv_aload_n hx hb dX4_tell_8 rfl (lv_at hl 0 rfl) ?_
    refine Mg40 FX hW dX4_tell_9 ?_
    refine lv_bipush (v := 56) hx hb dX4_tell_12 (by decide) ?_
    refine g_iald FX hW 24 Mp40 hf dX4_tell_14 (fun v2 hf => ?_)
    refine lv_if_eq (tgt := 32) hx hb dX4_tell_15 (by decide) (fun c15 => ?_) (fun c15 => ?_)
    · have hf := ifp c15 hf
      refine lv_iconst (v := -1) hx hb dX4_tell_32 (by decide) ?_
      obtain rfl := Option.some.inj hf
      exact g_iret FX hr hlk hW rfl dX4_tell_33
    · have hf := ifn c15 hf
      refine lv_aload_n hx hb dX4_tell_18 rfl (lv_at hl 0 rfl) ?_
      refine Mg40 FX hW dX4_tell_19 ?_
      refine lv_bipush (v := 24) hx hb dX4_tell_22 (by decide) ?_
      refine lv_iload_n hx hb dX4_tell_24 rfl (lv_at hl 1 rfl) ?_
      refine lv_iadd hx hb dX4_tell_25 ?_
      refine g_iald FX hW 24 Mp40 hf dX4_tell_26 (fun v3 hf => ?_)
      refine lv_bipush (v := 9) hx hb dX4_tell_27 (by decide) ?_
      refine lv_icmp_ne (tgt := 34) hx hb dX4_tell_29 (by decide) (fun c29 => ?_) (fun c29 => ?_)
      · have hf := ifn c29 hf
        refine lv_aload_n hx hb dX4_tell_34 rfl (lv_at hl 0 rfl) ?_
        refine kX4_keepAct FX ⟨Nat.le_of_ble_eq_true rfl, Nat.le_of_ble_eq_true rfl⟩ ⟨Nat.zero_le _, Nat.zero_le _⟩ hl.1 (Nat.le_of_ble_eq_true rfl) hW hf dX4_tell_35 (fun s4 H locs hW hf => ?_)
        refine lv_aload_n hx hb dX4_tell_38 rfl (lv_at hl 0 rfl) ?_
        refine Mg40 FX hW dX4_tell_39 ?_
        refine lv_bipush (v := 56) hx hb dX4_tell_42 (by decide) ?_
        refine lv_dup2_11 hx hb dX4_tell_44 rfl rfl ?_
        refine g_iald FX hW 24 Mp40 hf dX4_tell_45 (fun v5 hf => ?_)
        refine lv_iconst (v := 1) hx hb dX4_tell_46 (by decide) ?_
        refine lv_isub hx hb dX4_tell_47 ?_
        refine g_iast FX hW 24 Mp40 (L := Mc dA h0 ad) (Mt40) hf dX4_tell_48 (fun s6 H locs hW hf => ?_)
        refine lv_aload_n hx hb dX4_tell_49 rfl (lv_at hl 0 rfl) ?_
        refine Mg40 FX hW dX4_tell_50 ?_
        refine lv_bipush (v := 24) hx hb dX4_tell_53 (by decide) ?_
        refine lv_iload_n hx hb dX4_tell_55 rfl (lv_at hl 1 rfl) ?_
        refine lv_iadd hx hb dX4_tell_56 ?_
        refine lv_dup2_11 hx hb dX4_tell_57 rfl rfl ?_
        refine g_iald FX hW 24 Mp40 hf dX4_tell_58 (fun v7 hf => ?_)
        refine lv_iconst (v := 1) hx hb dX4_tell_59 (by decide) ?_
        refine lv_iadd hx hb dX4_tell_60 ?_
        refine g_iast FX hW 24 Mp40 (L := Mc dA h0 ad) (Mt40) hf dX4_tell_61 (fun s8 H locs hW hf => ?_)
        refine lv_aload_n hx hb dX4_tell_62 rfl (lv_at hl 0 rfl) ?_
        refine Mg40 FX hW dX4_tell_63 ?_
        refine lv_bipush (v := 24) hx hb dX4_tell_66 (by decide) ?_
        refine lv_iload_n hx hb dX4_tell_68 rfl (lv_at hl 1 rfl) ?_
        refine lv_iadd hx hb dX4_tell_69 ?_
        refine g_iald FX hW 24 Mp40 hf dX4_tell_70 (fun v9 hf => ?_)
        obtain rfl := Option.some.inj hf
        exact g_iret FX hr hlk hW rfl dX4_tell_71
      · have hf := ifp c29 hf
        refine lv_iconst (v := -1) hx hb dX4_tell_32 (by decide) ?_
        obtain rfl := Option.some.inj hf
        exact g_iret FX hr hlk hW rfl dX4_tell_33

/-! TrunkLittersModel.lose(I)I: kind W -/
def fX4_lose (x1 : Int32) (σ : Mst) : Option (Int32 × Mst) := (fX4_isThere x1 σ).bind fun r1 => (if r1 = 0 then some ((-1 : Int32), σ) else (fX4_keepAct σ).bind fun s2 => ald 59 (gA s2 40) ((0 : Int32) + x1) fun v3 => (fX4_loseOne x1 s2).bind fun s4 => some (v3, s4))
abbrev rX4_lose : Room := { frames := 2, cells := 0, slots := 0, locals := 43 }
set_option maxHeartbeats 4000000 in
set_option maxRecDepth 100000 in
theorem mX4_lose  {x1 : Int32} {σ : Mst} {q : (Int32 × Mst)} (hf : fX4_lose x1 σ = some q) : CtI l yX4_lose cX4_lose 3 (some .int) rX4_lose D dA [.ref h0, .int x1] (Mc dA h0 ad σ) q.1 (Mc dA h0 ad q.2) := by
  refine e_I (by decide) (Nat.le_of_ble_eq_true rfl) ?_
  intro p e s m below meth c ls A FX hr hlk hl hW
  have hx := FX.1; have hb := FX.2.1; have hown := FX.2.2.2.1; have hts := FX.2.2.2.2
  have hl : lv_has ls 3 [(0, .ref h0), (1, .int x1)] := hl
  rw [fX4_lose] at hf
  refine lv_aload_n hx hb dX4_lose_0 rfl (lv_at hl 0 rfl) ?_
  refine lv_iload_n hx hb dX4_lose_1 rfl (lv_at hl 1 rfl) ?_
  refine kX4_isThere FX ⟨Nat.le_of_ble_eq_true rfl, Nat.le_of_ble_eq_true rfl⟩ ⟨Nat.zero_le _, Nat.zero_le _⟩ hl.1 (Nat.le_of_ble_eq_true rfl) hW hf dX4_lose_2 (fun r1 H locs hW hf => ?_)
  refine lv_if_ne (tgt := 10) hx hb dX4_lose_5 (by decide) (fun c5 => ?_) (fun c5 => ?_)
  · have hf := ifn c5 hf
    refine lv_aload_n hx hb dX4_lose_10 rfl (lv_at hl 0 rfl) ?_
    refine kX4_keepAct FX ⟨Nat.le_of_ble_eq_true rfl, Nat.le_of_ble_eq_true rfl⟩ ⟨Nat.zero_le _, Nat.zero_le _⟩ hl.1 (Nat.le_of_ble_eq_true rfl) hW hf dX4_lose_11 (fun s2 H locs hW hf => ?_)
    refine lv_aload_n hx hb dX4_lose_14 rfl (lv_at hl 0 rfl) ?_
    refine Mg40 FX hW dX4_lose_15 ?_
    refine lv_iconst (v := 0) hx hb dX4_lose_18 (by decide) ?_
    refine lv_iload_n hx hb dX4_lose_19 rfl (lv_at hl 1 rfl) ?_
    refine lv_iadd hx hb dX4_lose_20 ?_
    refine g_iald FX hW 24 Mp40 hf dX4_lose_21 (fun v3 hf => ?_)
    refine lv_istore_n (lv' := [(2, .int v3), (0, .ref h0), (1, .int x1)]) hx hb dX4_lose_22 rfl hl (by decide) rfl (fun ls hl => ?_)
    refine lv_aload_n hx hb dX4_lose_23 rfl (lv_at hl 1 rfl) ?_
    refine lv_iload_n hx hb dX4_lose_24 rfl (lv_at hl 2 rfl) ?_
    refine kX4_loseOne FX ⟨Nat.le_of_ble_eq_true rfl, Nat.le_of_ble_eq_true rfl⟩ ⟨Nat.zero_le _, Nat.zero_le _⟩ hl.1 (Nat.le_of_ble_eq_true rfl) hW hf dX4_lose_25 (fun s4 H locs hW hf => ?_)
    refine lv_iload_n hx hb dX4_lose_28 rfl (lv_at hl 0 rfl) ?_
    obtain rfl := Option.some.inj hf
    exact g_iret FX hr hlk hW rfl dX4_lose_29
  · have hf := ifp c5 hf
    refine lv_iconst (v := -1) hx hb dX4_lose_8 (by decide) ?_
    obtain rfl := Option.some.inj hf
    exact g_iret FX hr hlk hW rfl dX4_lose_9

/-! TrunkLittersModel.undo()Z: kind W -/
def fX4_undo (σ : Mst) : Option (Int32 × Mst) := (if (gF σ 44) = 0 then some ((0 : Int32), σ) else stp (sF σ 44 ((gF σ 44) - (1 : Int32))) fun s1 => stp (sF s1 45 ((gF s1 45) + (1 : Int32))) fun s2 => (fX4_swapAll s2).bind fun s3 => some ((1 : Int32), s3))
abbrev rX4_undo : Room := { frames := 1, cells := 0, slots := 0, locals := 22 }
set_option maxHeartbeats 4000000 in
set_option maxRecDepth 100000 in
theorem mX4_undo  {σ : Mst} {q : (Int32 × Mst)} (hf : fX4_undo σ = some q) : CtI l yX4_undo cX4_undo 1 (some .boolean) rX4_undo D dA [.ref h0] (Mc dA h0 ad σ) q.1 (Mc dA h0 ad q.2) := by
  refine e_I (by decide) (Nat.le_of_ble_eq_true rfl) ?_
  intro p e s m below meth c ls A FX hr hlk hl hW
  have hx := FX.1; have hb := FX.2.1; have hown := FX.2.2.2.1; have hts := FX.2.2.2.2
  have hl : lv_has ls 1 [(0, .ref h0)] := hl
  rw [fX4_undo] at hf
  refine lv_aload_n hx hb dX4_undo_0 rfl (lv_at hl 0 rfl) ?_
  refine Mg44 FX hW dX4_undo_1 ?_
  refine lv_if_ne (tgt := 9) hx hb dX4_undo_4 (by decide) (fun c4 => ?_) (fun c4 => ?_)
  · have hf := ifn c4 hf
    refine lv_aload_n hx hb dX4_undo_9 rfl (lv_at hl 0 rfl) ?_
    refine lv_dup hx hb dX4_undo_10 rfl ?_
    refine Mg44 FX hW dX4_undo_11 ?_
    refine lv_iconst (v := 1) hx hb dX4_undo_14 (by decide) ?_
    refine lv_isub hx hb dX4_undo_15 ?_
    refine Ms44 FX hW hf dX4_undo_16 (fun s1 H locs hW hf => ?_)
    refine lv_aload_n hx hb dX4_undo_19 rfl (lv_at hl 0 rfl) ?_
    refine lv_dup hx hb dX4_undo_20 rfl ?_
    refine Mg45 FX hW dX4_undo_21 ?_
    refine lv_iconst (v := 1) hx hb dX4_undo_24 (by decide) ?_
    refine lv_iadd hx hb dX4_undo_25 ?_
    refine Ms45 FX hW hf dX4_undo_26 (fun s2 H locs hW hf => ?_)
    refine lv_aload_n hx hb dX4_undo_29 rfl (lv_at hl 0 rfl) ?_
    refine kX4_swapAll FX ⟨Nat.le_of_ble_eq_true rfl, Nat.le_of_ble_eq_true rfl⟩ ⟨Nat.zero_le _, Nat.zero_le _⟩ hl.1 (Nat.le_of_ble_eq_true rfl) hW hf dX4_undo_30 (fun s3 H locs hW hf => ?_)
    refine lv_iconst (v := 1) hx hb dX4_undo_33 (by decide) ?_
    obtain rfl := Option.some.inj hf
    exact g_zret FX hr hlk hW rfl rfl dX4_undo_34
  · have hf := ifp c4 hf
    refine lv_iconst (v := 0) hx hb dX4_undo_7 (by decide) ?_
    obtain rfl := Option.some.inj hf
    exact g_zret FX hr hlk hW rfl rfl dX4_undo_8

/-! TrunkLittersModel.redo()Z: kind W -/
def fX4_redo (σ : Mst) : Option (Int32 × Mst) := (if (gF σ 45) = 0 then some ((0 : Int32), σ) else (fX4_swapAll σ).bind fun s1 => stp (sF s1 44 ((gF s1 44) + (1 : Int32))) fun s2 => stp (sF s2 45 ((gF s2 45) - (1 : Int32))) fun s3 => some ((1 : Int32), s3))
abbrev rX4_redo : Room := { frames := 1, cells := 0, slots := 0, locals := 22 }
set_option maxHeartbeats 4000000 in
set_option maxRecDepth 100000 in
theorem mX4_redo  {σ : Mst} {q : (Int32 × Mst)} (hf : fX4_redo σ = some q) : CtI l yX4_redo cX4_redo 1 (some .boolean) rX4_redo D dA [.ref h0] (Mc dA h0 ad σ) q.1 (Mc dA h0 ad q.2) := by
  refine e_I (by decide) (Nat.le_of_ble_eq_true rfl) ?_
  intro p e s m below meth c ls A FX hr hlk hl hW
  have hx := FX.1; have hb := FX.2.1; have hown := FX.2.2.2.1; have hts := FX.2.2.2.2
  have hl : lv_has ls 1 [(0, .ref h0)] := hl
  rw [fX4_redo] at hf
  refine lv_aload_n hx hb dX4_redo_0 rfl (lv_at hl 0 rfl) ?_
  refine Mg45 FX hW dX4_redo_1 ?_
  refine lv_if_ne (tgt := 9) hx hb dX4_redo_4 (by decide) (fun c4 => ?_) (fun c4 => ?_)
  · have hf := ifn c4 hf
    refine lv_aload_n hx hb dX4_redo_9 rfl (lv_at hl 0 rfl) ?_
    refine kX4_swapAll FX ⟨Nat.le_of_ble_eq_true rfl, Nat.le_of_ble_eq_true rfl⟩ ⟨Nat.zero_le _, Nat.zero_le _⟩ hl.1 (Nat.le_of_ble_eq_true rfl) hW hf dX4_redo_10 (fun s1 H locs hW hf => ?_)
    refine lv_aload_n hx hb dX4_redo_13 rfl (lv_at hl 0 rfl) ?_
    refine lv_dup hx hb dX4_redo_14 rfl ?_
    refine Mg44 FX hW dX4_redo_15 ?_
    refine lv_iconst (v := 1) hx hb dX4_redo_18 (by decide) ?_
    refine lv_iadd hx hb dX4_redo_19 ?_
    refine Ms44 FX hW hf dX4_redo_20 (fun s2 H locs hW hf => ?_)
    refine lv_aload_n hx hb dX4_redo_23 rfl (lv_at hl 0 rfl) ?_
    refine lv_dup hx hb dX4_redo_24 rfl ?_
    refine Mg45 FX hW dX4_redo_25 ?_
    refine lv_iconst (v := 1) hx hb dX4_redo_28 (by decide) ?_
    refine lv_isub hx hb dX4_redo_29 ?_
    refine Ms45 FX hW hf dX4_redo_30 (fun s3 H locs hW hf => ?_)
    refine lv_iconst (v := 1) hx hb dX4_redo_33 (by decide) ?_
    obtain rfl := Option.some.inj hf
    exact g_zret FX hr hlk hW rfl rfl dX4_redo_34
  · have hf := ifp c4 hf
    refine lv_iconst (v := 0) hx hb dX4_redo_7 (by decide) ?_
    obtain rfl := Option.some.inj hf
    exact g_zret FX hr hlk hW rfl rfl dX4_redo_8

/-! TrunkLittersModel.will(III)I: kind W -/
def fX4_will_81 (y0 : Int32) (σ : Mst) : Option (Int32 × Mst) := (fX4_bringBack σ).bind fun s1 => some (y0, s1)
def fX4_will (x1 : Int32) (x2 : Int32) (x3 : Int32) (σ : Mst) : Option (Int32 × Mst) := (fX4_isIn x1 (0 : Int32) (7 : Int32)).bind fun r1 => (if r1 = 0 then some ((-1 : Int32), σ) else (fX4_isIn x2 (0 : Int32) (30 : Int32)).bind fun r2 => (if r2 = 0 then some ((-1 : Int32), σ) else (fX4_isIn x3 (0 : Int32) (1 : Int32)).bind fun r3 => (if r3 = 0 then some ((-1 : Int32), σ) else (fX4_keepNow σ).bind fun s4 => bnd2 (fX4_goYears x2 s4) fun r5 s6 => ald 59 (gA s6 40) ((0 : Int32) + x1) fun v7 => (if v7 = 0 then fX4_will_81 (-1 : Int32) s6 else (if x3 = 0 then ald 59 (gA s6 40) ((0 : Int32) + x1) fun v9 => fX4_will_81 v9 s6 else ald 59 (gA s6 40) ((16 : Int32) + x1) fun v8 => fX4_will_81 v8 s6)))))
abbrev rX4_will : Room := { frames := 9, cells := 0, slots := 0, locals := 199 }
set_option maxHeartbeats 4000000 in
set_option maxRecDepth 100000 in
theorem wX4_will_81 {q : (Int32 × Mst)} (FX : CallFix p m c cX4_will 6 s args lw_all RX4) (hr : meth.sig.returnType = (some .int)) (hlk : meth.locks = false) : ∀ (y0 : Int32) (σ : Mst) (H : Heap) (locs : List Loc) (ls : Array Slot), lv_has ls 6 [(0, .ref h0)] → Wd D dA A s (Mc dA h0 ad σ) H locs → fX4_will_81 y0 σ = some q → W p l e rX4_will s m args below meth c H locs 0 0 (QI D dA A below args s 0 0 q.1 (Mc dA h0 ad q.2)) (F0 m 81 ls [.int y0]) := by
  have hx := FX.1; have hb := FX.2.1; have hown := FX.2.2.2.1; have hts := FX.2.2.2.2
  intro y0 σ H locs ls hl hW hf
  rw [fX4_will_81] at hf
  refine lv_istore (lv' := [(5, .int y0), (0, .ref h0)]) hx hb dX4_will_81 hl (by decide) rfl (fun ls hl => ?_)
  refine lv_aload_n hx hb dX4_will_83 rfl (lv_at hl 1 rfl) ?_
  refine kX4_bringBack FX ⟨Nat.le_of_ble_eq_true rfl, Nat.le_of_ble_eq_true rfl⟩ ⟨Nat.zero_le _, Nat.zero_le _⟩ hl.1 (Nat.le_of_ble_eq_true rfl) hW hf dX4_will_84 (fun s1 H locs hW hf => ?_)
  refine lv_iload hx hb dX4_will_87 (lv_at hl 0 rfl) ?_
  obtain rfl := Option.some.inj hf
  exact g_iret FX hr hlk hW rfl dX4_will_89
set_option maxHeartbeats 4000000 in
set_option maxRecDepth 100000 in
theorem mX4_will  {x1 : Int32} {x2 : Int32} {x3 : Int32} {σ : Mst} {q : (Int32 × Mst)} (hf : fX4_will x1 x2 x3 σ = some q) : CtI l yX4_will cX4_will 6 (some .int) rX4_will D dA [.ref h0, .int x1, .int x2, .int x3] (Mc dA h0 ad σ) q.1 (Mc dA h0 ad q.2) := by
  refine e_I (by decide) (Nat.le_of_ble_eq_true rfl) ?_
  intro p e s m below meth c ls A FX hr hlk hl hW
  have hx := FX.1; have hb := FX.2.1; have hown := FX.2.2.2.1; have hts := FX.2.2.2.2
  have hl : lv_has ls 6 [(0, .ref h0), (1, .int x1), (2, .int x2), (3, .int x3)] := hl
  rw [fX4_will] at hf
  refine lv_iload_n hx hb dX4_will_0 rfl (lv_at hl 1 rfl) ?_
  refine lv_iconst (v := 0) hx hb dX4_will_1 (by decide) ?_
  refine lv_bipush (v := 7) hx hb dX4_will_2 (by decide) ?_
  refine kX4_isIn FX ⟨Nat.le_of_ble_eq_true rfl, Nat.le_of_ble_eq_true rfl⟩ ⟨Nat.zero_le _, Nat.zero_le _⟩ hl.1 (Nat.le_of_ble_eq_true rfl) hW hf dX4_will_4 (fun r1 H locs hW hf => ?_)
  refine lv_if_eq (tgt := 29) hx hb dX4_will_7 (by decide) (fun c7 => ?_) (fun c7 => ?_)
  · have hf := ifp c7 hf
    refine lv_iconst (v := -1) hx hb dX4_will_29 (by decide) ?_
    obtain rfl := Option.some.inj hf
    exact g_iret FX hr hlk hW rfl dX4_will_30
  · have hf := ifn c7 hf
    refine lv_iload_n hx hb dX4_will_10 rfl (lv_at hl 2 rfl) ?_
    refine lv_iconst (v := 0) hx hb dX4_will_11 (by decide) ?_
    refine lv_bipush (v := 30) hx hb dX4_will_12 (by decide) ?_
    refine kX4_isIn FX ⟨Nat.le_of_ble_eq_true rfl, Nat.le_of_ble_eq_true rfl⟩ ⟨Nat.zero_le _, Nat.zero_le _⟩ hl.1 (Nat.le_of_ble_eq_true rfl) hW hf dX4_will_14 (fun r2 H locs hW hf => ?_)
    refine lv_if_eq (tgt := 29) hx hb dX4_will_17 (by decide) (fun c17 => ?_) (fun c17 => ?_)
    · have hf := ifp c17 hf
      refine lv_iconst (v := -1) hx hb dX4_will_29 (by decide) ?_
      obtain rfl := Option.some.inj hf
      exact g_iret FX hr hlk hW rfl dX4_will_30
    · have hf := ifn c17 hf
      refine lv_iload_n hx hb dX4_will_20 rfl (lv_at hl 3 rfl) ?_
      refine lv_iconst (v := 0) hx hb dX4_will_21 (by decide) ?_
      refine lv_iconst (v := 1) hx hb dX4_will_22 (by decide) ?_
      refine kX4_isIn FX ⟨Nat.le_of_ble_eq_true rfl, Nat.le_of_ble_eq_true rfl⟩ ⟨Nat.zero_le _, Nat.zero_le _⟩ hl.1 (Nat.le_of_ble_eq_true rfl) hW hf dX4_will_23 (fun r3 H locs hW hf => ?_)
      refine lv_if_ne (tgt := 31) hx hb dX4_will_26 (by decide) (fun c26 => ?_) (fun c26 => ?_)
      · have hf := ifn c26 hf
        refine lv_aload_n hx hb dX4_will_31 rfl (lv_at hl 0 rfl) ?_
        refine kX4_keepNow FX ⟨Nat.le_of_ble_eq_true rfl, Nat.le_of_ble_eq_true rfl⟩ ⟨Nat.zero_le _, Nat.zero_le _⟩ hl.1 (Nat.le_of_ble_eq_true rfl) hW hf dX4_will_32 (fun s4 H locs hW hf => ?_)
        refine lv_aload_n hx hb dX4_will_35 rfl (lv_at hl 0 rfl) ?_
        refine lv_iload_n hx hb dX4_will_36 rfl (lv_at hl 2 rfl) ?_
        refine kX4_goYears FX ⟨Nat.le_of_ble_eq_true rfl, Nat.le_of_ble_eq_true rfl⟩ ⟨Nat.zero_le _, Nat.zero_le _⟩ hl.1 (Nat.le_of_ble_eq_true rfl) hW hf dX4_will_37 (fun r5 s6 H locs hW hf => ?_)
        refine lv_istore (lv' := [(4, .int r5), (0, .ref h0), (1, .int x1), (2, .int x2), (3, .int x3)]) hx hb dX4_will_40 hl (by decide) rfl (fun ls hl => ?_)
        refine lv_aload_n hx hb dX4_will_42 rfl (lv_at hl 1 rfl) ?_
        refine Mg40 FX hW dX4_will_43 ?_
        refine lv_iconst (v := 0) hx hb dX4_will_46 (by decide) ?_
        refine lv_iload_n hx hb dX4_will_47 rfl (lv_at hl 2 rfl) ?_
        refine lv_iadd hx hb dX4_will_48 ?_
        refine g_iald FX hW 24 Mp40 hf dX4_will_49 (fun v7 hf => ?_)
        refine lv_if_ne (tgt := 57) hx hb dX4_will_50 (by decide) (fun c50 => ?_) (fun c50 => ?_)
        · have hf := ifn c50 hf
          refine lv_iload_n hx hb dX4_will_57 rfl (lv_at hl 4 rfl) ?_
          refine lv_if_ne (tgt := 72) hx hb dX4_will_58 (by decide) (fun c58 => ?_) (fun c58 => ?_)
          · have hf := ifn c58 hf
            refine lv_aload_n hx hb dX4_will_72 rfl (lv_at hl 1 rfl) ?_
            refine Mg40 FX hW dX4_will_73 ?_
            refine lv_bipush (v := 16) hx hb dX4_will_76 (by decide) ?_
            refine lv_iload_n hx hb dX4_will_78 rfl (lv_at hl 2 rfl) ?_
            refine lv_iadd hx hb dX4_will_79 ?_
            refine g_iald FX hW 24 Mp40 hf dX4_will_80 (fun v8 hf => ?_)
            exact wX4_will_81 FX hr hlk v8 s6 _ _ _ (lv_sub hl [1] rfl) hW hf
          · have hf := ifp c58 hf
            refine lv_aload_n hx hb dX4_will_61 rfl (lv_at hl 1 rfl) ?_
            refine Mg40 FX hW dX4_will_62 ?_
            refine lv_iconst (v := 0) hx hb dX4_will_65 (by decide) ?_
            refine lv_iload_n hx hb dX4_will_66 rfl (lv_at hl 2 rfl) ?_
            refine lv_iadd hx hb dX4_will_67 ?_
            refine g_iald FX hW 24 Mp40 hf dX4_will_68 (fun v9 hf => ?_)
            refine lv_goto (tgt := 81) hx hb dX4_will_69 (by decide) ?_
            exact wX4_will_81 FX hr hlk v9 s6 _ _ _ (lv_sub hl [1] rfl) hW hf
        · have hf := ifp c50 hf
          refine lv_iconst (v := -1) hx hb dX4_will_53 (by decide) ?_
          refine lv_goto (tgt := 81) hx hb dX4_will_54 (by decide) ?_
          exact wX4_will_81 FX hr hlk (-1 : Int32) s6 _ _ _ (lv_sub hl [1] rfl) hW hf
      · have hf := ifp c26 hf
        refine lv_iconst (v := -1) hx hb dX4_will_29 (by decide) ?_
        obtain rfl := Option.some.inj hf
        exact g_iret FX hr hlk hW rfl dX4_will_30

/-! TrunkLittersModel.alive(I)I: kind W -/
def fX4_alive (x1 : Int32) (σ : Mst) : Option (Int32 × Mst) := (fX4_isIn x1 (0 : Int32) (30 : Int32)).bind fun r1 => (if r1 = 0 then some ((-1 : Int32), σ) else (fX4_keepNow σ).bind fun s2 => bnd2 (fX4_goYears x1 s2) fun r3 s4 => (fX4_those s4).bind fun r5 => (fX4_bringBack s4).bind fun s6 => some (r5, s6))
abbrev rX4_alive : Room := { frames := 9, cells := 0, slots := 0, locals := 199 }
set_option maxHeartbeats 4000000 in
set_option maxRecDepth 100000 in
theorem mX4_alive  {x1 : Int32} {σ : Mst} {q : (Int32 × Mst)} (hf : fX4_alive x1 σ = some q) : CtI l yX4_alive cX4_alive 4 (some .int) rX4_alive D dA [.ref h0, .int x1] (Mc dA h0 ad σ) q.1 (Mc dA h0 ad q.2) := by
  refine e_I (by decide) (Nat.le_of_ble_eq_true rfl) ?_
  intro p e s m below meth c ls A FX hr hlk hl hW
  have hx := FX.1; have hb := FX.2.1; have hown := FX.2.2.2.1; have hts := FX.2.2.2.2
  have hl : lv_has ls 4 [(0, .ref h0), (1, .int x1)] := hl
  rw [fX4_alive] at hf
  refine lv_iload_n hx hb dX4_alive_0 rfl (lv_at hl 1 rfl) ?_
  refine lv_iconst (v := 0) hx hb dX4_alive_1 (by decide) ?_
  refine lv_bipush (v := 30) hx hb dX4_alive_2 (by decide) ?_
  refine kX4_isIn FX ⟨Nat.le_of_ble_eq_true rfl, Nat.le_of_ble_eq_true rfl⟩ ⟨Nat.zero_le _, Nat.zero_le _⟩ hl.1 (Nat.le_of_ble_eq_true rfl) hW hf dX4_alive_4 (fun r1 H locs hW hf => ?_)
  refine lv_if_ne (tgt := 12) hx hb dX4_alive_7 (by decide) (fun c7 => ?_) (fun c7 => ?_)
  · have hf := ifn c7 hf
    refine lv_aload_n hx hb dX4_alive_12 rfl (lv_at hl 0 rfl) ?_
    refine kX4_keepNow FX ⟨Nat.le_of_ble_eq_true rfl, Nat.le_of_ble_eq_true rfl⟩ ⟨Nat.zero_le _, Nat.zero_le _⟩ hl.1 (Nat.le_of_ble_eq_true rfl) hW hf dX4_alive_13 (fun s2 H locs hW hf => ?_)
    refine lv_aload_n hx hb dX4_alive_16 rfl (lv_at hl 0 rfl) ?_
    refine lv_iload_n hx hb dX4_alive_17 rfl (lv_at hl 1 rfl) ?_
    refine kX4_goYears FX ⟨Nat.le_of_ble_eq_true rfl, Nat.le_of_ble_eq_true rfl⟩ ⟨Nat.zero_le _, Nat.zero_le _⟩ hl.1 (Nat.le_of_ble_eq_true rfl) hW hf dX4_alive_18 (fun r3 s4 H locs hW hf => ?_)
    refine lv_istore_n (lv' := [(2, .int r3), (0, .ref h0), (1, .int x1)]) hx hb dX4_alive_21 rfl hl (by decide) rfl (fun ls hl => ?_)
    refine lv_aload_n hx hb dX4_alive_22 rfl (lv_at hl 1 rfl) ?_
    refine kX4_those FX ⟨Nat.le_of_ble_eq_true rfl, Nat.le_of_ble_eq_true rfl⟩ ⟨Nat.zero_le _, Nat.zero_le _⟩ hl.1 (Nat.le_of_ble_eq_true rfl) hW hf dX4_alive_23 (fun r5 H locs hW hf => ?_)
    refine lv_istore_n (lv' := [(3, .int r5), (2, .int r3), (0, .ref h0), (1, .int x1)]) hx hb dX4_alive_26 rfl hl (by decide) rfl (fun ls hl => ?_)
    refine lv_aload_n hx hb dX4_alive_27 rfl (lv_at hl 2 rfl) ?_
    refine kX4_bringBack FX ⟨Nat.le_of_ble_eq_true rfl, Nat.le_of_ble_eq_true rfl⟩ ⟨Nat.zero_le _, Nat.zero_le _⟩ hl.1 (Nat.le_of_ble_eq_true rfl) hW hf dX4_alive_28 (fun s6 H locs hW hf => ?_)
    refine lv_iload_n hx hb dX4_alive_31 rfl (lv_at hl 0 rfl) ?_
    obtain rfl := Option.some.inj hf
    exact g_iret FX hr hlk hW rfl dX4_alive_32
  · have hf := ifp c7 hf
    refine lv_iconst (v := -1) hx hb dX4_alive_10 (by decide) ?_
    obtain rfl := Option.some.inj hf
    exact g_iret FX hr hlk hW rfl dX4_alive_11

end M08
