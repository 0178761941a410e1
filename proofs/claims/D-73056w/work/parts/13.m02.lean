section M02
variable {p : Program} {l : Launch} {e : Env} {R : Room} {s : State} {m : MethodId} {args : Array Value} {below : List Frame} {meth : Method} {c : Code} {H : Heap} {locs : List Loc} {cells slots : Nat} {Q : State → Prop}
variable {cc : ByteArray} {pc nL : Nat} {ls : Array Slot} {rest : List Value} {D : va_G} {dA : Nat → ClassId} {A : Nat → Prop} {h0 : Nat} {ad : Nat → Nat}
/-! TrunkLittersModel.untell(I)Z: kind W -/
def fX4_untell (x1 : Int32) (σ : Mst) : Option (Int32 × Mst) := (fX4_isIn x1 (0 : Int32) ((gF σ 55) - (1 : Int32))).bind fun r1 => (if r1 = 0 then some ((0 : Int32), σ) else ald 30 (gA σ 52) x1 fun v2 => (if v2 < 0 then ast 30 x1 (stp (sA σ 52 x1 (gF σ 56)) fun s3 => some ((1 : Int32), s3)) else some ((0 : Int32), σ)))
abbrev rX4_untell : Room := { frames := 1, cells := 0, slots := 0, locals := 22 }
set_option maxHeartbeats 4000000 in
set_option maxRecDepth 100000 in
theorem mX4_untell  {x1 : Int32} {σ : Mst} {q : (Int32 × Mst)} (hf : fX4_untell x1 σ = some q) : CtI l yX4_untell cX4_untell 2 (some .boolean) rX4_untell D dA [.ref h0, .int x1] (Mc dA h0 ad σ) q.1 (Mc dA h0 ad q.2) := by
  refine e_I (by decide) (Nat.le_of_ble_eq_true rfl) ?_
  intro p e s m below meth c ls A FX hr hlk hl hW
  have hx := FX.1; have hb := FX.2.1; have hown := FX.2.2.2.1; have hts := FX.2.2.2.2
  have hl : lv_has ls 2 [(0, .ref h0), (1, .int x1)] := hl
  rw [fX4_untell] at hf
  refine lv_iload_n hx hb dX4_untell_0 rfl (lv_at hl 1 rfl) ?_
  refine lv_iconst (v := 0) hx hb dX4_untell_1 (by decide) ?_
  refine lv_aload_n hx hb dX4_untell_2 rfl (lv_at hl 0 rfl) ?_
  refine Mg55 FX hW dX4_untell_3 ?_
  refine lv_iconst (v := 1) hx hb dX4_untell_6 (by decide) ?_
  refine lv_isub hx hb dX4_untell_7 ?_
  refine kX4_isIn FX ⟨Nat.le_of_ble_eq_true rfl, Nat.le_of_ble_eq_true rfl⟩ ⟨Nat.zero_le _, Nat.zero_le _⟩ hl.1 (Nat.le_of_ble_eq_true rfl) hW hf dX4_untell_8 (fun r1 H locs hW hf => ?_)
  refine lv_if_eq (tgt := 23) hx hb dX4_untell_11 (by decide) (fun c11 => ?_) (fun c11 => ?_)
  · have hf := ifp c11 hf
    refine lv_iconst (v := 0) hx hb dX4_untell_23 (by decide) ?_
    obtain rfl := Option.some.inj hf
    exact g_zret FX hr hlk hW rfl rfl dX4_untell_24
  · have hf := ifn c11 hf
    refine lv_aload_n hx hb dX4_untell_14 rfl (lv_at hl 0 rfl) ?_
    refine Mg52 FX hW dX4_untell_15 ?_
    refine lv_iload_n hx hb dX4_untell_18 rfl (lv_at hl 1 rfl) ?_
    refine g_iald FX hW 32 Mp52 hf dX4_untell_19 (fun v2 hf => ?_)
    refine lv_if_lt (tgt := 25) hx hb dX4_untell_20 (by decide) (fun c20 => ?_) (fun c20 => ?_)
    · have hf := ifp c20 hf
      refine lv_aload_n hx hb dX4_untell_25 rfl (lv_at hl 0 rfl) ?_
      refine Mg52 FX hW dX4_untell_26 ?_
      refine lv_iload_n hx hb dX4_untell_29 rfl (lv_at hl 1 rfl) ?_
      refine lv_aload_n hx hb dX4_untell_30 rfl (lv_at hl 0 rfl) ?_
      refine Mg56 FX hW dX4_untell_31 ?_
      refine g_iast FX hW 32 Mp52 (L := Mc dA h0 ad) (Mt52) hf dX4_untell_34 (fun s3 H locs hW hf => ?_)
      refine lv_iconst (v := 1) hx hb dX4_untell_35 (by decide) ?_
      obtain rfl := Option.some.inj hf
      exact g_zret FX hr hlk hW rfl rfl dX4_untell_36
    · have hf := ifn c20 hf
      refine lv_iconst (v := 0) hx hb dX4_untell_23 (by decide) ?_
      obtain rfl := Option.some.inj hf
      exact g_zret FX hr hlk hW rfl rfl dX4_untell_24

/-! TrunkLittersModel.later(I)I: kind W -/
def fX4_later (x1 : Int32) (σ : Mst) : Option (Int32 × Mst) := (fX4_isIn x1 (0 : Int32) (1000 : Int32)).bind fun r1 => (if r1 = 0 then some ((-1 : Int32), σ) else (if ((gF σ 56) + x1) ≤ (100000 : Int32) then stp (sF σ 56 ((gF σ 56) + x1)) fun s2 => some ((gF s2 56), s2) else some ((-1 : Int32), σ)))
abbrev rX4_later : Room := { frames := 1, cells := 0, slots := 0, locals := 22 }
set_option maxHeartbeats 4000000 in
set_option maxRecDepth 100000 in
theorem mX4_later  {x1 : Int32} {σ : Mst} {q : (Int32 × Mst)} (hf : fX4_later x1 σ = some q) : CtI l yX4_later cX4_later 2 (some .int) rX4_later D dA [.ref h0, .int x1] (Mc dA h0 ad σ) q.1 (Mc dA h0 ad q.2) := by
  refine e_I (by decide) (Nat.le_of_ble_eq_true rfl) ?_
  intro p e s m below meth c ls A FX hr hlk hl hW
  have hx := FX.1; have hb := FX.2.1; have hown := FX.2.2.2.1; have hts := FX.2.2.2.2
  have hl : lv_has ls 2 [(0, .ref h0), (1, .int x1)] := hl
  rw [fX4_later] at hf
  refine lv_iload_n hx hb dX4_later_0 rfl (lv_at hl 1 rfl) ?_
  refine lv_iconst (v := 0) hx hb dX4_later_1 (by decide) ?_
  refine lv_sipush (v := 1000) hx hb dX4_later_2 (by decide) ?_
  refine kX4_isIn FX ⟨Nat.le_of_ble_eq_true rfl, Nat.le_of_ble_eq_true rfl⟩ ⟨Nat.zero_le _, Nat.zero_le _⟩ hl.1 (Nat.le_of_ble_eq_true rfl) hW hf dX4_later_5 (fun r1 H locs hW hf => ?_)
  refine lv_if_eq (tgt := 23) hx hb dX4_later_8 (by decide) (fun c8 => ?_) (fun c8 => ?_)
  · have hf := ifp c8 hf
    refine lv_iconst (v := -1) hx hb dX4_later_23 (by decide) ?_
    obtain rfl := Option.some.inj hf
    exact g_iret FX hr hlk hW rfl dX4_later_24
  · have hf := ifn c8 hf
    refine lv_aload_n hx hb dX4_later_11 rfl (lv_at hl 0 rfl) ?_
    refine Mg56 FX hW dX4_later_12 ?_
    refine lv_iload_n hx hb dX4_later_15 rfl (lv_at hl 1 rfl) ?_
    refine lv_iadd hx hb dX4_later_16 ?_
    refine lv_ldcw (v := 100000) hx hb hown (hts _ q2206) dX4_later_17 ?_
    refine lv_icmp_le (tgt := 25) hx hb dX4_later_20 (by decide) (fun c20 => ?_) (fun c20 => ?_)
    · have hf := ifp c20 hf
      refine lv_aload_n hx hb dX4_later_25 rfl (lv_at hl 0 rfl) ?_
      refine lv_dup hx hb dX4_later_26 rfl ?_
      refine Mg56 FX hW dX4_later_27 ?_
      refine lv_iload_n hx hb dX4_later_30 rfl (lv_at hl 1 rfl) ?_
      refine lv_iadd hx hb dX4_later_31 ?_
      refine Ms56 FX hW hf dX4_later_32 (fun s2 H locs hW hf => ?_)
      refine lv_aload_n hx hb dX4_later_35 rfl (lv_at hl 0 rfl) ?_
      refine Mg56 FX hW dX4_later_36 ?_
      obtain rfl := Option.some.inj hf
      exact g_iret FX hr hlk hW rfl dX4_later_39
    · have hf := ifn c20 hf
      refine lv_iconst (v := -1) hx hb dX4_later_23 (by decide) ?_
      obtain rfl := Option.some.inj hf
      exact g_iret FX hr hlk hW rfl dX4_later_24

/-! TrunkLittersModel.doesFit(II)Z: kind R -/
def fX4_doesFit_67 (σ : Mst) (k2 : Int32 → Int32 → Int32 → Option Int32) (x1 : Int32) (x2 : Int32) (x3 : Int32) (y0 : Int32) : Option Int32 := ald 30 (gA σ 50) x3 fun v1 => (if y0 = v1 then k2 x1 x2 (x3 + (1 : Int32)) else some (0 : Int32))
def fX4_doesFit_42 (σ : Mst) (k2 : Int32 → Int32 → Int32 → Option Int32) (x1 : Int32) (x2 : Int32) (x3 : Int32) : Option Int32 := ald 30 (gA σ 48) x3 fun v1 => (fX4_sharedIf x1 v1 σ).bind fun r2 => ald 30 (gA σ 49) x3 fun v3 => (if r2 < v3 then fX4_doesFit_67 σ k2 x1 x2 x3 (0 : Int32) else fX4_doesFit_67 σ k2 x1 x2 x3 (1 : Int32))
def fX4_doesFit_2 (σ : Mst) : Nat → Int32 → Int32 → Int32 → Option Int32
  | 0, _, _, _ => none
  | n + 1, x1, x2, x3 => (if (gF σ 55) ≤ x3 then some (1 : Int32) else ald 30 (gA σ 51) x3 fun v1 => (if x2 < v1 then fX4_doesFit_2 σ n x1 x2 (x3 + (1 : Int32)) else ald 30 (gA σ 52) x3 fun v2 => (if v2 < 0 then fX4_doesFit_42 σ (fX4_doesFit_2 σ n) x1 x2 x3 else ald 30 (gA σ 52) x3 fun v3 => (if x2 < v3 then fX4_doesFit_42 σ (fX4_doesFit_2 σ n) x1 x2 x3 else fX4_doesFit_2 σ n x1 x2 (x3 + (1 : Int32))))))
def fX4_doesFit (x1 : Int32) (x2 : Int32) (σ : Mst) : Option Int32 := fX4_doesFit_2 σ FU x1 x2 (0 : Int32)
abbrev rX4_doesFit : Room := { frames := 3, cells := 0, slots := 0, locals := 65 }
set_option maxHeartbeats 4000000 in
set_option maxRecDepth 100000 in
theorem wX4_doesFit_67 {q : Int32} {σ : Mst} (FX : CallFix p m c cX4_doesFit 5 s args lw_all RX4) (hr : meth.sig.returnType = (some .boolean)) (hlk : meth.locks = false) {k2 : Int32 → Int32 → Int32 → Option Int32} (hk2 : ∀ (x1 : Int32) (x2 : Int32) (x3 : Int32) (H : Heap) (locs : List Loc) (ls : Array Slot), lv_has ls 5 [(0, .ref h0), (1, .int x1), (2, .int x2), (3, .int x3)] → Wd D dA A s (Mc dA h0 ad σ) H locs → k2 x1 x2 x3 = some q → W p l e rX4_doesFit s m args below meth c H locs 0 0 (QI D dA A below args s 0 0 q (Mc dA h0 ad σ)) (F0 m 2 ls [])) : ∀ (x1 : Int32) (x2 : Int32) (x3 : Int32) (y0 : Int32) (H : Heap) (locs : List Loc) (ls : Array Slot), lv_has ls 5 [(0, .ref h0), (1, .int x1), (2, .int x2), (3, .int x3)] → Wd D dA A s (Mc dA h0 ad σ) H locs → fX4_doesFit_67 σ k2 x1 x2 x3 y0 = some q → W p l e rX4_doesFit s m args below meth c H locs 0 0 (QI D dA A below args s 0 0 q (Mc dA h0 ad σ)) (F0 m 67 ls [.int y0]) := by
  have hx := FX.1; have hb := FX.2.1; have hown := FX.2.2.2.1; have hts := FX.2.2.2.2
  intro x1 x2 x3 y0 H locs ls hl hW hf
  rw [fX4_doesFit_67] at hf
  refine lv_istore (lv' := [(4, .int y0), (0, .ref h0), (1, .int x1), (2, .int x2), (3, .int x3)]) hx hb dX4_doesFit_67 hl (by decide) rfl (fun ls hl => ?_)
  refine lv_iload hx hb dX4_doesFit_69 (lv_at hl 0 rfl) ?_
  refine lv_aload_n hx hb dX4_doesFit_71 rfl (lv_at hl 1 rfl) ?_
  refine Mg50 FX hW dX4_doesFit_72 ?_
  refine lv_iload_n hx hb dX4_doesFit_75 rfl (lv_at hl 4 rfl) ?_
  refine g_iald FX hW 30 Mp50 hf dX4_doesFit_76 (fun v1 hf => ?_)
  refine lv_icmp_eq (tgt := 82) hx hb dX4_doesFit_77 (by decide) (fun c77 => ?_) (fun c77 => ?_)
  · have hf := ifp c77 hf
    refine lv_iinc (v := (x3 + (1 : Int32))) (lv' := [(3, .int (x3 + (1 : Int32))), (4, .int y0), (0, .ref h0), (1, .int x1), (2, .int x2)]) hx hb dX4_doesFit_82 hl (k := 4) rfl rfl (by decide) rfl (fun ls hl => ?_)
    refine lv_goto (tgt := 2) hx hb dX4_doesFit_85 (by decide) ?_
    exact hk2 x1 x2 (x3 + (1 : Int32)) _ _ _ (lv_sub hl [2, 3, 4, 0] rfl) hW hf
  · have hf := ifn c77 hf
    refine lv_iconst (v := 0) hx hb dX4_doesFit_80 (by decide) ?_
    exact g_zret FX hr hlk hW rfl (Option.some.inj hf) dX4_doesFit_81
set_option maxHeartbeats 4000000 in
set_option maxRecDepth 100000 in
theorem wX4_doesFit_42 {q : Int32} {σ : Mst} (FX : CallFix p m c cX4_doesFit 5 s args lw_all RX4) (hr : meth.sig.returnType = (some .boolean)) (hlk : meth.locks = false) {k2 : Int32 → Int32 → Int32 → Option Int32} (hk2 : ∀ (x1 : Int32) (x2 : Int32) (x3 : Int32) (H : Heap) (locs : List Loc) (ls : Array Slot), lv_has ls 5 [(0, .ref h0), (1, .int x1), (2, .int x2), (3, .int x3)] → Wd D dA A s (Mc dA h0 ad σ) H locs → k2 x1 x2 x3 = some q → W p l e rX4_doesFit s m args below meth c H locs 0 0 (QI D dA A below args s 0 0 q (Mc dA h0 ad σ)) (F0 m 2 ls [])) : ∀ (x1 : Int32) (x2 : Int32) (x3 : Int32) (H : Heap) (locs : List Loc) (ls : Array Slot), lv_has ls 5 [(0, .ref h0), (1, .int x1), (2, .int x2), (3, .int x3)] → Wd D dA A s (Mc dA h0 ad σ) H locs → fX4_doesFit_42 σ k2 x1 x2 x3 = some q → W p l e rX4_doesFit s m args below meth c H locs 0 0 (QI D dA A below args s 0 0 q (Mc dA h0 ad σ)) (F0 m 42 ls []) := by
  have hx := FX.1; have hb := FX.2.1; have hown := FX.2.2.2.1; have hts := FX.2.2.2.2
  intro x1 x2 x3 H locs ls hl hW hf
  rw [fX4_doesFit_42] at hf
  refine lv_aload_n hx hb dX4_doesFit_42 rfl (lv_at hl 0 rfl) ?_
  refine lv_iload_n hx hb dX4_doesFit_43 rfl (lv_at hl 1 rfl) ?_
  refine lv_aload_n hx hb dX4_doesFit_44 rfl (lv_at hl 0 rfl) ?_
  refine Mg48 FX hW dX4_doesFit_45 ?_
  refine lv_iload_n hx hb dX4_doesFit_48 rfl (lv_at hl 3 rfl) ?_
  refine g_iald FX hW 28 Mp48 hf dX4_doesFit_49 (fun v1 hf => ?_)
  refine kX4_sharedIf FX ⟨Nat.le_of_ble_eq_true rfl, Nat.le_of_ble_eq_true rfl⟩ ⟨Nat.zero_le _, Nat.zero_le _⟩ hl.1 (Nat.le_of_ble_eq_true rfl) hW hf dX4_doesFit_50 (fun r2 H locs hW hf => ?_)
  refine lv_aload_n hx hb dX4_doesFit_53 rfl (lv_at hl 0 rfl) ?_
  refine Mg49 FX hW dX4_doesFit_54 ?_
  refine lv_iload_n hx hb dX4_doesFit_57 rfl (lv_at hl 3 rfl) ?_
  refine g_iald FX hW 29 Mp49 hf dX4_doesFit_58 (fun v3 hf => ?_)
  refine lv_icmp_lt (tgt := 66) hx hb dX4_doesFit_59 (by decide) (fun c59 => ?_) (fun c59 => ?_)
  · have hf := ifp c59 hf
    refine lv_iconst (v := 0) hx hb dX4_doesFit_66 (by decide) ?_
    exact wX4_doesFit_67 FX hr hlk hk2 x1 x2 x3 (0 : Int32) _ _ _ (lv_sub hl [0, 1, 2, 3] rfl) hW hf
  · have hf := ifn c59 hf
    refine lv_iconst (v := 1) hx hb dX4_doesFit_62 (by decide) ?_
    refine lv_goto (tgt := 67) hx hb dX4_doesFit_63 (by decide) ?_
    exact wX4_doesFit_67 FX hr hlk hk2 x1 x2 x3 (1 : Int32) _ _ _ (lv_sub hl [0, 1, 2, 3] rfl) hW hf
set_option maxHeartbeats 4000000 in
set_option maxRecDepth 100000 in
theorem wX4_doesFit_2 {q : Int32} {σ : Mst} (FX : CallFix p m c cX4_doesFit 5 s args lw_all RX4) (hr : meth.sig.returnType = (some .boolean)) (hlk : meth.locks = false) : ∀ n : Nat, ∀ (x1 : Int32) (x2 : Int32) (x3 : Int32) (H : Heap) (locs : List Loc) (ls : Array Slot), lv_has ls 5 [(0, .ref h0), (1, .int x1), (2, .int x2), (3, .int x3)] → Wd D dA A s (Mc dA h0 ad σ) H locs → fX4_doesFit_2 σ n x1 x2 x3 = some q → W p l e rX4_doesFit s m args below meth c H locs 0 0 (QI D dA A below args s 0 0 q (Mc dA h0 ad σ)) (F0 m 2 ls []) := by
  have hx := FX.1; have hb := FX.2.1; have hown := FX.2.2.2.1; have hts := FX.2.2.2.2
  intro n
  induction n with
  | zero =>
    intro x1 x2 x3 H locs ls hl hW hf
    cases (show (none : Option Int32) = some q from hf)
  | succ n ih =>
    intro x1 x2 x3 H locs ls hl hW hf
    rw [fX4_doesFit_2] at hf
    refine lv_iload_n hx hb dX4_doesFit_2 rfl (lv_at hl 3 rfl) ?_
    refine lv_aload_n hx hb dX4_doesFit_3 rfl (lv_at hl 0 rfl) ?_
    refine Mg55 FX hW dX4_doesFit_4 ?_
    refine lv_icmp_ge (tgt := 88) hx hb dX4_doesFit_7 (by decide) (fun c7 => ?_) (fun c7 => ?_)
    · have hf := ifp c7 hf
      refine lv_iconst (v := 1) hx hb dX4_doesFit_88 (by decide) ?_
      exact g_zret FX hr hlk hW rfl (Option.some.inj hf) dX4_doesFit_89
    · have hf := ifn c7 hf
      refine lv_aload_n hx hb dX4_doesFit_10 rfl (lv_at hl 0 rfl) ?_
      refine Mg51 FX hW dX4_doesFit_11 ?_
      refine lv_iload_n hx hb dX4_doesFit_14 rfl (lv_at hl 3 rfl) ?_
      refine g_iald FX hW 31 Mp51 hf dX4_doesFit_15 (fun v1 hf => ?_)
      refine lv_iload_n hx hb dX4_doesFit_16 rfl (lv_at hl 2 rfl) ?_
      refine lv_icmp_gt (tgt := 82) hx hb dX4_doesFit_17 (by decide) (fun c17 => ?_) (fun c17 => ?_)
      · have hf := ifp c17 hf
        refine lv_iinc (v := (x3 + (1 : Int32))) (lv' := [(3, .int (x3 + (1 : Int32))), (0, .ref h0), (1, .int x1), (2, .int x2)]) hx hb dX4_doesFit_82 hl (k := 3) rfl rfl (by decide) rfl (fun ls hl => ?_)
        refine lv_goto (tgt := 2) hx hb dX4_doesFit_85 (by decide) ?_
        exact ih x1 x2 (x3 + (1 : Int32)) _ _ _ (lv_sub hl [1, 2, 3, 0] rfl) hW hf
      · have hf := ifn c17 hf
        refine lv_aload_n hx hb dX4_doesFit_20 rfl (lv_at hl 0 rfl) ?_
        refine Mg52 FX hW dX4_doesFit_21 ?_
        refine lv_iload_n hx hb dX4_doesFit_24 rfl (lv_at hl 3 rfl) ?_
        refine g_iald FX hW 32 Mp52 hf dX4_doesFit_25 (fun v2 hf => ?_)
        refine lv_if_lt (tgt := 42) hx hb dX4_doesFit_26 (by decide) (fun c26 => ?_) (fun c26 => ?_)
        · have hf := ifp c26 hf
          exact wX4_doesFit_42 FX hr hlk (ih) x1 x2 x3 _ _ _ (lv_sub hl [0, 1, 2, 3] rfl) hW hf
        · have hf := ifn c26 hf
          refine lv_aload_n hx hb dX4_doesFit_29 rfl (lv_at hl 0 rfl) ?_
          refine Mg52 FX hW dX4_doesFit_30 ?_
          refine lv_iload_n hx hb dX4_doesFit_33 rfl (lv_at hl 3 rfl) ?_
          refine g_iald FX hW 32 Mp52 hf dX4_doesFit_34 (fun v3 hf => ?_)
          refine lv_iload_n hx hb dX4_doesFit_35 rfl (lv_at hl 2 rfl) ?_
          refine lv_icmp_gt (tgt := 42) hx hb dX4_doesFit_36 (by decide) (fun c36 => ?_) (fun c36 => ?_)
          · have hf := ifp c36 hf
            exact wX4_doesFit_42 FX hr hlk (ih) x1 x2 x3 _ _ _ (lv_sub hl [0, 1, 2, 3] rfl) hW hf
          · have hf := ifn c36 hf
            refine lv_goto (tgt := 82) hx hb dX4_doesFit_39 (by decide) ?_
            refine lv_iinc (v := (x3 + (1 : Int32))) (lv' := [(3, .int (x3 + (1 : Int32))), (0, .ref h0), (1, .int x1), (2, .int x2)]) hx hb dX4_doesFit_82 hl (k := 3) rfl rfl (by decide) rfl (fun ls hl => ?_)
            refine lv_goto (tgt := 2) hx hb dX4_doesFit_85 (by decide) ?_
            exact ih x1 x2 (x3 + (1 : Int32)) _ _ _ (lv_sub hl [1, 2, 3, 0] rfl) hW hf
set_option maxHeartbeats 4000000 in
set_option maxRecDepth 100000 in
theorem mX4_doesFit  {x1 : Int32} {x2 : Int32} {σ : Mst} {q : Int32} (hf : fX4_doesFit x1 x2 σ = some q) : CtI l yX4_doesFit cX4_doesFit 5 (some .boolean) rX4_doesFit D dA [.ref h0, .int x1, .int x2] (Mc dA h0 ad σ) q (Mc dA h0 ad σ) := by
  refine e_I (by decide) (Nat.le_of_ble_eq_true rfl) ?_
  intro p e s m below meth c ls A FX hr hlk hl hW
  have hx := FX.1; have hb := FX.2.1; have hown := FX.2.2.2.1; have hts := FX.2.2.2.2
  have hl : lv_has ls 5 [(0, .ref h0), (1, .int x1), (2, .int x2)] := hl
  rw [fX4_doesFit] at hf
  refine lv_iconst (v := 0) hx hb dX4_doesFit_0 (by decide) ?_
  refine lv_istore_n (lv' := [(3, .int (0 : Int32)), (0, .ref h0), (1, .int x1), (2, .int x2)]) hx hb dX4_doesFit_1 rfl hl (by decide) rfl (fun ls hl => ?_)
  exact wX4_doesFit_2 FX hr hlk _ x1 x2 (0 : Int32) _ _ _ (lv_sub hl [1, 2, 3, 0] rfl) hW hf
set_option maxHeartbeats 4000000 in
set_option maxRecDepth 100000 in
theorem kX4_doesFit {α : Type} {q : α} {k : Int32 → Option α} {x1 : Int32} {x2 : Int32} {σ : Mst} (FX : CallFix p m c cc nL s args lw_all RX4) (hR : rX4_doesFit.frames + 1 ≤ R.frames ∧ 8 + (5 + 11) + rX4_doesFit.locals ≤ R.locals) (hcs : cells ≤ R.cells ∧ slots ≤ R.slots) (hl : ls.size = nL) (hrm : (rest.map fun v => v.category).sum ≤ 8) (hW : Wd D dA A s (Mc dA h0 ad σ) H locs) (hf : (fX4_doesFit x1 x2 σ).bind k = some q) (hdg : decode cc pc = .ok (.invokevirtual 485, 3)) (kk : ∀ (r : Int32) (H1 : Heap) (locs1 : List Loc), Wd D dA A s (Mc dA h0 ad σ) H1 locs1 → k r = some q → W p l e R s m args below meth c H1 locs1 cells slots Q (F0 m (pc + 3) ls (.int r :: rest))) : W p l e R s m args below meth c H locs cells slots Q (F0 m pc ls (.int x2 :: .int x1 :: .ref h0 :: rest)) := by
  obtain ⟨r1, h1, hf⟩ := bnd hf
  refine w_Vi (C := RX4) (As := [.int x1, .int x2]) (rest := rest) (n := 2) (wr := []) FX (mX4_doesFit h1) (cwV 2 FX.2.2.2.2 (lw_V q2211 q2213 qs119 q132 q2214) rfl rfl rfl (by decide +kernel) hR) (va_recv hW.2.2.2.1 hW.1 (ci := 4) (q0 := 0) rfl rfl) rfl hl rfl hrm ⟨Nat.le_trans (Nat.le_of_eq (Nat.add_zero cells)) hcs.1, Nat.le_trans (Nat.le_of_eq (Nat.add_zero slots)) hcs.2⟩ hdg hW.nil ?_
  exact fun H1 locs1 hW1 => kk r1 H1 locs1 hW1.nil' hf
/-! TrunkLittersModel.fits(I)I: kind W -/
def fX4_fits_56 (k7 : Int32 → Int32 → Mst → Option (Int32 × Mst)) (x1 : Int32) (x2 : Int32) (y1 : Int32) (y2 : Int32) (σ : Mst) : Option (Int32 × Mst) := stp (sF σ 57 (y1 + y2)) fun s1 => k7 x1 (x2 + (1 : Int32)) s1
def fX4_fits_7 : Nat → Int32 → Int32 → Mst → Option (Int32 × Mst)
  | 0, _, _, _ => none
  | n + 1, x1, x2, σ => (if (64 : Int32) ≤ x2 then some ((gF σ 57), σ) else ald 2 (gA σ 12) (gF σ 32) fun v1 => (if v1 ≤ 0 then some ((gF σ 57), σ) else (fX4_doesFit x2 x1 σ).bind fun r2 => ast 64 x2 (stp (sA σ 54 x2 (vp_nar .boolean r2)) fun s3 => ald 64 (gA s3 54) x2 fun v4 => (if v4 = 0 then fX4_fits_56 (fX4_fits_7 n) x1 x2 (gF s3 57) (0 : Int32) s3 else fX4_fits_56 (fX4_fits_7 n) x1 x2 (gF s3 57) (1 : Int32) s3))))
def fX4_fits (x1 : Int32) (σ : Mst) : Option (Int32 × Mst) := stp (sF σ 57 (0 : Int32)) fun s1 => fX4_fits_7 FU x1 (0 : Int32) s1
abbrev rX4_fits : Room := { frames := 4, cells := 0, slots := 0, locals := 89 }
set_option maxHeartbeats 4000000 in
set_option maxRecDepth 100000 in
theorem wX4_fits_56 {q : (Int32 × Mst)} (FX : CallFix p m c cX4_fits 3 s args lw_all RX4) (hr : meth.sig.returnType = (some .int)) (hlk : meth.locks = false) {k7 : Int32 → Int32 → Mst → Option (Int32 × Mst)} (hk7 : ∀ (x1 : Int32) (x2 : Int32) (σ : Mst) (H : Heap) (locs : List Loc) (ls : Array Slot), lv_has ls 3 [(0, .ref h0), (1, .int x1), (2, .int x2)] → Wd D dA A s (Mc dA h0 ad σ) H locs → k7 x1 x2 σ = some q → W p l e rX4_fits s m args below meth c H locs 0 0 (QI D dA A below args s 0 0 q.1 (Mc dA h0 ad q.2)) (F0 m 7 ls [])) : ∀ (x1 : Int32) (x2 : Int32) (y1 : Int32) (y2 : Int32) (σ : Mst) (H : Heap) (locs : List Loc) (ls : Array Slot), lv_has ls 3 [(0, .ref h0), (1, .int x1), (2, .int x2)] → Wd D dA A s (Mc dA h0 ad σ) H locs → fX4_fits_56 k7 x1 x2 y1 y2 σ = some q → W p l e rX4_fits s m args below meth c H locs 0 0 (QI D dA A below args s 0 0 q.1 (Mc dA h0 ad q.2)) (F0 m 56 ls [.int y2, .int y1, .ref h0]) := by
  have hx := FX.1; have hb := FX.2.1; have hown := FX.2.2.2.1; have hts := FX.2.2.2.2
  intro x1 x2 y1 y2 σ H locs ls hl hW hf
  rw [fX4_fits_56] at hf
  refine lv_iadd hx hb dX4_fits_56 ?_
  refine Ms57 FX hW hf dX4_fits_57 (fun s1 H locs hW hf => ?_)
  refine lv_iinc (v := (x2 + (1 : Int32))) (lv' := [(2, .int (x2 + (1 : Int32))), (0, .ref h0), (1, .int x1)]) hx hb dX4_fits_60 hl (k := 2) rfl rfl (by decide) rfl (fun ls hl => ?_)
  refine lv_goto (tgt := 7) hx hb dX4_fits_63 (by decide) ?_
  exact hk7 x1 (x2 + (1 : Int32)) s1 _ _ _ (lv_sub hl [1, 2, 0] rfl) hW hf
set_option maxHeartbeats 4000000 in
set_option maxRecDepth 100000 in
theorem wX4_fits_7 {q : (Int32 × Mst)} (FX : CallFix p m c cX4_fits 3 s args lw_all RX4) (hr : meth.sig.returnType = (some .int)) (hlk : meth.locks = false) : ∀ n : Nat, ∀ (x1 : Int32) (x2 : Int32) (σ : Mst) (H : Heap) (locs : List Loc) (ls : Array Slot), lv_has ls 3 [(0, .ref h0), (1, .int x1), (2, .int x2)] → Wd D dA A s (Mc dA h0 ad σ) H locs → fX4_fits_7 n x1 x2 σ = some q → W p l e rX4_fits s m args below meth c H locs 0 0 (QI D dA A below args s 0 0 q.1 (Mc dA h0 ad q.2)) (F0 m 7 ls []) := by
  have hx := FX.1; have hb := FX.2.1; have hown := FX.2.2.2.1; have hts := FX.2.2.2.2
  intro n
  induction n with
  | zero =>
    intro x1 x2 σ H locs ls hl hW hf
    cases (show (none : Option (Int32 × Mst)) = some q from hf)
  | succ n ih =>
    intro x1 x2 σ H locs ls hl hW hf
    rw [fX4_fits_7] at hf
    refine lv_iload_n hx hb dX4_fits_7 rfl (lv_at hl 2 rfl) ?_
    refine lv_bipush (v := 64) hx hb dX4_fits_8 (by decide) ?_
    refine lv_icmp_ge (tgt := 66) hx hb dX4_fits_10 (by decide) (fun c10 => ?_) (fun c10 => ?_)
    · have hf := ifp c10 hf
      refine lv_aload_n hx hb dX4_fits_66 rfl (lv_at hl 0 rfl) ?_
      refine Mg57 FX hW dX4_fits_67 ?_
      obtain rfl := Option.some.inj hf
      exact g_iret FX hr hlk hW rfl dX4_fits_70
    · have hf := ifn c10 hf
      refine lv_aload_n hx hb dX4_fits_13 rfl (lv_at hl 0 rfl) ?_
      refine Mg12 FX hW dX4_fits_14 ?_
      refine lv_aload_n hx hb dX4_fits_17 rfl (lv_at hl 0 rfl) ?_
      refine Mg32 FX hW dX4_fits_18 ?_
      refine g_iald FX hW 4 Mp12 hf dX4_fits_21 (fun v1 hf => ?_)
      refine lv_if_le (tgt := 66) hx hb dX4_fits_22 (by decide) (fun c22 => ?_) (fun c22 => ?_)
      · have hf := ifp c22 hf
        refine lv_aload_n hx hb dX4_fits_66 rfl (lv_at hl 0 rfl) ?_
        refine Mg57 FX hW dX4_fits_67 ?_
        obtain rfl := Option.some.inj hf
        exact g_iret FX hr hlk hW rfl dX4_fits_70
      · have hf := ifn c22 hf
        refine lv_aload_n hx hb dX4_fits_25 rfl (lv_at hl 0 rfl) ?_
        refine Mg54 FX hW dX4_fits_26 ?_
        refine lv_iload_n hx hb dX4_fits_29 rfl (lv_at hl 2 rfl) ?_
        refine lv_aload_n hx hb dX4_fits_30 rfl (lv_at hl 0 rfl) ?_
        refine lv_iload_n hx hb dX4_fits_31 rfl (lv_at hl 2 rfl) ?_
        refine lv_iload_n hx hb dX4_fits_32 rfl (lv_at hl 1 rfl) ?_
        refine kX4_doesFit FX ⟨Nat.le_of_ble_eq_true rfl, Nat.le_of_ble_eq_true rfl⟩ ⟨Nat.zero_le _, Nat.zero_le _⟩ hl.1 (Nat.le_of_ble_eq_true rfl) hW hf dX4_fits_33 (fun r2 H locs hW hf => ?_)
        refine g_zast FX hW 34 Mp54 (L := Mc dA h0 ad) (Mt54) hf dX4_fits_36 (fun s3 H locs hW hf => ?_)
        refine lv_aload_n hx hb dX4_fits_37 rfl (lv_at hl 0 rfl) ?_
        refine lv_dup hx hb dX4_fits_38 rfl ?_
        refine Mg57 FX hW dX4_fits_39 ?_
        refine lv_aload_n hx hb dX4_fits_42 rfl (lv_at hl 0 rfl) ?_
        refine Mg54 FX hW dX4_fits_43 ?_
        refine lv_iload_n hx hb dX4_fits_46 rfl (lv_at hl 2 rfl) ?_
        refine g_zald FX hW 34 Mp54 hf dX4_fits_47 (fun v4 hf => ?_)
        refine lv_if_eq (tgt := 55) hx hb dX4_fits_48 (by decide) (fun c48 => ?_) (fun c48 => ?_)
        · have hf := ifp c48 hf
          refine lv_iconst (v := 0) hx hb dX4_fits_55 (by decide) ?_
          exact wX4_fits_56 FX hr hlk (ih) x1 x2 (gF s3 57) (0 : Int32) s3 _ _ _ (lv_sub hl [0, 1, 2] rfl) hW hf
        · have hf := ifn c48 hf
          refine lv_iconst (v := 1) hx hb dX4_fits_51 (by decide) ?_
          refine lv_goto (tgt := 56) hx hb dX4_fits_52 (by decide) ?_
          exact wX4_fits_56 FX hr hlk (ih) x1 x2 (gF s3 57) (1 : Int32) s3 _ _ _ (lv_sub hl [0, 1, 2] rfl) hW hf
set_option maxHeartbeats 4000000 in
set_option maxRecDepth 100000 in
theorem mX4_fits  {x1 : Int32} {σ : Mst} {q : (Int32 × Mst)} (hf : fX4_fits x1 σ = some q) : CtI l yX4_fits cX4_fits 3 (some .int) rX4_fits D dA [.ref h0, .int x1] (Mc dA h0 ad σ) q.1 (Mc dA h0 ad q.2) := by
  refine e_I (by decide) (Nat.le_of_ble_eq_true rfl) ?_
  intro p e s m below meth c ls A FX hr hlk hl hW
  have hx := FX.1; have hb := FX.2.1; have hown := FX.2.2.2.1; have hts := FX.2.2.2.2
  have hl : lv_has ls 3 [(0, .ref h0), (1, .int x1)] := hl
  rw [fX4_fits] at hf
  refine lv_aload_n hx hb dX4_fits_0 rfl (lv_at hl 0 rfl) ?_
  refine lv_iconst (v := 0) hx hb dX4_fits_1 (by decide) ?_
  refine Ms57 FX hW hf dX4_fits_2 (fun s1 H locs hW hf => ?_)
  refine lv_iconst (v := 0) hx hb dX4_fits_5 (by decide) ?_
  refine lv_istore_n (lv' := [(2, .int (0 : Int32)), (0, .ref h0), (1, .int x1)]) hx hb dX4_fits_6 rfl hl (by decide) rfl (fun ls hl => ?_)
  exact wX4_fits_7 FX hr hlk _ x1 (0 : Int32) s1 _ _ _ (lv_sub hl [1, 2, 0] rfl) hW hf
set_option maxHeartbeats 4000000 in
set_option maxRecDepth 100000 in
theorem kX4_fits {α : Type} {q : α} {k : Int32 → Mst → Option α} {x1 : Int32} {σ : Mst} (FX : CallFix p m c cc nL s args lw_all RX4) (hR : rX4_fits.frames + 1 ≤ R.frames ∧ 8 + (3 + 11) + rX4_fits.locals ≤ R.locals) (hcs : cells ≤ R.cells ∧ slots ≤ R.slots) (hl : ls.size = nL) (hrm : (rest.map fun v => v.category).sum ≤ 8) (hW : Wd D dA A s (Mc dA h0 ad σ) H locs) (hf : bnd2 (fX4_fits x1 σ) k = some q) (hdg : decode cc pc = .ok (.invokevirtual 488, 3)) (kk : ∀ (r : Int32) (σ1 : Mst) (H1 : Heap) (locs1 : List Loc), Wd D dA A s (Mc dA h0 ad σ1) H1 locs1 → k r σ1 = some q → W p l e R s m args below meth c H1 locs1 cells slots Q (F0 m (pc + 3) ls (.int r :: rest))) : W p l e R s m args below meth c H locs cells slots Q (F0 m pc ls (.int x1 :: .ref h0 :: rest)) := by
  obtain ⟨r1, h1, hf⟩ := bnd (bnd2_eq hf)
  refine w_Vi (C := RX4) (As := [.int x1]) (rest := rest) (n := 1) (wr := []) FX (mX4_fits h1) (cwV 1 FX.2.2.2.2 (lw_V q2223 q2208 q2209 q132 q2210) rfl rfl rfl (by decide +kernel) hR) (va_recv hW.2.2.2.1 hW.1 (ci := 4) (q0 := 0) rfl rfl) rfl hl rfl hrm ⟨Nat.le_trans (Nat.le_of_eq (Nat.add_zero cells)) hcs.1, Nat.le_trans (Nat.le_of_eq (Nat.add_zero slots)) hcs.2⟩ hdg hW.nil ?_
  exact fun H1 locs1 hW1 => kk r1.1 r1.2 H1 locs1 hW1.nil' hf
/-! TrunkLittersModel.isWord(J)Z: kind R -/
def fX4_isWord (x1 : Int64) (σ : Mst) : Option Int32 := (if (gF σ 8) = (3 : Int32) then (if (lg_cmp (gN σ) x1) = 0 then some (1 : Int32) else some (0 : Int32)) else some (0 : Int32))
abbrev rX4_isWord : Room := { frames := 0, cells := 0, slots := 0, locals := 0 }
set_option maxHeartbeats 4000000 in
set_option maxRecDepth 100000 in
theorem mX4_isWord  {x1 : Int64} {σ : Mst} {q : Int32} (hf : fX4_isWord x1 σ = some q) : CtI l yX4_isWord cX4_isWord 3 (some .boolean) rX4_isWord D dA [.ref h0, .long x1] (Mc dA h0 ad σ) q (Mc dA h0 ad σ) := by
  refine e_I (by decide) (Nat.le_of_ble_eq_true rfl) ?_
  intro p e s m below meth c ls A FX hr hlk hl hW
  have hx := FX.1; have hb := FX.2.1; have hown := FX.2.2.2.1; have hts := FX.2.2.2.2
  have hl : lv_has ls 3 [(0, .ref h0), (1, .long x1)] := hl
  rw [fX4_isWord] at hf
  refine lv_aload_n hx hb dX4_isWord_0 rfl (lv_at hl 0 rfl) ?_
  refine Mg8 FX hW dX4_isWord_1 ?_
  refine lv_iconst (v := 3) hx hb dX4_isWord_4 (by decide) ?_
  refine lv_icmp_ne (tgt := 21) hx hb dX4_isWord_5 (by decide) (fun c5 => ?_) (fun c5 => ?_)
  · have hf := ifn c5 hf
    refine lv_iconst (v := 0) hx hb dX4_isWord_21 (by decide) ?_
    exact g_zret FX hr hlk hW rfl (Option.some.inj hf) dX4_isWord_22
  · have hf := ifp c5 hf
    refine lv_aload_n hx hb dX4_isWord_8 rfl (lv_at hl 0 rfl) ?_
    refine Mg10 FX hW dX4_isWord_9 ?_
    refine lv_lload_n hx hb dX4_isWord_12 rfl (lv_at hl 1 rfl) ?_
    refine W.lcmp hx hb dX4_isWord_13 ?_
    refine lv_if_ne (tgt := 21) hx hb dX4_isWord_14 (by decide) (fun c14 => ?_) (fun c14 => ?_)
    · have hf := ifn c14 hf
      refine lv_iconst (v := 0) hx hb dX4_isWord_21 (by decide) ?_
      exact g_zret FX hr hlk hW rfl (Option.some.inj hf) dX4_isWord_22
    · have hf := ifp c14 hf
      refine lv_iconst (v := 1) hx hb dX4_isWord_17 (by decide) ?_
      refine lv_goto (tgt := 22) hx hb dX4_isWord_18 (by decide) ?_
      exact g_zret FX hr hlk hW rfl (Option.some.inj hf) dX4_isWord_22
set_option maxHeartbeats 4000000 in
set_option maxRecDepth 100000 in
theorem kX4_isWord {α : Type} {q : α} {k : Int32 → Option α} {x1 : Int64} {σ : Mst} (FX : CallFix p m c cc nL s args lw_all RX4) (hR : rX4_isWord.frames + 1 ≤ R.frames ∧ 8 + (3 + 11) + rX4_isWord.locals ≤ R.locals) (hcs : cells ≤ R.cells ∧ slots ≤ R.slots) (hl : ls.size = nL) (hrm : (rest.map fun v => v.category).sum ≤ 8) (hW : Wd D dA A s (Mc dA h0 ad σ) H locs) (hf : (fX4_isWord x1 σ).bind k = some q) (hdg : decode cc pc = .ok (.invokevirtual 224, 3)) (kk : ∀ (r : Int32) (H1 : Heap) (locs1 : List Loc), Wd D dA A s (Mc dA h0 ad σ) H1 locs1 → k r = some q → W p l e R s m args below meth c H1 locs1 cells slots Q (F0 m (pc + 3) ls (.int r :: rest))) : W p l e R s m args below meth c H locs cells slots Q (F0 m pc ls (.long x1 :: .ref h0 :: rest)) := by
  obtain ⟨r1, h1, hf⟩ := bnd hf
  refine w_Vi (C := RX4) (As := [.long x1]) (rest := rest) (n := 1) (wr := []) FX (mX4_isWord h1) (cwV 1 FX.2.2.2.2 (lw_V q1801 q1803 qs61 q132 q1804) rfl rfl rfl (by decide +kernel) hR) (va_recv hW.2.2.2.1 hW.1 (ci := 4) (q0 := 0) rfl rfl) rfl hl rfl hrm ⟨Nat.le_trans (Nat.le_of_eq (Nat.add_zero cells)) hcs.1, Nat.le_trans (Nat.le_of_eq (Nat.add_zero slots)) hcs.2⟩ hdg hW.nil ?_
  exact fun H1 locs1 hW1 => kk r1 H1 locs1 hW1.nil' hf
/-! TrunkLittersModel.sure(II)I: kind W -/
def fX4_sure_27 : Nat → Int32 → Int32 → Int32 → Int32 → Mst → Option (Int32 × Mst)
  | 0, _, _, _, _, _ => none
  | n + 1, x1, x3, x4, x5, σ => (if (64 : Int32) ≤ x5 then (if x4 = x3 then some ((1 : Int32), σ) else (if x4 = 0 then some ((0 : Int32), σ) else some ((-2 : Int32), σ))) else ald 64 (gA σ 54) x5 fun v1 => (if v1 = 0 then fX4_sure_27 n x1 x3 (x4 + (0 : Int32)) (x5 + (1 : Int32)) σ else fX4_sure_27 n x1 x3 (x4 + ((x5 >>> (x1 &&& 31)) &&& (1 : Int32))) (x5 + (1 : Int32)) σ))
def fX4_sure (x1 : Int32) (x2 : Int32) (σ : Mst) : Option (Int32 × Mst) := bnd2 (fX4_fits x2 σ) fun r1 s2 => (fX4_isIn x1 (0 : Int32) (5 : Int32)).bind fun r3 => (if r3 = 0 then some ((-1 : Int32), s2) else (if r1 = 0 then some ((-1 : Int32), s2) else fX4_sure_27 FU x1 r1 (0 : Int32) (0 : Int32) s2))
abbrev rX4_sure : Room := { frames := 5, cells := 0, slots := 0, locals := 111 }
set_option maxHeartbeats 4000000 in
set_option maxRecDepth 100000 in
theorem wX4_sure_27 {q : (Int32 × Mst)} (FX : CallFix p m c cX4_sure 6 s args lw_all RX4) (hr : meth.sig.returnType = (some .int)) (hlk : meth.locks = false) : ∀ n : Nat, ∀ (x1 : Int32) (x3 : Int32) (x4 : Int32) (x5 : Int32) (σ : Mst) (H : Heap) (locs : List Loc) (ls : Array Slot), lv_has ls 6 [(0, .ref h0), (1, .int x1), (3, .int x3), (4, .int x4), (5, .int x5)] → Wd D dA A s (Mc dA h0 ad σ) H locs → fX4_sure_27 n x1 x3 x4 x5 σ = some q → W p l e rX4_sure s m args below meth c H locs 0 0 (QI D dA A below args s 0 0 q.1 (Mc dA h0 ad q.2)) (F0 m 27 ls []) := by
  have hx := FX.1; have hb := FX.2.1; have hown := FX.2.2.2.1; have hts := FX.2.2.2.2
  intro n
  induction n with
  | zero =>
    intro x1 x3 x4 x5 σ H locs ls hl hW hf
    cases (show (none : Option (Int32 × Mst)) = some q from hf)
  | succ n ih =>
    intro x1 x3 x4 x5 σ H locs ls hl hW hf
    rw [fX4_sure_27] at hf
    refine lv_iload hx hb dX4_sure_27 (lv_at hl 4 rfl) ?_
    refine lv_bipush (v := 64) hx hb dX4_sure_29 (by decide) ?_
    refine lv_icmp_ge (tgt := 65) hx hb dX4_sure_31 (by decide) (fun c31 => ?_) (fun c31 => ?_)
    · have hf := ifp c31 hf
      refine lv_iload hx hb dX4_sure_65 (lv_at hl 3 rfl) ?_
      refine lv_iload_n hx hb dX4_sure_67 rfl (lv_at hl 2 rfl) ?_
      refine lv_icmp_ne (tgt := 75) hx hb dX4_sure_68 (by decide) (fun c68 => ?_) (fun c68 => ?_)
      · have hf := ifn c68 hf
        refine lv_iload hx hb dX4_sure_75 (lv_at hl 3 rfl) ?_
        refine lv_if_ne (tgt := 84) hx hb dX4_sure_77 (by decide) (fun c77 => ?_) (fun c77 => ?_)
        · have hf := ifn c77 hf
          refine lv_bipush (v := -2) hx hb dX4_sure_84 (by decide) ?_
          obtain rfl := Option.some.inj hf
          exact g_iret FX hr hlk hW rfl dX4_sure_86
        · have hf := ifp c77 hf
          refine lv_iconst (v := 0) hx hb dX4_sure_80 (by decide) ?_
          refine lv_goto (tgt := 86) hx hb dX4_sure_81 (by decide) ?_
          obtain rfl := Option.some.inj hf
          exact g_iret FX hr hlk hW rfl dX4_sure_86
      · have hf := ifp c68 hf
        refine lv_iconst (v := 1) hx hb dX4_sure_71 (by decide) ?_
        refine lv_goto (tgt := 86) hx hb dX4_sure_72 (by decide) ?_
        obtain rfl := Option.some.inj hf
        exact g_iret FX hr hlk hW rfl dX4_sure_86
    · have hf := ifn c31 hf
      refine lv_iload hx hb dX4_sure_34 (lv_at hl 3 rfl) ?_
      refine lv_aload_n hx hb dX4_sure_36 rfl (lv_at hl 0 rfl) ?_
      refine Mg54 FX hW dX4_sure_37 ?_
      refine lv_iload hx hb dX4_sure_40 (lv_at hl 4 rfl) ?_
      refine g_zald FX hW 34 Mp54 hf dX4_sure_42 (fun v1 hf => ?_)
      refine lv_if_eq (tgt := 55) hx hb dX4_sure_43 (by decide) (fun c43 => ?_) (fun c43 => ?_)
      · have hf := ifp c43 hf
        refine lv_iconst (v := 0) hx hb dX4_sure_55 (by decide) ?_
        refine lv_iadd hx hb dX4_sure_56 ?_
        refine lv_istore (lv' := [(4, .int (x4 + (0 : Int32))), (0, .ref h0), (1, .int x1), (3, .int x3), (5, .int x5)]) hx hb dX4_sure_57 hl (by decide) rfl (fun ls hl => ?_)
        refine lv_iinc (v := (x5 + (1 : Int32))) (lv' := [(5, .int (x5 + (1 : Int32))), (4, .int (x4 + (0 : Int32))), (0, .ref h0), (1, .int x1), (3, .int x3)]) hx hb dX4_sure_59 hl (k := 4) rfl rfl (by decide) rfl (fun ls hl => ?_)
        refine lv_goto (tgt := 27) hx hb dX4_sure_62 (by decide) ?_
        exact ih x1 x3 (x4 + (0 : Int32)) (x5 + (1 : Int32)) σ _ _ _ (lv_sub hl [2, 3, 4, 1, 0] rfl) hW hf
      · have hf := ifn c43 hf
        refine lv_iload hx hb dX4_sure_46 (lv_at hl 4 rfl) ?_
        refine lv_iload_n hx hb dX4_sure_48 rfl (lv_at hl 1 rfl) ?_
        refine lv_ishr hx hb dX4_sure_49 ?_
        refine lv_iconst (v := 1) hx hb dX4_sure_50 (by decide) ?_
        refine lv_iand hx hb dX4_sure_51 ?_
        refine lv_goto (tgt := 56) hx hb dX4_sure_52 (by decide) ?_
        refine lv_iadd hx hb dX4_sure_56 ?_
        refine lv_istore (lv' := [(4, .int (x4 + ((x5 >>> (x1 &&& 31)) &&& (1 : Int32)))), (0, .ref h0), (1, .int x1), (3, .int x3), (5, .int x5)]) hx hb dX4_sure_57 hl (by decide) rfl (fun ls hl => ?_)
        refine lv_iinc (v := (x5 + (1 : Int32))) (lv' := [(5, .int (x5 + (1 : Int32))), (4, .int (x4 + ((x5 >>> (x1 &&& 31)) &&& (1 : Int32)))), (0, .ref h0), (1, .int x1), (3, .int x3)]) hx hb dX4_sure_59 hl (k := 4) rfl rfl (by decide) rfl (fun ls hl => ?_)
        refine lv_goto (tgt := 27) hx hb dX4_sure_62 (by decide) ?_
        exact ih x1 x3 (x4 + ((x5 >>> (x1 &&& 31)) &&& (1 : Int32))) (x5 + (1 : Int32)) σ _ _ _ (lv_sub hl [2, 3, 4, 1, 0] rfl) hW hf
set_option maxHeartbeats 4000000 in
set_option maxRecDepth 100000 in
theorem mX4_sure  {x1 : Int32} {x2 : Int32} {σ : Mst} {q : (Int32 × Mst)} (hf : fX4_sure x1 x2 σ = some q) : CtI l yX4_sure cX4_sure 6 (some .int) rX4_sure D dA [.ref h0, .int x1, .int x2] (Mc dA h0 ad σ) q.1 (Mc dA h0 ad q.2) := by
  refine e_I (by decide) (Nat.le_of_ble_eq_true rfl) ?_
  intro p e s m below meth c ls A FX hr hlk hl hW
  have hx := FX.1; have hb := FX.2.1; have hown := FX.2.2.2.1; have hts := FX.2.2.2.2
  have hl : lv_has ls 6 [(0, .ref h0), (1, .int x1), (2, .int x2)] := hl
  rw [fX4_sure] at hf
  refine lv_aload_n hx hb dX4_sure_0 rfl (lv_at hl 0 rfl) ?_
  refine lv_iload_n hx hb dX4_sure_1 rfl (lv_at hl 2 rfl) ?_
  refine kX4_fits FX ⟨Nat.le_of_ble_eq_true rfl, Nat.le_of_ble_eq_true rfl⟩ ⟨Nat.zero_le _, Nat.zero_le _⟩ hl.1 (Nat.le_of_ble_eq_true rfl) hW hf dX4_sure_2 (fun r1 s2 H locs hW hf => ?_)
  refine lv_istore_n (lv' := [(3, .int r1), (0, .ref h0), (1, .int x1), (2, .int x2)]) hx hb dX4_sure_5 rfl hl (by decide) rfl (fun ls hl => ?_)
  refine lv_iload_n hx hb dX4_sure_6 rfl (lv_at hl 2 rfl) ?_
  refine lv_iconst (v := 0) hx hb dX4_sure_7 (by decide) ?_
  refine lv_iconst (v := 5) hx hb dX4_sure_8 (by decide) ?_
  refine kX4_isIn FX ⟨Nat.le_of_ble_eq_true rfl, Nat.le_of_ble_eq_true rfl⟩ ⟨Nat.zero_le _, Nat.zero_le _⟩ hl.1 (Nat.le_of_ble_eq_true rfl) hW hf dX4_sure_9 (fun r3 H locs hW hf => ?_)
  refine lv_if_eq (tgt := 19) hx hb dX4_sure_12 (by decide) (fun c12 => ?_) (fun c12 => ?_)
  · have hf := ifp c12 hf
    refine lv_iconst (v := -1) hx hb dX4_sure_19 (by decide) ?_
    obtain rfl := Option.some.inj hf
    exact g_iret FX hr hlk hW rfl dX4_sure_20
  · have hf := ifn c12 hf
    refine lv_iload_n hx hb dX4_sure_15 rfl (lv_at hl 0 rfl) ?_
    refine lv_if_ne (tgt := 21) hx hb dX4_sure_16 (by decide) (fun c16 => ?_) (fun c16 => ?_)
    · have hf := ifn c16 hf
      refine lv_iconst (v := 0) hx hb dX4_sure_21 (by decide) ?_
      refine lv_istore (lv' := [(4, .int (0 : Int32)), (3, .int r1), (0, .ref h0), (1, .int x1), (2, .int x2)]) hx hb dX4_sure_22 hl (by decide) rfl (fun ls hl => ?_)
      refine lv_iconst (v := 0) hx hb dX4_sure_24 (by decide) ?_
      refine lv_istore (lv' := [(5, .int (0 : Int32)), (4, .int (0 : Int32)), (3, .int r1), (0, .ref h0), (1, .int x1), (2, .int x2)]) hx hb dX4_sure_25 hl (by decide) rfl (fun ls hl => ?_)
      exact wX4_sure_27 FX hr hlk _ x1 r1 (0 : Int32) (0 : Int32) s2 _ _ _ (lv_sub hl [3, 4, 2, 1, 0] rfl) hW hf
    · have hf := ifp c16 hf
      refine lv_iconst (v := -1) hx hb dX4_sure_19 (by decide) ?_
      obtain rfl := Option.some.inj hf
      exact g_iret FX hr hlk hW rfl dX4_sure_20

/-! TrunkLittersModel.mostBy(I)I: kind W -/
def fX4_mostBy_25 : Nat → Int32 → Int32 → Int32 → Mst → Option (Int32 × Mst)
  | 0, _, _, _, _ => none
  | n + 1, x1, x2, x3, σ => (if (64 : Int32) ≤ x3 then some (x2, σ) else ald 64 (gA σ 54) x3 fun v1 => (if v1 = 0 then fX4_mostBy_25 n x1 x2 (x3 + (1 : Int32)) σ else (fX4_sharedIf x3 x1 σ).bind fun r2 => ald 7 (gA σ 53) r2 fun v3 => ast 7 r2 (stp (sA σ 53 r2 (v3 + (1 : Int32))) fun s4 => ald 7 (gA s4 53) r2 fun v5 => (if v5 ≤ x2 then fX4_mostBy_25 n x1 x2 (x3 + (1 : Int32)) s4 else ald 7 (gA s4 53) r2 fun v6 => fX4_mostBy_25 n x1 v6 (x3 + (1 : Int32)) s4))))
def fX4_mostBy_2 : Nat → Int32 → Int32 → Mst → Option (Int32 × Mst)
  | 0, _, _, _ => none
  | n + 1, x1, x2, σ => (if (6 : Int32) < x2 then fX4_mostBy_25 FU x1 (0 : Int32) (0 : Int32) σ else ast 7 x2 (stp (sA σ 53 x2 (0 : Int32)) fun s1 => fX4_mostBy_2 n x1 (x2 + (1 : Int32)) s1))
def fX4_mostBy (x1 : Int32) (σ : Mst) : Option (Int32 × Mst) := fX4_mostBy_2 FU x1 (0 : Int32) σ
abbrev rX4_mostBy : Room := { frames := 3, cells := 0, slots := 0, locals := 65 }
set_option maxHeartbeats 4000000 in
set_option maxRecDepth 100000 in
theorem wX4_mostBy_25 {q : (Int32 × Mst)} (FX : CallFix p m c cX4_mostBy 5 s args lw_all RX4) (hr : meth.sig.returnType = (some .int)) (hlk : meth.locks = false) : ∀ n : Nat, ∀ (x1 : Int32) (x2 : Int32) (x3 : Int32) (σ : Mst) (H : Heap) (locs : List Loc) (ls : Array Slot), lv_has ls 5 [(0, .ref h0), (1, .int x1), (2, .int x2), (3, .int x3)] → Wd D dA A s (Mc dA h0 ad σ) H locs → fX4_mostBy_25 n x1 x2 x3 σ = some q → W p l e rX4_mostBy s m args below meth c H locs 0 0 (QI D dA A below args s 0 0 q.1 (Mc dA h0 ad q.2)) (F0 m 25 ls []) := by
  have hx := FX.1; have hb := FX.2.1; have hown := FX.2.2.2.1; have hts := FX.2.2.2.2
  intro n
  induction n with
  | zero =>
    intro x1 x2 x3 σ H locs ls hl hW hf
    cases (show (none : Option (Int32 × Mst)) = some q from hf)
  | succ n ih =>
    intro x1 x2 x3 σ H locs ls hl hW hf
    rw [fX4_mostBy_25] at hf
    refine lv_iload_n hx hb dX4_mostBy_25 rfl (lv_at hl 3 rfl) ?_
    refine lv_bipush (v := 64) hx hb dX4_mostBy_26 (by decide) ?_
    refine lv_icmp_ge (tgt := 87) hx hb dX4_mostBy_28 (by decide) (fun c28 => ?_) (fun c28 => ?_)
    · have hf := ifp c28 hf
      refine lv_iload_n hx hb dX4_mostBy_87 rfl (lv_at hl 2 rfl) ?_
      obtain rfl := Option.some.inj hf
      exact g_iret FX hr hlk hW rfl dX4_mostBy_88
    · have hf := ifn c28 hf
      refine lv_aload_n hx hb dX4_mostBy_31 rfl (lv_at hl 0 rfl) ?_
      refine Mg54 FX hW dX4_mostBy_32 ?_
      refine lv_iload_n hx hb dX4_mostBy_35 rfl (lv_at hl 3 rfl) ?_
      refine g_zald FX hW 34 Mp54 hf dX4_mostBy_36 (fun v1 hf => ?_)
      refine lv_if_ne (tgt := 43) hx hb dX4_mostBy_37 (by decide) (fun c37 => ?_) (fun c37 => ?_)
      · have hf := ifn c37 hf
        refine lv_aload_n hx hb dX4_mostBy_43 rfl (lv_at hl 0 rfl) ?_
        refine lv_iload_n hx hb dX4_mostBy_44 rfl (lv_at hl 3 rfl) ?_
        refine lv_iload_n hx hb dX4_mostBy_45 rfl (lv_at hl 1 rfl) ?_
        refine kX4_sharedIf FX ⟨Nat.le_of_ble_eq_true rfl, Nat.le_of_ble_eq_true rfl⟩ ⟨Nat.zero_le _, Nat.zero_le _⟩ hl.1 (Nat.le_of_ble_eq_true rfl) hW hf dX4_mostBy_46 (fun r2 H locs hW hf => ?_)
        refine lv_istore (lv' := [(4, .int r2), (0, .ref h0), (1, .int x1), (2, .int x2), (3, .int x3)]) hx hb dX4_mostBy_49 hl (by decide) rfl (fun ls hl => ?_)
        refine lv_aload_n hx hb dX4_mostBy_51 rfl (lv_at hl 1 rfl) ?_
        refine Mg53 FX hW dX4_mostBy_52 ?_
        refine lv_iload hx hb dX4_mostBy_55 (lv_at hl 0 rfl) ?_
        refine lv_dup2_11 hx hb dX4_mostBy_57 rfl rfl ?_
        refine g_iald FX hW 33 Mp53 hf dX4_mostBy_58 (fun v3 hf => ?_)
        refine lv_iconst (v := 1) hx hb dX4_mostBy_59 (by decide) ?_
        refine lv_iadd hx hb dX4_mostBy_60 ?_
        refine g_iast FX hW 33 Mp53 (L := Mc dA h0 ad) (Mt53) hf dX4_mostBy_61 (fun s4 H locs hW hf => ?_)
        refine lv_aload_n hx hb dX4_mostBy_62 rfl (lv_at hl 1 rfl) ?_
        refine Mg53 FX hW dX4_mostBy_63 ?_
        refine lv_iload hx hb dX4_mostBy_66 (lv_at hl 0 rfl) ?_
        refine g_iald FX hW 33 Mp53 hf dX4_mostBy_68 (fun v5 hf => ?_)
        refine lv_iload_n hx hb dX4_mostBy_69 rfl (lv_at hl 3 rfl) ?_
        refine lv_icmp_le (tgt := 81) hx hb dX4_mostBy_70 (by decide) (fun c70 => ?_) (fun c70 => ?_)
        · have hf := ifp c70 hf
          refine lv_iinc (v := (x3 + (1 : Int32))) (lv' := [(3, .int (x3 + (1 : Int32))), (4, .int r2), (0, .ref h0), (1, .int x1), (2, .int x2)]) hx hb dX4_mostBy_81 hl (k := 4) rfl rfl (by decide) rfl (fun ls hl => ?_)
          refine lv_goto (tgt := 25) hx hb dX4_mostBy_84 (by decide) ?_
          exact ih x1 x2 (x3 + (1 : Int32)) s4 _ _ _ (lv_sub hl [2, 3, 4, 0] rfl) hW hf
        · have hf := ifn c70 hf
          refine lv_aload_n hx hb dX4_mostBy_73 rfl (lv_at hl 1 rfl) ?_
          refine Mg53 FX hW dX4_mostBy_74 ?_
          refine lv_iload hx hb dX4_mostBy_77 (lv_at hl 0 rfl) ?_
          refine g_iald FX hW 33 Mp53 hf dX4_mostBy_79 (fun v6 hf => ?_)
          refine lv_istore_n (lv' := [(2, .int v6), (4, .int r2), (0, .ref h0), (1, .int x1), (3, .int x3)]) hx hb dX4_mostBy_80 rfl hl (by decide) rfl (fun ls hl => ?_)
          refine lv_iinc (v := (x3 + (1 : Int32))) (lv' := [(3, .int (x3 + (1 : Int32))), (2, .int v6), (4, .int r2), (0, .ref h0), (1, .int x1)]) hx hb dX4_mostBy_81 hl (k := 4) rfl rfl (by decide) rfl (fun ls hl => ?_)
          refine lv_goto (tgt := 25) hx hb dX4_mostBy_84 (by decide) ?_
          exact ih x1 v6 (x3 + (1 : Int32)) s4 _ _ _ (lv_sub hl [3, 4, 1, 0] rfl) hW hf
      · have hf := ifp c37 hf
        refine lv_goto (tgt := 81) hx hb dX4_mostBy_40 (by decide) ?_
        refine lv_iinc (v := (x3 + (1 : Int32))) (lv' := [(3, .int (x3 + (1 : Int32))), (0, .ref h0), (1, .int x1), (2, .int x2)]) hx hb dX4_mostBy_81 hl (k := 3) rfl rfl (by decide) rfl (fun ls hl => ?_)
        refine lv_goto (tgt := 25) hx hb dX4_mostBy_84 (by decide) ?_
        exact ih x1 x2 (x3 + (1 : Int32)) σ _ _ _ (lv_sub hl [1, 2, 3, 0] rfl) hW hf
set_option maxHeartbeats 4000000 in
set_option maxRecDepth 100000 in
theorem wX4_mostBy_2 {q : (Int32 × Mst)} (FX : CallFix p m c cX4_mostBy 5 s args lw_all RX4) (hr : meth.sig.returnType = (some .int)) (hlk : meth.locks = false) : ∀ n : Nat, ∀ (x1 : Int32) (x2 : Int32) (σ : Mst) (H : Heap) (locs : List Loc) (ls : Array Slot), lv_has ls 5 [(0, .ref h0), (1, .int x1), (2, .int x2)] → Wd D dA A s (Mc dA h0 ad σ) H locs → fX4_mostBy_2 n x1 x2 σ = some q → W p l e rX4_mostBy s m args below meth c H locs 0 0 (QI D dA A below args s 0 0 q.1 (Mc dA h0 ad q.2)) (F0 m 2 ls []) := by
  have hx := FX.1; have hb := FX.2.1; have hown := FX.2.2.2.1; have hts := FX.2.2.2.2
  intro n
  induction n with
  | zero =>
    intro x1 x2 σ H locs ls hl hW hf
    cases (show (none : Option (Int32 × Mst)) = some q from hf)
  | succ n ih =>
    intro x1 x2 σ H locs ls hl hW hf
    rw [fX4_mostBy_2] at hf
    refine lv_iload_n hx hb dX4_mostBy_2 rfl (lv_at hl 2 rfl) ?_
    refine lv_bipush (v := 6) hx hb dX4_mostBy_3 (by decide) ?_
    refine lv_icmp_gt (tgt := 21) hx hb dX4_mostBy_5 (by decide) (fun c5 => ?_) (fun c5 => ?_)
    · have hf := ifp c5 hf
      refine lv_iconst (v := 0) hx hb dX4_mostBy_21 (by decide) ?_
      refine lv_istore_n (lv' := [(2, .int (0 : Int32)), (0, .ref h0), (1, .int x1)]) hx hb dX4_mostBy_22 rfl hl (by decide) rfl (fun ls hl => ?_)
      refine lv_iconst (v := 0) hx hb dX4_mostBy_23 (by decide) ?_
      refine lv_istore_n (lv' := [(3, .int (0 : Int32)), (2, .int (0 : Int32)), (0, .ref h0), (1, .int x1)]) hx hb dX4_mostBy_24 rfl hl (by decide) rfl (fun ls hl => ?_)
      exact wX4_mostBy_25 FX hr hlk _ x1 (0 : Int32) (0 : Int32) σ _ _ _ (lv_sub hl [2, 3, 1, 0] rfl) hW hf
    · have hf := ifn c5 hf
      refine lv_aload_n hx hb dX4_mostBy_8 rfl (lv_at hl 0 rfl) ?_
      refine Mg53 FX hW dX4_mostBy_9 ?_
      refine lv_iload_n hx hb dX4_mostBy_12 rfl (lv_at hl 2 rfl) ?_
      refine lv_iconst (v := 0) hx hb dX4_mostBy_13 (by decide) ?_
      refine g_iast FX hW 33 Mp53 (L := Mc dA h0 ad) (Mt53) hf dX4_mostBy_14 (fun s1 H locs hW hf => ?_)
      refine lv_iinc (v := (x2 + (1 : Int32))) (lv' := [(2, .int (x2 + (1 : Int32))), (0, .ref h0), (1, .int x1)]) hx hb dX4_mostBy_15 hl (k := 2) rfl rfl (by decide) rfl (fun ls hl => ?_)
      refine lv_goto (tgt := 2) hx hb dX4_mostBy_18 (by decide) ?_
      exact ih x1 (x2 + (1 : Int32)) s1 _ _ _ (lv_sub hl [1, 2, 0] rfl) hW hf
set_option maxHeartbeats 4000000 in
set_option maxRecDepth 100000 in
theorem mX4_mostBy  {x1 : Int32} {σ : Mst} {q : (Int32 × Mst)} (hf : fX4_mostBy x1 σ = some q) : CtI l yX4_mostBy cX4_mostBy 5 (some .int) rX4_mostBy D dA [.ref h0, .int x1] (Mc dA h0 ad σ) q.1 (Mc dA h0 ad q.2) := by
  refine e_I (by decide) (Nat.le_of_ble_eq_true rfl) ?_
  intro p e s m below meth c ls A FX hr hlk hl hW
  have hx := FX.1; have hb := FX.2.1; have hown := FX.2.2.2.1; have hts := FX.2.2.2.2
  have hl : lv_has ls 5 [(0, .ref h0), (1, .int x1)] := hl
  rw [fX4_mostBy] at hf
  refine lv_iconst (v := 0) hx hb dX4_mostBy_0 (by decide) ?_
  refine lv_istore_n (lv' := [(2, .int (0 : Int32)), (0, .ref h0), (1, .int x1)]) hx hb dX4_mostBy_1 rfl hl (by decide) rfl (fun ls hl => ?_)
  exact wX4_mostBy_2 FX hr hlk _ x1 (0 : Int32) σ _ _ _ (lv_sub hl [1, 2, 0] rfl) hW hf
set_option maxHeartbeats 4000000 in
set_option maxRecDepth 100000 in
theorem kX4_mostBy {α : Type} {q : α} {k : Int32 → Mst → Option α} {x1 : Int32} {σ : Mst} (FX : CallFix p m c cc nL s args lw_all RX4) (hR : rX4_mostBy.frames + 1 ≤ R.frames ∧ 8 + (5 + 11) + rX4_mostBy.locals ≤ R.locals) (hcs : cells ≤ R.cells ∧ slots ≤ R.slots) (hl : ls.size = nL) (hrm : (rest.map fun v => v.category).sum ≤ 8) (hW : Wd D dA A s (Mc dA h0 ad σ) H locs) (hf : bnd2 (fX4_mostBy x1 σ) k = some q) (hdg : decode cc pc = .ok (.invokevirtual 491, 3)) (kk : ∀ (r : Int32) (σ1 : Mst) (H1 : Heap) (locs1 : List Loc), Wd D dA A s (Mc dA h0 ad σ1) H1 locs1 → k r σ1 = some q → W p l e R s m args below meth c H1 locs1 cells slots Q (F0 m (pc + 3) ls (.int r :: rest))) : W p l e R s m args below meth c H locs cells slots Q (F0 m pc ls (.int x1 :: .ref h0 :: rest)) := by
  obtain ⟨r1, h1, hf⟩ := bnd (bnd2_eq hf)
  refine w_Vi (C := RX4) (As := [.int x1]) (rest := rest) (n := 1) (wr := []) FX (mX4_mostBy h1) (cwV 1 FX.2.2.2.2 (lw_V q2228 q2230 qs121 q132 q2231) rfl rfl rfl (by decide +kernel) hR) (va_recv hW.2.2.2.1 hW.1 (ci := 4) (q0 := 0) rfl rfl) rfl hl rfl hrm ⟨Nat.le_trans (Nat.le_of_eq (Nat.add_zero cells)) hcs.1, Nat.le_trans (Nat.le_of_eq (Nat.add_zero slots)) hcs.2⟩ hdg hW.nil ?_
  exact fun H1 locs1 hW1 => kk r1.1 r1.2 H1 locs1 hW1.nil' hf
/-! TrunkLittersModel.ask(II)I: kind W -/
def fX4_ask_40 : Nat → Int32 → Int32 → Int32 → Mst → Option (Int32 × Mst)
  | 0, _, _, _, _ => none
  | n + 1, x1, x4, x5, σ => ald 2 (gA σ 12) (gF σ 32) fun v1 => (if (v1 - (1 : Int32)) ≤ x5 then (if x1 = 0 then some (x4, σ) else bnd2 (fX4_mostBy x4 σ) fun r2 s3 => some (r2, s3)) else bnd2 (fX4_mostBy x5 σ) fun r4 s5 => bnd2 (fX4_mostBy x4 s5) fun r6 s7 => (if r6 ≤ r4 then fX4_ask_40 n x1 x4 (x5 + (1 : Int32)) s7 else fX4_ask_40 n x1 x5 (x5 + (1 : Int32)) s7))
def fX4_ask (x1 : Int32) (x2 : Int32) (σ : Mst) : Option (Int32 × Mst) := bnd2 (fX4_fits x2 σ) fun r1 s2 => (fX4_isIn x1 (0 : Int32) (1 : Int32)).bind fun r3 => (if r3 = 0 then some ((-1 : Int32), s2) else (if r1 = 0 then some ((-1 : Int32), s2) else ald 2 (gA s2 12) (gF s2 32) fun v4 => (if (2 : Int32) ≤ v4 then fX4_ask_40 FU x1 (0 : Int32) (1 : Int32) s2 else some ((-1 : Int32), s2))))
abbrev rX4_ask : Room := { frames := 5, cells := 0, slots := 0, locals := 111 }
set_option maxHeartbeats 4000000 in
set_option maxRecDepth 100000 in
theorem wX4_ask_40 {q : (Int32 × Mst)} (FX : CallFix p m c cX4_ask 6 s args lw_all RX4) (hr : meth.sig.returnType = (some .int)) (hlk : meth.locks = false) : ∀ n : Nat, ∀ (x1 : Int32) (x4 : Int32) (x5 : Int32) (σ : Mst) (H : Heap) (locs : List Loc) (ls : Array Slot), lv_has ls 6 [(0, .ref h0), (1, .int x1), (4, .int x4), (5, .int x5)] → Wd D dA A s (Mc dA h0 ad σ) H locs → fX4_ask_40 n x1 x4 x5 σ = some q → W p l e rX4_ask s m args below meth c H locs 0 0 (QI D dA A below args s 0 0 q.1 (Mc dA h0 ad q.2)) (F0 m 40 ls []) := by
  have hx := FX.1; have hb := FX.2.1; have hown := FX.2.2.2.1; have hts := FX.2.2.2.2
  intro n
  induction n with
  | zero =>
    intro x1 x4 x5 σ H locs ls hl hW hf
    cases (show (none : Option (Int32 × Mst)) = some q from hf)
  | succ n ih =>
    intro x1 x4 x5 σ H locs ls hl hW hf
    rw [fX4_ask_40] at hf
    refine lv_iload hx hb dX4_ask_40 (lv_at hl 3 rfl) ?_
    refine lv_aload_n hx hb dX4_ask_42 rfl (lv_at hl 0 rfl) ?_
    refine Mg12 FX hW dX4_ask_43 ?_
    refine lv_aload_n hx hb dX4_ask_46 rfl (lv_at hl 0 rfl) ?_
    refine Mg32 FX hW dX4_ask_47 ?_
    refine g_iald FX hW 4 Mp12 hf dX4_ask_50 (fun v1 hf => ?_)
    refine lv_iconst (v := 1) hx hb dX4_ask_51 (by decide) ?_
    refine lv_isub hx hb dX4_ask_52 ?_
    refine lv_icmp_ge (tgt := 81) hx hb dX4_ask_53 (by decide) (fun c53 => ?_) (fun c53 => ?_)
    · have hf := ifp c53 hf
      refine lv_iload_n hx hb dX4_ask_81 rfl (lv_at hl 1 rfl) ?_
      refine lv_if_ne (tgt := 90) hx hb dX4_ask_82 (by decide) (fun c82 => ?_) (fun c82 => ?_)
      · have hf := ifn c82 hf
        refine lv_aload_n hx hb dX4_ask_90 rfl (lv_at hl 0 rfl) ?_
        refine lv_iload hx hb dX4_ask_91 (lv_at hl 2 rfl) ?_
        refine kX4_mostBy FX ⟨Nat.le_of_ble_eq_true rfl, Nat.le_of_ble_eq_true rfl⟩ ⟨Nat.zero_le _, Nat.zero_le _⟩ hl.1 (Nat.le_of_ble_eq_true rfl) hW hf dX4_ask_93 (fun r2 s3 H locs hW hf => ?_)
        obtain rfl := Option.some.inj hf
        exact g_iret FX hr hlk hW rfl dX4_ask_96
      · have hf := ifp c82 hf
        refine lv_iload hx hb dX4_ask_85 (lv_at hl 2 rfl) ?_
        refine lv_goto (tgt := 96) hx hb dX4_ask_87 (by decide) ?_
        obtain rfl := Option.some.inj hf
        exact g_iret FX hr hlk hW rfl dX4_ask_96
    · have hf := ifn c53 hf
      refine lv_aload_n hx hb dX4_ask_56 rfl (lv_at hl 0 rfl) ?_
      refine lv_iload hx hb dX4_ask_57 (lv_at hl 3 rfl) ?_
      refine kX4_mostBy FX ⟨Nat.le_of_ble_eq_true rfl, Nat.le_of_ble_eq_true rfl⟩ ⟨Nat.zero_le _, Nat.zero_le _⟩ hl.1 (Nat.le_of_ble_eq_true rfl) hW hf dX4_ask_59 (fun r4 s5 H locs hW hf => ?_)
      refine lv_aload_n hx hb dX4_ask_62 rfl (lv_at hl 0 rfl) ?_
      refine lv_iload hx hb dX4_ask_63 (lv_at hl 2 rfl) ?_
      refine kX4_mostBy FX ⟨Nat.le_of_ble_eq_true rfl, Nat.le_of_ble_eq_true rfl⟩ ⟨Nat.zero_le _, Nat.zero_le _⟩ hl.1 (Nat.le_of_ble_eq_true rfl) hW hf dX4_ask_65 (fun r6 s7 H locs hW hf => ?_)
      refine lv_icmp_ge (tgt := 75) hx hb dX4_ask_68 (by decide) (fun c68 => ?_) (fun c68 => ?_)
      · have hf := ifp c68 hf
        refine lv_iinc (v := (x5 + (1 : Int32))) (lv' := [(5, .int (x5 + (1 : Int32))), (0, .ref h0), (1, .int x1), (4, .int x4)]) hx hb dX4_ask_75 hl (k := 3) rfl rfl (by decide) rfl (fun ls hl => ?_)
        refine lv_goto (tgt := 40) hx hb dX4_ask_78 (by decide) ?_
        exact ih x1 x4 (x5 + (1 : Int32)) s7 _ _ _ (lv_sub hl [1, 2, 3, 0] rfl) hW hf
      · have hf := ifn c68 hf
        refine lv_iload hx hb dX4_ask_71 (lv_at hl 3 rfl) ?_
        refine lv_istore (lv' := [(4, .int x5), (0, .ref h0), (1, .int x1), (5, .int x5)]) hx hb dX4_ask_73 hl (by decide) rfl (fun ls hl => ?_)
        refine lv_iinc (v := (x5 + (1 : Int32))) (lv' := [(5, .int (x5 + (1 : Int32))), (4, .int x5), (0, .ref h0), (1, .int x1)]) hx hb dX4_ask_75 hl (k := 3) rfl rfl (by decide) rfl (fun ls hl => ?_)
        refine lv_goto (tgt := 40) hx hb dX4_ask_78 (by decide) ?_
        exact ih x1 x5 (x5 + (1 : Int32)) s7 _ _ _ (lv_sub hl [2, 3, 1, 0] rfl) hW hf
set_option maxHeartbeats 4000000 in
set_option maxRecDepth 100000 in
theorem mX4_ask  {x1 : Int32} {x2 : Int32} {σ : Mst} {q : (Int32 × Mst)} (hf : fX4_ask x1 x2 σ = some q) : CtI l yX4_ask cX4_ask 6 (some .int) rX4_ask D dA [.ref h0, .int x1, .int x2] (Mc dA h0 ad σ) q.1 (Mc dA h0 ad q.2) := by
  refine e_I (by decide) (Nat.le_of_ble_eq_true rfl) ?_
  intro p e s m below meth c ls A FX hr hlk hl hW
  have hx := FX.1; have hb := FX.2.1; have hown := FX.2.2.2.1; have hts := FX.2.2.2.2
  have hl : lv_has ls 6 [(0, .ref h0), (1, .int x1), (2, .int x2)] := hl
  rw [fX4_ask] at hf
  refine lv_aload_n hx hb dX4_ask_0 rfl (lv_at hl 0 rfl) ?_
  refine lv_iload_n hx hb dX4_ask_1 rfl (lv_at hl 2 rfl) ?_
  refine kX4_fits FX ⟨Nat.le_of_ble_eq_true rfl, Nat.le_of_ble_eq_true rfl⟩ ⟨Nat.zero_le _, Nat.zero_le _⟩ hl.1 (Nat.le_of_ble_eq_true rfl) hW hf dX4_ask_2 (fun r1 s2 H locs hW hf => ?_)
  refine lv_istore_n (lv' := [(3, .int r1), (0, .ref h0), (1, .int x1), (2, .int x2)]) hx hb dX4_ask_5 rfl hl (by decide) rfl (fun ls hl => ?_)
  refine lv_iload_n hx hb dX4_ask_6 rfl (lv_at hl 2 rfl) ?_
  refine lv_iconst (v := 0) hx hb dX4_ask_7 (by decide) ?_
  refine lv_iconst (v := 1) hx hb dX4_ask_8 (by decide) ?_
  refine kX4_isIn FX ⟨Nat.le_of_ble_eq_true rfl, Nat.le_of_ble_eq_true rfl⟩ ⟨Nat.zero_le _, Nat.zero_le _⟩ hl.1 (Nat.le_of_ble_eq_true rfl) hW hf dX4_ask_9 (fun r3 H locs hW hf => ?_)
  refine lv_if_eq (tgt := 32) hx hb dX4_ask_12 (by decide) (fun c12 => ?_) (fun c12 => ?_)
  · have hf := ifp c12 hf
    refine lv_iconst (v := -1) hx hb dX4_ask_32 (by decide) ?_
    obtain rfl := Option.some.inj hf
    exact g_iret FX hr hlk hW rfl dX4_ask_33
  · have hf := ifn c12 hf
    refine lv_iload_n hx hb dX4_ask_15 rfl (lv_at hl 0 rfl) ?_
    refine lv_if_eq (tgt := 32) hx hb dX4_ask_16 (by decide) (fun c16 => ?_) (fun c16 => ?_)
    · have hf := ifp c16 hf
      refine lv_iconst (v := -1) hx hb dX4_ask_32 (by decide) ?_
      obtain rfl := Option.some.inj hf
      exact g_iret FX hr hlk hW rfl dX4_ask_33
    · have hf := ifn c16 hf
      refine lv_aload_n hx hb dX4_ask_19 rfl (lv_at hl 1 rfl) ?_
      refine Mg12 FX hW dX4_ask_20 ?_
      refine lv_aload_n hx hb dX4_ask_23 rfl (lv_at hl 1 rfl) ?_
      refine Mg32 FX hW dX4_ask_24 ?_
      refine g_iald FX hW 4 Mp12 hf dX4_ask_27 (fun v4 hf => ?_)
      refine lv_iconst (v := 2) hx hb dX4_ask_28 (by decide) ?_
      refine lv_icmp_ge (tgt := 34) hx hb dX4_ask_29 (by decide) (fun c29 => ?_) (fun c29 => ?_)
      · have hf := ifp c29 hf
        refine lv_iconst (v := 0) hx hb dX4_ask_34 (by decide) ?_
        refine lv_istore (lv' := [(4, .int (0 : Int32)), (3, .int r1), (0, .ref h0), (1, .int x1), (2, .int x2)]) hx hb dX4_ask_35 hl (by decide) rfl (fun ls hl => ?_)
        refine lv_iconst (v := 1) hx hb dX4_ask_37 (by decide) ?_
        refine lv_istore (lv' := [(5, .int (1 : Int32)), (4, .int (0 : Int32)), (3, .int r1), (0, .ref h0), (1, .int x1), (2, .int x2)]) hx hb dX4_ask_38 hl (by decide) rfl (fun ls hl => ?_)
        exact wX4_ask_40 FX hr hlk _ x1 (0 : Int32) (1 : Int32) s2 _ _ _ (lv_sub hl [3, 4, 1, 0] rfl) hW hf
      · have hf := ifn c29 hf
        refine lv_iconst (v := -1) hx hb dX4_ask_32 (by decide) ?_
        obtain rfl := Option.some.inj hf
        exact g_iret FX hr hlk hW rfl dX4_ask_33

/-! TrunkLittersModel.image(I)I: kind W -/
def fX4_image_13 : Nat → Int32 → Int32 → Mst → Option (Int32 × Mst)
  | 0, _, _, _ => none
  | n + 1, x1, x2, σ => (if (59 : Int32) ≤ x2 then ast 3 x1 (stp (sA σ 59 x1 (vp_nar .boolean (1 : Int32))) fun s1 => ald 59 (gA s1 40) (57 : Int32) fun v2 => some (v2, s1)) else ald 59 (gA σ 40) x2 fun v3 => ast 177 (((59 : Int32) * x1) + x2) (stp (sA σ 58 (((59 : Int32) * x1) + x2) v3) fun s4 => fX4_image_13 n x1 (x2 + (1 : Int32)) s4))
def fX4_image (x1 : Int32) (σ : Mst) : Option (Int32 × Mst) := (fX4_isIn x1 (0 : Int32) (2 : Int32)).bind fun r1 => (if r1 = 0 then some ((-1 : Int32), σ) else fX4_image_13 FU x1 (0 : Int32) σ)
abbrev rX4_image : Room := { frames := 1, cells := 0, slots := 0, locals := 22 }
set_option maxHeartbeats 4000000 in
set_option maxRecDepth 100000 in
theorem wX4_image_13 {q : (Int32 × Mst)} (FX : CallFix p m c cX4_image 3 s args lw_all RX4) (hr : meth.sig.returnType = (some .int)) (hlk : meth.locks = false) : ∀ n : Nat, ∀ (x1 : Int32) (x2 : Int32) (σ : Mst) (H : Heap) (locs : List Loc) (ls : Array Slot), lv_has ls 3 [(0, .ref h0), (1, .int x1), (2, .int x2)] → Wd D dA A s (Mc dA h0 ad σ) H locs → fX4_image_13 n x1 x2 σ = some q → W p l e rX4_image s m args below meth c H locs 0 0 (QI D dA A below args s 0 0 q.1 (Mc dA h0 ad q.2)) (F0 m 13 ls []) := by
  have hx := FX.1; have hb := FX.2.1; have hown := FX.2.2.2.1; have hts := FX.2.2.2.2
  intro n
  induction n with
  | zero =>
    intro x1 x2 σ H locs ls hl hW hf
    cases (show (none : Option (Int32 × Mst)) = some q from hf)
  | succ n ih =>
    intro x1 x2 σ H locs ls hl hW hf
    rw [fX4_image_13] at hf
    refine lv_iload_n hx hb dX4_image_13 rfl (lv_at hl 2 rfl) ?_
    refine lv_bipush (v := 59) hx hb dX4_image_14 (by decide) ?_
    refine lv_icmp_ge (tgt := 42) hx hb dX4_image_16 (by decide) (fun c16 => ?_) (fun c16 => ?_)
    · have hf := ifp c16 hf
      refine lv_aload_n hx hb dX4_image_42 rfl (lv_at hl 0 rfl) ?_
      refine Mg59 FX hW dX4_image_43 ?_
      refine lv_iload_n hx hb dX4_image_46 rfl (lv_at hl 1 rfl) ?_
      refine lv_iconst (v := 1) hx hb dX4_image_47 (by decide) ?_
      refine g_zast FX hW 36 Mp59 (L := Mc dA h0 ad) (Mt59) hf dX4_image_48 (fun s1 H locs hW hf => ?_)
      refine lv_aload_n hx hb dX4_image_49 rfl (lv_at hl 0 rfl) ?_
      refine Mg40 FX hW dX4_image_50 ?_
      refine lv_bipush (v := 57) hx hb dX4_image_53 (by decide) ?_
      refine g_iald FX hW 24 Mp40 hf dX4_image_55 (fun v2 hf => ?_)
      obtain rfl := Option.some.inj hf
      exact g_iret FX hr hlk hW rfl dX4_image_56
    · have hf := ifn c16 hf
      refine lv_aload_n hx hb dX4_image_19 rfl (lv_at hl 0 rfl) ?_
      refine Mg58 FX hW dX4_image_20 ?_
      refine lv_bipush (v := 59) hx hb dX4_image_23 (by decide) ?_
      refine lv_iload_n hx hb dX4_image_25 rfl (lv_at hl 1 rfl) ?_
      refine lv_imul hx hb dX4_image_26 ?_
      refine lv_iload_n hx hb dX4_image_27 rfl (lv_at hl 2 rfl) ?_
      refine lv_iadd hx hb dX4_image_28 ?_
      refine lv_aload_n hx hb dX4_image_29 rfl (lv_at hl 0 rfl) ?_
      refine Mg40 FX hW dX4_image_30 ?_
      refine lv_iload_n hx hb dX4_image_33 rfl (lv_at hl 2 rfl) ?_
      refine g_iald FX hW 24 Mp40 hf dX4_image_34 (fun v3 hf => ?_)
      refine g_iast FX hW 35 Mp58 (L := Mc dA h0 ad) (Mt58) hf dX4_image_35 (fun s4 H locs hW hf => ?_)
      refine lv_iinc (v := (x2 + (1 : Int32))) (lv' := [(2, .int (x2 + (1 : Int32))), (0, .ref h0), (1, .int x1)]) hx hb dX4_image_36 hl (k := 2) rfl rfl (by decide) rfl (fun ls hl => ?_)
      refine lv_goto (tgt := 13) hx hb dX4_image_39 (by decide) ?_
      exact ih x1 (x2 + (1 : Int32)) s4 _ _ _ (lv_sub hl [1, 2, 0] rfl) hW hf
set_option maxHeartbeats 4000000 in
set_option maxRecDepth 100000 in
theorem mX4_image  {x1 : Int32} {σ : Mst} {q : (Int32 × Mst)} (hf : fX4_image x1 σ = some q) : CtI l yX4_image cX4_image 3 (some .int) rX4_image D dA [.ref h0, .int x1] (Mc dA h0 ad σ) q.1 (Mc dA h0 ad q.2) := by
  refine e_I (by decide) (Nat.le_of_ble_eq_true rfl) ?_
  intro p e s m below meth c ls A FX hr hlk hl hW
  have hx := FX.1; have hb := FX.2.1; have hown := FX.2.2.2.1; have hts := FX.2.2.2.2
  have hl : lv_has ls 3 [(0, .ref h0), (1, .int x1)] := hl
  rw [fX4_image] at hf
  refine lv_iload_n hx hb dX4_image_0 rfl (lv_at hl 1 rfl) ?_
  refine lv_iconst (v := 0) hx hb dX4_image_1 (by decide) ?_
  refine lv_iconst (v := 2) hx hb dX4_image_2 (by decide) ?_
  refine kX4_isIn FX ⟨Nat.le_of_ble_eq_true rfl, Nat.le_of_ble_eq_true rfl⟩ ⟨Nat.zero_le _, Nat.zero_le _⟩ hl.1 (Nat.le_of_ble_eq_true rfl) hW hf dX4_image_3 (fun r1 H locs hW hf => ?_)
  refine lv_if_ne (tgt := 11) hx hb dX4_image_6 (by decide) (fun c6 => ?_) (fun c6 => ?_)
  · have hf := ifn c6 hf
    refine lv_iconst (v := 0) hx hb dX4_image_11 (by decide) ?_
    refine lv_istore_n (lv' := [(2, .int (0 : Int32)), (0, .ref h0), (1, .int x1)]) hx hb dX4_image_12 rfl hl (by decide) rfl (fun ls hl => ?_)
    exact wX4_image_13 FX hr hlk _ x1 (0 : Int32) σ _ _ _ (lv_sub hl [1, 2, 0] rfl) hW hf
  · have hf := ifp c6 hf
    refine lv_iconst (v := -1) hx hb dX4_image_9 (by decide) ?_
    obtain rfl := Option.some.inj hf
    exact g_iret FX hr hlk hW rfl dX4_image_10

/-! TrunkLittersModel.back(I)I: kind W -/
def fX4_back_22 : Nat → Int32 → Int32 → Mst → Option (Int32 × Mst)
  | 0, _, _, _ => none
  | n + 1, x1, x2, σ => (if (59 : Int32) ≤ x2 then stp (sF σ 44 (0 : Int32)) fun s1 => stp (sF s1 45 (0 : Int32)) fun s2 => ald 59 (gA s2 40) (57 : Int32) fun v3 => some (v3, s2) else ald 177 (gA σ 58) (((59 : Int32) * x1) + x2) fun v4 => ast 59 x2 (stp (sA σ 40 x2 v4) fun s5 => fX4_back_22 n x1 (x2 + (1 : Int32)) s5))
def fX4_back (x1 : Int32) (σ : Mst) : Option (Int32 × Mst) := (fX4_isIn x1 (0 : Int32) (2 : Int32)).bind fun r1 => (if r1 = 0 then some ((-1 : Int32), σ) else ald 3 (gA σ 59) x1 fun v2 => (if v2 = 0 then some ((-1 : Int32), σ) else fX4_back_22 FU x1 (0 : Int32) σ))
abbrev rX4_back : Room := { frames := 1, cells := 0, slots := 0, locals := 22 }
set_option maxHeartbeats 4000000 in
set_option maxRecDepth 100000 in
theorem wX4_back_22 {q : (Int32 × Mst)} (FX : CallFix p m c cX4_back 3 s args lw_all RX4) (hr : meth.sig.returnType = (some .int)) (hlk : meth.locks = false) : ∀ n : Nat, ∀ (x1 : Int32) (x2 : Int32) (σ : Mst) (H : Heap) (locs : List Loc) (ls : Array Slot), lv_has ls 3 [(0, .ref h0), (1, .int x1), (2, .int x2)] → Wd D dA A s (Mc dA h0 ad σ) H locs → fX4_back_22 n x1 x2 σ = some q → W p l e rX4_back s m args below meth c H locs 0 0 (QI D dA A below args s 0 0 q.1 (Mc dA h0 ad q.2)) (F0 m 22 ls []) := by
  have hx := FX.1; have hb := FX.2.1; have hown := FX.2.2.2.1; have hts := FX.2.2.2.2
  intro n
  induction n with
  | zero =>
    intro x1 x2 σ H locs ls hl hW hf
    cases (show (none : Option (Int32 × Mst)) = some q from hf)
  | succ n ih =>
    intro x1 x2 σ H locs ls hl hW hf
    rw [fX4_back_22] at hf
    refine lv_iload_n hx hb dX4_back_22 rfl (lv_at hl 2 rfl) ?_
    refine lv_bipush (v := 59) hx hb dX4_back_23 (by decide) ?_
    refine lv_icmp_ge (tgt := 51) hx hb dX4_back_25 (by decide) (fun c25 => ?_) (fun c25 => ?_)
    · have hf := ifp c25 hf
      refine lv_aload_n hx hb dX4_back_51 rfl (lv_at hl 0 rfl) ?_
      refine lv_iconst (v := 0) hx hb dX4_back_52 (by decide) ?_
      refine Ms44 FX hW hf dX4_back_53 (fun s1 H locs hW hf => ?_)
      refine lv_aload_n hx hb dX4_back_56 rfl (lv_at hl 0 rfl) ?_
      refine lv_iconst (v := 0) hx hb dX4_back_57 (by decide) ?_
      refine Ms45 FX hW hf dX4_back_58 (fun s2 H locs hW hf => ?_)
      refine lv_aload_n hx hb dX4_back_61 rfl (lv_at hl 0 rfl) ?_
      refine Mg40 FX hW dX4_back_62 ?_
      refine lv_bipush (v := 57) hx hb dX4_back_65 (by decide) ?_
      refine g_iald FX hW 24 Mp40 hf dX4_back_67 (fun v3 hf => ?_)
      obtain rfl := Option.some.inj hf
      exact g_iret FX hr hlk hW rfl dX4_back_68
    · have hf := ifn c25 hf
      refine lv_aload_n hx hb dX4_back_28 rfl (lv_at hl 0 rfl) ?_
      refine Mg40 FX hW dX4_back_29 ?_
      refine lv_iload_n hx hb dX4_back_32 rfl (lv_at hl 2 rfl) ?_
      refine lv_aload_n hx hb dX4_back_33 rfl (lv_at hl 0 rfl) ?_
      refine Mg58 FX hW dX4_back_34 ?_
      refine lv_bipush (v := 59) hx hb dX4_back_37 (by decide) ?_
      refine lv_iload_n hx hb dX4_back_39 rfl (lv_at hl 1 rfl) ?_
      refine lv_imul hx hb dX4_back_40 ?_
      refine lv_iload_n hx hb dX4_back_41 rfl (lv_at hl 2 rfl) ?_
      refine lv_iadd hx hb dX4_back_42 ?_
      refine g_iald FX hW 35 Mp58 hf dX4_back_43 (fun v4 hf => ?_)
      refine g_iast FX hW 24 Mp40 (L := Mc dA h0 ad) (Mt40) hf dX4_back_44 (fun s5 H locs hW hf => ?_)
      refine lv_iinc (v := (x2 + (1 : Int32))) (lv' := [(2, .int (x2 + (1 : Int32))), (0, .ref h0), (1, .int x1)]) hx hb dX4_back_45 hl (k := 2) rfl rfl (by decide) rfl (fun ls hl => ?_)
      refine lv_goto (tgt := 22) hx hb dX4_back_48 (by decide) ?_
      exact ih x1 (x2 + (1 : Int32)) s5 _ _ _ (lv_sub hl [1, 2, 0] rfl) hW hf
set_option maxHeartbeats 4000000 in
set_option maxRecDepth 100000 in
theorem mX4_back  {x1 : Int32} {σ : Mst} {q : (Int32 × Mst)} (hf : fX4_back x1 σ = some q) : CtI l yX4_back cX4_back 3 (some .int) rX4_back D dA [.ref h0, .int x1] (Mc dA h0 ad σ) q.1 (Mc dA h0 ad q.2) := by
  refine e_I (by decide) (Nat.le_of_ble_eq_true rfl) ?_
  intro p e s m below meth c ls A FX hr hlk hl hW
  have hx := FX.1; have hb := FX.2.1; have hown := FX.2.2.2.1; have hts := FX.2.2.2.2
  have hl : lv_has ls 3 [(0, .ref h0), (1, .int x1)] := hl
  rw [fX4_back] at hf
  refine lv_iload_n hx hb dX4_back_0 rfl (lv_at hl 1 rfl) ?_
  refine lv_iconst (v := 0) hx hb dX4_back_1 (by decide) ?_
  refine lv_iconst (v := 2) hx hb dX4_back_2 (by decide) ?_
  refine kX4_isIn FX ⟨Nat.le_of_ble_eq_true rfl, Nat.le_of_ble_eq_true rfl⟩ ⟨Nat.zero_le _, Nat.zero_le _⟩ hl.1 (Nat.le_of_ble_eq_true rfl) hW hf dX4_back_3 (fun r1 H locs hW hf => ?_)
  refine lv_if_eq (tgt := 18) hx hb dX4_back_6 (by decide) (fun c6 => ?_) (fun c6 => ?_)
  · have hf := ifp c6 hf
    refine lv_iconst (v := -1) hx hb dX4_back_18 (by decide) ?_
    obtain rfl := Option.some.inj hf
    exact g_iret FX hr hlk hW rfl dX4_back_19
  · have hf := ifn c6 hf
    refine lv_aload_n hx hb dX4_back_9 rfl (lv_at hl 0 rfl) ?_
    refine Mg59 FX hW dX4_back_10 ?_
    refine lv_iload_n hx hb dX4_back_13 rfl (lv_at hl 1 rfl) ?_
    refine g_zald FX hW 36 Mp59 hf dX4_back_14 (fun v2 hf => ?_)
    refine lv_if_ne (tgt := 20) hx hb dX4_back_15 (by decide) (fun c15 => ?_) (fun c15 => ?_)
    · have hf := ifn c15 hf
      refine lv_iconst (v := 0) hx hb dX4_back_20 (by decide) ?_
      refine lv_istore_n (lv' := [(2, .int (0 : Int32)), (0, .ref h0), (1, .int x1)]) hx hb dX4_back_21 rfl hl (by decide) rfl (fun ls hl => ?_)
      exact wX4_back_22 FX hr hlk _ x1 (0 : Int32) σ _ _ _ (lv_sub hl [1, 2, 0] rfl) hW hf
    · have hf := ifp c15 hf
      refine lv_iconst (v := -1) hx hb dX4_back_18 (by decide) ?_
      obtain rfl := Option.some.inj hf
      exact g_iret FX hr hlk hW rfl dX4_back_19

/-! TrunkLittersModel.about(I)I: kind R -/
def fX4_about (x1 : Int32) (σ : Mst) : Option Int32 := (if x1 = (0 : Int32) then (fX4_those σ).bind fun r1 => (fX4_bitsOf r1).bind fun r2 => some r2 else (if x1 = (1 : Int32) then (fX4_chambers σ).bind fun r3 => some r3 else (if x1 = (2 : Int32) then (fX4_those σ).bind fun r4 => some r4 else (if x1 = (3 : Int32) then ald 59 (gA σ 40) (56 : Int32) fun v5 => some v5 else (if x1 = (4 : Int32) then ald 59 (gA σ 40) (57 : Int32) fun v6 => some v6 else (if x1 = (5 : Int32) then ald 59 (gA σ 40) (58 : Int32) fun v7 => some v7 else (if x1 = (6 : Int32) then some (gF σ 44) else (if x1 = (7 : Int32) then some (gF σ 45) else (if x1 = (8 : Int32) then some (gF σ 55) else (if x1 = (9 : Int32) then some (gF σ 56) else (if x1 = (10 : Int32) then some (gF σ 2) else (if x1 = (11 : Int32) then ald 2 (gA σ 13) (gF σ 32) fun v8 => some v8 else (if x1 = (12 : Int32) then some (gF σ 47) else (if x1 = (13 : Int32) then ald 2 (gA σ 14) (gF σ 32) fun v9 => some v9 else (if x1 = (14 : Int32) then ald 2 (gA σ 12) (gF σ 32) fun v10 => some v10 else some (-1 : Int32))))))))))))))))
abbrev rX4_about : Room := { frames := 1, cells := 0, slots := 0, locals := 22 }
set_option maxHeartbeats 4000000 in
set_option maxRecDepth 100000 in
theorem mX4_about  {x1 : Int32} {σ : Mst} {q : Int32} (hf : fX4_about x1 σ = some q) : CtI l yX4_about cX4_about 2 (some .int) rX4_about D dA [.ref h0, .int x1] (Mc dA h0 ad σ) q (Mc dA h0 ad σ) := by
  refine e_I (by decide) (Nat.le_of_ble_eq_true rfl) ?_
  intro p e s m below meth c ls A FX hr hlk hl hW
  have hx := FX.1; have hb := FX.2.1; have hown := FX.2.2.2.1; have hts := FX.2.2.2.2
  have hl : lv_has ls 2 [(0, .ref h0), (1, .int x1)] := hl
  rw [fX4_about] at hf
  refine lv_iload_n hx hb dX4_about_0 rfl (lv_at hl 1 rfl) ?_
  by_cases c1_0 : x1 = (0 : Int32)
  · have hf := ifp c1_0 hf
    refine g_tabC (tgt := 76) FX (0 : Int32) c1_0 (by decide) (by decide) rfl (by decide) dX4_about_1 ?_
    refine lv_aload_n hx hb dX4_about_76 rfl (lv_at hl 0 rfl) ?_
    refine kX4_those FX ⟨Nat.le_of_ble_eq_true rfl, Nat.le_of_ble_eq_true rfl⟩ ⟨Nat.zero_le _, Nat.zero_le _⟩ hl.1 (Nat.le_of_ble_eq_true rfl) hW hf dX4_about_77 (fun r1 H locs hW hf => ?_)
    refine kX4_bitsOf FX ⟨Nat.le_of_ble_eq_true rfl, Nat.le_of_ble_eq_true rfl⟩ ⟨Nat.zero_le _, Nat.zero_le _⟩ hl.1 (Nat.le_of_ble_eq_true rfl) hW hf dX4_about_80 (fun r2 H locs hW hf => ?_)
    exact g_iret FX hr hlk hW (Option.some.inj hf) dX4_about_83
  have hf := ifn c1_0 hf
  by_cases c1_1 : x1 = (1 : Int32)
  · have hf := ifp c1_1 hf
    refine g_tabC (tgt := 84) FX (1 : Int32) c1_1 (by decide) (by decide) rfl (by decide) dX4_about_1 ?_
    refine lv_aload_n hx hb dX4_about_84 rfl (lv_at hl 0 rfl) ?_
    refine kX4_chambers FX ⟨Nat.le_of_ble_eq_true rfl, Nat.le_of_ble_eq_true rfl⟩ ⟨Nat.zero_le _, Nat.zero_le _⟩ hl.1 (Nat.le_of_ble_eq_true rfl) hW hf dX4_about_85 (fun r3 H locs hW hf => ?_)
    exact g_iret FX hr hlk hW (Option.some.inj hf) dX4_about_88
  have hf := ifn c1_1 hf
  by_cases c1_2 : x1 = (2 : Int32)
  · have hf := ifp c1_2 hf
    refine g_tabC (tgt := 89) FX (2 : Int32) c1_2 (by decide) (by decide) rfl (by decide) dX4_about_1 ?_
    refine lv_aload_n hx hb dX4_about_89 rfl (lv_at hl 0 rfl) ?_
    refine kX4_those FX ⟨Nat.le_of_ble_eq_true rfl, Nat.le_of_ble_eq_true rfl⟩ ⟨Nat.zero_le _, Nat.zero_le _⟩ hl.1 (Nat.le_of_ble_eq_true rfl) hW hf dX4_about_90 (fun r4 H locs hW hf => ?_)
    exact g_iret FX hr hlk hW (Option.some.inj hf) dX4_about_93
  have hf := ifn c1_2 hf
  by_cases c1_3 : x1 = (3 : Int32)
  · have hf := ifp c1_3 hf
    refine g_tabC (tgt := 94) FX (3 : Int32) c1_3 (by decide) (by decide) rfl (by decide) dX4_about_1 ?_
    refine lv_aload_n hx hb dX4_about_94 rfl (lv_at hl 0 rfl) ?_
    refine Mg40 FX hW dX4_about_95 ?_
    refine lv_bipush (v := 56) hx hb dX4_about_98 (by decide) ?_
    refine g_iald FX hW 24 Mp40 hf dX4_about_100 (fun v5 hf => ?_)
    exact g_iret FX hr hlk hW (Option.some.inj hf) dX4_about_101
  have hf := ifn c1_3 hf
  by_cases c1_4 : x1 = (4 : Int32)
  · have hf := ifp c1_4 hf
    refine g_tabC (tgt := 102) FX (4 : Int32) c1_4 (by decide) (by decide) rfl (by decide) dX4_about_1 ?_
    refine lv_aload_n hx hb dX4_about_102 rfl (lv_at hl 0 rfl) ?_
    refine Mg40 FX hW dX4_about_103 ?_
    refine lv_bipush (v := 57) hx hb dX4_about_106 (by decide) ?_
    refine g_iald FX hW 24 Mp40 hf dX4_about_108 (fun v6 hf => ?_)
    exact g_iret FX hr hlk hW (Option.some.inj hf) dX4_about_109
  have hf := ifn c1_4 hf
  by_cases c1_5 : x1 = (5 : Int32)
  · have hf := ifp c1_5 hf
    refine g_tabC (tgt := 110) FX (5 : Int32) c1_5 (by decide) (by decide) rfl (by decide) dX4_about_1 ?_
    refine lv_aload_n hx hb dX4_about_110 rfl (lv_at hl 0 rfl) ?_
    refine Mg40 FX hW dX4_about_111 ?_
    refine lv_bipush (v := 58) hx hb dX4_about_114 (by decide) ?_
    refine g_iald FX hW 24 Mp40 hf dX4_about_116 (fun v7 hf => ?_)
    exact g_iret FX hr hlk hW (Option.some.inj hf) dX4_about_117
  have hf := ifn c1_5 hf
  by_cases c1_6 : x1 = (6 : Int32)
  · have hf := ifp c1_6 hf
    refine g_tabC (tgt := 118) FX (6 : Int32) c1_6 (by decide) (by decide) rfl (by decide) dX4_about_1 ?_
    refine lv_aload_n hx hb dX4_about_118 rfl (lv_at hl 0 rfl) ?_
    refine Mg44 FX hW dX4_about_119 ?_
    exact g_iret FX hr hlk hW (Option.some.inj hf) dX4_about_122
  have hf := ifn c1_6 hf
  by_cases c1_7 : x1 = (7 : Int32)
  · have hf := ifp c1_7 hf
    refine g_tabC (tgt := 123) FX (7 : Int32) c1_7 (by decide) (by decide) rfl (by decide) dX4_about_1 ?_
    refine lv_aload_n hx hb dX4_about_123 rfl (lv_at hl 0 rfl) ?_
    refine Mg45 FX hW dX4_about_124 ?_
    exact g_iret FX hr hlk hW (Option.some.inj hf) dX4_about_127
  have hf := ifn c1_7 hf
  by_cases c1_8 : x1 = (8 : Int32)
  · have hf := ifp c1_8 hf
    refine g_tabC (tgt := 128) FX (8 : Int32) c1_8 (by decide) (by decide) rfl (by decide) dX4_about_1 ?_
    refine lv_aload_n hx hb dX4_about_128 rfl (lv_at hl 0 rfl) ?_
    refine Mg55 FX hW dX4_about_129 ?_
    exact g_iret FX hr hlk hW (Option.some.inj hf) dX4_about_132
  have hf := ifn c1_8 hf
  by_cases c1_9 : x1 = (9 : Int32)
  · have hf := ifp c1_9 hf
    refine g_tabC (tgt := 133) FX (9 : Int32) c1_9 (by decide) (by decide) rfl (by decide) dX4_about_1 ?_
    refine lv_aload_n hx hb dX4_about_133 rfl (lv_at hl 0 rfl) ?_
    refine Mg56 FX hW dX4_about_134 ?_
    exact g_iret FX hr hlk hW (Option.some.inj hf) dX4_about_137
  have hf := ifn c1_9 hf
  by_cases c1_10 : x1 = (10 : Int32)
  · have hf := ifp c1_10 hf
    refine g_tabC (tgt := 138) FX (10 : Int32) c1_10 (by decide) (by decide) rfl (by decide) dX4_about_1 ?_
    refine lv_aload_n hx hb dX4_about_138 rfl (lv_at hl 0 rfl) ?_
    refine Mg2 FX hW dX4_about_139 ?_
    exact g_iret FX hr hlk hW (Option.some.inj hf) dX4_about_142
  have hf := ifn c1_10 hf
  by_cases c1_11 : x1 = (11 : Int32)
  · have hf := ifp c1_11 hf
    refine g_tabC (tgt := 143) FX (11 : Int32) c1_11 (by decide) (by decide) rfl (by decide) dX4_about_1 ?_
    refine lv_aload_n hx hb dX4_about_143 rfl (lv_at hl 0 rfl) ?_
    refine Mg13 FX hW dX4_about_144 ?_
    refine lv_aload_n hx hb dX4_about_147 rfl (lv_at hl 0 rfl) ?_
    refine Mg32 FX hW dX4_about_148 ?_
    refine g_iald FX hW 5 Mp13 hf dX4_about_151 (fun v8 hf => ?_)
    exact g_iret FX hr hlk hW (Option.some.inj hf) dX4_about_152
  have hf := ifn c1_11 hf
  by_cases c1_12 : x1 = (12 : Int32)
  · have hf := ifp c1_12 hf
    refine g_tabC (tgt := 153) FX (12 : Int32) c1_12 (by decide) (by decide) rfl (by decide) dX4_about_1 ?_
    refine lv_aload_n hx hb dX4_about_153 rfl (lv_at hl 0 rfl) ?_
    refine Mg47 FX hW dX4_about_154 ?_
    exact g_iret FX hr hlk hW (Option.some.inj hf) dX4_about_157
  have hf := ifn c1_12 hf
  by_cases c1_13 : x1 = (13 : Int32)
  · have hf := ifp c1_13 hf
    refine g_tabC (tgt := 158) FX (13 : Int32) c1_13 (by decide) (by decide) rfl (by decide) dX4_about_1 ?_
    refine lv_aload_n hx hb dX4_about_158 rfl (lv_at hl 0 rfl) ?_
    refine Mg14 FX hW dX4_about_159 ?_
    refine lv_aload_n hx hb dX4_about_162 rfl (lv_at hl 0 rfl) ?_
    refine Mg32 FX hW dX4_about_163 ?_
    refine g_iald FX hW 6 Mp14 hf dX4_about_166 (fun v9 hf => ?_)
    exact g_iret FX hr hlk hW (Option.some.inj hf) dX4_about_167
  have hf := ifn c1_13 hf
  by_cases c1_14 : x1 = (14 : Int32)
  · have hf := ifp c1_14 hf
    refine g_tabC (tgt := 168) FX (14 : Int32) c1_14 (by decide) (by decide) rfl (by decide) dX4_about_1 ?_
    refine lv_aload_n hx hb dX4_about_168 rfl (lv_at hl 0 rfl) ?_
    refine Mg12 FX hW dX4_about_169 ?_
    refine lv_aload_n hx hb dX4_about_172 rfl (lv_at hl 0 rfl) ?_
    refine Mg32 FX hW dX4_about_173 ?_
    refine g_iald FX hW 4 Mp12 hf dX4_about_176 (fun v10 hf => ?_)
    exact g_iret FX hr hlk hW (Option.some.inj hf) dX4_about_177
  have hf := ifn c1_14 hf
  have n1_0 := lv_neT (a := 0) c1_0 (by decide)
  have n1_1 := lv_neT (a := 1) c1_1 (by decide)
  have n1_2 := lv_neT (a := 2) c1_2 (by decide)
  have n1_3 := lv_neT (a := 3) c1_3 (by decide)
  have n1_4 := lv_neT (a := 4) c1_4 (by decide)
  have n1_5 := lv_neT (a := 5) c1_5 (by decide)
  have n1_6 := lv_neT (a := 6) c1_6 (by decide)
  have n1_7 := lv_neT (a := 7) c1_7 (by decide)
  have n1_8 := lv_neT (a := 8) c1_8 (by decide)
  have n1_9 := lv_neT (a := 9) c1_9 (by decide)
  have n1_10 := lv_neT (a := 10) c1_10 (by decide)
  have n1_11 := lv_neT (a := 11) c1_11 (by decide)
  have n1_12 := lv_neT (a := 12) c1_12 (by decide)
  have n1_13 := lv_neT (a := 13) c1_13 (by decide)
  have n1_14 := lv_neT (a := 14) c1_14 (by decide)
  refine lv_tableOut (tgt := 178) hx hb dX4_about_1 (by omega) (by decide) ?_
  refine lv_iconst (v := -1) hx hb dX4_about_178 (by decide) ?_
  exact g_iret FX hr hlk hW (Option.some.inj hf) dX4_about_179

/-! TrunkLittersModel.feed(IIIII)I: kind W -/
def fX4_feed_71 (k18 : Int32 → Int32 → Int32 → Int32 → Int32 → Int32 → Mst → Option (Int32 × Mst)) (x1 : Int32) (x2 : Int32) (x3 : Int32) (x4 : Int32) (x5 : Int32) (x6 : Int32) (y0 : Int32) (σ : Mst) : Option (Int32 × Mst) := ast 1620 ((gF σ 2) + x6) (stp (sA σ 0 ((gF σ 2) + x6) (vp_nar .byte ((y0 >>> (((24 : Int32) - ((8 : Int32) * (x6 &&& (3 : Int32)))) &&& 31)).toInt8.toInt32))) fun s1 => k18 x1 x2 x3 x4 x5 (x6 + (1 : Int32)) s1)
def fX4_feed_18 : Nat → Int32 → Int32 → Int32 → Int32 → Int32 → Int32 → Mst → Option (Int32 × Mst)
  | 0, _, _, _, _, _, _, _ => none
  | n + 1, x1, x2, x3, x4, x5, x6, σ => (if (20 : Int32) ≤ x6 then stp (sF σ 2 ((gF σ 2) + (20 : Int32))) fun s1 => some ((gF s1 2), s1) else (if (4 : Int32) ≤ x6 then (if (8 : Int32) ≤ x6 then (if (12 : Int32) ≤ x6 then (if (16 : Int32) ≤ x6 then fX4_feed_71 (fX4_feed_18 n) x1 x2 x3 x4 x5 x6 x5 σ else fX4_feed_71 (fX4_feed_18 n) x1 x2 x3 x4 x5 x6 x4 σ) else fX4_feed_71 (fX4_feed_18 n) x1 x2 x3 x4 x5 x6 x3 σ) else fX4_feed_71 (fX4_feed_18 n) x1 x2 x3 x4 x5 x6 x2 σ) else fX4_feed_71 (fX4_feed_18 n) x1 x2 x3 x4 x5 x6 x1 σ))
def fX4_feed (x1 : Int32) (x2 : Int32) (x3 : Int32) (x4 : Int32) (x5 : Int32) (σ : Mst) : Option (Int32 × Mst) := (if ((gF σ 2) + (20 : Int32)) ≤ (1600 : Int32) then fX4_feed_18 FU x1 x2 x3 x4 x5 (0 : Int32) σ else some ((-1 : Int32), σ))
abbrev rX4_feed : Room := { frames := 0, cells := 0, slots := 0, locals := 0 }
set_option maxHeartbeats 4000000 in
set_option maxRecDepth 100000 in
theorem wX4_feed_71 {q : (Int32 × Mst)} (FX : CallFix p m c cX4_feed 8 s args lw_all RX4) (hr : meth.sig.returnType = (some .int)) (hlk : meth.locks = false) {k18 : Int32 → Int32 → Int32 → Int32 → Int32 → Int32 → Mst → Option (Int32 × Mst)} (hk18 : ∀ (x1 : Int32) (x2 : Int32) (x3 : Int32) (x4 : Int32) (x5 : Int32) (x6 : Int32) (σ : Mst) (H : Heap) (locs : List Loc) (ls : Array Slot), lv_has ls 8 [(0, .ref h0), (1, .int x1), (2, .int x2), (3, .int x3), (4, .int x4), (5, .int x5), (6, .int x6)] → Wd D dA A s (Mc dA h0 ad σ) H locs → k18 x1 x2 x3 x4 x5 x6 σ = some q → W p l e rX4_feed s m args below meth c H locs 0 0 (QI D dA A below args s 0 0 q.1 (Mc dA h0 ad q.2)) (F0 m 18 ls [])) : ∀ (x1 : Int32) (x2 : Int32) (x3 : Int32) (x4 : Int32) (x5 : Int32) (x6 : Int32) (y0 : Int32) (σ : Mst) (H : Heap) (locs : List Loc) (ls : Array Slot), lv_has ls 8 [(0, .ref h0), (1, .int x1), (2, .int x2), (3, .int x3), (4, .int x4), (5, .int x5), (6, .int x6)] → Wd D dA A s (Mc dA h0 ad σ) H locs → fX4_feed_71 k18 x1 x2 x3 x4 x5 x6 y0 σ = some q → W p l e rX4_feed s m args below meth c H locs 0 0 (QI D dA A below args s 0 0 q.1 (Mc dA h0 ad q.2)) (F0 m 71 ls [.int y0]) := by
  have hx := FX.1; have hb := FX.2.1; have hown := FX.2.2.2.1; have hts := FX.2.2.2.2
  intro x1 x2 x3 x4 x5 x6 y0 σ H locs ls hl hW hf
  rw [fX4_feed_71] at hf
  refine lv_istore (lv' := [(7, .int y0), (0, .ref h0), (1, .int x1), (2, .int x2), (3, .int x3), (4, .int x4), (5, .int x5), (6, .int x6)]) hx hb dX4_feed_71 hl (by decide) rfl (fun ls hl => ?_)
  refine lv_aload_n hx hb dX4_feed_73 rfl (lv_at hl 1 rfl) ?_
  refine Mg0 FX hW dX4_feed_74 ?_
  refine lv_aload_n hx hb dX4_feed_77 rfl (lv_at hl 1 rfl) ?_
  refine Mg2 FX hW dX4_feed_78 ?_
  refine lv_iload hx hb dX4_feed_81 (lv_at hl 7 rfl) ?_
  refine lv_iadd hx hb dX4_feed_83 ?_
  refine lv_iload hx hb dX4_feed_84 (lv_at hl 0 rfl) ?_
  refine lv_bipush (v := 24) hx hb dX4_feed_86 (by decide) ?_
  refine lv_bipush (v := 8) hx hb dX4_feed_88 (by decide) ?_
  refine lv_iload hx hb dX4_feed_90 (lv_at hl 7 rfl) ?_
  refine lv_iconst (v := 3) hx hb dX4_feed_92 (by decide) ?_
  refine lv_iand hx hb dX4_feed_93 ?_
  refine lv_imul hx hb dX4_feed_94 ?_
  refine lv_isub hx hb dX4_feed_95 ?_
  refine lv_ishr hx hb dX4_feed_96 ?_
  refine lv_i2b (v := ((y0 >>> (((24 : Int32) - ((8 : Int32) * (x6 &&& (3 : Int32)))) &&& 31)).toInt8.toInt32)) hx hb dX4_feed_97 rfl ?_
  refine g_bast FX hW 1 Mp0 (L := Mc dA h0 ad) (Mt0) hf dX4_feed_98 (fun s1 H locs hW hf => ?_)
  refine lv_iinc (v := (x6 + (1 : Int32))) (lv' := [(6, .int (x6 + (1 : Int32))), (7, .int y0), (0, .ref h0), (1, .int x1), (2, .int x2), (3, .int x3), (4, .int x4), (5, .int x5)]) hx hb dX4_feed_99 hl (k := 7) rfl rfl (by decide) rfl (fun ls hl => ?_)
  refine lv_goto (tgt := 18) hx hb dX4_feed_102 (by decide) ?_
  exact hk18 x1 x2 x3 x4 x5 (x6 + (1 : Int32)) s1 _ _ _ (lv_sub hl [2, 3, 4, 5, 6, 7, 0] rfl) hW hf
set_option maxHeartbeats 4000000 in
set_option maxRecDepth 100000 in
theorem wX4_feed_18 {q : (Int32 × Mst)} (FX : CallFix p m c cX4_feed 8 s args lw_all RX4) (hr : meth.sig.returnType = (some .int)) (hlk : meth.locks = false) : ∀ n : Nat, ∀ (x1 : Int32) (x2 : Int32) (x3 : Int32) (x4 : Int32) (x5 : Int32) (x6 : Int32) (σ : Mst) (H : Heap) (locs : List Loc) (ls : Array Slot), lv_has ls 8 [(0, .ref h0), (1, .int x1), (2, .int x2), (3, .int x3), (4, .int x4), (5, .int x5), (6, .int x6)] → Wd D dA A s (Mc dA h0 ad σ) H locs → fX4_feed_18 n x1 x2 x3 x4 x5 x6 σ = some q → W p l e rX4_feed s m args below meth c H locs 0 0 (QI D dA A below args s 0 0 q.1 (Mc dA h0 ad q.2)) (F0 m 18 ls []) := by
  have hx := FX.1; have hb := FX.2.1; have hown := FX.2.2.2.1; have hts := FX.2.2.2.2
  intro n
  induction n with
  | zero =>
    intro x1 x2 x3 x4 x5 x6 σ H locs ls hl hW hf
    cases (show (none : Option (Int32 × Mst)) = some q from hf)
  | succ n ih =>
    intro x1 x2 x3 x4 x5 x6 σ H locs ls hl hW hf
    rw [fX4_feed_18] at hf
    refine lv_iload hx hb dX4_feed_18 (lv_at hl 6 rfl) ?_
    refine lv_bipush (v := 20) hx hb dX4_feed_20 (by decide) ?_
    refine lv_icmp_ge (tgt := 105) hx hb dX4_feed_22 (by decide) (fun c22 => ?_) (fun c22 => ?_)
    · have hf := ifp c22 hf
      refine lv_aload_n hx hb dX4_feed_105 rfl (lv_at hl 0 rfl) ?_
      refine lv_dup hx hb dX4_feed_106 rfl ?_
      refine Mg2 FX hW dX4_feed_107 ?_
      refine lv_bipush (v := 20) hx hb dX4_feed_110 (by decide) ?_
      refine lv_iadd hx hb dX4_feed_112 ?_
      refine Ms2 FX hW hf dX4_feed_113 (fun s1 H locs hW hf => ?_)
      refine lv_aload_n hx hb dX4_feed_116 rfl (lv_at hl 0 rfl) ?_
      refine Mg2 FX hW dX4_feed_117 ?_
      obtain rfl := Option.some.inj hf
      exact g_iret FX hr hlk hW rfl dX4_feed_120
    · have hf := ifn c22 hf
      refine lv_iload hx hb dX4_feed_25 (lv_at hl 6 rfl) ?_
      refine lv_iconst (v := 4) hx hb dX4_feed_27 (by decide) ?_
      refine lv_icmp_ge (tgt := 35) hx hb dX4_feed_28 (by decide) (fun c28 => ?_) (fun c28 => ?_)
      · have hf := ifp c28 hf
        refine lv_iload hx hb dX4_feed_35 (lv_at hl 6 rfl) ?_
        refine lv_bipush (v := 8) hx hb dX4_feed_37 (by decide) ?_
        refine lv_icmp_ge (tgt := 46) hx hb dX4_feed_39 (by decide) (fun c39 => ?_) (fun c39 => ?_)
        · have hf := ifp c39 hf
          refine lv_iload hx hb dX4_feed_46 (lv_at hl 6 rfl) ?_
          refine lv_bipush (v := 12) hx hb dX4_feed_48 (by decide) ?_
          refine lv_icmp_ge (tgt := 57) hx hb dX4_feed_50 (by decide) (fun c50 => ?_) (fun c50 => ?_)
          · have hf := ifp c50 hf
            refine lv_iload hx hb dX4_feed_57 (lv_at hl 6 rfl) ?_
            refine lv_bipush (v := 16) hx hb dX4_feed_59 (by decide) ?_
            refine lv_icmp_ge (tgt := 69) hx hb dX4_feed_61 (by decide) (fun c61 => ?_) (fun c61 => ?_)
            · have hf := ifp c61 hf
              refine lv_iload hx hb dX4_feed_69 (lv_at hl 5 rfl) ?_
              exact wX4_feed_71 FX hr hlk (ih) x1 x2 x3 x4 x5 x6 x5 σ _ _ _ (lv_sub hl [0, 1, 2, 3, 4, 5, 6] rfl) hW hf
            · have hf := ifn c61 hf
              refine lv_iload hx hb dX4_feed_64 (lv_at hl 4 rfl) ?_
              refine lv_goto (tgt := 71) hx hb dX4_feed_66 (by decide) ?_
              exact wX4_feed_71 FX hr hlk (ih) x1 x2 x3 x4 x5 x6 x4 σ _ _ _ (lv_sub hl [0, 1, 2, 3, 4, 5, 6] rfl) hW hf
          · have hf := ifn c50 hf
            refine lv_iload_n hx hb dX4_feed_53 rfl (lv_at hl 3 rfl) ?_
            refine lv_goto (tgt := 71) hx hb dX4_feed_54 (by decide) ?_
            exact wX4_feed_71 FX hr hlk (ih) x1 x2 x3 x4 x5 x6 x3 σ _ _ _ (lv_sub hl [0, 1, 2, 3, 4, 5, 6] rfl) hW hf
        · have hf := ifn c39 hf
          refine lv_iload_n hx hb dX4_feed_42 rfl (lv_at hl 2 rfl) ?_
          refine lv_goto (tgt := 71) hx hb dX4_feed_43 (by decide) ?_
          exact wX4_feed_71 FX hr hlk (ih) x1 x2 x3 x4 x5 x6 x2 σ _ _ _ (lv_sub hl [0, 1, 2, 3, 4, 5, 6] rfl) hW hf
      · have hf := ifn c28 hf
        refine lv_iload_n hx hb dX4_feed_31 rfl (lv_at hl 1 rfl) ?_
        refine lv_goto (tgt := 71) hx hb dX4_feed_32 (by decide) ?_
        exact wX4_feed_71 FX hr hlk (ih) x1 x2 x3 x4 x5 x6 x1 σ _ _ _ (lv_sub hl [0, 1, 2, 3, 4, 5, 6] rfl) hW hf
set_option maxHeartbeats 4000000 in
set_option maxRecDepth 100000 in
theorem mX4_feed  {x1 : Int32} {x2 : Int32} {x3 : Int32} {x4 : Int32} {x5 : Int32} {σ : Mst} {q : (Int32 × Mst)} (hf : fX4_feed x1 x2 x3 x4 x5 σ = some q) : CtI l yX4_feed cX4_feed 8 (some .int) rX4_feed D dA [.ref h0, .int x1, .int x2, .int x3, .int x4, .int x5] (Mc dA h0 ad σ) q.1 (Mc dA h0 ad q.2) := by
  refine e_I (by decide) (Nat.le_of_ble_eq_true rfl) ?_
  intro p e s m below meth c ls A FX hr hlk hl hW
  have hx := FX.1; have hb := FX.2.1; have hown := FX.2.2.2.1; have hts := FX.2.2.2.2
  have hl : lv_has ls 8 [(0, .ref h0), (1, .int x1), (2, .int x2), (3, .int x3), (4, .int x4), (5, .int x5)] := hl
  rw [fX4_feed] at hf
  refine lv_aload_n hx hb dX4_feed_0 rfl (lv_at hl 0 rfl) ?_
  refine Mg2 FX hW dX4_feed_1 ?_
  refine lv_bipush (v := 20) hx hb dX4_feed_4 (by decide) ?_
  refine lv_iadd hx hb dX4_feed_6 ?_
  refine lv_sipush (v := 1600) hx hb dX4_feed_7 (by decide) ?_
  refine lv_icmp_le (tgt := 15) hx hb dX4_feed_10 (by decide) (fun c10 => ?_) (fun c10 => ?_)
  · have hf := ifp c10 hf
    refine lv_iconst (v := 0) hx hb dX4_feed_15 (by decide) ?_
    refine lv_istore (lv' := [(6, .int (0 : Int32)), (0, .ref h0), (1, .int x1), (2, .int x2), (3, .int x3), (4, .int x4), (5, .int x5)]) hx hb dX4_feed_16 hl (by decide) rfl (fun ls hl => ?_)
    exact wX4_feed_18 FX hr hlk _ x1 x2 x3 x4 x5 (0 : Int32) σ _ _ _ (lv_sub hl [1, 2, 3, 4, 5, 6, 0] rfl) hW hf
  · have hf := ifn c10 hf
    refine lv_iconst (v := -1) hx hb dX4_feed_13 (by decide) ?_
    obtain rfl := Option.some.inj hf
    exact g_iret FX hr hlk hW rfl dX4_feed_14

end M02
