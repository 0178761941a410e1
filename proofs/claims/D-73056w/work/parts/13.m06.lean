section M06
variable {p : Program} {l : Launch} {e : Env} {R : Room} {s : State} {m : MethodId} {args : Array Value} {below : List Frame} {meth : Method} {c : Code} {H : Heap} {locs : List Loc} {cells slots : Nat} {Q : State → Prop}
variable {cc : ByteArray} {pc nL : Nat} {ls : Array Slot} {rest : List Value} {D : va_G} {dA : Nat → ClassId} {A : Nat → Prop} {h0 : Nat} {ad : Nat → Nat}
/-! TrunkLittersModel.house()I: kind W -/
def fX4_house_95 (σ : Mst) : Option (Int32 × Mst) := (fX4_isGood σ).bind fun r1 => (if r1 = 0 then some ((-1 : Int32), σ) else stp (sF σ 32 (gF σ 33)) fun s2 => (fX4_startAnew s2).bind fun s3 => ald 2 (gA s3 12) (gF s3 32) fun v4 => some (v4, s3))
def fX4_house_74 : Nat → Mst → Option (Int32 × Mst)
  | 0, _ => none
  | n + 1, σ => (fX4_isGood σ).bind fun r1 => (if r1 = 0 then fX4_house_95 σ else (if (gF σ 8) = 0 then fX4_house_95 σ else (fX4_readLine σ).bind fun s2 => fX4_house_74 n s2))
def fX4_house_20 : Nat → Int32 → Mst → Option (Int32 × Mst)
  | 0, _, _ => none
  | n + 1, x1, σ => (if (gF σ 3) ≤ x1 then stp (sF σ 2 (0 : Int32)) fun s1 => stp (sF s1 7 (0 : Int32)) fun s2 => stp (sF s2 33 ((1 : Int32) - (gF s2 32))) fun s3 => (fX4_clearBank s3).bind fun s4 => (fX4_goOn s4).bind fun s5 => fX4_house_74 FU s5 else ald 1620 (gA σ 0) x1 fun v6 => ast 1600 x1 (stp (sA σ 1 x1 (vp_nar .byte v6)) fun s7 => fX4_house_20 n (x1 + (1 : Int32)) s7))
def fX4_house (σ : Mst) : Option (Int32 × Mst) := stp (sF σ 4 (0 : Int32)) fun s1 => stp (sF s1 5 (-1 : Int32)) fun s2 => stp (sF s2 3 (gF s2 2)) fun s3 => fX4_house_20 FU (0 : Int32) s3
abbrev rX4_house : Room := { frames := 7, cells := 0, slots := 0, locals := 149 }
set_option maxHeartbeats 4000000 in
set_option maxRecDepth 100000 in
theorem wX4_house_95 {q : (Int32 × Mst)} (FX : CallFix p m c cX4_house 2 s args lw_all RX4) (hr : meth.sig.returnType = (some .int)) (hlk : meth.locks = false) : ∀ (σ : Mst) (H : Heap) (locs : List Loc) (ls : Array Slot), lv_has ls 2 [(0, .ref h0)] → Wd D dA A s (Mc dA h0 ad σ) H locs → fX4_house_95 σ = some q → W p l e rX4_house s m args below meth c H locs 0 0 (QI D dA A below args s 0 0 q.1 (Mc dA h0 ad q.2)) (F0 m 95 ls []) := by
  have hx := FX.1; have hb := FX.2.1; have hown := FX.2.2.2.1; have hts := FX.2.2.2.2
  intro σ H locs ls hl hW hf
  rw [fX4_house_95] at hf
  refine lv_aload_n hx hb dX4_house_95 rfl (lv_at hl 0 rfl) ?_
  refine kX4_isGood FX ⟨Nat.le_of_ble_eq_true rfl, Nat.le_of_ble_eq_true rfl⟩ ⟨Nat.zero_le _, Nat.zero_le _⟩ hl.1 (Nat.le_of_ble_eq_true rfl) hW hf dX4_house_96 (fun r1 H locs hW hf => ?_)
  refine lv_if_ne (tgt := 104) hx hb dX4_house_99 (by decide) (fun c99 => ?_) (fun c99 => ?_)
  · have hf := ifn c99 hf
    refine lv_aload_n hx hb dX4_house_104 rfl (lv_at hl 0 rfl) ?_
    refine lv_aload_n hx hb dX4_house_105 rfl (lv_at hl 0 rfl) ?_
    refine Mg33 FX hW dX4_house_106 ?_
    refine Ms32 FX hW hf dX4_house_109 (fun s2 H locs hW hf => ?_)
    refine lv_aload_n hx hb dX4_house_112 rfl (lv_at hl 0 rfl) ?_
    refine kX4_startAnew FX ⟨Nat.le_of_ble_eq_true rfl, Nat.le_of_ble_eq_true rfl⟩ ⟨Nat.zero_le _, Nat.zero_le _⟩ hl.1 (Nat.le_of_ble_eq_true rfl) hW hf dX4_house_113 (fun s3 H locs hW hf => ?_)
    refine lv_aload_n hx hb dX4_house_116 rfl (lv_at hl 0 rfl) ?_
    refine Mg12 FX hW dX4_house_117 ?_
    refine lv_aload_n hx hb dX4_house_120 rfl (lv_at hl 0 rfl) ?_
    refine Mg32 FX hW dX4_house_121 ?_
    refine g_iald FX hW 4 Mp12 hf dX4_house_124 (fun v4 hf => ?_)
    obtain rfl := Option.some.inj hf
    exact g_iret FX hr hlk hW rfl dX4_house_125
  · have hf := ifp c99 hf
    refine lv_iconst (v := -1) hx hb dX4_house_102 (by decide) ?_
    obtain rfl := Option.some.inj hf
    exact g_iret FX hr hlk hW rfl dX4_house_103
set_option maxHeartbeats 4000000 in
set_option maxRecDepth 100000 in
theorem wX4_house_74 {q : (Int32 × Mst)} (FX : CallFix p m c cX4_house 2 s args lw_all RX4) (hr : meth.sig.returnType = (some .int)) (hlk : meth.locks = false) : ∀ n : Nat, ∀ (σ : Mst) (H : Heap) (locs : List Loc) (ls : Array Slot), lv_has ls 2 [(0, .ref h0)] → Wd D dA A s (Mc dA h0 ad σ) H locs → fX4_house_74 n σ = some q → W p l e rX4_house s m args below meth c H locs 0 0 (QI D dA A below args s 0 0 q.1 (Mc dA h0 ad q.2)) (F0 m 74 ls []) := by
  have hx := FX.1; have hb := FX.2.1; have hown := FX.2.2.2.1; have hts := FX.2.2.2.2
  intro n
  induction n with
  | zero =>
    intro σ H locs ls hl hW hf
    cases (show (none : Option (Int32 × Mst)) = some q from hf)
  | succ n ih =>
    intro σ H locs ls hl hW hf
    rw [fX4_house_74] at hf
    refine lv_aload_n hx hb dX4_house_74 rfl (lv_at hl 0 rfl) ?_
    refine kX4_isGood FX ⟨Nat.le_of_ble_eq_true rfl, Nat.le_of_ble_eq_true rfl⟩ ⟨Nat.zero_le _, Nat.zero_le _⟩ hl.1 (Nat.le_of_ble_eq_true rfl) hW hf dX4_house_75 (fun r1 H locs hW hf => ?_)
    refine lv_if_eq (tgt := 95) hx hb dX4_house_78 (by decide) (fun c78 => ?_) (fun c78 => ?_)
    · have hf := ifp c78 hf
      exact wX4_house_95 FX hr hlk σ _ _ _ (lv_sub hl [0] rfl) hW hf
    · have hf := ifn c78 hf
      refine lv_aload_n hx hb dX4_house_81 rfl (lv_at hl 0 rfl) ?_
      refine Mg8 FX hW dX4_house_82 ?_
      refine lv_if_eq (tgt := 95) hx hb dX4_house_85 (by decide) (fun c85 => ?_) (fun c85 => ?_)
      · have hf := ifp c85 hf
        exact wX4_house_95 FX hr hlk σ _ _ _ (lv_sub hl [0] rfl) hW hf
      · have hf := ifn c85 hf
        refine lv_aload_n hx hb dX4_house_88 rfl (lv_at hl 0 rfl) ?_
        refine kX4_readLine FX ⟨Nat.le_of_ble_eq_true rfl, Nat.le_of_ble_eq_true rfl⟩ ⟨Nat.zero_le _, Nat.zero_le _⟩ hl.1 (Nat.le_of_ble_eq_true rfl) hW hf dX4_house_89 (fun s2 H locs hW hf => ?_)
        refine lv_goto (tgt := 74) hx hb dX4_house_92 (by decide) ?_
        exact ih s2 _ _ _ (lv_sub hl [0] rfl) hW hf
set_option maxHeartbeats 4000000 in
set_option maxRecDepth 100000 in
theorem wX4_house_20 {q : (Int32 × Mst)} (FX : CallFix p m c cX4_house 2 s args lw_all RX4) (hr : meth.sig.returnType = (some .int)) (hlk : meth.locks = false) : ∀ n : Nat, ∀ (x1 : Int32) (σ : Mst) (H : Heap) (locs : List Loc) (ls : Array Slot), lv_has ls 2 [(0, .ref h0), (1, .int x1)] → Wd D dA A s (Mc dA h0 ad σ) H locs → fX4_house_20 n x1 σ = some q → W p l e rX4_house s m args below meth c H locs 0 0 (QI D dA A below args s 0 0 q.1 (Mc dA h0 ad q.2)) (F0 m 20 ls []) := by
  have hx := FX.1; have hb := FX.2.1; have hown := FX.2.2.2.1; have hts := FX.2.2.2.2
  intro n
  induction n with
  | zero =>
    intro x1 σ H locs ls hl hW hf
    cases (show (none : Option (Int32 × Mst)) = some q from hf)
  | succ n ih =>
    intro x1 σ H locs ls hl hW hf
    rw [fX4_house_20] at hf
    refine lv_iload_n hx hb dX4_house_20 rfl (lv_at hl 1 rfl) ?_
    refine lv_aload_n hx hb dX4_house_21 rfl (lv_at hl 0 rfl) ?_
    refine Mg3 FX hW dX4_house_22 ?_
    refine lv_icmp_ge (tgt := 46) hx hb dX4_house_25 (by decide) (fun c25 => ?_) (fun c25 => ?_)
    · have hf := ifp c25 hf
      refine lv_aload_n hx hb dX4_house_46 rfl (lv_at hl 0 rfl) ?_
      refine lv_iconst (v := 0) hx hb dX4_house_47 (by decide) ?_
      refine Ms2 FX hW hf dX4_house_48 (fun s1 H locs hW hf => ?_)
      refine lv_aload_n hx hb dX4_house_51 rfl (lv_at hl 0 rfl) ?_
      refine lv_iconst (v := 0) hx hb dX4_house_52 (by decide) ?_
      refine Ms7 FX hW hf dX4_house_53 (fun s2 H locs hW hf => ?_)
      refine lv_aload_n hx hb dX4_house_56 rfl (lv_at hl 0 rfl) ?_
      refine lv_iconst (v := 1) hx hb dX4_house_57 (by decide) ?_
      refine lv_aload_n hx hb dX4_house_58 rfl (lv_at hl 0 rfl) ?_
      refine Mg32 FX hW dX4_house_59 ?_
      refine lv_isub hx hb dX4_house_62 ?_
      refine Ms33 FX hW hf dX4_house_63 (fun s3 H locs hW hf => ?_)
      refine lv_aload_n hx hb dX4_house_66 rfl (lv_at hl 0 rfl) ?_
      refine kX4_clearBank FX ⟨Nat.le_of_ble_eq_true rfl, Nat.le_of_ble_eq_true rfl⟩ ⟨Nat.zero_le _, Nat.zero_le _⟩ hl.1 (Nat.le_of_ble_eq_true rfl) hW hf dX4_house_67 (fun s4 H locs hW hf => ?_)
      refine lv_aload_n hx hb dX4_house_70 rfl (lv_at hl 0 rfl) ?_
      refine kX4_goOn FX ⟨Nat.le_of_ble_eq_true rfl, Nat.le_of_ble_eq_true rfl⟩ ⟨Nat.zero_le _, Nat.zero_le _⟩ hl.1 (Nat.le_of_ble_eq_true rfl) hW hf dX4_house_71 (fun s5 H locs hW hf => ?_)
      exact wX4_house_74 FX hr hlk _ s5 _ _ _ (lv_sub hl [0] rfl) hW hf
    · have hf := ifn c25 hf
      refine lv_aload_n hx hb dX4_house_28 rfl (lv_at hl 0 rfl) ?_
      refine Mg1 FX hW dX4_house_29 ?_
      refine lv_iload_n hx hb dX4_house_32 rfl (lv_at hl 1 rfl) ?_
      refine lv_aload_n hx hb dX4_house_33 rfl (lv_at hl 0 rfl) ?_
      refine Mg0 FX hW dX4_house_34 ?_
      refine lv_iload_n hx hb dX4_house_37 rfl (lv_at hl 1 rfl) ?_
      refine g_bald FX hW 1 Mp0 hf dX4_house_38 (fun v6 hf => ?_)
      refine g_bast FX hW 2 Mp1 (L := Mc dA h0 ad) (Mt1) hf dX4_house_39 (fun s7 H locs hW hf => ?_)
      refine lv_iinc (v := (x1 + (1 : Int32))) (lv' := [(1, .int (x1 + (1 : Int32))), (0, .ref h0)]) hx hb dX4_house_40 hl (k := 1) rfl rfl (by decide) rfl (fun ls hl => ?_)
      refine lv_goto (tgt := 20) hx hb dX4_house_43 (by decide) ?_
      exact ih (x1 + (1 : Int32)) s7 _ _ _ (lv_sub hl [1, 0] rfl) hW hf
set_option maxHeartbeats 4000000 in
set_option maxRecDepth 100000 in
theorem mX4_house  {σ : Mst} {q : (Int32 × Mst)} (hf : fX4_house σ = some q) : CtI l yX4_house cX4_house 2 (some .int) rX4_house D dA [.ref h0] (Mc dA h0 ad σ) q.1 (Mc dA h0 ad q.2) := by
  refine e_I (by decide) (Nat.le_of_ble_eq_true rfl) ?_
  intro p e s m below meth c ls A FX hr hlk hl hW
  have hx := FX.1; have hb := FX.2.1; have hown := FX.2.2.2.1; have hts := FX.2.2.2.2
  have hl : lv_has ls 2 [(0, .ref h0)] := hl
  rw [fX4_house] at hf
  refine lv_aload_n hx hb dX4_house_0 rfl (lv_at hl 0 rfl) ?_
  refine lv_iconst (v := 0) hx hb dX4_house_1 (by decide) ?_
  refine Ms4 FX hW hf dX4_house_2 (fun s1 H locs hW hf => ?_)
  refine lv_aload_n hx hb dX4_house_5 rfl (lv_at hl 0 rfl) ?_
  refine lv_iconst (v := -1) hx hb dX4_house_6 (by decide) ?_
  refine Ms5 FX hW hf dX4_house_7 (fun s2 H locs hW hf => ?_)
  refine lv_aload_n hx hb dX4_house_10 rfl (lv_at hl 0 rfl) ?_
  refine lv_aload_n hx hb dX4_house_11 rfl (lv_at hl 0 rfl) ?_
  refine Mg2 FX hW dX4_house_12 ?_
  refine Ms3 FX hW hf dX4_house_15 (fun s3 H locs hW hf => ?_)
  refine lv_iconst (v := 0) hx hb dX4_house_18 (by decide) ?_
  refine lv_istore_n (lv' := [(1, .int (0 : Int32)), (0, .ref h0)]) hx hb dX4_house_19 rfl hl (by decide) rfl (fun ls hl => ?_)
  exact wX4_house_20 FX hr hlk _ (0 : Int32) s3 _ _ _ (lv_sub hl [1, 0] rfl) hW hf

/-! TrunkLittersModel.two(III)I: kind S -/
def fX4_two_211 : Option Int32 := some (1 : Int32)
def fX4_two (x0 : Int32) (x1 : Int32) (x2 : Int32) : Option Int32 := (if x0 = (37 : Int32) then (if x2 = 0 then some (0 : Int32) else dvd x2 (some (x1 - x1 / x2 * x2))) else (if x0 = (38 : Int32) then (if x1 = 0 then some (0 : Int32) else (if x2 = 0 then some (0 : Int32) else some (1 : Int32))) else (if x0 = (39 : Int32) then (if x1 = 0 then (if x2 = 0 then some (0 : Int32) else fX4_two_211) else fX4_two_211) else (if x0 = (40 : Int32) then (if x1 = 0 then (if x2 = 0 then some (0 : Int32) else fX4_two_211) else fX4_two_211) else (if x0 = (41 : Int32) then (if x1 = 0 then (if x2 = 0 then some (0 : Int32) else fX4_two_211) else fX4_two_211) else (if x0 = (42 : Int32) then some (x1 * x2) else (if x0 = (43 : Int32) then some (x1 + x2) else (if x0 = (44 : Int32) then (if x1 = 0 then (if x2 = 0 then some (0 : Int32) else fX4_two_211) else fX4_two_211) else (if x0 = (45 : Int32) then some (x1 - x2) else (if x0 = (46 : Int32) then (if x1 = 0 then (if x2 = 0 then some (0 : Int32) else fX4_two_211) else fX4_two_211) else (if x0 = (47 : Int32) then (if x2 = 0 then some (0 : Int32) else dvd x2 (some (x1 / x2))) else (if x0 = (48 : Int32) then (if x1 = 0 then (if x2 = 0 then some (0 : Int32) else fX4_two_211) else fX4_two_211) else (if x0 = (49 : Int32) then (if x1 = 0 then (if x2 = 0 then some (0 : Int32) else fX4_two_211) else fX4_two_211) else (if x0 = (50 : Int32) then (if x1 = 0 then (if x2 = 0 then some (0 : Int32) else fX4_two_211) else fX4_two_211) else (if x0 = (51 : Int32) then (if x1 = 0 then (if x2 = 0 then some (0 : Int32) else fX4_two_211) else fX4_two_211) else (if x0 = (52 : Int32) then (if x1 = 0 then (if x2 = 0 then some (0 : Int32) else fX4_two_211) else fX4_two_211) else (if x0 = (53 : Int32) then (if x1 = 0 then (if x2 = 0 then some (0 : Int32) else fX4_two_211) else fX4_two_211) else (if x0 = (54 : Int32) then (if x1 = 0 then (if x2 = 0 then some (0 : Int32) else fX4_two_211) else fX4_two_211) else (if x0 = (55 : Int32) then (if x1 = 0 then (if x2 = 0 then some (0 : Int32) else fX4_two_211) else fX4_two_211) else (if x0 = (56 : Int32) then (if x1 = 0 then (if x2 = 0 then some (0 : Int32) else fX4_two_211) else fX4_two_211) else (if x0 = (57 : Int32) then (if x1 = 0 then (if x2 = 0 then some (0 : Int32) else fX4_two_211) else fX4_two_211) else (if x0 = (58 : Int32) then (if x1 = 0 then (if x2 = 0 then some (0 : Int32) else fX4_two_211) else fX4_two_211) else (if x0 = (59 : Int32) then (if x1 = 0 then (if x2 = 0 then some (0 : Int32) else fX4_two_211) else fX4_two_211) else (if x0 = (60 : Int32) then (if x2 ≤ x1 then some (0 : Int32) else some (1 : Int32)) else (if x0 = (61 : Int32) then (if x1 = x2 then some (1 : Int32) else some (0 : Int32)) else (if x0 = (62 : Int32) then (if x1 ≤ x2 then some (0 : Int32) else some (1 : Int32)) else (if x1 = 0 then (if x2 = 0 then some (0 : Int32) else fX4_two_211) else fX4_two_211)))))))))))))))))))))))))))
abbrev rX4_two : Room := { frames := 0, cells := 0, slots := 0, locals := 0 }
set_option maxHeartbeats 4000000 in
set_option maxRecDepth 100000 in
theorem wX4_two_211 {q : Int32} (FX : CallFix p m c cX4_two 3 s args lw_all RX4) (hr : meth.sig.returnType = (some .int)) (hlk : meth.locks = false) : ∀ (H : Heap) (locs : List Loc) (ls : Array Slot), lv_has ls 3 [] → Wd D dA A s [] H locs → fX4_two_211 = some q → W p l e rX4_two s m args below meth c H locs 0 0 (QI D dA A below args s 0 0 q []) (F0 m 211 ls []) := by
  have hx := FX.1; have hb := FX.2.1; have hown := FX.2.2.2.1; have hts := FX.2.2.2.2
  intro  H locs ls hl hW hf
  rw [fX4_two_211] at hf
  refine lv_iconst (v := 1) hx hb dX4_two_211 (by decide) ?_
  refine lv_goto (tgt := 216) hx hb dX4_two_212 (by decide) ?_
  exact g_iret FX hr hlk hW (Option.some.inj hf) dX4_two_216
set_option maxHeartbeats 4000000 in
set_option maxRecDepth 100000 in
theorem mX4_two  {x0 : Int32} {x1 : Int32} {x2 : Int32} {q : Int32} (hf : fX4_two x0 x1 x2 = some q) : CtI l yX4_two cX4_two 3 (some .int) rX4_two D dA [.int x0, .int x1, .int x2] [] q [] := by
  refine e_I (by decide) (Nat.le_of_ble_eq_true rfl) ?_
  intro p e s m below meth c ls A FX hr hlk hl hW
  have hx := FX.1; have hb := FX.2.1; have hown := FX.2.2.2.1; have hts := FX.2.2.2.2
  have hl : lv_has ls 3 [(0, .int x0), (1, .int x1), (2, .int x2)] := hl
  rw [fX4_two] at hf
  refine lv_iload_n hx hb dX4_two_0 rfl (lv_at hl 0 rfl) ?_
  by_cases c1_37 : x0 = (37 : Int32)
  · have hf := ifp c1_37 hf
    refine g_tabC (tgt := 144) FX (37 : Int32) c1_37 (by decide) (by decide) rfl (by decide) dX4_two_1 ?_
    refine lv_iload_n hx hb dX4_two_144 rfl (lv_at hl 2 rfl) ?_
    refine lv_if_ne (tgt := 152) hx hb dX4_two_145 (by decide) (fun c145 => ?_) (fun c145 => ?_)
    · have hf := ifn c145 hf
      refine lv_iload_n hx hb dX4_two_152 rfl (lv_at hl 1 rfl) ?_
      refine lv_iload_n hx hb dX4_two_153 rfl (lv_at hl 2 rfl) ?_
      refine lv_irem hx hb dX4_two_154 (dvd_some hf).1 ?_
      have hf := (dvd_some hf).2
      exact g_iret FX hr hlk hW (Option.some.inj hf) dX4_two_155
    · have hf := ifp c145 hf
      refine lv_iconst (v := 0) hx hb dX4_two_148 (by decide) ?_
      refine lv_goto (tgt := 155) hx hb dX4_two_149 (by decide) ?_
      exact g_iret FX hr hlk hW (Option.some.inj hf) dX4_two_155
  have hf := ifn c1_37 hf
  by_cases c1_38 : x0 = (38 : Int32)
  · have hf := ifp c1_38 hf
    refine g_tabC (tgt := 189) FX (38 : Int32) c1_38 (by decide) (by decide) rfl (by decide) dX4_two_1 ?_
    refine lv_iload_n hx hb dX4_two_189 rfl (lv_at hl 1 rfl) ?_
    refine lv_if_eq (tgt := 201) hx hb dX4_two_190 (by decide) (fun c190 => ?_) (fun c190 => ?_)
    · have hf := ifp c190 hf
      refine lv_iconst (v := 0) hx hb dX4_two_201 (by decide) ?_
      exact g_iret FX hr hlk hW (Option.some.inj hf) dX4_two_202
    · have hf := ifn c190 hf
      refine lv_iload_n hx hb dX4_two_193 rfl (lv_at hl 2 rfl) ?_
      refine lv_if_eq (tgt := 201) hx hb dX4_two_194 (by decide) (fun c194 => ?_) (fun c194 => ?_)
      · have hf := ifp c194 hf
        refine lv_iconst (v := 0) hx hb dX4_two_201 (by decide) ?_
        exact g_iret FX hr hlk hW (Option.some.inj hf) dX4_two_202
      · have hf := ifn c194 hf
        refine lv_iconst (v := 1) hx hb dX4_two_197 (by decide) ?_
        refine lv_goto (tgt := 202) hx hb dX4_two_198 (by decide) ?_
        exact g_iret FX hr hlk hW (Option.some.inj hf) dX4_two_202
  have hf := ifn c1_38 hf
  by_cases c1_39 : x0 = (39 : Int32)
  · have hf := ifp c1_39 hf
    refine g_tabC (tgt := 203) FX (39 : Int32) c1_39 (by decide) (by decide) rfl (by decide) dX4_two_1 ?_
    refine lv_iload_n hx hb dX4_two_203 rfl (lv_at hl 1 rfl) ?_
    refine lv_if_ne (tgt := 211) hx hb dX4_two_204 (by decide) (fun c204 => ?_) (fun c204 => ?_)
    · have hf := ifn c204 hf
      exact wX4_two_211 FX hr hlk _ _ _ (lv_sub hl [] rfl) hW hf
    · have hf := ifp c204 hf
      refine lv_iload_n hx hb dX4_two_207 rfl (lv_at hl 2 rfl) ?_
      refine lv_if_eq (tgt := 215) hx hb dX4_two_208 (by decide) (fun c208 => ?_) (fun c208 => ?_)
      · have hf := ifp c208 hf
        refine lv_iconst (v := 0) hx hb dX4_two_215 (by decide) ?_
        exact g_iret FX hr hlk hW (Option.some.inj hf) dX4_two_216
      · have hf := ifn c208 hf
        exact wX4_two_211 FX hr hlk _ _ _ (lv_sub hl [] rfl) hW hf
  have hf := ifn c1_39 hf
  by_cases c1_40 : x0 = (40 : Int32)
  · have hf := ifp c1_40 hf
    refine g_tabC (tgt := 203) FX (40 : Int32) c1_40 (by decide) (by decide) rfl (by decide) dX4_two_1 ?_
    refine lv_iload_n hx hb dX4_two_203 rfl (lv_at hl 1 rfl) ?_
    refine lv_if_ne (tgt := 211) hx hb dX4_two_204 (by decide) (fun c204 => ?_) (fun c204 => ?_)
    · have hf := ifn c204 hf
      exact wX4_two_211 FX hr hlk _ _ _ (lv_sub hl [] rfl) hW hf
    · have hf := ifp c204 hf
      refine lv_iload_n hx hb dX4_two_207 rfl (lv_at hl 2 rfl) ?_
      refine lv_if_eq (tgt := 215) hx hb dX4_two_208 (by decide) (fun c208 => ?_) (fun c208 => ?_)
      · have hf := ifp c208 hf
        refine lv_iconst (v := 0) hx hb dX4_two_215 (by decide) ?_
        exact g_iret FX hr hlk hW (Option.some.inj hf) dX4_two_216
      · have hf := ifn c208 hf
        exact wX4_two_211 FX hr hlk _ _ _ (lv_sub hl [] rfl) hW hf
  have hf := ifn c1_40 hf
  by_cases c1_41 : x0 = (41 : Int32)
  · have hf := ifp c1_41 hf
    refine g_tabC (tgt := 203) FX (41 : Int32) c1_41 (by decide) (by decide) rfl (by decide) dX4_two_1 ?_
    refine lv_iload_n hx hb dX4_two_203 rfl (lv_at hl 1 rfl) ?_
    refine lv_if_ne (tgt := 211) hx hb dX4_two_204 (by decide) (fun c204 => ?_) (fun c204 => ?_)
    · have hf := ifn c204 hf
      exact wX4_two_211 FX hr hlk _ _ _ (lv_sub hl [] rfl) hW hf
    · have hf := ifp c204 hf
      refine lv_iload_n hx hb dX4_two_207 rfl (lv_at hl 2 rfl) ?_
      refine lv_if_eq (tgt := 215) hx hb dX4_two_208 (by decide) (fun c208 => ?_) (fun c208 => ?_)
      · have hf := ifp c208 hf
        refine lv_iconst (v := 0) hx hb dX4_two_215 (by decide) ?_
        exact g_iret FX hr hlk hW (Option.some.inj hf) dX4_two_216
      · have hf := ifn c208 hf
        exact wX4_two_211 FX hr hlk _ _ _ (lv_sub hl [] rfl) hW hf
  have hf := ifn c1_41 hf
  by_cases c1_42 : x0 = (42 : Int32)
  · have hf := ifp c1_42 hf
    refine g_tabC (tgt := 128) FX (42 : Int32) c1_42 (by decide) (by decide) rfl (by decide) dX4_two_1 ?_
    refine lv_iload_n hx hb dX4_two_128 rfl (lv_at hl 1 rfl) ?_
    refine lv_iload_n hx hb dX4_two_129 rfl (lv_at hl 2 rfl) ?_
    refine lv_imul hx hb dX4_two_130 ?_
    exact g_iret FX hr hlk hW (Option.some.inj hf) dX4_two_131
  have hf := ifn c1_42 hf
  by_cases c1_43 : x0 = (43 : Int32)
  · have hf := ifp c1_43 hf
    refine g_tabC (tgt := 120) FX (43 : Int32) c1_43 (by decide) (by decide) rfl (by decide) dX4_two_1 ?_
    refine lv_iload_n hx hb dX4_two_120 rfl (lv_at hl 1 rfl) ?_
    refine lv_iload_n hx hb dX4_two_121 rfl (lv_at hl 2 rfl) ?_
    refine lv_iadd hx hb dX4_two_122 ?_
    exact g_iret FX hr hlk hW (Option.some.inj hf) dX4_two_123
  have hf := ifn c1_43 hf
  by_cases c1_44 : x0 = (44 : Int32)
  · have hf := ifp c1_44 hf
    refine g_tabC (tgt := 203) FX (44 : Int32) c1_44 (by decide) (by decide) rfl (by decide) dX4_two_1 ?_
    refine lv_iload_n hx hb dX4_two_203 rfl (lv_at hl 1 rfl) ?_
    refine lv_if_ne (tgt := 211) hx hb dX4_two_204 (by decide) (fun c204 => ?_) (fun c204 => ?_)
    · have hf := ifn c204 hf
      exact wX4_two_211 FX hr hlk _ _ _ (lv_sub hl [] rfl) hW hf
    · have hf := ifp c204 hf
      refine lv_iload_n hx hb dX4_two_207 rfl (lv_at hl 2 rfl) ?_
      refine lv_if_eq (tgt := 215) hx hb dX4_two_208 (by decide) (fun c208 => ?_) (fun c208 => ?_)
      · have hf := ifp c208 hf
        refine lv_iconst (v := 0) hx hb dX4_two_215 (by decide) ?_
        exact g_iret FX hr hlk hW (Option.some.inj hf) dX4_two_216
      · have hf := ifn c208 hf
        exact wX4_two_211 FX hr hlk _ _ _ (lv_sub hl [] rfl) hW hf
  have hf := ifn c1_44 hf
  by_cases c1_45 : x0 = (45 : Int32)
  · have hf := ifp c1_45 hf
    refine g_tabC (tgt := 124) FX (45 : Int32) c1_45 (by decide) (by decide) rfl (by decide) dX4_two_1 ?_
    refine lv_iload_n hx hb dX4_two_124 rfl (lv_at hl 1 rfl) ?_
    refine lv_iload_n hx hb dX4_two_125 rfl (lv_at hl 2 rfl) ?_
    refine lv_isub hx hb dX4_two_126 ?_
    exact g_iret FX hr hlk hW (Option.some.inj hf) dX4_two_127
  have hf := ifn c1_45 hf
  by_cases c1_46 : x0 = (46 : Int32)
  · have hf := ifp c1_46 hf
    refine g_tabC (tgt := 203) FX (46 : Int32) c1_46 (by decide) (by decide) rfl (by decide) dX4_two_1 ?_
    refine lv_iload_n hx hb dX4_two_203 rfl (lv_at hl 1 rfl) ?_
    refine lv_if_ne (tgt := 211) hx hb dX4_two_204 (by decide) (fun c204 => ?_) (fun c204 => ?_)
    · have hf := ifn c204 hf
      exact wX4_two_211 FX hr hlk _ _ _ (lv_sub hl [] rfl) hW hf
    · have hf := ifp c204 hf
      refine lv_iload_n hx hb dX4_two_207 rfl (lv_at hl 2 rfl) ?_
      refine lv_if_eq (tgt := 215) hx hb dX4_two_208 (by decide) (fun c208 => ?_) (fun c208 => ?_)
      · have hf := ifp c208 hf
        refine lv_iconst (v := 0) hx hb dX4_two_215 (by decide) ?_
        exact g_iret FX hr hlk hW (Option.some.inj hf) dX4_two_216
      · have hf := ifn c208 hf
        exact wX4_two_211 FX hr hlk _ _ _ (lv_sub hl [] rfl) hW hf
  have hf := ifn c1_46 hf
  by_cases c1_47 : x0 = (47 : Int32)
  · have hf := ifp c1_47 hf
    refine g_tabC (tgt := 132) FX (47 : Int32) c1_47 (by decide) (by decide) rfl (by decide) dX4_two_1 ?_
    refine lv_iload_n hx hb dX4_two_132 rfl (lv_at hl 2 rfl) ?_
    refine lv_if_ne (tgt := 140) hx hb dX4_two_133 (by decide) (fun c133 => ?_) (fun c133 => ?_)
    · have hf := ifn c133 hf
      refine lv_iload_n hx hb dX4_two_140 rfl (lv_at hl 1 rfl) ?_
      refine lv_iload_n hx hb dX4_two_141 rfl (lv_at hl 2 rfl) ?_
      refine lv_idiv hx hb dX4_two_142 (dvd_some hf).1 ?_
      have hf := (dvd_some hf).2
      exact g_iret FX hr hlk hW (Option.some.inj hf) dX4_two_143
    · have hf := ifp c133 hf
      refine lv_iconst (v := 0) hx hb dX4_two_136 (by decide) ?_
      refine lv_goto (tgt := 143) hx hb dX4_two_137 (by decide) ?_
      exact g_iret FX hr hlk hW (Option.some.inj hf) dX4_two_143
  have hf := ifn c1_47 hf
  by_cases c1_48 : x0 = (48 : Int32)
  · have hf := ifp c1_48 hf
    refine g_tabC (tgt := 203) FX (48 : Int32) c1_48 (by decide) (by decide) rfl (by decide) dX4_two_1 ?_
    refine lv_iload_n hx hb dX4_two_203 rfl (lv_at hl 1 rfl) ?_
    refine lv_if_ne (tgt := 211) hx hb dX4_two_204 (by decide) (fun c204 => ?_) (fun c204 => ?_)
    · have hf := ifn c204 hf
      exact wX4_two_211 FX hr hlk _ _ _ (lv_sub hl [] rfl) hW hf
    · have hf := ifp c204 hf
      refine lv_iload_n hx hb dX4_two_207 rfl (lv_at hl 2 rfl) ?_
      refine lv_if_eq (tgt := 215) hx hb dX4_two_208 (by decide) (fun c208 => ?_) (fun c208 => ?_)
      · have hf := ifp c208 hf
        refine lv_iconst (v := 0) hx hb dX4_two_215 (by decide) ?_
        exact g_iret FX hr hlk hW (Option.some.inj hf) dX4_two_216
      · have hf := ifn c208 hf
        exact wX4_two_211 FX hr hlk _ _ _ (lv_sub hl [] rfl) hW hf
  have hf := ifn c1_48 hf
  by_cases c1_49 : x0 = (49 : Int32)
  · have hf := ifp c1_49 hf
    refine g_tabC (tgt := 203) FX (49 : Int32) c1_49 (by decide) (by decide) rfl (by decide) dX4_two_1 ?_
    refine lv_iload_n hx hb dX4_two_203 rfl (lv_at hl 1 rfl) ?_
    refine lv_if_ne (tgt := 211) hx hb dX4_two_204 (by decide) (fun c204 => ?_) (fun c204 => ?_)
    · have hf := ifn c204 hf
      exact wX4_two_211 FX hr hlk _ _ _ (lv_sub hl [] rfl) hW hf
    · have hf := ifp c204 hf
      refine lv_iload_n hx hb dX4_two_207 rfl (lv_at hl 2 rfl) ?_
      refine lv_if_eq (tgt := 215) hx hb dX4_two_208 (by decide) (fun c208 => ?_) (fun c208 => ?_)
      · have hf := ifp c208 hf
        refine lv_iconst (v := 0) hx hb dX4_two_215 (by decide) ?_
        exact g_iret FX hr hlk hW (Option.some.inj hf) dX4_two_216
      · have hf := ifn c208 hf
        exact wX4_two_211 FX hr hlk _ _ _ (lv_sub hl [] rfl) hW hf
  have hf := ifn c1_49 hf
  by_cases c1_50 : x0 = (50 : Int32)
  · have hf := ifp c1_50 hf
    refine g_tabC (tgt := 203) FX (50 : Int32) c1_50 (by decide) (by decide) rfl (by decide) dX4_two_1 ?_
    refine lv_iload_n hx hb dX4_two_203 rfl (lv_at hl 1 rfl) ?_
    refine lv_if_ne (tgt := 211) hx hb dX4_two_204 (by decide) (fun c204 => ?_) (fun c204 => ?_)
    · have hf := ifn c204 hf
      exact wX4_two_211 FX hr hlk _ _ _ (lv_sub hl [] rfl) hW hf
    · have hf := ifp c204 hf
      refine lv_iload_n hx hb dX4_two_207 rfl (lv_at hl 2 rfl) ?_
      refine lv_if_eq (tgt := 215) hx hb dX4_two_208 (by decide) (fun c208 => ?_) (fun c208 => ?_)
      · have hf := ifp c208 hf
        refine lv_iconst (v := 0) hx hb dX4_two_215 (by decide) ?_
        exact g_iret FX hr hlk hW (Option.some.inj hf) dX4_two_216
      · have hf := ifn c208 hf
        exact wX4_two_211 FX hr hlk _ _ _ (lv_sub hl [] rfl) hW hf
  have hf := ifn c1_50 hf
  by_cases c1_51 : x0 = (51 : Int32)
  · have hf := ifp c1_51 hf
    refine g_tabC (tgt := 203) FX (51 : Int32) c1_51 (by decide) (by decide) rfl (by decide) dX4_two_1 ?_
    refine lv_iload_n hx hb dX4_two_203 rfl (lv_at hl 1 rfl) ?_
    refine lv_if_ne (tgt := 211) hx hb dX4_two_204 (by decide) (fun c204 => ?_) (fun c204 => ?_)
    · have hf := ifn c204 hf
      exact wX4_two_211 FX hr hlk _ _ _ (lv_sub hl [] rfl) hW hf
    · have hf := ifp c204 hf
      refine lv_iload_n hx hb dX4_two_207 rfl (lv_at hl 2 rfl) ?_
      refine lv_if_eq (tgt := 215) hx hb dX4_two_208 (by decide) (fun c208 => ?_) (fun c208 => ?_)
      · have hf := ifp c208 hf
        refine lv_iconst (v := 0) hx hb dX4_two_215 (by decide) ?_
        exact g_iret FX hr hlk hW (Option.some.inj hf) dX4_two_216
      · have hf := ifn c208 hf
        exact wX4_two_211 FX hr hlk _ _ _ (lv_sub hl [] rfl) hW hf
  have hf := ifn c1_51 hf
  by_cases c1_52 : x0 = (52 : Int32)
  · have hf := ifp c1_52 hf
    refine g_tabC (tgt := 203) FX (52 : Int32) c1_52 (by decide) (by decide) rfl (by decide) dX4_two_1 ?_
    refine lv_iload_n hx hb dX4_two_203 rfl (lv_at hl 1 rfl) ?_
    refine lv_if_ne (tgt := 211) hx hb dX4_two_204 (by decide) (fun c204 => ?_) (fun c204 => ?_)
    · have hf := ifn c204 hf
      exact wX4_two_211 FX hr hlk _ _ _ (lv_sub hl [] rfl) hW hf
    · have hf := ifp c204 hf
      refine lv_iload_n hx hb dX4_two_207 rfl (lv_at hl 2 rfl) ?_
      refine lv_if_eq (tgt := 215) hx hb dX4_two_208 (by decide) (fun c208 => ?_) (fun c208 => ?_)
      · have hf := ifp c208 hf
        refine lv_iconst (v := 0) hx hb dX4_two_215 (by decide) ?_
        exact g_iret FX hr hlk hW (Option.some.inj hf) dX4_two_216
      · have hf := ifn c208 hf
        exact wX4_two_211 FX hr hlk _ _ _ (lv_sub hl [] rfl) hW hf
  have hf := ifn c1_52 hf
  by_cases c1_53 : x0 = (53 : Int32)
  · have hf := ifp c1_53 hf
    refine g_tabC (tgt := 203) FX (53 : Int32) c1_53 (by decide) (by decide) rfl (by decide) dX4_two_1 ?_
    refine lv_iload_n hx hb dX4_two_203 rfl (lv_at hl 1 rfl) ?_
    refine lv_if_ne (tgt := 211) hx hb dX4_two_204 (by decide) (fun c204 => ?_) (fun c204 => ?_)
    · have hf := ifn c204 hf
      exact wX4_two_211 FX hr hlk _ _ _ (lv_sub hl [] rfl) hW hf
    · have hf := ifp c204 hf
      refine lv_iload_n hx hb dX4_two_207 rfl (lv_at hl 2 rfl) ?_
      refine lv_if_eq (tgt := 215) hx hb dX4_two_208 (by decide) (fun c208 => ?_) (fun c208 => ?_)
      · have hf := ifp c208 hf
        refine lv_iconst (v := 0) hx hb dX4_two_215 (by decide) ?_
        exact g_iret FX hr hlk hW (Option.some.inj hf) dX4_two_216
      · have hf := ifn c208 hf
        exact wX4_two_211 FX hr hlk _ _ _ (lv_sub hl [] rfl) hW hf
  have hf := ifn c1_53 hf
  by_cases c1_54 : x0 = (54 : Int32)
  · have hf := ifp c1_54 hf
    refine g_tabC (tgt := 203) FX (54 : Int32) c1_54 (by decide) (by decide) rfl (by decide) dX4_two_1 ?_
    refine lv_iload_n hx hb dX4_two_203 rfl (lv_at hl 1 rfl) ?_
    refine lv_if_ne (tgt := 211) hx hb dX4_two_204 (by decide) (fun c204 => ?_) (fun c204 => ?_)
    · have hf := ifn c204 hf
      exact wX4_two_211 FX hr hlk _ _ _ (lv_sub hl [] rfl) hW hf
    · have hf := ifp c204 hf
      refine lv_iload_n hx hb dX4_two_207 rfl (lv_at hl 2 rfl) ?_
      refine lv_if_eq (tgt := 215) hx hb dX4_two_208 (by decide) (fun c208 => ?_) (fun c208 => ?_)
      · have hf := ifp c208 hf
        refine lv_iconst (v := 0) hx hb dX4_two_215 (by decide) ?_
        exact g_iret FX hr hlk hW (Option.some.inj hf) dX4_two_216
      · have hf := ifn c208 hf
        exact wX4_two_211 FX hr hlk _ _ _ (lv_sub hl [] rfl) hW hf
  have hf := ifn c1_54 hf
  by_cases c1_55 : x0 = (55 : Int32)
  · have hf := ifp c1_55 hf
    refine g_tabC (tgt := 203) FX (55 : Int32) c1_55 (by decide) (by decide) rfl (by decide) dX4_two_1 ?_
    refine lv_iload_n hx hb dX4_two_203 rfl (lv_at hl 1 rfl) ?_
    refine lv_if_ne (tgt := 211) hx hb dX4_two_204 (by decide) (fun c204 => ?_) (fun c204 => ?_)
    · have hf := ifn c204 hf
      exact wX4_two_211 FX hr hlk _ _ _ (lv_sub hl [] rfl) hW hf
    · have hf := ifp c204 hf
      refine lv_iload_n hx hb dX4_two_207 rfl (lv_at hl 2 rfl) ?_
      refine lv_if_eq (tgt := 215) hx hb dX4_two_208 (by decide) (fun c208 => ?_) (fun c208 => ?_)
      · have hf := ifp c208 hf
        refine lv_iconst (v := 0) hx hb dX4_two_215 (by decide) ?_
        exact g_iret FX hr hlk hW (Option.some.inj hf) dX4_two_216
      · have hf := ifn c208 hf
        exact wX4_two_211 FX hr hlk _ _ _ (lv_sub hl [] rfl) hW hf
  have hf := ifn c1_55 hf
  by_cases c1_56 : x0 = (56 : Int32)
  · have hf := ifp c1_56 hf
    refine g_tabC (tgt := 203) FX (56 : Int32) c1_56 (by decide) (by decide) rfl (by decide) dX4_two_1 ?_
    refine lv_iload_n hx hb dX4_two_203 rfl (lv_at hl 1 rfl) ?_
    refine lv_if_ne (tgt := 211) hx hb dX4_two_204 (by decide) (fun c204 => ?_) (fun c204 => ?_)
    · have hf := ifn c204 hf
      exact wX4_two_211 FX hr hlk _ _ _ (lv_sub hl [] rfl) hW hf
    · have hf := ifp c204 hf
      refine lv_iload_n hx hb dX4_two_207 rfl (lv_at hl 2 rfl) ?_
      refine lv_if_eq (tgt := 215) hx hb dX4_two_208 (by decide) (fun c208 => ?_) (fun c208 => ?_)
      · have hf := ifp c208 hf
        refine lv_iconst (v := 0) hx hb dX4_two_215 (by decide) ?_
        exact g_iret FX hr hlk hW (Option.some.inj hf) dX4_two_216
      · have hf := ifn c208 hf
        exact wX4_two_211 FX hr hlk _ _ _ (lv_sub hl [] rfl) hW hf
  have hf := ifn c1_56 hf
  by_cases c1_57 : x0 = (57 : Int32)
  · have hf := ifp c1_57 hf
    refine g_tabC (tgt := 203) FX (57 : Int32) c1_57 (by decide) (by decide) rfl (by decide) dX4_two_1 ?_
    refine lv_iload_n hx hb dX4_two_203 rfl (lv_at hl 1 rfl) ?_
    refine lv_if_ne (tgt := 211) hx hb dX4_two_204 (by decide) (fun c204 => ?_) (fun c204 => ?_)
    · have hf := ifn c204 hf
      exact wX4_two_211 FX hr hlk _ _ _ (lv_sub hl [] rfl) hW hf
    · have hf := ifp c204 hf
      refine lv_iload_n hx hb dX4_two_207 rfl (lv_at hl 2 rfl) ?_
      refine lv_if_eq (tgt := 215) hx hb dX4_two_208 (by decide) (fun c208 => ?_) (fun c208 => ?_)
      · have hf := ifp c208 hf
        refine lv_iconst (v := 0) hx hb dX4_two_215 (by decide) ?_
        exact g_iret FX hr hlk hW (Option.some.inj hf) dX4_two_216
      · have hf := ifn c208 hf
        exact wX4_two_211 FX hr hlk _ _ _ (lv_sub hl [] rfl) hW hf
  have hf := ifn c1_57 hf
  by_cases c1_58 : x0 = (58 : Int32)
  · have hf := ifp c1_58 hf
    refine g_tabC (tgt := 203) FX (58 : Int32) c1_58 (by decide) (by decide) rfl (by decide) dX4_two_1 ?_
    refine lv_iload_n hx hb dX4_two_203 rfl (lv_at hl 1 rfl) ?_
    refine lv_if_ne (tgt := 211) hx hb dX4_two_204 (by decide) (fun c204 => ?_) (fun c204 => ?_)
    · have hf := ifn c204 hf
      exact wX4_two_211 FX hr hlk _ _ _ (lv_sub hl [] rfl) hW hf
    · have hf := ifp c204 hf
      refine lv_iload_n hx hb dX4_two_207 rfl (lv_at hl 2 rfl) ?_
      refine lv_if_eq (tgt := 215) hx hb dX4_two_208 (by decide) (fun c208 => ?_) (fun c208 => ?_)
      · have hf := ifp c208 hf
        refine lv_iconst (v := 0) hx hb dX4_two_215 (by decide) ?_
        exact g_iret FX hr hlk hW (Option.some.inj hf) dX4_two_216
      · have hf := ifn c208 hf
        exact wX4_two_211 FX hr hlk _ _ _ (lv_sub hl [] rfl) hW hf
  have hf := ifn c1_58 hf
  by_cases c1_59 : x0 = (59 : Int32)
  · have hf := ifp c1_59 hf
    refine g_tabC (tgt := 203) FX (59 : Int32) c1_59 (by decide) (by decide) rfl (by decide) dX4_two_1 ?_
    refine lv_iload_n hx hb dX4_two_203 rfl (lv_at hl 1 rfl) ?_
    refine lv_if_ne (tgt := 211) hx hb dX4_two_204 (by decide) (fun c204 => ?_) (fun c204 => ?_)
    · have hf := ifn c204 hf
      exact wX4_two_211 FX hr hlk _ _ _ (lv_sub hl [] rfl) hW hf
    · have hf := ifp c204 hf
      refine lv_iload_n hx hb dX4_two_207 rfl (lv_at hl 2 rfl) ?_
      refine lv_if_eq (tgt := 215) hx hb dX4_two_208 (by decide) (fun c208 => ?_) (fun c208 => ?_)
      · have hf := ifp c208 hf
        refine lv_iconst (v := 0) hx hb dX4_two_215 (by decide) ?_
        exact g_iret FX hr hlk hW (Option.some.inj hf) dX4_two_216
      · have hf := ifn c208 hf
        exact wX4_two_211 FX hr hlk _ _ _ (lv_sub hl [] rfl) hW hf
  have hf := ifn c1_59 hf
  by_cases c1_60 : x0 = (60 : Int32)
  · have hf := ifp c1_60 hf
    refine g_tabC (tgt := 156) FX (60 : Int32) c1_60 (by decide) (by decide) rfl (by decide) dX4_two_1 ?_
    refine lv_iload_n hx hb dX4_two_156 rfl (lv_at hl 1 rfl) ?_
    refine lv_iload_n hx hb dX4_two_157 rfl (lv_at hl 2 rfl) ?_
    refine lv_icmp_ge (tgt := 165) hx hb dX4_two_158 (by decide) (fun c158 => ?_) (fun c158 => ?_)
    · have hf := ifp c158 hf
      refine lv_iconst (v := 0) hx hb dX4_two_165 (by decide) ?_
      exact g_iret FX hr hlk hW (Option.some.inj hf) dX4_two_166
    · have hf := ifn c158 hf
      refine lv_iconst (v := 1) hx hb dX4_two_161 (by decide) ?_
      refine lv_goto (tgt := 166) hx hb dX4_two_162 (by decide) ?_
      exact g_iret FX hr hlk hW (Option.some.inj hf) dX4_two_166
  have hf := ifn c1_60 hf
  by_cases c1_61 : x0 = (61 : Int32)
  · have hf := ifp c1_61 hf
    refine g_tabC (tgt := 178) FX (61 : Int32) c1_61 (by decide) (by decide) rfl (by decide) dX4_two_1 ?_
    refine lv_iload_n hx hb dX4_two_178 rfl (lv_at hl 1 rfl) ?_
    refine lv_iload_n hx hb dX4_two_179 rfl (lv_at hl 2 rfl) ?_
    refine lv_icmp_ne (tgt := 187) hx hb dX4_two_180 (by decide) (fun c180 => ?_) (fun c180 => ?_)
    · have hf := ifn c180 hf
      refine lv_iconst (v := 0) hx hb dX4_two_187 (by decide) ?_
      exact g_iret FX hr hlk hW (Option.some.inj hf) dX4_two_188
    · have hf := ifp c180 hf
      refine lv_iconst (v := 1) hx hb dX4_two_183 (by decide) ?_
      refine lv_goto (tgt := 188) hx hb dX4_two_184 (by decide) ?_
      exact g_iret FX hr hlk hW (Option.some.inj hf) dX4_two_188
  have hf := ifn c1_61 hf
  by_cases c1_62 : x0 = (62 : Int32)
  · have hf := ifp c1_62 hf
    refine g_tabC (tgt := 167) FX (62 : Int32) c1_62 (by decide) (by decide) rfl (by decide) dX4_two_1 ?_
    refine lv_iload_n hx hb dX4_two_167 rfl (lv_at hl 1 rfl) ?_
    refine lv_iload_n hx hb dX4_two_168 rfl (lv_at hl 2 rfl) ?_
    refine lv_icmp_le (tgt := 176) hx hb dX4_two_169 (by decide) (fun c169 => ?_) (fun c169 => ?_)
    · have hf := ifp c169 hf
      refine lv_iconst (v := 0) hx hb dX4_two_176 (by decide) ?_
      exact g_iret FX hr hlk hW (Option.some.inj hf) dX4_two_177
    · have hf := ifn c169 hf
      refine lv_iconst (v := 1) hx hb dX4_two_172 (by decide) ?_
      refine lv_goto (tgt := 177) hx hb dX4_two_173 (by decide) ?_
      exact g_iret FX hr hlk hW (Option.some.inj hf) dX4_two_177
  have hf := ifn c1_62 hf
  have n1_37 := lv_neT (a := 37) c1_37 (by decide)
  have n1_38 := lv_neT (a := 38) c1_38 (by decide)
  have n1_39 := lv_neT (a := 39) c1_39 (by decide)
  have n1_40 := lv_neT (a := 40) c1_40 (by decide)
  have n1_41 := lv_neT (a := 41) c1_41 (by decide)
  have n1_42 := lv_neT (a := 42) c1_42 (by decide)
  have n1_43 := lv_neT (a := 43) c1_43 (by decide)
  have n1_44 := lv_neT (a := 44) c1_44 (by decide)
  have n1_45 := lv_neT (a := 45) c1_45 (by decide)
  have n1_46 := lv_neT (a := 46) c1_46 (by decide)
  have n1_47 := lv_neT (a := 47) c1_47 (by decide)
  have n1_48 := lv_neT (a := 48) c1_48 (by decide)
  have n1_49 := lv_neT (a := 49) c1_49 (by decide)
  have n1_50 := lv_neT (a := 50) c1_50 (by decide)
  have n1_51 := lv_neT (a := 51) c1_51 (by decide)
  have n1_52 := lv_neT (a := 52) c1_52 (by decide)
  have n1_53 := lv_neT (a := 53) c1_53 (by decide)
  have n1_54 := lv_neT (a := 54) c1_54 (by decide)
  have n1_55 := lv_neT (a := 55) c1_55 (by decide)
  have n1_56 := lv_neT (a := 56) c1_56 (by decide)
  have n1_57 := lv_neT (a := 57) c1_57 (by decide)
  have n1_58 := lv_neT (a := 58) c1_58 (by decide)
  have n1_59 := lv_neT (a := 59) c1_59 (by decide)
  have n1_60 := lv_neT (a := 60) c1_60 (by decide)
  have n1_61 := lv_neT (a := 61) c1_61 (by decide)
  have n1_62 := lv_neT (a := 62) c1_62 (by decide)
  refine lv_tableOut (tgt := 203) hx hb dX4_two_1 (by omega) (by decide) ?_
  refine lv_iload_n hx hb dX4_two_203 rfl (lv_at hl 1 rfl) ?_
  refine lv_if_ne (tgt := 211) hx hb dX4_two_204 (by decide) (fun c204 => ?_) (fun c204 => ?_)
  · have hf := ifn c204 hf
    exact wX4_two_211 FX hr hlk _ _ _ (lv_sub hl [] rfl) hW hf
  · have hf := ifp c204 hf
    refine lv_iload_n hx hb dX4_two_207 rfl (lv_at hl 2 rfl) ?_
    refine lv_if_eq (tgt := 215) hx hb dX4_two_208 (by decide) (fun c208 => ?_) (fun c208 => ?_)
    · have hf := ifp c208 hf
      refine lv_iconst (v := 0) hx hb dX4_two_215 (by decide) ?_
      exact g_iret FX hr hlk hW (Option.some.inj hf) dX4_two_216
    · have hf := ifn c208 hf
      exact wX4_two_211 FX hr hlk _ _ _ (lv_sub hl [] rfl) hW hf
set_option maxHeartbeats 4000000 in
set_option maxRecDepth 100000 in
theorem kX4_two {α : Type} {q : α} {k : Int32 → Option α} {x0 : Int32} {x1 : Int32} {x2 : Int32} {ws : va_W} (FX : CallFix p m c cc nL s args lw_all RX4) (hR : rX4_two.frames + 1 ≤ R.frames ∧ 8 + (3 + 11) + rX4_two.locals ≤ R.locals) (hcs : cells ≤ R.cells ∧ slots ≤ R.slots) (hl : ls.size = nL) (hrm : (rest.map fun v => v.category).sum ≤ 8) (hW : Wd D dA A s ws H locs) (hf : (fX4_two x0 x1 x2).bind k = some q) (hdg : decode cc pc = .ok (.invokestatic 340, 3)) (kk : ∀ (r : Int32) (H1 : Heap) (locs1 : List Loc), Wd D dA A s ws H1 locs1 → k r = some q → W p l e R s m args below meth c H1 locs1 cells slots Q (F0 m (pc + 3) ls (.int r :: rest))) : W p l e R s m args below meth c H locs cells slots Q (F0 m pc ls (.int x2 :: .int x1 :: .int x0 :: rest)) := by
  obtain ⟨r1, h1, hf⟩ := bnd hf
  refine w_Si (As := [.int x0, .int x1, .int x2]) (rest := rest) (n := 3) (wr := ws) FX (mX4_two h1) (va_cwS 3 FX.2.2.2.2 (lw_S q1957 q1958 q132 q1959) rfl rfl rfl (by decide +kernel) hR) rfl hl rfl hrm ⟨Nat.le_trans (Nat.le_of_eq (Nat.add_zero cells)) hcs.1, Nat.le_trans (Nat.le_of_eq (Nat.add_zero slots)) hcs.2⟩ hdg hW ?_
  exact fun H1 locs1 hW1 => kk r1 H1 locs1 hW1 hf
/-! TrunkLittersModel.leftIn(I)I: kind R -/
def fX4_leftIn (x1 : Int32) (σ : Mst) : Option Int32 := (fX4_holdsOf x1 σ).bind fun r1 => (fX4_thoseIn x1 σ).bind fun r2 => (fX4_bulkOf r2 σ).bind fun r3 => some (r1 - r3)
abbrev rX4_leftIn : Room := { frames := 2, cells := 0, slots := 0, locals := 44 }
set_option maxHeartbeats 4000000 in
set_option maxRecDepth 100000 in
theorem mX4_leftIn  {x1 : Int32} {σ : Mst} {q : Int32} (hf : fX4_leftIn x1 σ = some q) : CtI l yX4_leftIn cX4_leftIn 2 (some .int) rX4_leftIn D dA [.ref h0, .int x1] (Mc dA h0 ad σ) q (Mc dA h0 ad σ) := by
  refine e_I (by decide) (Nat.le_of_ble_eq_true rfl) ?_
  intro p e s m below meth c ls A FX hr hlk hl hW
  have hx := FX.1; have hb := FX.2.1; have hown := FX.2.2.2.1; have hts := FX.2.2.2.2
  have hl : lv_has ls 2 [(0, .ref h0), (1, .int x1)] := hl
  rw [fX4_leftIn] at hf
  refine lv_aload_n hx hb dX4_leftIn_0 rfl (lv_at hl 0 rfl) ?_
  refine lv_iload_n hx hb dX4_leftIn_1 rfl (lv_at hl 1 rfl) ?_
  refine kX4_holdsOf FX ⟨Nat.le_of_ble_eq_true rfl, Nat.le_of_ble_eq_true rfl⟩ ⟨Nat.zero_le _, Nat.zero_le _⟩ hl.1 (Nat.le_of_ble_eq_true rfl) hW hf dX4_leftIn_2 (fun r1 H locs hW hf => ?_)
  refine lv_aload_n hx hb dX4_leftIn_5 rfl (lv_at hl 0 rfl) ?_
  refine lv_aload_n hx hb dX4_leftIn_6 rfl (lv_at hl 0 rfl) ?_
  refine lv_iload_n hx hb dX4_leftIn_7 rfl (lv_at hl 1 rfl) ?_
  refine kX4_thoseIn FX ⟨Nat.le_of_ble_eq_true rfl, Nat.le_of_ble_eq_true rfl⟩ ⟨Nat.zero_le _, Nat.zero_le _⟩ hl.1 (Nat.le_of_ble_eq_true rfl) hW hf dX4_leftIn_8 (fun r2 H locs hW hf => ?_)
  refine kX4_bulkOf FX ⟨Nat.le_of_ble_eq_true rfl, Nat.le_of_ble_eq_true rfl⟩ ⟨Nat.zero_le _, Nat.zero_le _⟩ hl.1 (Nat.le_of_ble_eq_true rfl) hW hf dX4_leftIn_11 (fun r3 H locs hW hf => ?_)
  refine lv_isub hx hb dX4_leftIn_14 ?_
  exact g_iret FX hr hlk hW (Option.some.inj hf) dX4_leftIn_15
set_option maxHeartbeats 4000000 in
set_option maxRecDepth 100000 in
theorem kX4_leftIn {α : Type} {q : α} {k : Int32 → Option α} {x1 : Int32} {σ : Mst} (FX : CallFix p m c cc nL s args lw_all RX4) (hR : rX4_leftIn.frames + 1 ≤ R.frames ∧ 8 + (2 + 11) + rX4_leftIn.locals ≤ R.locals) (hcs : cells ≤ R.cells ∧ slots ≤ R.slots) (hl : ls.size = nL) (hrm : (rest.map fun v => v.category).sum ≤ 8) (hW : Wd D dA A s (Mc dA h0 ad σ) H locs) (hf : (fX4_leftIn x1 σ).bind k = some q) (hdg : decode cc pc = .ok (.invokevirtual 328, 3)) (kk : ∀ (r : Int32) (H1 : Heap) (locs1 : List Loc), Wd D dA A s (Mc dA h0 ad σ) H1 locs1 → k r = some q → W p l e R s m args below meth c H1 locs1 cells slots Q (F0 m (pc + 3) ls (.int r :: rest))) : W p l e R s m args below meth c H locs cells slots Q (F0 m pc ls (.int x1 :: .ref h0 :: rest)) := by
  obtain ⟨r1, h1, hf⟩ := bnd hf
  refine w_Vi (C := RX4) (As := [.int x1]) (rest := rest) (n := 1) (wr := []) FX (mX4_leftIn h1) (cwV 1 FX.2.2.2.2 (lw_V q1911 q1913 qs85 q132 q1914) rfl rfl rfl (by decide +kernel) hR) (va_recv hW.2.2.2.1 hW.1 (ci := 4) (q0 := 0) rfl rfl) rfl hl rfl hrm ⟨Nat.le_trans (Nat.le_of_eq (Nat.add_zero cells)) hcs.1, Nat.le_trans (Nat.le_of_eq (Nat.add_zero slots)) hcs.2⟩ hdg hW.nil ?_
  exact fun H1 locs1 hW1 => kk r1 H1 locs1 hW1.nil' hf
/-! TrunkLittersModel.asked(II)I: kind R -/
def fX4_asked (x1 : Int32) (x2 : Int32) (σ : Mst) : Option Int32 := (if x1 = (97 : Int32) then ald 59 (gA σ 40) ((16 : Int32) + (gF σ 38)) fun v1 => ald 59 (gA σ 40) ((16 : Int32) + (gF σ 39)) fun v2 => (fX4_sharedBy v1 v2).bind fun r3 => some r3 else (if x1 = (98 : Int32) then ald 59 (gA σ 40) ((0 : Int32) + (gF σ 38)) fun v4 => ald 59 (gA σ 40) ((0 : Int32) + (gF σ 39)) fun v5 => some (v4 + v5) else (if x1 = (108 : Int32) then ald 59 (gA σ 40) ((8 : Int32) + (gF σ 38)) fun v6 => (fX4_leftIn v6 σ).bind fun r7 => some r7 else (if x1 = (109 : Int32) then (fX4_those σ).bind fun r8 => (fX4_bitsOf r8).bind fun r9 => some r9 else (if x1 = (121 : Int32) then ald 59 (gA σ 40) (57 : Int32) fun v10 => some v10 else some x2)))))
abbrev rX4_asked : Room := { frames := 3, cells := 0, slots := 0, locals := 65 }
set_option maxHeartbeats 4000000 in
set_option maxRecDepth 100000 in
theorem mX4_asked  {x1 : Int32} {x2 : Int32} {σ : Mst} {q : Int32} (hf : fX4_asked x1 x2 σ = some q) : CtI l yX4_asked cX4_asked 3 (some .int) rX4_asked D dA [.ref h0, .int x1, .int x2] (Mc dA h0 ad σ) q (Mc dA h0 ad σ) := by
  refine e_I (by decide) (Nat.le_of_ble_eq_true rfl) ?_
  intro p e s m below meth c ls A FX hr hlk hl hW
  have hx := FX.1; have hb := FX.2.1; have hown := FX.2.2.2.1; have hts := FX.2.2.2.2
  have hl : lv_has ls 3 [(0, .ref h0), (1, .int x1), (2, .int x2)] := hl
  rw [fX4_asked] at hf
  refine lv_iload_n hx hb dX4_asked_0 rfl (lv_at hl 1 rfl) ?_
  by_cases c1_97 : x1 = (97 : Int32)
  · have hf := ifp c1_97 hf
    refine g_lookC (tgt := 76) FX (97 : Int32) c1_97 (by decide) rfl (by decide) dX4_asked_1 ?_
    refine lv_aload_n hx hb dX4_asked_76 rfl (lv_at hl 0 rfl) ?_
    refine Mg40 FX hW dX4_asked_77 ?_
    refine lv_bipush (v := 16) hx hb dX4_asked_80 (by decide) ?_
    refine lv_aload_n hx hb dX4_asked_82 rfl (lv_at hl 0 rfl) ?_
    refine Mg38 FX hW dX4_asked_83 ?_
    refine lv_iadd hx hb dX4_asked_86 ?_
    refine g_iald FX hW 24 Mp40 hf dX4_asked_87 (fun v1 hf => ?_)
    refine lv_aload_n hx hb dX4_asked_88 rfl (lv_at hl 0 rfl) ?_
    refine Mg40 FX hW dX4_asked_89 ?_
    refine lv_bipush (v := 16) hx hb dX4_asked_92 (by decide) ?_
    refine lv_aload_n hx hb dX4_asked_94 rfl (lv_at hl 0 rfl) ?_
    refine Mg39 FX hW dX4_asked_95 ?_
    refine lv_iadd hx hb dX4_asked_98 ?_
    refine g_iald FX hW 24 Mp40 hf dX4_asked_99 (fun v2 hf => ?_)
    refine kX4_sharedBy FX ⟨Nat.le_of_ble_eq_true rfl, Nat.le_of_ble_eq_true rfl⟩ ⟨Nat.zero_le _, Nat.zero_le _⟩ hl.1 (Nat.le_of_ble_eq_true rfl) hW hf dX4_asked_100 (fun r3 H locs hW hf => ?_)
    exact g_iret FX hr hlk hW (Option.some.inj hf) dX4_asked_103
  have hf := ifn c1_97 hf
  by_cases c1_98 : x1 = (98 : Int32)
  · have hf := ifp c1_98 hf
    refine g_lookC (tgt := 52) FX (98 : Int32) c1_98 (by decide) rfl (by decide) dX4_asked_1 ?_
    refine lv_aload_n hx hb dX4_asked_52 rfl (lv_at hl 0 rfl) ?_
    refine Mg40 FX hW dX4_asked_53 ?_
    refine lv_iconst (v := 0) hx hb dX4_asked_56 (by decide) ?_
    refine lv_aload_n hx hb dX4_asked_57 rfl (lv_at hl 0 rfl) ?_
    refine Mg38 FX hW dX4_asked_58 ?_
    refine lv_iadd hx hb dX4_asked_61 ?_
    refine g_iald FX hW 24 Mp40 hf dX4_asked_62 (fun v4 hf => ?_)
    refine lv_aload_n hx hb dX4_asked_63 rfl (lv_at hl 0 rfl) ?_
    refine Mg40 FX hW dX4_asked_64 ?_
    refine lv_iconst (v := 0) hx hb dX4_asked_67 (by decide) ?_
    refine lv_aload_n hx hb dX4_asked_68 rfl (lv_at hl 0 rfl) ?_
    refine Mg39 FX hW dX4_asked_69 ?_
    refine lv_iadd hx hb dX4_asked_72 ?_
    refine g_iald FX hW 24 Mp40 hf dX4_asked_73 (fun v5 hf => ?_)
    refine lv_iadd hx hb dX4_asked_74 ?_
    exact g_iret FX hr hlk hW (Option.some.inj hf) dX4_asked_75
  have hf := ifn c1_98 hf
  by_cases c1_108 : x1 = (108 : Int32)
  · have hf := ifp c1_108 hf
    refine g_lookC (tgt := 104) FX (108 : Int32) c1_108 (by decide) rfl (by decide) dX4_asked_1 ?_
    refine lv_aload_n hx hb dX4_asked_104 rfl (lv_at hl 0 rfl) ?_
    refine lv_aload_n hx hb dX4_asked_105 rfl (lv_at hl 0 rfl) ?_
    refine Mg40 FX hW dX4_asked_106 ?_
    refine lv_bipush (v := 8) hx hb dX4_asked_109 (by decide) ?_
    refine lv_aload_n hx hb dX4_asked_111 rfl (lv_at hl 0 rfl) ?_
    refine Mg38 FX hW dX4_asked_112 ?_
    refine lv_iadd hx hb dX4_asked_115 ?_
    refine g_iald FX hW 24 Mp40 hf dX4_asked_116 (fun v6 hf => ?_)
    refine kX4_leftIn FX ⟨Nat.le_of_ble_eq_true rfl, Nat.le_of_ble_eq_true rfl⟩ ⟨Nat.zero_le _, Nat.zero_le _⟩ hl.1 (Nat.le_of_ble_eq_true rfl) hW hf dX4_asked_117 (fun r7 H locs hW hf => ?_)
    exact g_iret FX hr hlk hW (Option.some.inj hf) dX4_asked_120
  have hf := ifn c1_108 hf
  by_cases c1_109 : x1 = (109 : Int32)
  · have hf := ifp c1_109 hf
    refine g_lookC (tgt := 121) FX (109 : Int32) c1_109 (by decide) rfl (by decide) dX4_asked_1 ?_
    refine lv_aload_n hx hb dX4_asked_121 rfl (lv_at hl 0 rfl) ?_
    refine kX4_those FX ⟨Nat.le_of_ble_eq_true rfl, Nat.le_of_ble_eq_true rfl⟩ ⟨Nat.zero_le _, Nat.zero_le _⟩ hl.1 (Nat.le_of_ble_eq_true rfl) hW hf dX4_asked_122 (fun r8 H locs hW hf => ?_)
    refine kX4_bitsOf FX ⟨Nat.le_of_ble_eq_true rfl, Nat.le_of_ble_eq_true rfl⟩ ⟨Nat.zero_le _, Nat.zero_le _⟩ hl.1 (Nat.le_of_ble_eq_true rfl) hW hf dX4_asked_125 (fun r9 H locs hW hf => ?_)
    exact g_iret FX hr hlk hW (Option.some.inj hf) dX4_asked_128
  have hf := ifn c1_109 hf
  by_cases c1_121 : x1 = (121 : Int32)
  · have hf := ifp c1_121 hf
    refine g_lookC (tgt := 129) FX (121 : Int32) c1_121 (by decide) rfl (by decide) dX4_asked_1 ?_
    refine lv_aload_n hx hb dX4_asked_129 rfl (lv_at hl 0 rfl) ?_
    refine Mg40 FX hW dX4_asked_130 ?_
    refine lv_bipush (v := 57) hx hb dX4_asked_133 (by decide) ?_
    refine g_iald FX hW 24 Mp40 hf dX4_asked_135 (fun v10 hf => ?_)
    exact g_iret FX hr hlk hW (Option.some.inj hf) dX4_asked_136
  have hf := ifn c1_121 hf
  refine lv_lookup (tgt := 137) (off := 136) hx hb dX4_asked_1 (by decide) ((lv_osw c1_97 (by decide)).trans ((lv_osw c1_98 (by decide)).trans ((lv_osw c1_108 (by decide)).trans ((lv_osw c1_109 (by decide)).trans ((lv_osw c1_121 (by decide)).trans rfl))))) (by decide) ?_
  refine lv_iload_n hx hb dX4_asked_137 rfl (lv_at hl 2 rfl) ?_
  exact g_iret FX hr hlk hW (Option.some.inj hf) dX4_asked_138
set_option maxHeartbeats 4000000 in
set_option maxRecDepth 100000 in
theorem kX4_asked {α : Type} {q : α} {k : Int32 → Option α} {x1 : Int32} {x2 : Int32} {σ : Mst} (FX : CallFix p m c cc nL s args lw_all RX4) (hR : rX4_asked.frames + 1 ≤ R.frames ∧ 8 + (3 + 11) + rX4_asked.locals ≤ R.locals) (hcs : cells ≤ R.cells ∧ slots ≤ R.slots) (hl : ls.size = nL) (hrm : (rest.map fun v => v.category).sum ≤ 8) (hW : Wd D dA A s (Mc dA h0 ad σ) H locs) (hf : (fX4_asked x1 x2 σ).bind k = some q) (hdg : decode cc pc = .ok (.invokevirtual 337, 3)) (kk : ∀ (r : Int32) (H1 : Heap) (locs1 : List Loc), Wd D dA A s (Mc dA h0 ad σ) H1 locs1 → k r = some q → W p l e R s m args below meth c H1 locs1 cells slots Q (F0 m (pc + 3) ls (.int r :: rest))) : W p l e R s m args below meth c H locs cells slots Q (F0 m pc ls (.int x2 :: .int x1 :: .ref h0 :: rest)) := by
  obtain ⟨r1, h1, hf⟩ := bnd hf
  refine w_Vi (C := RX4) (As := [.int x1, .int x2]) (rest := rest) (n := 2) (wr := []) FX (mX4_asked h1) (cwV 2 FX.2.2.2.2 (lw_V q1943 q1945 qs91 q132 q1946) rfl rfl rfl (by decide +kernel) hR) (va_recv hW.2.2.2.1 hW.1 (ci := 4) (q0 := 0) rfl rfl) rfl hl rfl hrm ⟨Nat.le_trans (Nat.le_of_eq (Nat.add_zero cells)) hcs.1, Nat.le_trans (Nat.le_of_eq (Nat.add_zero slots)) hcs.2⟩ hdg hW.nil ?_
  exact fun H1 locs1 hW1 => kk r1 H1 locs1 hW1.nil' hf
/-! TrunkLittersModel.comes()I: kind W -/
def fX4_comes_61 (k12 : Int32 → Int32 → Mst → Option (Int32 × Mst)) (x1 : Int32) (x2 : Int32) (y1 : Int32) (y2 : Int32) (σ : Mst) : Option (Int32 × Mst) := ast 60 y1 (stp (sA σ 31 y1 y2) fun s1 => k12 x1 (x2 + (1 : Int32)) s1)
def fX4_comes_12 : Nat → Int32 → Int32 → Mst → Option (Int32 × Mst)
  | 0, _, _, _ => none
  | n + 1, x1, x2, σ => ald 2 (gA σ 24) (gF σ 32) fun v1 => (if v1 ≤ x2 then ald 60 (gA σ 31) (0 : Int32) fun v2 => some (v2, σ) else ald 1120 (gA σ 27) x2 fun v3 => (if v3 = (126 : Int32) then ald 60 (gA σ 31) (x1 - (1 : Int32)) fun v12 => (if v12 = 0 then fX4_comes_61 (fX4_comes_12 n) x1 x2 (x1 - (1 : Int32)) (1 : Int32) σ else fX4_comes_61 (fX4_comes_12 n) x1 x2 (x1 - (1 : Int32)) (0 : Int32) σ) else (fX4_isLetter v3).bind fun r4 => (if r4 = 0 then ald 60 (gA σ 31) ((x1 + (-1 : Int32)) - (1 : Int32)) fun v5 => ald 60 (gA σ 31) (x1 + (-1 : Int32)) fun v6 => (fX4_two v3 v5 v6).bind fun r7 => ast 60 ((x1 + (-1 : Int32)) - (1 : Int32)) (stp (sA σ 31 ((x1 + (-1 : Int32)) - (1 : Int32)) r7) fun s8 => fX4_comes_12 n (x1 + (-1 : Int32)) (x2 + (1 : Int32)) s8) else ald 1120 (gA σ 28) x2 fun v9 => (fX4_asked v3 v9 σ).bind fun r10 => ast 60 x1 (stp (sA σ 31 x1 r10) fun s11 => fX4_comes_12 n (x1 + (1 : Int32)) (x2 + (1 : Int32)) s11))))
def fX4_comes (σ : Mst) : Option (Int32 × Mst) := ald 2 (gA σ 23) (gF σ 32) fun v1 => fX4_comes_12 FU (0 : Int32) v1 σ
abbrev rX4_comes : Room := { frames := 4, cells := 0, slots := 0, locals := 87 }
set_option maxHeartbeats 4000000 in
set_option maxRecDepth 100000 in
theorem wX4_comes_61 {q : (Int32 × Mst)} (FX : CallFix p m c cX4_comes 4 s args lw_all RX4) (hr : meth.sig.returnType = (some .int)) (hlk : meth.locks = false) {k12 : Int32 → Int32 → Mst → Option (Int32 × Mst)} (hk12 : ∀ (x1 : Int32) (x2 : Int32) (σ : Mst) (H : Heap) (locs : List Loc) (ls : Array Slot), lv_has ls 4 [(0, .ref h0), (1, .int x1), (2, .int x2)] → Wd D dA A s (Mc dA h0 ad σ) H locs → k12 x1 x2 σ = some q → W p l e rX4_comes s m args below meth c H locs 0 0 (QI D dA A below args s 0 0 q.1 (Mc dA h0 ad q.2)) (F0 m 12 ls [])) : ∀ (x1 : Int32) (x2 : Int32) (y1 : Int32) (y2 : Int32) (σ : Mst) (H : Heap) (locs : List Loc) (ls : Array Slot), lv_has ls 4 [(0, .ref h0), (1, .int x1), (2, .int x2)] → Wd D dA A s (Mc dA h0 ad σ) H locs → fX4_comes_61 k12 x1 x2 y1 y2 σ = some q → W p l e rX4_comes s m args below meth c H locs 0 0 (QI D dA A below args s 0 0 q.1 (Mc dA h0 ad q.2)) (F0 m 61 ls [.int y2, .int y1, .ref (ad 31)]) := by
  have hx := FX.1; have hb := FX.2.1; have hown := FX.2.2.2.1; have hts := FX.2.2.2.2
  intro x1 x2 y1 y2 σ H locs ls hl hW hf
  rw [fX4_comes_61] at hf
  refine g_iast FX hW 23 Mp31 (L := Mc dA h0 ad) (Mt31) hf dX4_comes_61 (fun s1 H locs hW hf => ?_)
  refine lv_goto (tgt := 124) hx hb dX4_comes_62 (by decide) ?_
  refine lv_iinc (v := (x2 + (1 : Int32))) (lv' := [(2, .int (x2 + (1 : Int32))), (0, .ref h0), (1, .int x1)]) hx hb dX4_comes_124 hl (k := 2) rfl rfl (by decide) rfl (fun ls hl => ?_)
  refine lv_goto (tgt := 12) hx hb dX4_comes_127 (by decide) ?_
  exact hk12 x1 (x2 + (1 : Int32)) s1 _ _ _ (lv_sub hl [1, 2, 0] rfl) hW hf
set_option maxHeartbeats 4000000 in
set_option maxRecDepth 100000 in
theorem wX4_comes_12 {q : (Int32 × Mst)} (FX : CallFix p m c cX4_comes 4 s args lw_all RX4) (hr : meth.sig.returnType = (some .int)) (hlk : meth.locks = false) : ∀ n : Nat, ∀ (x1 : Int32) (x2 : Int32) (σ : Mst) (H : Heap) (locs : List Loc) (ls : Array Slot), lv_has ls 4 [(0, .ref h0), (1, .int x1), (2, .int x2)] → Wd D dA A s (Mc dA h0 ad σ) H locs → fX4_comes_12 n x1 x2 σ = some q → W p l e rX4_comes s m args below meth c H locs 0 0 (QI D dA A below args s 0 0 q.1 (Mc dA h0 ad q.2)) (F0 m 12 ls []) := by
  have hx := FX.1; have hb := FX.2.1; have hown := FX.2.2.2.1; have hts := FX.2.2.2.2
  intro n
  induction n with
  | zero =>
    intro x1 x2 σ H locs ls hl hW hf
    cases (show (none : Option (Int32 × Mst)) = some q from hf)
  | succ n ih =>
    intro x1 x2 σ H locs ls hl hW hf
    rw [fX4_comes_12] at hf
    refine lv_iload_n hx hb dX4_comes_12 rfl (lv_at hl 2 rfl) ?_
    refine lv_aload_n hx hb dX4_comes_13 rfl (lv_at hl 0 rfl) ?_
    refine Mg24 FX hW dX4_comes_14 ?_
    refine lv_aload_n hx hb dX4_comes_17 rfl (lv_at hl 0 rfl) ?_
    refine Mg32 FX hW dX4_comes_18 ?_
    refine g_iald FX hW 16 Mp24 hf dX4_comes_21 (fun v1 hf => ?_)
    refine lv_icmp_ge (tgt := 130) hx hb dX4_comes_22 (by decide) (fun c22 => ?_) (fun c22 => ?_)
    · have hf := ifp c22 hf
      refine lv_aload_n hx hb dX4_comes_130 rfl (lv_at hl 0 rfl) ?_
      refine Mg31 FX hW dX4_comes_131 ?_
      refine lv_iconst (v := 0) hx hb dX4_comes_134 (by decide) ?_
      refine g_iald FX hW 23 Mp31 hf dX4_comes_135 (fun v2 hf => ?_)
      obtain rfl := Option.some.inj hf
      exact g_iret FX hr hlk hW rfl dX4_comes_136
    · have hf := ifn c22 hf
      refine lv_aload_n hx hb dX4_comes_25 rfl (lv_at hl 0 rfl) ?_
      refine Mg27 FX hW dX4_comes_26 ?_
      refine lv_iload_n hx hb dX4_comes_29 rfl (lv_at hl 2 rfl) ?_
      refine g_iald FX hW 19 Mp27 hf dX4_comes_30 (fun v3 hf => ?_)
      refine lv_istore_n (lv' := [(3, .int v3), (0, .ref h0), (1, .int x1), (2, .int x2)]) hx hb dX4_comes_31 rfl hl (by decide) rfl (fun ls hl => ?_)
      refine lv_iload_n hx hb dX4_comes_32 rfl (lv_at hl 0 rfl) ?_
      refine lv_bipush (v := 126) hx hb dX4_comes_33 (by decide) ?_
      refine lv_icmp_ne (tgt := 65) hx hb dX4_comes_35 (by decide) (fun c35 => ?_) (fun c35 => ?_)
      · have hf := ifn c35 hf
        refine lv_iload_n hx hb dX4_comes_65 rfl (lv_at hl 0 rfl) ?_
        refine kX4_isLetter FX ⟨Nat.le_of_ble_eq_true rfl, Nat.le_of_ble_eq_true rfl⟩ ⟨Nat.zero_le _, Nat.zero_le _⟩ hl.1 (Nat.le_of_ble_eq_true rfl) hW hf dX4_comes_66 (fun r4 H locs hW hf => ?_)
        refine lv_if_eq (tgt := 95) hx hb dX4_comes_69 (by decide) (fun c69 => ?_) (fun c69 => ?_)
        · have hf := ifp c69 hf
          refine lv_iinc (v := (x1 + (-1 : Int32))) (lv' := [(1, .int (x1 + (-1 : Int32))), (3, .int v3), (0, .ref h0), (2, .int x2)]) hx hb dX4_comes_95 hl (k := 2) rfl rfl (by decide) rfl (fun ls hl => ?_)
          refine lv_aload_n hx hb dX4_comes_98 rfl (lv_at hl 2 rfl) ?_
          refine Mg31 FX hW dX4_comes_99 ?_
          refine lv_iload_n hx hb dX4_comes_102 rfl (lv_at hl 0 rfl) ?_
          refine lv_iconst (v := 1) hx hb dX4_comes_103 (by decide) ?_
          refine lv_isub hx hb dX4_comes_104 ?_
          refine lv_iload_n hx hb dX4_comes_105 rfl (lv_at hl 1 rfl) ?_
          refine lv_aload_n hx hb dX4_comes_106 rfl (lv_at hl 2 rfl) ?_
          refine Mg31 FX hW dX4_comes_107 ?_
          refine lv_iload_n hx hb dX4_comes_110 rfl (lv_at hl 0 rfl) ?_
          refine lv_iconst (v := 1) hx hb dX4_comes_111 (by decide) ?_
          refine lv_isub hx hb dX4_comes_112 ?_
          refine g_iald FX hW 23 Mp31 hf dX4_comes_113 (fun v5 hf => ?_)
          refine lv_aload_n hx hb dX4_comes_114 rfl (lv_at hl 2 rfl) ?_
          refine Mg31 FX hW dX4_comes_115 ?_
          refine lv_iload_n hx hb dX4_comes_118 rfl (lv_at hl 0 rfl) ?_
          refine g_iald FX hW 23 Mp31 hf dX4_comes_119 (fun v6 hf => ?_)
          refine kX4_two FX ⟨Nat.le_of_ble_eq_true rfl, Nat.le_of_ble_eq_true rfl⟩ ⟨Nat.zero_le _, Nat.zero_le _⟩ hl.1 (Nat.le_of_ble_eq_true rfl) hW hf dX4_comes_120 (fun r7 H locs hW hf => ?_)
          refine g_iast FX hW 23 Mp31 (L := Mc dA h0 ad) (Mt31) hf dX4_comes_123 (fun s8 H locs hW hf => ?_)
          refine lv_iinc (v := (x2 + (1 : Int32))) (lv' := [(2, .int (x2 + (1 : Int32))), (1, .int (x1 + (-1 : Int32))), (3, .int v3), (0, .ref h0)]) hx hb dX4_comes_124 hl (k := 3) rfl rfl (by decide) rfl (fun ls hl => ?_)
          refine lv_goto (tgt := 12) hx hb dX4_comes_127 (by decide) ?_
          exact ih (x1 + (-1 : Int32)) (x2 + (1 : Int32)) s8 _ _ _ (lv_sub hl [3, 1, 0] rfl) hW hf
        · have hf := ifn c69 hf
          refine lv_aload_n hx hb dX4_comes_72 rfl (lv_at hl 1 rfl) ?_
          refine Mg31 FX hW dX4_comes_73 ?_
          refine lv_iload_n hx hb dX4_comes_76 rfl (lv_at hl 2 rfl) ?_
          refine lv_aload_n hx hb dX4_comes_77 rfl (lv_at hl 1 rfl) ?_
          refine lv_iload_n hx hb dX4_comes_78 rfl (lv_at hl 0 rfl) ?_
          refine lv_aload_n hx hb dX4_comes_79 rfl (lv_at hl 1 rfl) ?_
          refine Mg28 FX hW dX4_comes_80 ?_
          refine lv_iload_n hx hb dX4_comes_83 rfl (lv_at hl 3 rfl) ?_
          refine g_iald FX hW 20 Mp28 hf dX4_comes_84 (fun v9 hf => ?_)
          refine kX4_asked FX ⟨Nat.le_of_ble_eq_true rfl, Nat.le_of_ble_eq_true rfl⟩ ⟨Nat.zero_le _, Nat.zero_le _⟩ hl.1 (Nat.le_of_ble_eq_true rfl) hW hf dX4_comes_85 (fun r10 H locs hW hf => ?_)
          refine g_iast FX hW 23 Mp31 (L := Mc dA h0 ad) (Mt31) hf dX4_comes_88 (fun s11 H locs hW hf => ?_)
          refine lv_iinc (v := (x1 + (1 : Int32))) (lv' := [(1, .int (x1 + (1 : Int32))), (3, .int v3), (0, .ref h0), (2, .int x2)]) hx hb dX4_comes_89 hl (k := 2) rfl rfl (by decide) rfl (fun ls hl => ?_)
          refine lv_goto (tgt := 124) hx hb dX4_comes_92 (by decide) ?_
          refine lv_iinc (v := (x2 + (1 : Int32))) (lv' := [(2, .int (x2 + (1 : Int32))), (1, .int (x1 + (1 : Int32))), (3, .int v3), (0, .ref h0)]) hx hb dX4_comes_124 hl (k := 3) rfl rfl (by decide) rfl (fun ls hl => ?_)
          refine lv_goto (tgt := 12) hx hb dX4_comes_127 (by decide) ?_
          exact ih (x1 + (1 : Int32)) (x2 + (1 : Int32)) s11 _ _ _ (lv_sub hl [3, 1, 0] rfl) hW hf
      · have hf := ifp c35 hf
        refine lv_aload_n hx hb dX4_comes_38 rfl (lv_at hl 1 rfl) ?_
        refine Mg31 FX hW dX4_comes_39 ?_
        refine lv_iload_n hx hb dX4_comes_42 rfl (lv_at hl 2 rfl) ?_
        refine lv_iconst (v := 1) hx hb dX4_comes_43 (by decide) ?_
        refine lv_isub hx hb dX4_comes_44 ?_
        refine lv_aload_n hx hb dX4_comes_45 rfl (lv_at hl 1 rfl) ?_
        refine Mg31 FX hW dX4_comes_46 ?_
        refine lv_iload_n hx hb dX4_comes_49 rfl (lv_at hl 2 rfl) ?_
        refine lv_iconst (v := 1) hx hb dX4_comes_50 (by decide) ?_
        refine lv_isub hx hb dX4_comes_51 ?_
        refine g_iald FX hW 23 Mp31 hf dX4_comes_52 (fun v12 hf => ?_)
        refine lv_if_ne (tgt := 60) hx hb dX4_comes_53 (by decide) (fun c53 => ?_) (fun c53 => ?_)
        · have hf := ifn c53 hf
          refine lv_iconst (v := 0) hx hb dX4_comes_60 (by decide) ?_
          exact wX4_comes_61 FX hr hlk (ih) x1 x2 (x1 - (1 : Int32)) (0 : Int32) σ _ _ _ (lv_sub hl [1, 2, 3] rfl) hW hf
        · have hf := ifp c53 hf
          refine lv_iconst (v := 1) hx hb dX4_comes_56 (by decide) ?_
          refine lv_goto (tgt := 61) hx hb dX4_comes_57 (by decide) ?_
          exact wX4_comes_61 FX hr hlk (ih) x1 x2 (x1 - (1 : Int32)) (1 : Int32) σ _ _ _ (lv_sub hl [1, 2, 3] rfl) hW hf
set_option maxHeartbeats 4000000 in
set_option maxRecDepth 100000 in
theorem mX4_comes  {σ : Mst} {q : (Int32 × Mst)} (hf : fX4_comes σ = some q) : CtI l yX4_comes cX4_comes 4 (some .int) rX4_comes D dA [.ref h0] (Mc dA h0 ad σ) q.1 (Mc dA h0 ad q.2) := by
  refine e_I (by decide) (Nat.le_of_ble_eq_true rfl) ?_
  intro p e s m below meth c ls A FX hr hlk hl hW
  have hx := FX.1; have hb := FX.2.1; have hown := FX.2.2.2.1; have hts := FX.2.2.2.2
  have hl : lv_has ls 4 [(0, .ref h0)] := hl
  rw [fX4_comes] at hf
  refine lv_iconst (v := 0) hx hb dX4_comes_0 (by decide) ?_
  refine lv_istore_n (lv' := [(1, .int (0 : Int32)), (0, .ref h0)]) hx hb dX4_comes_1 rfl hl (by decide) rfl (fun ls hl => ?_)
  refine lv_aload_n hx hb dX4_comes_2 rfl (lv_at hl 1 rfl) ?_
  refine Mg23 FX hW dX4_comes_3 ?_
  refine lv_aload_n hx hb dX4_comes_6 rfl (lv_at hl 1 rfl) ?_
  refine Mg32 FX hW dX4_comes_7 ?_
  refine g_iald FX hW 15 Mp23 hf dX4_comes_10 (fun v1 hf => ?_)
  refine lv_istore_n (lv' := [(2, .int v1), (1, .int (0 : Int32)), (0, .ref h0)]) hx hb dX4_comes_11 rfl hl (by decide) rfl (fun ls hl => ?_)
  exact wX4_comes_12 FX hr hlk _ (0 : Int32) v1 σ _ _ _ (lv_sub hl [2, 1, 0] rfl) hW hf
set_option maxHeartbeats 4000000 in
set_option maxRecDepth 100000 in
theorem kX4_comes {α : Type} {q : α} {k : Int32 → Mst → Option α} {σ : Mst} (FX : CallFix p m c cc nL s args lw_all RX4) (hR : rX4_comes.frames + 1 ≤ R.frames ∧ 8 + (4 + 11) + rX4_comes.locals ≤ R.locals) (hcs : cells ≤ R.cells ∧ slots ≤ R.slots) (hl : ls.size = nL) (hrm : (rest.map fun v => v.category).sum ≤ 8) (hW : Wd D dA A s (Mc dA h0 ad σ) H locs) (hf : bnd2 (fX4_comes σ) k = some q) (hdg : decode cc pc = .ok (.invokevirtual 375, 3)) (kk : ∀ (r : Int32) (σ1 : Mst) (H1 : Heap) (locs1 : List Loc), Wd D dA A s (Mc dA h0 ad σ1) H1 locs1 → k r σ1 = some q → W p l e R s m args below meth c H1 locs1 cells slots Q (F0 m (pc + 3) ls (.int r :: rest))) : W p l e R s m args below meth c H locs cells slots Q (F0 m pc ls (.ref h0 :: rest)) := by
  obtain ⟨r1, h1, hf⟩ := bnd (bnd2_eq hf)
  refine w_Vi (C := RX4) (As := []) (rest := rest) (n := 0) (wr := []) FX (mX4_comes h1) (cwV 0 FX.2.2.2.2 (lw_V q1939 q1941 qs90 q132 q1942) rfl rfl rfl (by decide +kernel) hR) (va_recv hW.2.2.2.1 hW.1 (ci := 4) (q0 := 0) rfl rfl) rfl hl rfl hrm ⟨Nat.le_trans (Nat.le_of_eq (Nat.add_zero cells)) hcs.1, Nat.le_trans (Nat.le_of_eq (Nat.add_zero slots)) hcs.2⟩ hdg hW.nil ?_
  exact fun H1 locs1 hW1 => kk r1.1 r1.2 H1 locs1 hW1.nil' hf
/-! TrunkLittersModel.fault(I)I: kind R -/
def fX4_fault (x1 : Int32) (σ : Mst) : Option Int32 := (if x1 = 0 then some (gF σ 4) else (if x1 = (1 : Int32) then some (gF σ 5) else some (-1 : Int32)))
abbrev rX4_fault : Room := { frames := 0, cells := 0, slots := 0, locals := 0 }
set_option maxHeartbeats 4000000 in
set_option maxRecDepth 100000 in
theorem mX4_fault  {x1 : Int32} {σ : Mst} {q : Int32} (hf : fX4_fault x1 σ = some q) : CtI l yX4_fault cX4_fault 2 (some .int) rX4_fault D dA [.ref h0, .int x1] (Mc dA h0 ad σ) q (Mc dA h0 ad σ) := by
  refine e_I (by decide) (Nat.le_of_ble_eq_true rfl) ?_
  intro p e s m below meth c ls A FX hr hlk hl hW
  have hx := FX.1; have hb := FX.2.1; have hown := FX.2.2.2.1; have hts := FX.2.2.2.2
  have hl : lv_has ls 2 [(0, .ref h0), (1, .int x1)] := hl
  rw [fX4_fault] at hf
  refine lv_iload_n hx hb dX4_fault_0 rfl (lv_at hl 1 rfl) ?_
  refine lv_if_ne (tgt := 11) hx hb dX4_fault_1 (by decide) (fun c1 => ?_) (fun c1 => ?_)
  · have hf := ifn c1 hf
    refine lv_iload_n hx hb dX4_fault_11 rfl (lv_at hl 1 rfl) ?_
    refine lv_iconst (v := 1) hx hb dX4_fault_12 (by decide) ?_
    refine lv_icmp_ne (tgt := 23) hx hb dX4_fault_13 (by decide) (fun c13 => ?_) (fun c13 => ?_)
    · have hf := ifn c13 hf
      refine lv_iconst (v := -1) hx hb dX4_fault_23 (by decide) ?_
      exact g_iret FX hr hlk hW (Option.some.inj hf) dX4_fault_24
    · have hf := ifp c13 hf
      refine lv_aload_n hx hb dX4_fault_16 rfl (lv_at hl 0 rfl) ?_
      refine Mg5 FX hW dX4_fault_17 ?_
      refine lv_goto (tgt := 24) hx hb dX4_fault_20 (by decide) ?_
      exact g_iret FX hr hlk hW (Option.some.inj hf) dX4_fault_24
  · have hf := ifp c1 hf
    refine lv_aload_n hx hb dX4_fault_4 rfl (lv_at hl 0 rfl) ?_
    refine Mg4 FX hW dX4_fault_5 ?_
    refine lv_goto (tgt := 24) hx hb dX4_fault_8 (by decide) ?_
    exact g_iret FX hr hlk hW (Option.some.inj hf) dX4_fault_24

/-! TrunkLittersModel.marksAll()I: kind R -/
def fX4_marksAll_4 (σ : Mst) : Nat → Int32 → Int32 → Option Int32
  | 0, _, _ => none
  | n + 1, x1, x2 => (if (8 : Int32) ≤ x2 then some x1 else ald 59 (gA σ 40) ((0 : Int32) + x2) fun v1 => (if v1 ≤ 0 then fX4_marksAll_4 σ n x1 (x2 + (1 : Int32)) else ald 59 (gA σ 40) ((16 : Int32) + x2) fun v2 => fX4_marksAll_4 σ n (x1 ||| v2) (x2 + (1 : Int32))))
def fX4_marksAll (σ : Mst) : Option Int32 := fX4_marksAll_4 σ FU (0 : Int32) (0 : Int32)
abbrev rX4_marksAll : Room := { frames := 0, cells := 0, slots := 0, locals := 0 }
set_option maxHeartbeats 4000000 in
set_option maxRecDepth 100000 in
theorem wX4_marksAll_4 {q : Int32} {σ : Mst} (FX : CallFix p m c cX4_marksAll 3 s args lw_all RX4) (hr : meth.sig.returnType = (some .int)) (hlk : meth.locks = false) : ∀ n : Nat, ∀ (x1 : Int32) (x2 : Int32) (H : Heap) (locs : List Loc) (ls : Array Slot), lv_has ls 3 [(0, .ref h0), (1, .int x1), (2, .int x2)] → Wd D dA A s (Mc dA h0 ad σ) H locs → fX4_marksAll_4 σ n x1 x2 = some q → W p l e rX4_marksAll s m args below meth c H locs 0 0 (QI D dA A below args s 0 0 q (Mc dA h0 ad σ)) (F0 m 4 ls []) := by
  have hx := FX.1; have hb := FX.2.1; have hown := FX.2.2.2.1; have hts := FX.2.2.2.2
  intro n
  induction n with
  | zero =>
    intro x1 x2 H locs ls hl hW hf
    cases (show (none : Option Int32) = some q from hf)
  | succ n ih =>
    intro x1 x2 H locs ls hl hW hf
    rw [fX4_marksAll_4] at hf
    refine lv_iload_n hx hb dX4_marksAll_4 rfl (lv_at hl 2 rfl) ?_
    refine lv_bipush (v := 8) hx hb dX4_marksAll_5 (by decide) ?_
    refine lv_icmp_ge (tgt := 39) hx hb dX4_marksAll_7 (by decide) (fun c7 => ?_) (fun c7 => ?_)
    · have hf := ifp c7 hf
      refine lv_iload_n hx hb dX4_marksAll_39 rfl (lv_at hl 1 rfl) ?_
      exact g_iret FX hr hlk hW (Option.some.inj hf) dX4_marksAll_40
    · have hf := ifn c7 hf
      refine lv_aload_n hx hb dX4_marksAll_10 rfl (lv_at hl 0 rfl) ?_
      refine Mg40 FX hW dX4_marksAll_11 ?_
      refine lv_iconst (v := 0) hx hb dX4_marksAll_14 (by decide) ?_
      refine lv_iload_n hx hb dX4_marksAll_15 rfl (lv_at hl 2 rfl) ?_
      refine lv_iadd hx hb dX4_marksAll_16 ?_
      refine g_iald FX hW 24 Mp40 hf dX4_marksAll_17 (fun v1 hf => ?_)
      refine lv_if_le (tgt := 33) hx hb dX4_marksAll_18 (by decide) (fun c18 => ?_) (fun c18 => ?_)
      · have hf := ifp c18 hf
        refine lv_iinc (v := (x2 + (1 : Int32))) (lv' := [(2, .int (x2 + (1 : Int32))), (0, .ref h0), (1, .int x1)]) hx hb dX4_marksAll_33 hl (k := 2) rfl rfl (by decide) rfl (fun ls hl => ?_)
        refine lv_goto (tgt := 4) hx hb dX4_marksAll_36 (by decide) ?_
        exact ih x1 (x2 + (1 : Int32)) _ _ _ (lv_sub hl [1, 2, 0] rfl) hW hf
      · have hf := ifn c18 hf
        refine lv_iload_n hx hb dX4_marksAll_21 rfl (lv_at hl 1 rfl) ?_
        refine lv_aload_n hx hb dX4_marksAll_22 rfl (lv_at hl 0 rfl) ?_
        refine Mg40 FX hW dX4_marksAll_23 ?_
        refine lv_bipush (v := 16) hx hb dX4_marksAll_26 (by decide) ?_
        refine lv_iload_n hx hb dX4_marksAll_28 rfl (lv_at hl 2 rfl) ?_
        refine lv_iadd hx hb dX4_marksAll_29 ?_
        refine g_iald FX hW 24 Mp40 hf dX4_marksAll_30 (fun v2 hf => ?_)
        refine lv_ior hx hb dX4_marksAll_31 ?_
        refine lv_istore_n (lv' := [(1, .int (x1 ||| v2)), (0, .ref h0), (2, .int x2)]) hx hb dX4_marksAll_32 rfl hl (by decide) rfl (fun ls hl => ?_)
        refine lv_iinc (v := (x2 + (1 : Int32))) (lv' := [(2, .int (x2 + (1 : Int32))), (1, .int (x1 ||| v2)), (0, .ref h0)]) hx hb dX4_marksAll_33 hl (k := 2) rfl rfl (by decide) rfl (fun ls hl => ?_)
        refine lv_goto (tgt := 4) hx hb dX4_marksAll_36 (by decide) ?_
        exact ih (x1 ||| v2) (x2 + (1 : Int32)) _ _ _ (lv_sub hl [2, 1, 0] rfl) hW hf
set_option maxHeartbeats 4000000 in
set_option maxRecDepth 100000 in
theorem mX4_marksAll  {σ : Mst} {q : Int32} (hf : fX4_marksAll σ = some q) : CtI l yX4_marksAll cX4_marksAll 3 (some .int) rX4_marksAll D dA [.ref h0] (Mc dA h0 ad σ) q (Mc dA h0 ad σ) := by
  refine e_I (by decide) (Nat.le_of_ble_eq_true rfl) ?_
  intro p e s m below meth c ls A FX hr hlk hl hW
  have hx := FX.1; have hb := FX.2.1; have hown := FX.2.2.2.1; have hts := FX.2.2.2.2
  have hl : lv_has ls 3 [(0, .ref h0)] := hl
  rw [fX4_marksAll] at hf
  refine lv_iconst (v := 0) hx hb dX4_marksAll_0 (by decide) ?_
  refine lv_istore_n (lv' := [(1, .int (0 : Int32)), (0, .ref h0)]) hx hb dX4_marksAll_1 rfl hl (by decide) rfl (fun ls hl => ?_)
  refine lv_iconst (v := 0) hx hb dX4_marksAll_2 (by decide) ?_
  refine lv_istore_n (lv' := [(2, .int (0 : Int32)), (1, .int (0 : Int32)), (0, .ref h0)]) hx hb dX4_marksAll_3 rfl hl (by decide) rfl (fun ls hl => ?_)
  exact wX4_marksAll_4 FX hr hlk _ (0 : Int32) (0 : Int32) _ _ _ (lv_sub hl [2, 1, 0] rfl) hW hf
set_option maxHeartbeats 4000000 in
set_option maxRecDepth 100000 in
theorem kX4_marksAll {α : Type} {q : α} {k : Int32 → Option α} {σ : Mst} (FX : CallFix p m c cc nL s args lw_all RX4) (hR : rX4_marksAll.frames + 1 ≤ R.frames ∧ 8 + (3 + 11) + rX4_marksAll.locals ≤ R.locals) (hcs : cells ≤ R.cells ∧ slots ≤ R.slots) (hl : ls.size = nL) (hrm : (rest.map fun v => v.category).sum ≤ 8) (hW : Wd D dA A s (Mc dA h0 ad σ) H locs) (hf : (fX4_marksAll σ).bind k = some q) (hdg : decode cc pc = .ok (.invokevirtual 439, 3)) (kk : ∀ (r : Int32) (H1 : Heap) (locs1 : List Loc), Wd D dA A s (Mc dA h0 ad σ) H1 locs1 → k r = some q → W p l e R s m args below meth c H1 locs1 cells slots Q (F0 m (pc + 3) ls (.int r :: rest))) : W p l e R s m args below meth c H locs cells slots Q (F0 m pc ls (.ref h0 :: rest)) := by
  obtain ⟨r1, h1, hf⟩ := bnd hf
  refine w_Vi (C := RX4) (As := []) (rest := rest) (n := 0) (wr := []) FX (mX4_marksAll h1) (cwV 0 FX.2.2.2.2 (lw_V q2094 q2096 qs109 q132 q2097) rfl rfl rfl (by decide +kernel) hR) (va_recv hW.2.2.2.1 hW.1 (ci := 4) (q0 := 0) rfl rfl) rfl hl rfl hrm ⟨Nat.le_trans (Nat.le_of_eq (Nat.add_zero cells)) hcs.1, Nat.le_trans (Nat.le_of_eq (Nat.add_zero slots)) hcs.2⟩ hdg hW.nil ?_
  exact fun H1 locs1 hW1 => kk r1 H1 locs1 hW1.nil' hf
/-! TrunkLittersModel.loseOne(I)V: kind W -/
def fX4_loseOne_36 (k7 : Int32 → Int32 → Mst → Option Mst) (x1 : Int32) (x2 : Int32) (σ : Mst) : Option Mst := ald 59 (gA σ 40) ((48 : Int32) + x2) fun v1 => (if v1 = x1 then ast 59 ((48 : Int32) + x2) (stp (sA σ 40 ((48 : Int32) + x2) (-1 : Int32)) fun s2 => k7 x1 (x2 + (1 : Int32)) s2) else k7 x1 (x2 + (1 : Int32)) σ)
def fX4_loseOne_7 : Nat → Int32 → Int32 → Mst → Option Mst
  | 0, _, _, _ => none
  | n + 1, x1, x2, σ => (if (8 : Int32) ≤ x2 then some σ else ald 59 (gA σ 40) ((40 : Int32) + x2) fun v1 => (if v1 = x1 then ast 59 ((40 : Int32) + x2) (stp (sA σ 40 ((40 : Int32) + x2) (-1 : Int32)) fun s2 => fX4_loseOne_36 (fX4_loseOne_7 n) x1 x2 s2) else fX4_loseOne_36 (fX4_loseOne_7 n) x1 x2 σ))
def fX4_loseOne (x1 : Int32) (σ : Mst) : Option Mst := (fX4_clearPlace x1 σ).bind fun s1 => fX4_loseOne_7 FU x1 (0 : Int32) s1
abbrev rX4_loseOne : Room := { frames := 1, cells := 0, slots := 0, locals := 21 }
set_option maxHeartbeats 4000000 in
set_option maxRecDepth 100000 in
theorem wX4_loseOne_36 {q : Mst} (FX : CallFix p m c cX4_loseOne 3 s args lw_all RX4) (hr : meth.sig.returnType = none) (hlk : meth.locks = false) {k7 : Int32 → Int32 → Mst → Option Mst} (hk7 : ∀ (x1 : Int32) (x2 : Int32) (σ : Mst) (H : Heap) (locs : List Loc) (ls : Array Slot), lv_has ls 3 [(0, .ref h0), (1, .int x1), (2, .int x2)] → Wd D dA A s (Mc dA h0 ad σ) H locs → k7 x1 x2 σ = some q → W p l e rX4_loseOne s m args below meth c H locs 0 0 (QV D dA A below args s 0 0 (Mc dA h0 ad q)) (F0 m 7 ls [])) : ∀ (x1 : Int32) (x2 : Int32) (σ : Mst) (H : Heap) (locs : List Loc) (ls : Array Slot), lv_has ls 3 [(0, .ref h0), (1, .int x1), (2, .int x2)] → Wd D dA A s (Mc dA h0 ad σ) H locs → fX4_loseOne_36 k7 x1 x2 σ = some q → W p l e rX4_loseOne s m args below meth c H locs 0 0 (QV D dA A below args s 0 0 (Mc dA h0 ad q)) (F0 m 36 ls []) := by
  have hx := FX.1; have hb := FX.2.1; have hown := FX.2.2.2.1; have hts := FX.2.2.2.2
  intro x1 x2 σ H locs ls hl hW hf
  rw [fX4_loseOne_36] at hf
  refine lv_aload_n hx hb dX4_loseOne_36 rfl (lv_at hl 0 rfl) ?_
  refine Mg40 FX hW dX4_loseOne_37 ?_
  refine lv_bipush (v := 48) hx hb dX4_loseOne_40 (by decide) ?_
  refine lv_iload_n hx hb dX4_loseOne_42 rfl (lv_at hl 2 rfl) ?_
  refine lv_iadd hx hb dX4_loseOne_43 ?_
  refine g_iald FX hW 24 Mp40 hf dX4_loseOne_44 (fun v1 hf => ?_)
  refine lv_iload_n hx hb dX4_loseOne_45 rfl (lv_at hl 1 rfl) ?_
  refine lv_icmp_ne (tgt := 59) hx hb dX4_loseOne_46 (by decide) (fun c46 => ?_) (fun c46 => ?_)
  · have hf := ifn c46 hf
    refine lv_iinc (v := (x2 + (1 : Int32))) (lv' := [(2, .int (x2 + (1 : Int32))), (0, .ref h0), (1, .int x1)]) hx hb dX4_loseOne_59 hl (k := 2) rfl rfl (by decide) rfl (fun ls hl => ?_)
    refine lv_goto (tgt := 7) hx hb dX4_loseOne_62 (by decide) ?_
    exact hk7 x1 (x2 + (1 : Int32)) σ _ _ _ (lv_sub hl [1, 2, 0] rfl) hW hf
  · have hf := ifp c46 hf
    refine lv_aload_n hx hb dX4_loseOne_49 rfl (lv_at hl 0 rfl) ?_
    refine Mg40 FX hW dX4_loseOne_50 ?_
    refine lv_bipush (v := 48) hx hb dX4_loseOne_53 (by decide) ?_
    refine lv_iload_n hx hb dX4_loseOne_55 rfl (lv_at hl 2 rfl) ?_
    refine lv_iadd hx hb dX4_loseOne_56 ?_
    refine lv_iconst (v := -1) hx hb dX4_loseOne_57 (by decide) ?_
    refine g_iast FX hW 24 Mp40 (L := Mc dA h0 ad) (Mt40) hf dX4_loseOne_58 (fun s2 H locs hW hf => ?_)
    refine lv_iinc (v := (x2 + (1 : Int32))) (lv' := [(2, .int (x2 + (1 : Int32))), (0, .ref h0), (1, .int x1)]) hx hb dX4_loseOne_59 hl (k := 2) rfl rfl (by decide) rfl (fun ls hl => ?_)
    refine lv_goto (tgt := 7) hx hb dX4_loseOne_62 (by decide) ?_
    exact hk7 x1 (x2 + (1 : Int32)) s2 _ _ _ (lv_sub hl [1, 2, 0] rfl) hW hf
set_option maxHeartbeats 4000000 in
set_option maxRecDepth 100000 in
theorem wX4_loseOne_7 {q : Mst} (FX : CallFix p m c cX4_loseOne 3 s args lw_all RX4) (hr : meth.sig.returnType = none) (hlk : meth.locks = false) : ∀ n : Nat, ∀ (x1 : Int32) (x2 : Int32) (σ : Mst) (H : Heap) (locs : List Loc) (ls : Array Slot), lv_has ls 3 [(0, .ref h0), (1, .int x1), (2, .int x2)] → Wd D dA A s (Mc dA h0 ad σ) H locs → fX4_loseOne_7 n x1 x2 σ = some q → W p l e rX4_loseOne s m args below meth c H locs 0 0 (QV D dA A below args s 0 0 (Mc dA h0 ad q)) (F0 m 7 ls []) := by
  have hx := FX.1; have hb := FX.2.1; have hown := FX.2.2.2.1; have hts := FX.2.2.2.2
  intro n
  induction n with
  | zero =>
    intro x1 x2 σ H locs ls hl hW hf
    cases (show (none : Option Mst) = some q from hf)
  | succ n ih =>
    intro x1 x2 σ H locs ls hl hW hf
    rw [fX4_loseOne_7] at hf
    refine lv_iload_n hx hb dX4_loseOne_7 rfl (lv_at hl 2 rfl) ?_
    refine lv_bipush (v := 8) hx hb dX4_loseOne_8 (by decide) ?_
    refine lv_icmp_ge (tgt := 65) hx hb dX4_loseOne_10 (by decide) (fun c10 => ?_) (fun c10 => ?_)
    · have hf := ifp c10 hf
      obtain rfl := Option.some.inj hf
      exact g_vret FX hr hlk hW dX4_loseOne_65
    · have hf := ifn c10 hf
      refine lv_aload_n hx hb dX4_loseOne_13 rfl (lv_at hl 0 rfl) ?_
      refine Mg40 FX hW dX4_loseOne_14 ?_
      refine lv_bipush (v := 40) hx hb dX4_loseOne_17 (by decide) ?_
      refine lv_iload_n hx hb dX4_loseOne_19 rfl (lv_at hl 2 rfl) ?_
      refine lv_iadd hx hb dX4_loseOne_20 ?_
      refine g_iald FX hW 24 Mp40 hf dX4_loseOne_21 (fun v1 hf => ?_)
      refine lv_iload_n hx hb dX4_loseOne_22 rfl (lv_at hl 1 rfl) ?_
      refine lv_icmp_ne (tgt := 36) hx hb dX4_loseOne_23 (by decide) (fun c23 => ?_) (fun c23 => ?_)
      · have hf := ifn c23 hf
        exact wX4_loseOne_36 FX hr hlk (ih) x1 x2 σ _ _ _ (lv_sub hl [0, 1, 2] rfl) hW hf
      · have hf := ifp c23 hf
        refine lv_aload_n hx hb dX4_loseOne_26 rfl (lv_at hl 0 rfl) ?_
        refine Mg40 FX hW dX4_loseOne_27 ?_
        refine lv_bipush (v := 40) hx hb dX4_loseOne_30 (by decide) ?_
        refine lv_iload_n hx hb dX4_loseOne_32 rfl (lv_at hl 2 rfl) ?_
        refine lv_iadd hx hb dX4_loseOne_33 ?_
        refine lv_iconst (v := -1) hx hb dX4_loseOne_34 (by decide) ?_
        refine g_iast FX hW 24 Mp40 (L := Mc dA h0 ad) (Mt40) hf dX4_loseOne_35 (fun s2 H locs hW hf => ?_)
        exact wX4_loseOne_36 FX hr hlk (ih) x1 x2 s2 _ _ _ (lv_sub hl [0, 1, 2] rfl) hW hf
set_option maxHeartbeats 4000000 in
set_option maxRecDepth 100000 in
theorem mX4_loseOne  {x1 : Int32} {σ : Mst} {q : Mst} (hf : fX4_loseOne x1 σ = some q) : CtV l yX4_loseOne cX4_loseOne 3 none rX4_loseOne D dA [.ref h0, .int x1] (Mc dA h0 ad σ) (Mc dA h0 ad q) := by
  refine e_V (by decide) (Nat.le_of_ble_eq_true rfl) ?_
  intro p e s m below meth c ls A FX hr hlk hl hW
  have hx := FX.1; have hb := FX.2.1; have hown := FX.2.2.2.1; have hts := FX.2.2.2.2
  have hl : lv_has ls 3 [(0, .ref h0), (1, .int x1)] := hl
  rw [fX4_loseOne] at hf
  refine lv_aload_n hx hb dX4_loseOne_0 rfl (lv_at hl 0 rfl) ?_
  refine lv_iload_n hx hb dX4_loseOne_1 rfl (lv_at hl 1 rfl) ?_
  refine kX4_clearPlace FX ⟨Nat.le_of_ble_eq_true rfl, Nat.le_of_ble_eq_true rfl⟩ ⟨Nat.zero_le _, Nat.zero_le _⟩ hl.1 (Nat.le_of_ble_eq_true rfl) hW hf dX4_loseOne_2 (fun s1 H locs hW hf => ?_)
  refine lv_iconst (v := 0) hx hb dX4_loseOne_5 (by decide) ?_
  refine lv_istore_n (lv' := [(2, .int (0 : Int32)), (0, .ref h0), (1, .int x1)]) hx hb dX4_loseOne_6 rfl hl (by decide) rfl (fun ls hl => ?_)
  exact wX4_loseOne_7 FX hr hlk _ x1 (0 : Int32) s1 _ _ _ (lv_sub hl [1, 2, 0] rfl) hW hf
set_option maxHeartbeats 4000000 in
set_option maxRecDepth 100000 in
theorem kX4_loseOne {α : Type} {q : α} {k : Mst → Option α} {x1 : Int32} {σ : Mst} (FX : CallFix p m c cc nL s args lw_all RX4) (hR : rX4_loseOne.frames + 1 ≤ R.frames ∧ 8 + (3 + 11) + rX4_loseOne.locals ≤ R.locals) (hcs : cells ≤ R.cells ∧ slots ≤ R.slots) (hl : ls.size = nL) (hrm : (rest.map fun v => v.category).sum ≤ 8) (hW : Wd D dA A s (Mc dA h0 ad σ) H locs) (hf : (fX4_loseOne x1 σ).bind k = some q) (hdg : decode cc pc = .ok (.invokevirtual 393, 3)) (kk : ∀ (σ1 : Mst) (H1 : Heap) (locs1 : List Loc), Wd D dA A s (Mc dA h0 ad σ1) H1 locs1 → k σ1 = some q → W p l e R s m args below meth c H1 locs1 cells slots Q (F0 m (pc + 3) ls (rest))) : W p l e R s m args below meth c H locs cells slots Q (F0 m pc ls (.int x1 :: .ref h0 :: rest)) := by
  obtain ⟨r1, h1, hf⟩ := bnd hf
  refine w_Vv (C := RX4) (As := [.int x1]) (rest := rest) (n := 1) (wr := []) FX (mX4_loseOne h1) (cwV 1 FX.2.2.2.2 (lw_V q2034 q2036 qs102 q132 q2037) rfl rfl rfl (by decide +kernel) hR) (va_recv hW.2.2.2.1 hW.1 (ci := 4) (q0 := 0) rfl rfl) rfl hl rfl hrm ⟨Nat.le_trans (Nat.le_of_eq (Nat.add_zero cells)) hcs.1, Nat.le_trans (Nat.le_of_eq (Nat.add_zero slots)) hcs.2⟩ hdg hW.nil ?_
  exact fun H1 locs1 hW1 => kk r1 H1 locs1 hW1.nil' hf
/-! TrunkLittersModel.keepNow()V: kind W -/
def fX4_keepNow_2 : Nat → Int32 → Mst → Option Mst
  | 0, _, _ => none
  | n + 1, x1, σ => (if (59 : Int32) ≤ x1 then some σ else ald 59 (gA σ 40) x1 fun v1 => ast 59 x1 (stp (sA σ 41 x1 v1) fun s2 => fX4_keepNow_2 n (x1 + (1 : Int32)) s2))
def fX4_keepNow (σ : Mst) : Option Mst := fX4_keepNow_2 FU (0 : Int32) σ
abbrev rX4_keepNow : Room := { frames := 0, cells := 0, slots := 0, locals := 0 }
set_option maxHeartbeats 4000000 in
set_option maxRecDepth 100000 in
theorem wX4_keepNow_2 {q : Mst} (FX : CallFix p m c cX4_keepNow 2 s args lw_all RX4) (hr : meth.sig.returnType = none) (hlk : meth.locks = false) : ∀ n : Nat, ∀ (x1 : Int32) (σ : Mst) (H : Heap) (locs : List Loc) (ls : Array Slot), lv_has ls 2 [(0, .ref h0), (1, .int x1)] → Wd D dA A s (Mc dA h0 ad σ) H locs → fX4_keepNow_2 n x1 σ = some q → W p l e rX4_keepNow s m args below meth c H locs 0 0 (QV D dA A below args s 0 0 (Mc dA h0 ad q)) (F0 m 2 ls []) := by
  have hx := FX.1; have hb := FX.2.1; have hown := FX.2.2.2.1; have hts := FX.2.2.2.2
  intro n
  induction n with
  | zero =>
    intro x1 σ H locs ls hl hW hf
    cases (show (none : Option Mst) = some q from hf)
  | succ n ih =>
    intro x1 σ H locs ls hl hW hf
    rw [fX4_keepNow_2] at hf
    refine lv_iload_n hx hb dX4_keepNow_2 rfl (lv_at hl 1 rfl) ?_
    refine lv_bipush (v := 59) hx hb dX4_keepNow_3 (by decide) ?_
    refine lv_icmp_ge (tgt := 26) hx hb dX4_keepNow_5 (by decide) (fun c5 => ?_) (fun c5 => ?_)
    · have hf := ifp c5 hf
      obtain rfl := Option.some.inj hf
      exact g_vret FX hr hlk hW dX4_keepNow_26
    · have hf := ifn c5 hf
      refine lv_aload_n hx hb dX4_keepNow_8 rfl (lv_at hl 0 rfl) ?_
      refine Mg41 FX hW dX4_keepNow_9 ?_
      refine lv_iload_n hx hb dX4_keepNow_12 rfl (lv_at hl 1 rfl) ?_
      refine lv_aload_n hx hb dX4_keepNow_13 rfl (lv_at hl 0 rfl) ?_
      refine Mg40 FX hW dX4_keepNow_14 ?_
      refine lv_iload_n hx hb dX4_keepNow_17 rfl (lv_at hl 1 rfl) ?_
      refine g_iald FX hW 24 Mp40 hf dX4_keepNow_18 (fun v1 hf => ?_)
      refine g_iast FX hW 25 Mp41 (L := Mc dA h0 ad) (Mt41) hf dX4_keepNow_19 (fun s2 H locs hW hf => ?_)
      refine lv_iinc (v := (x1 + (1 : Int32))) (lv' := [(1, .int (x1 + (1 : Int32))), (0, .ref h0)]) hx hb dX4_keepNow_20 hl (k := 1) rfl rfl (by decide) rfl (fun ls hl => ?_)
      refine lv_goto (tgt := 2) hx hb dX4_keepNow_23 (by decide) ?_
      exact ih (x1 + (1 : Int32)) s2 _ _ _ (lv_sub hl [1, 0] rfl) hW hf
set_option maxHeartbeats 4000000 in
set_option maxRecDepth 100000 in
theorem mX4_keepNow  {σ : Mst} {q : Mst} (hf : fX4_keepNow σ = some q) : CtV l yX4_keepNow cX4_keepNow 2 none rX4_keepNow D dA [.ref h0] (Mc dA h0 ad σ) (Mc dA h0 ad q) := by
  refine e_V (by decide) (Nat.le_of_ble_eq_true rfl) ?_
  intro p e s m below meth c ls A FX hr hlk hl hW
  have hx := FX.1; have hb := FX.2.1; have hown := FX.2.2.2.1; have hts := FX.2.2.2.2
  have hl : lv_has ls 2 [(0, .ref h0)] := hl
  rw [fX4_keepNow] at hf
  refine lv_iconst (v := 0) hx hb dX4_keepNow_0 (by decide) ?_
  refine lv_istore_n (lv' := [(1, .int (0 : Int32)), (0, .ref h0)]) hx hb dX4_keepNow_1 rfl hl (by decide) rfl (fun ls hl => ?_)
  exact wX4_keepNow_2 FX hr hlk _ (0 : Int32) σ _ _ _ (lv_sub hl [1, 0] rfl) hW hf
set_option maxHeartbeats 4000000 in
set_option maxRecDepth 100000 in
theorem kX4_keepNow {α : Type} {q : α} {k : Mst → Option α} {σ : Mst} (FX : CallFix p m c cc nL s args lw_all RX4) (hR : rX4_keepNow.frames + 1 ≤ R.frames ∧ 8 + (2 + 11) + rX4_keepNow.locals ≤ R.locals) (hcs : cells ≤ R.cells ∧ slots ≤ R.slots) (hl : ls.size = nL) (hrm : (rest.map fun v => v.category).sum ≤ 8) (hW : Wd D dA A s (Mc dA h0 ad σ) H locs) (hf : (fX4_keepNow σ).bind k = some q) (hdg : decode cc pc = .ok (.invokevirtual 430, 3)) (kk : ∀ (σ1 : Mst) (H1 : Heap) (locs1 : List Loc), Wd D dA A s (Mc dA h0 ad σ1) H1 locs1 → k σ1 = some q → W p l e R s m args below meth c H1 locs1 cells slots Q (F0 m (pc + 3) ls (rest))) : W p l e R s m args below meth c H locs cells slots Q (F0 m pc ls (.ref h0 :: rest)) := by
  obtain ⟨r1, h1, hf⟩ := bnd hf
  refine w_Vv (C := RX4) (As := []) (rest := rest) (n := 0) (wr := []) FX (mX4_keepNow h1) (cwV 0 FX.2.2.2.2 (lw_V q2074 q2076 qs106 q132 q2077) rfl rfl rfl (by decide +kernel) hR) (va_recv hW.2.2.2.1 hW.1 (ci := 4) (q0 := 0) rfl rfl) rfl hl rfl hrm ⟨Nat.le_trans (Nat.le_of_eq (Nat.add_zero cells)) hcs.1, Nat.le_trans (Nat.le_of_eq (Nat.add_zero slots)) hcs.2⟩ hdg hW.nil ?_
  exact fun H1 locs1 hW1 => kk r1 H1 locs1 hW1.nil' hf
/-! TrunkLittersModel.bringBack()V: kind W -/
def fX4_bringBack_2 : Nat → Int32 → Mst → Option Mst
  | 0, _, _ => none
  | n + 1, x1, σ => (if (59 : Int32) ≤ x1 then some σ else ald 59 (gA σ 41) x1 fun v1 => ast 59 x1 (stp (sA σ 40 x1 v1) fun s2 => fX4_bringBack_2 n (x1 + (1 : Int32)) s2))
def fX4_bringBack (σ : Mst) : Option Mst := fX4_bringBack_2 FU (0 : Int32) σ
abbrev rX4_bringBack : Room := { frames := 0, cells := 0, slots := 0, locals := 0 }
set_option maxHeartbeats 4000000 in
set_option maxRecDepth 100000 in
theorem wX4_bringBack_2 {q : Mst} (FX : CallFix p m c cX4_bringBack 2 s args lw_all RX4) (hr : meth.sig.returnType = none) (hlk : meth.locks = false) : ∀ n : Nat, ∀ (x1 : Int32) (σ : Mst) (H : Heap) (locs : List Loc) (ls : Array Slot), lv_has ls 2 [(0, .ref h0), (1, .int x1)] → Wd D dA A s (Mc dA h0 ad σ) H locs → fX4_bringBack_2 n x1 σ = some q → W p l e rX4_bringBack s m args below meth c H locs 0 0 (QV D dA A below args s 0 0 (Mc dA h0 ad q)) (F0 m 2 ls []) := by
  have hx := FX.1; have hb := FX.2.1; have hown := FX.2.2.2.1; have hts := FX.2.2.2.2
  intro n
  induction n with
  | zero =>
    intro x1 σ H locs ls hl hW hf
    cases (show (none : Option Mst) = some q from hf)
  | succ n ih =>
    intro x1 σ H locs ls hl hW hf
    rw [fX4_bringBack_2] at hf
    refine lv_iload_n hx hb dX4_bringBack_2 rfl (lv_at hl 1 rfl) ?_
    refine lv_bipush (v := 59) hx hb dX4_bringBack_3 (by decide) ?_
    refine lv_icmp_ge (tgt := 26) hx hb dX4_bringBack_5 (by decide) (fun c5 => ?_) (fun c5 => ?_)
    · have hf := ifp c5 hf
      obtain rfl := Option.some.inj hf
      exact g_vret FX hr hlk hW dX4_bringBack_26
    · have hf := ifn c5 hf
      refine lv_aload_n hx hb dX4_bringBack_8 rfl (lv_at hl 0 rfl) ?_
      refine Mg40 FX hW dX4_bringBack_9 ?_
      refine lv_iload_n hx hb dX4_bringBack_12 rfl (lv_at hl 1 rfl) ?_
      refine lv_aload_n hx hb dX4_bringBack_13 rfl (lv_at hl 0 rfl) ?_
      refine Mg41 FX hW dX4_bringBack_14 ?_
      refine lv_iload_n hx hb dX4_bringBack_17 rfl (lv_at hl 1 rfl) ?_
      refine g_iald FX hW 25 Mp41 hf dX4_bringBack_18 (fun v1 hf => ?_)
      refine g_iast FX hW 24 Mp40 (L := Mc dA h0 ad) (Mt40) hf dX4_bringBack_19 (fun s2 H locs hW hf => ?_)
      refine lv_iinc (v := (x1 + (1 : Int32))) (lv' := [(1, .int (x1 + (1 : Int32))), (0, .ref h0)]) hx hb dX4_bringBack_20 hl (k := 1) rfl rfl (by decide) rfl (fun ls hl => ?_)
      refine lv_goto (tgt := 2) hx hb dX4_bringBack_23 (by decide) ?_
      exact ih (x1 + (1 : Int32)) s2 _ _ _ (lv_sub hl [1, 0] rfl) hW hf
set_option maxHeartbeats 4000000 in
set_option maxRecDepth 100000 in
theorem mX4_bringBack  {σ : Mst} {q : Mst} (hf : fX4_bringBack σ = some q) : CtV l yX4_bringBack cX4_bringBack 2 none rX4_bringBack D dA [.ref h0] (Mc dA h0 ad σ) (Mc dA h0 ad q) := by
  refine e_V (by decide) (Nat.le_of_ble_eq_true rfl) ?_
  intro p e s m below meth c ls A FX hr hlk hl hW
  have hx := FX.1; have hb := FX.2.1; have hown := FX.2.2.2.1; have hts := FX.2.2.2.2
  have hl : lv_has ls 2 [(0, .ref h0)] := hl
  rw [fX4_bringBack] at hf
  refine lv_iconst (v := 0) hx hb dX4_bringBack_0 (by decide) ?_
  refine lv_istore_n (lv' := [(1, .int (0 : Int32)), (0, .ref h0)]) hx hb dX4_bringBack_1 rfl hl (by decide) rfl (fun ls hl => ?_)
  exact wX4_bringBack_2 FX hr hlk _ (0 : Int32) σ _ _ _ (lv_sub hl [1, 0] rfl) hW hf
set_option maxHeartbeats 4000000 in
set_option maxRecDepth 100000 in
theorem kX4_bringBack {α : Type} {q : α} {k : Mst → Option α} {σ : Mst} (FX : CallFix p m c cc nL s args lw_all RX4) (hR : rX4_bringBack.frames + 1 ≤ R.frames ∧ 8 + (2 + 11) + rX4_bringBack.locals ≤ R.locals) (hcs : cells ≤ R.cells ∧ slots ≤ R.slots) (hl : ls.size = nL) (hrm : (rest.map fun v => v.category).sum ≤ 8) (hW : Wd D dA A s (Mc dA h0 ad σ) H locs) (hf : (fX4_bringBack σ).bind k = some q) (hdg : decode cc pc = .ok (.invokevirtual 436, 3)) (kk : ∀ (σ1 : Mst) (H1 : Heap) (locs1 : List Loc), Wd D dA A s (Mc dA h0 ad σ1) H1 locs1 → k σ1 = some q → W p l e R s m args below meth c H1 locs1 cells slots Q (F0 m (pc + 3) ls (rest))) : W p l e R s m args below meth c H locs cells slots Q (F0 m pc ls (.ref h0 :: rest)) := by
  obtain ⟨r1, h1, hf⟩ := bnd hf
  refine w_Vv (C := RX4) (As := []) (rest := rest) (n := 0) (wr := []) FX (mX4_bringBack h1) (cwV 0 FX.2.2.2.2 (lw_V q2082 q2084 qs108 q132 q2085) rfl rfl rfl (by decide +kernel) hR) (va_recv hW.2.2.2.1 hW.1 (ci := 4) (q0 := 0) rfl rfl) rfl hl rfl hrm ⟨Nat.le_trans (Nat.le_of_eq (Nat.add_zero cells)) hcs.1, Nat.le_trans (Nat.le_of_eq (Nat.add_zero slots)) hcs.2⟩ hdg hW.nil ?_
  exact fun H1 locs1 hW1 => kk r1 H1 locs1 hW1.nil' hf
/-! TrunkLittersModel.broodOf(II)I: kind W -/
def fX4_broodOf (x1 : Int32) (x2 : Int32) (σ : Mst) : Option (Int32 × Mst) := stp (sF σ 38 x1) fun s1 => stp (sF s1 39 x2) fun s2 => ald 2 (gA s2 17) (gF s2 32) fun v3 => (fX4_bit v3 (0 : Int32)).bind fun r4 => (if r4 = 0 then ald 59 (gA s2 40) ((16 : Int32) + x1) fun v5 => ald 59 (gA s2 40) ((16 : Int32) + x2) fun v6 => (fX4_sharedBy v5 v6).bind fun r7 => (fX4_those s2).bind fun r8 => (fX4_bitsOf r8).bind fun r9 => some ((r7 - r9), s2) else bnd2 (fX4_comes s2) fun r10 s11 => some (r10, s11))
abbrev rX4_broodOf : Room := { frames := 5, cells := 0, slots := 0, locals := 110 }
set_option maxHeartbeats 4000000 in
set_option maxRecDepth 100000 in
theorem mX4_broodOf  {x1 : Int32} {x2 : Int32} {σ : Mst} {q : (Int32 × Mst)} (hf : fX4_broodOf x1 x2 σ = some q) : CtI l yX4_broodOf cX4_broodOf 3 (some .int) rX4_broodOf D dA [.ref h0, .int x1, .int x2] (Mc dA h0 ad σ) q.1 (Mc dA h0 ad q.2) := by
  refine e_I (by decide) (Nat.le_of_ble_eq_true rfl) ?_
  intro p e s m below meth c ls A FX hr hlk hl hW
  have hx := FX.1; have hb := FX.2.1; have hown := FX.2.2.2.1; have hts := FX.2.2.2.2
  have hl : lv_has ls 3 [(0, .ref h0), (1, .int x1), (2, .int x2)] := hl
  rw [fX4_broodOf] at hf
  refine lv_aload_n hx hb dX4_broodOf_0 rfl (lv_at hl 0 rfl) ?_
  refine lv_iload_n hx hb dX4_broodOf_1 rfl (lv_at hl 1 rfl) ?_
  refine Ms38 FX hW hf dX4_broodOf_2 (fun s1 H locs hW hf => ?_)
  refine lv_aload_n hx hb dX4_broodOf_5 rfl (lv_at hl 0 rfl) ?_
  refine lv_iload_n hx hb dX4_broodOf_6 rfl (lv_at hl 2 rfl) ?_
  refine Ms39 FX hW hf dX4_broodOf_7 (fun s2 H locs hW hf => ?_)
  refine lv_aload_n hx hb dX4_broodOf_10 rfl (lv_at hl 0 rfl) ?_
  refine Mg17 FX hW dX4_broodOf_11 ?_
  refine lv_aload_n hx hb dX4_broodOf_14 rfl (lv_at hl 0 rfl) ?_
  refine Mg32 FX hW dX4_broodOf_15 ?_
  refine g_iald FX hW 9 Mp17 hf dX4_broodOf_18 (fun v3 hf => ?_)
  refine lv_iconst (v := 0) hx hb dX4_broodOf_19 (by decide) ?_
  refine kX4_bit FX ⟨Nat.le_of_ble_eq_true rfl, Nat.le_of_ble_eq_true rfl⟩ ⟨Nat.zero_le _, Nat.zero_le _⟩ hl.1 (Nat.le_of_ble_eq_true rfl) hW hf dX4_broodOf_20 (fun r4 H locs hW hf => ?_)
  refine lv_if_eq (tgt := 33) hx hb dX4_broodOf_23 (by decide) (fun c23 => ?_) (fun c23 => ?_)
  · have hf := ifp c23 hf
    refine lv_aload_n hx hb dX4_broodOf_33 rfl (lv_at hl 0 rfl) ?_
    refine Mg40 FX hW dX4_broodOf_34 ?_
    refine lv_bipush (v := 16) hx hb dX4_broodOf_37 (by decide) ?_
    refine lv_iload_n hx hb dX4_broodOf_39 rfl (lv_at hl 1 rfl) ?_
    refine lv_iadd hx hb dX4_broodOf_40 ?_
    refine g_iald FX hW 24 Mp40 hf dX4_broodOf_41 (fun v5 hf => ?_)
    refine lv_aload_n hx hb dX4_broodOf_42 rfl (lv_at hl 0 rfl) ?_
    refine Mg40 FX hW dX4_broodOf_43 ?_
    refine lv_bipush (v := 16) hx hb dX4_broodOf_46 (by decide) ?_
    refine lv_iload_n hx hb dX4_broodOf_48 rfl (lv_at hl 2 rfl) ?_
    refine lv_iadd hx hb dX4_broodOf_49 ?_
    refine g_iald FX hW 24 Mp40 hf dX4_broodOf_50 (fun v6 hf => ?_)
    refine kX4_sharedBy FX ⟨Nat.le_of_ble_eq_true rfl, Nat.le_of_ble_eq_true rfl⟩ ⟨Nat.zero_le _, Nat.zero_le _⟩ hl.1 (Nat.le_of_ble_eq_true rfl) hW hf dX4_broodOf_51 (fun r7 H locs hW hf => ?_)
    refine lv_aload_n hx hb dX4_broodOf_54 rfl (lv_at hl 0 rfl) ?_
    refine kX4_those FX ⟨Nat.le_of_ble_eq_true rfl, Nat.le_of_ble_eq_true rfl⟩ ⟨Nat.zero_le _, Nat.zero_le _⟩ hl.1 (Nat.le_of_ble_eq_true rfl) hW hf dX4_broodOf_55 (fun r8 H locs hW hf => ?_)
    refine kX4_bitsOf FX ⟨Nat.le_of_ble_eq_true rfl, Nat.le_of_ble_eq_true rfl⟩ ⟨Nat.zero_le _, Nat.zero_le _⟩ hl.1 (Nat.le_of_ble_eq_true rfl) hW hf dX4_broodOf_58 (fun r9 H locs hW hf => ?_)
    refine lv_isub hx hb dX4_broodOf_61 ?_
    obtain rfl := Option.some.inj hf
    exact g_iret FX hr hlk hW rfl dX4_broodOf_62
  · have hf := ifn c23 hf
    refine lv_aload_n hx hb dX4_broodOf_26 rfl (lv_at hl 0 rfl) ?_
    refine kX4_comes FX ⟨Nat.le_of_ble_eq_true rfl, Nat.le_of_ble_eq_true rfl⟩ ⟨Nat.zero_le _, Nat.zero_le _⟩ hl.1 (Nat.le_of_ble_eq_true rfl) hW hf dX4_broodOf_27 (fun r10 s11 H locs hW hf => ?_)
    refine lv_goto (tgt := 62) hx hb dX4_broodOf_30 (by decide) ?_
    obtain rfl := Option.some.inj hf
    exact g_iret FX hr hlk hW rfl dX4_broodOf_62
set_option maxHeartbeats 4000000 in
set_option maxRecDepth 100000 in
theorem kX4_broodOf {α : Type} {q : α} {k : Int32 → Mst → Option α} {x1 : Int32} {x2 : Int32} {σ : Mst} (FX : CallFix p m c cc nL s args lw_all RX4) (hR : rX4_broodOf.frames + 1 ≤ R.frames ∧ 8 + (3 + 11) + rX4_broodOf.locals ≤ R.locals) (hcs : cells ≤ R.cells ∧ slots ≤ R.slots) (hl : ls.size = nL) (hrm : (rest.map fun v => v.category).sum ≤ 8) (hW : Wd D dA A s (Mc dA h0 ad σ) H locs) (hf : bnd2 (fX4_broodOf x1 x2 σ) k = some q) (hdg : decode cc pc = .ok (.invokevirtual 387, 3)) (kk : ∀ (r : Int32) (σ1 : Mst) (H1 : Heap) (locs1 : List Loc), Wd D dA A s (Mc dA h0 ad σ1) H1 locs1 → k r σ1 = some q → W p l e R s m args below meth c H1 locs1 cells slots Q (F0 m (pc + 3) ls (.int r :: rest))) : W p l e R s m args below meth c H locs cells slots Q (F0 m pc ls (.int x2 :: .int x1 :: .ref h0 :: rest)) := by
  obtain ⟨r1, h1, hf⟩ := bnd (bnd2_eq hf)
  refine w_Vi (C := RX4) (As := [.int x1, .int x2]) (rest := rest) (n := 2) (wr := []) FX (mX4_broodOf h1) (cwV 2 FX.2.2.2.2 (lw_V q1935 q1937 qs89 q132 q1938) rfl rfl rfl (by decide +kernel) hR) (va_recv hW.2.2.2.1 hW.1 (ci := 4) (q0 := 0) rfl rfl) rfl hl rfl hrm ⟨Nat.le_trans (Nat.le_of_eq (Nat.add_zero cells)) hcs.1, Nat.le_trans (Nat.le_of_eq (Nat.add_zero slots)) hcs.2⟩ hdg hW.nil ?_
  exact fun H1 locs1 hW1 => kk r1.1 r1.2 H1 locs1 hW1.nil' hf
/-! TrunkLittersModel.biggestOf(I)I: kind R -/
def fX4_biggestOf_41 (σ : Mst) (k4 : Int32 → Int32 → Int32 → Option Int32) (x1 : Int32) (x3 : Int32) : Option Int32 := k4 x1 x3 (x3 + (1 : Int32))
def fX4_biggestOf_4 (σ : Mst) : Nat → Int32 → Int32 → Int32 → Option Int32
  | 0, _, _, _ => none
  | n + 1, x1, x2, x3 => (if (8 : Int32) ≤ x3 then some x2 else (fX4_bit x1 x3).bind fun r1 => (if r1 = 0 then fX4_biggestOf_4 σ n x1 x2 (x3 + (1 : Int32)) else (if x2 < 0 then fX4_biggestOf_41 σ (fX4_biggestOf_4 σ n) x1 x3 else ald 59 (gA σ 40) ((0 : Int32) + x3) fun v2 => ald 59 (gA σ 40) ((0 : Int32) + x2) fun v3 => (if v2 ≤ v3 then fX4_biggestOf_4 σ n x1 x2 (x3 + (1 : Int32)) else fX4_biggestOf_41 σ (fX4_biggestOf_4 σ n) x1 x3))))
def fX4_biggestOf (x1 : Int32) (σ : Mst) : Option Int32 := fX4_biggestOf_4 σ FU x1 (-1 : Int32) (0 : Int32)
abbrev rX4_biggestOf : Room := { frames := 1, cells := 0, slots := 0, locals := 21 }
set_option maxHeartbeats 4000000 in
set_option maxRecDepth 100000 in
theorem wX4_biggestOf_41 {q : Int32} {σ : Mst} (FX : CallFix p m c cX4_biggestOf 4 s args lw_all RX4) (hr : meth.sig.returnType = (some .int)) (hlk : meth.locks = false) {k4 : Int32 → Int32 → Int32 → Option Int32} (hk4 : ∀ (x1 : Int32) (x2 : Int32) (x3 : Int32) (H : Heap) (locs : List Loc) (ls : Array Slot), lv_has ls 4 [(0, .ref h0), (1, .int x1), (2, .int x2), (3, .int x3)] → Wd D dA A s (Mc dA h0 ad σ) H locs → k4 x1 x2 x3 = some q → W p l e rX4_biggestOf s m args below meth c H locs 0 0 (QI D dA A below args s 0 0 q (Mc dA h0 ad σ)) (F0 m 4 ls [])) : ∀ (x1 : Int32) (x3 : Int32) (H : Heap) (locs : List Loc) (ls : Array Slot), lv_has ls 4 [(0, .ref h0), (1, .int x1), (3, .int x3)] → Wd D dA A s (Mc dA h0 ad σ) H locs → fX4_biggestOf_41 σ k4 x1 x3 = some q → W p l e rX4_biggestOf s m args below meth c H locs 0 0 (QI D dA A below args s 0 0 q (Mc dA h0 ad σ)) (F0 m 41 ls []) := by
  have hx := FX.1; have hb := FX.2.1; have hown := FX.2.2.2.1; have hts := FX.2.2.2.2
  intro x1 x3 H locs ls hl hW hf
  rw [fX4_biggestOf_41] at hf
  refine lv_iload_n hx hb dX4_biggestOf_41 rfl (lv_at hl 2 rfl) ?_
  refine lv_istore_n (lv' := [(2, .int x3), (0, .ref h0), (1, .int x1), (3, .int x3)]) hx hb dX4_biggestOf_42 rfl hl (by decide) rfl (fun ls hl => ?_)
  refine lv_iinc (v := (x3 + (1 : Int32))) (lv' := [(3, .int (x3 + (1 : Int32))), (2, .int x3), (0, .ref h0), (1, .int x1)]) hx hb dX4_biggestOf_43 hl (k := 3) rfl rfl (by decide) rfl (fun ls hl => ?_)
  refine lv_goto (tgt := 4) hx hb dX4_biggestOf_46 (by decide) ?_
  exact hk4 x1 x3 (x3 + (1 : Int32)) _ _ _ (lv_sub hl [2, 3, 1, 0] rfl) hW hf
set_option maxHeartbeats 4000000 in
set_option maxRecDepth 100000 in
theorem wX4_biggestOf_4 {q : Int32} {σ : Mst} (FX : CallFix p m c cX4_biggestOf 4 s args lw_all RX4) (hr : meth.sig.returnType = (some .int)) (hlk : meth.locks = false) : ∀ n : Nat, ∀ (x1 : Int32) (x2 : Int32) (x3 : Int32) (H : Heap) (locs : List Loc) (ls : Array Slot), lv_has ls 4 [(0, .ref h0), (1, .int x1), (2, .int x2), (3, .int x3)] → Wd D dA A s (Mc dA h0 ad σ) H locs → fX4_biggestOf_4 σ n x1 x2 x3 = some q → W p l e rX4_biggestOf s m args below meth c H locs 0 0 (QI D dA A below args s 0 0 q (Mc dA h0 ad σ)) (F0 m 4 ls []) := by
  have hx := FX.1; have hb := FX.2.1; have hown := FX.2.2.2.1; have hts := FX.2.2.2.2
  intro n
  induction n with
  | zero =>
    intro x1 x2 x3 H locs ls hl hW hf
    cases (show (none : Option Int32) = some q from hf)
  | succ n ih =>
    intro x1 x2 x3 H locs ls hl hW hf
    rw [fX4_biggestOf_4] at hf
    refine lv_iload_n hx hb dX4_biggestOf_4 rfl (lv_at hl 3 rfl) ?_
    refine lv_bipush (v := 8) hx hb dX4_biggestOf_5 (by decide) ?_
    refine lv_icmp_ge (tgt := 49) hx hb dX4_biggestOf_7 (by decide) (fun c7 => ?_) (fun c7 => ?_)
    · have hf := ifp c7 hf
      refine lv_iload_n hx hb dX4_biggestOf_49 rfl (lv_at hl 2 rfl) ?_
      exact g_iret FX hr hlk hW (Option.some.inj hf) dX4_biggestOf_50
    · have hf := ifn c7 hf
      refine lv_iload_n hx hb dX4_biggestOf_10 rfl (lv_at hl 1 rfl) ?_
      refine lv_iload_n hx hb dX4_biggestOf_11 rfl (lv_at hl 3 rfl) ?_
      refine kX4_bit FX ⟨Nat.le_of_ble_eq_true rfl, Nat.le_of_ble_eq_true rfl⟩ ⟨Nat.zero_le _, Nat.zero_le _⟩ hl.1 (Nat.le_of_ble_eq_true rfl) hW hf dX4_biggestOf_12 (fun r1 H locs hW hf => ?_)
      refine lv_if_eq (tgt := 43) hx hb dX4_biggestOf_15 (by decide) (fun c15 => ?_) (fun c15 => ?_)
      · have hf := ifp c15 hf
        refine lv_iinc (v := (x3 + (1 : Int32))) (lv' := [(3, .int (x3 + (1 : Int32))), (0, .ref h0), (1, .int x1), (2, .int x2)]) hx hb dX4_biggestOf_43 hl (k := 3) rfl rfl (by decide) rfl (fun ls hl => ?_)
        refine lv_goto (tgt := 4) hx hb dX4_biggestOf_46 (by decide) ?_
        exact ih x1 x2 (x3 + (1 : Int32)) _ _ _ (lv_sub hl [1, 2, 3, 0] rfl) hW hf
      · have hf := ifn c15 hf
        refine lv_iload_n hx hb dX4_biggestOf_18 rfl (lv_at hl 2 rfl) ?_
        refine lv_if_lt (tgt := 41) hx hb dX4_biggestOf_19 (by decide) (fun c19 => ?_) (fun c19 => ?_)
        · have hf := ifp c19 hf
          exact wX4_biggestOf_41 FX hr hlk (ih) x1 x3 _ _ _ (lv_sub hl [0, 1, 3] rfl) hW hf
        · have hf := ifn c19 hf
          refine lv_aload_n hx hb dX4_biggestOf_22 rfl (lv_at hl 0 rfl) ?_
          refine Mg40 FX hW dX4_biggestOf_23 ?_
          refine lv_iconst (v := 0) hx hb dX4_biggestOf_26 (by decide) ?_
          refine lv_iload_n hx hb dX4_biggestOf_27 rfl (lv_at hl 3 rfl) ?_
          refine lv_iadd hx hb dX4_biggestOf_28 ?_
          refine g_iald FX hW 24 Mp40 hf dX4_biggestOf_29 (fun v2 hf => ?_)
          refine lv_aload_n hx hb dX4_biggestOf_30 rfl (lv_at hl 0 rfl) ?_
          refine Mg40 FX hW dX4_biggestOf_31 ?_
          refine lv_iconst (v := 0) hx hb dX4_biggestOf_34 (by decide) ?_
          refine lv_iload_n hx hb dX4_biggestOf_35 rfl (lv_at hl 2 rfl) ?_
          refine lv_iadd hx hb dX4_biggestOf_36 ?_
          refine g_iald FX hW 24 Mp40 hf dX4_biggestOf_37 (fun v3 hf => ?_)
          refine lv_icmp_le (tgt := 43) hx hb dX4_biggestOf_38 (by decide) (fun c38 => ?_) (fun c38 => ?_)
          · have hf := ifp c38 hf
            refine lv_iinc (v := (x3 + (1 : Int32))) (lv' := [(3, .int (x3 + (1 : Int32))), (0, .ref h0), (1, .int x1), (2, .int x2)]) hx hb dX4_biggestOf_43 hl (k := 3) rfl rfl (by decide) rfl (fun ls hl => ?_)
            refine lv_goto (tgt := 4) hx hb dX4_biggestOf_46 (by decide) ?_
            exact ih x1 x2 (x3 + (1 : Int32)) _ _ _ (lv_sub hl [1, 2, 3, 0] rfl) hW hf
          · have hf := ifn c38 hf
            exact wX4_biggestOf_41 FX hr hlk (ih) x1 x3 _ _ _ (lv_sub hl [0, 1, 3] rfl) hW hf
set_option maxHeartbeats 4000000 in
set_option maxRecDepth 100000 in
theorem mX4_biggestOf  {x1 : Int32} {σ : Mst} {q : Int32} (hf : fX4_biggestOf x1 σ = some q) : CtI l yX4_biggestOf cX4_biggestOf 4 (some .int) rX4_biggestOf D dA [.ref h0, .int x1] (Mc dA h0 ad σ) q (Mc dA h0 ad σ) := by
  refine e_I (by decide) (Nat.le_of_ble_eq_true rfl) ?_
  intro p e s m below meth c ls A FX hr hlk hl hW
  have hx := FX.1; have hb := FX.2.1; have hown := FX.2.2.2.1; have hts := FX.2.2.2.2
  have hl : lv_has ls 4 [(0, .ref h0), (1, .int x1)] := hl
  rw [fX4_biggestOf] at hf
  refine lv_iconst (v := -1) hx hb dX4_biggestOf_0 (by decide) ?_
  refine lv_istore_n (lv' := [(2, .int (-1 : Int32)), (0, .ref h0), (1, .int x1)]) hx hb dX4_biggestOf_1 rfl hl (by decide) rfl (fun ls hl => ?_)
  refine lv_iconst (v := 0) hx hb dX4_biggestOf_2 (by decide) ?_
  refine lv_istore_n (lv' := [(3, .int (0 : Int32)), (2, .int (-1 : Int32)), (0, .ref h0), (1, .int x1)]) hx hb dX4_biggestOf_3 rfl hl (by decide) rfl (fun ls hl => ?_)
  exact wX4_biggestOf_4 FX hr hlk _ x1 (-1 : Int32) (0 : Int32) _ _ _ (lv_sub hl [2, 3, 1, 0] rfl) hW hf
set_option maxHeartbeats 4000000 in
set_option maxRecDepth 100000 in
theorem kX4_biggestOf {α : Type} {q : α} {k : Int32 → Option α} {x1 : Int32} {σ : Mst} (FX : CallFix p m c cc nL s args lw_all RX4) (hR : rX4_biggestOf.frames + 1 ≤ R.frames ∧ 8 + (4 + 11) + rX4_biggestOf.locals ≤ R.locals) (hcs : cells ≤ R.cells ∧ slots ≤ R.slots) (hl : ls.size = nL) (hrm : (rest.map fun v => v.category).sum ≤ 8) (hW : Wd D dA A s (Mc dA h0 ad σ) H locs) (hf : (fX4_biggestOf x1 σ).bind k = some q) (hdg : decode cc pc = .ok (.invokevirtual 378, 3)) (kk : ∀ (r : Int32) (H1 : Heap) (locs1 : List Loc), Wd D dA A s (Mc dA h0 ad σ) H1 locs1 → k r = some q → W p l e R s m args below meth c H1 locs1 cells slots Q (F0 m (pc + 3) ls (.int r :: rest))) : W p l e R s m args below meth c H locs cells slots Q (F0 m pc ls (.int x1 :: .ref h0 :: rest)) := by
  obtain ⟨r1, h1, hf⟩ := bnd hf
  refine w_Vi (C := RX4) (As := [.int x1]) (rest := rest) (n := 1) (wr := []) FX (mX4_biggestOf h1) (cwV 1 FX.2.2.2.2 (lw_V q1969 q1971 qs94 q132 q1972) rfl rfl rfl (by decide +kernel) hR) (va_recv hW.2.2.2.1 hW.1 (ci := 4) (q0 := 0) rfl rfl) rfl hl rfl hrm ⟨Nat.le_trans (Nat.le_of_eq (Nat.add_zero cells)) hcs.1, Nat.le_trans (Nat.le_of_eq (Nat.add_zero slots)) hcs.2⟩ hdg hW.nil ?_
  exact fun H1 locs1 hW1 => kk r1 H1 locs1 hW1.nil' hf
/-! TrunkLittersModel.coupleOf(I)I: kind R -/
def fX4_coupleOf_8 (σ : Mst) : Nat → Int32 → Int32 → Option Int32
  | 0, _, _ => none
  | n + 1, x2, x3 => (if (8 : Int32) ≤ x3 then (fX4_bitsOf x2).bind fun r1 => (if (2 : Int32) ≤ r1 then (fX4_biggestOf x2 σ).bind fun r2 => (fX4_biggestOf (x2 &&& (((1 : Int32) <<< (r2 &&& 31)) ^^^ (-1 : Int32))) σ).bind fun r3 => some (((8 : Int32) * r2) + r3) else some (-1 : Int32)) else ald 59 (gA σ 40) ((32 : Int32) + x3) fun v4 => (if v4 ≤ 0 then fX4_coupleOf_8 σ n x2 (x3 + (1 : Int32)) else fX4_coupleOf_8 σ n (x2 &&& (((1 : Int32) <<< (x3 &&& 31)) ^^^ (-1 : Int32))) (x3 + (1 : Int32))))
def fX4_coupleOf (x1 : Int32) (σ : Mst) : Option Int32 := (fX4_thoseIn x1 σ).bind fun r1 => fX4_coupleOf_8 σ FU r1 (0 : Int32)
abbrev rX4_coupleOf : Room := { frames := 2, cells := 0, slots := 0, locals := 44 }
set_option maxHeartbeats 4000000 in
set_option maxRecDepth 100000 in
theorem wX4_coupleOf_8 {q : Int32} {σ : Mst} (FX : CallFix p m c cX4_coupleOf 4 s args lw_all RX4) (hr : meth.sig.returnType = (some .int)) (hlk : meth.locks = false) : ∀ n : Nat, ∀ (x2 : Int32) (x3 : Int32) (H : Heap) (locs : List Loc) (ls : Array Slot), lv_has ls 4 [(0, .ref h0), (2, .int x2), (3, .int x3)] → Wd D dA A s (Mc dA h0 ad σ) H locs → fX4_coupleOf_8 σ n x2 x3 = some q → W p l e rX4_coupleOf s m args below meth c H locs 0 0 (QI D dA A below args s 0 0 q (Mc dA h0 ad σ)) (F0 m 8 ls []) := by
  have hx := FX.1; have hb := FX.2.1; have hown := FX.2.2.2.1; have hts := FX.2.2.2.2
  intro n
  induction n with
  | zero =>
    intro x2 x3 H locs ls hl hW hf
    cases (show (none : Option Int32) = some q from hf)
  | succ n ih =>
    intro x2 x3 H locs ls hl hW hf
    rw [fX4_coupleOf_8] at hf
    refine lv_iload_n hx hb dX4_coupleOf_8 rfl (lv_at hl 2 rfl) ?_
    refine lv_bipush (v := 8) hx hb dX4_coupleOf_9 (by decide) ?_
    refine lv_icmp_ge (tgt := 40) hx hb dX4_coupleOf_11 (by decide) (fun c11 => ?_) (fun c11 => ?_)
    · have hf := ifp c11 hf
      refine lv_iload_n hx hb dX4_coupleOf_40 rfl (lv_at hl 1 rfl) ?_
      refine kX4_bitsOf FX ⟨Nat.le_of_ble_eq_true rfl, Nat.le_of_ble_eq_true rfl⟩ ⟨Nat.zero_le _, Nat.zero_le _⟩ hl.1 (Nat.le_of_ble_eq_true rfl) hW hf dX4_coupleOf_41 (fun r1 H locs hW hf => ?_)
      refine lv_iconst (v := 2) hx hb dX4_coupleOf_44 (by decide) ?_
      refine lv_icmp_ge (tgt := 50) hx hb dX4_coupleOf_45 (by decide) (fun c45 => ?_) (fun c45 => ?_)
      · have hf := ifp c45 hf
        refine lv_aload_n hx hb dX4_coupleOf_50 rfl (lv_at hl 0 rfl) ?_
        refine lv_iload_n hx hb dX4_coupleOf_51 rfl (lv_at hl 1 rfl) ?_
        refine kX4_biggestOf FX ⟨Nat.le_of_ble_eq_true rfl, Nat.le_of_ble_eq_true rfl⟩ ⟨Nat.zero_le _, Nat.zero_le _⟩ hl.1 (Nat.le_of_ble_eq_true rfl) hW hf dX4_coupleOf_52 (fun r2 H locs hW hf => ?_)
        refine lv_istore_n (lv' := [(3, .int r2), (0, .ref h0), (2, .int x2)]) hx hb dX4_coupleOf_55 rfl hl (by decide) rfl (fun ls hl => ?_)
        refine lv_bipush (v := 8) hx hb dX4_coupleOf_56 (by decide) ?_
        refine lv_iload_n hx hb dX4_coupleOf_58 rfl (lv_at hl 0 rfl) ?_
        refine lv_imul hx hb dX4_coupleOf_59 ?_
        refine lv_aload_n hx hb dX4_coupleOf_60 rfl (lv_at hl 1 rfl) ?_
        refine lv_iload_n hx hb dX4_coupleOf_61 rfl (lv_at hl 2 rfl) ?_
        refine lv_iconst (v := 1) hx hb dX4_coupleOf_62 (by decide) ?_
        refine lv_iload_n hx hb dX4_coupleOf_63 rfl (lv_at hl 0 rfl) ?_
        refine lv_ishl hx hb dX4_coupleOf_64 ?_
        refine lv_iconst (v := -1) hx hb dX4_coupleOf_65 (by decide) ?_
        refine lv_ixor hx hb dX4_coupleOf_66 ?_
        refine lv_iand hx hb dX4_coupleOf_67 ?_
        refine kX4_biggestOf FX ⟨Nat.le_of_ble_eq_true rfl, Nat.le_of_ble_eq_true rfl⟩ ⟨Nat.zero_le _, Nat.zero_le _⟩ hl.1 (Nat.le_of_ble_eq_true rfl) hW hf dX4_coupleOf_68 (fun r3 H locs hW hf => ?_)
        refine lv_iadd hx hb dX4_coupleOf_71 ?_
        exact g_iret FX hr hlk hW (Option.some.inj hf) dX4_coupleOf_72
      · have hf := ifn c45 hf
        refine lv_iconst (v := -1) hx hb dX4_coupleOf_48 (by decide) ?_
        exact g_iret FX hr hlk hW (Option.some.inj hf) dX4_coupleOf_49
    · have hf := ifn c11 hf
      refine lv_aload_n hx hb dX4_coupleOf_14 rfl (lv_at hl 0 rfl) ?_
      refine Mg40 FX hW dX4_coupleOf_15 ?_
      refine lv_bipush (v := 32) hx hb dX4_coupleOf_18 (by decide) ?_
      refine lv_iload_n hx hb dX4_coupleOf_20 rfl (lv_at hl 2 rfl) ?_
      refine lv_iadd hx hb dX4_coupleOf_21 ?_
      refine g_iald FX hW 24 Mp40 hf dX4_coupleOf_22 (fun v4 hf => ?_)
      refine lv_if_le (tgt := 34) hx hb dX4_coupleOf_23 (by decide) (fun c23 => ?_) (fun c23 => ?_)
      · have hf := ifp c23 hf
        refine lv_iinc (v := (x3 + (1 : Int32))) (lv' := [(3, .int (x3 + (1 : Int32))), (0, .ref h0), (2, .int x2)]) hx hb dX4_coupleOf_34 hl (k := 2) rfl rfl (by decide) rfl (fun ls hl => ?_)
        refine lv_goto (tgt := 8) hx hb dX4_coupleOf_37 (by decide) ?_
        exact ih x2 (x3 + (1 : Int32)) _ _ _ (lv_sub hl [1, 2, 0] rfl) hW hf
      · have hf := ifn c23 hf
        refine lv_iload_n hx hb dX4_coupleOf_26 rfl (lv_at hl 1 rfl) ?_
        refine lv_iconst (v := 1) hx hb dX4_coupleOf_27 (by decide) ?_
        refine lv_iload_n hx hb dX4_coupleOf_28 rfl (lv_at hl 2 rfl) ?_
        refine lv_ishl hx hb dX4_coupleOf_29 ?_
        refine lv_iconst (v := -1) hx hb dX4_coupleOf_30 (by decide) ?_
        refine lv_ixor hx hb dX4_coupleOf_31 ?_
        refine lv_iand hx hb dX4_coupleOf_32 ?_
        refine lv_istore_n (lv' := [(2, .int (x2 &&& (((1 : Int32) <<< (x3 &&& 31)) ^^^ (-1 : Int32)))), (0, .ref h0), (3, .int x3)]) hx hb dX4_coupleOf_33 rfl hl (by decide) rfl (fun ls hl => ?_)
        refine lv_iinc (v := (x3 + (1 : Int32))) (lv' := [(3, .int (x3 + (1 : Int32))), (2, .int (x2 &&& (((1 : Int32) <<< (x3 &&& 31)) ^^^ (-1 : Int32)))), (0, .ref h0)]) hx hb dX4_coupleOf_34 hl (k := 2) rfl rfl (by decide) rfl (fun ls hl => ?_)
        refine lv_goto (tgt := 8) hx hb dX4_coupleOf_37 (by decide) ?_
        exact ih (x2 &&& (((1 : Int32) <<< (x3 &&& 31)) ^^^ (-1 : Int32))) (x3 + (1 : Int32)) _ _ _ (lv_sub hl [2, 1, 0] rfl) hW hf
set_option maxHeartbeats 4000000 in
set_option maxRecDepth 100000 in
theorem mX4_coupleOf  {x1 : Int32} {σ : Mst} {q : Int32} (hf : fX4_coupleOf x1 σ = some q) : CtI l yX4_coupleOf cX4_coupleOf 4 (some .int) rX4_coupleOf D dA [.ref h0, .int x1] (Mc dA h0 ad σ) q (Mc dA h0 ad σ) := by
  refine e_I (by decide) (Nat.le_of_ble_eq_true rfl) ?_
  intro p e s m below meth c ls A FX hr hlk hl hW
  have hx := FX.1; have hb := FX.2.1; have hown := FX.2.2.2.1; have hts := FX.2.2.2.2
  have hl : lv_has ls 4 [(0, .ref h0), (1, .int x1)] := hl
  rw [fX4_coupleOf] at hf
  refine lv_aload_n hx hb dX4_coupleOf_0 rfl (lv_at hl 0 rfl) ?_
  refine lv_iload_n hx hb dX4_coupleOf_1 rfl (lv_at hl 1 rfl) ?_
  refine kX4_thoseIn FX ⟨Nat.le_of_ble_eq_true rfl, Nat.le_of_ble_eq_true rfl⟩ ⟨Nat.zero_le _, Nat.zero_le _⟩ hl.1 (Nat.le_of_ble_eq_true rfl) hW hf dX4_coupleOf_2 (fun r1 H locs hW hf => ?_)
  refine lv_istore_n (lv' := [(2, .int r1), (0, .ref h0), (1, .int x1)]) hx hb dX4_coupleOf_5 rfl hl (by decide) rfl (fun ls hl => ?_)
  refine lv_iconst (v := 0) hx hb dX4_coupleOf_6 (by decide) ?_
  refine lv_istore_n (lv' := [(3, .int (0 : Int32)), (2, .int r1), (0, .ref h0), (1, .int x1)]) hx hb dX4_coupleOf_7 rfl hl (by decide) rfl (fun ls hl => ?_)
  exact wX4_coupleOf_8 FX hr hlk _ r1 (0 : Int32) _ _ _ (lv_sub hl [2, 1, 0] rfl) hW hf
set_option maxHeartbeats 4000000 in
set_option maxRecDepth 100000 in
theorem kX4_coupleOf {α : Type} {q : α} {k : Int32 → Option α} {x1 : Int32} {σ : Mst} (FX : CallFix p m c cc nL s args lw_all RX4) (hR : rX4_coupleOf.frames + 1 ≤ R.frames ∧ 8 + (4 + 11) + rX4_coupleOf.locals ≤ R.locals) (hcs : cells ≤ R.cells ∧ slots ≤ R.slots) (hl : ls.size = nL) (hrm : (rest.map fun v => v.category).sum ≤ 8) (hW : Wd D dA A s (Mc dA h0 ad σ) H locs) (hf : (fX4_coupleOf x1 σ).bind k = some q) (hdg : decode cc pc = .ok (.invokevirtual 381, 3)) (kk : ∀ (r : Int32) (H1 : Heap) (locs1 : List Loc), Wd D dA A s (Mc dA h0 ad σ) H1 locs1 → k r = some q → W p l e R s m args below meth c H1 locs1 cells slots Q (F0 m (pc + 3) ls (.int r :: rest))) : W p l e R s m args below meth c H locs cells slots Q (F0 m pc ls (.int x1 :: .ref h0 :: rest)) := by
  obtain ⟨r1, h1, hf⟩ := bnd hf
  refine w_Vi (C := RX4) (As := [.int x1]) (rest := rest) (n := 1) (wr := []) FX (mX4_coupleOf h1) (cwV 1 FX.2.2.2.2 (lw_V q1965 q1967 qs93 q132 q1968) rfl rfl rfl (by decide +kernel) hR) (va_recv hW.2.2.2.1 hW.1 (ci := 4) (q0 := 0) rfl rfl) rfl hl rfl hrm ⟨Nat.le_trans (Nat.le_of_eq (Nat.add_zero cells)) hcs.1, Nat.le_trans (Nat.le_of_eq (Nat.add_zero slots)) hcs.2⟩ hdg hW.nil ?_
  exact fun H1 locs1 hW1 => kk r1 H1 locs1 hW1.nil' hf
end M06
