section M01
variable {p : Program} {l : Launch} {e : Env} {R : Room} {s : State} {m : MethodId} {args : Array Value} {below : List Frame} {meth : Method} {c : Code} {H : Heap} {locs : List Loc} {cells slots : Nat} {Q : State → Prop}
variable {cc : ByteArray} {pc nL : Nat} {ls : Array Slot} {rest : List Value} {D : va_G} {dA : Nat → ClassId} {A : Nat → Prop} {h0 : Nat} {ad : Nat → Nat}
/-! TrunkLittersModel.quartet(IIIII)I: kind R -/
def fX4_quartet_134 (σ : Mst) (x5 : Int32) (x6 : Int32) (x7 : Int32) : Option Int32 := (if x5 = 0 then some x6 else some x7)
def fX4_quartet_120 (σ : Mst) (x5 : Int32) (x6 : Int32) (x7 : Int32) (x9 : Int32) : Option Int32 := (if x7 ≤ x9 then fX4_quartet_134 σ x5 x6 x7 else fX4_quartet_134 σ x5 (2 : Int32) x9)
def fX4_quartet (x1 : Int32) (x2 : Int32) (x3 : Int32) (x4 : Int32) (x5 : Int32) (σ : Mst) : Option Int32 := (fX4_isThere x1 σ).bind fun r1 => (if r1 = 0 then some (-1 : Int32) else (fX4_isThere x2 σ).bind fun r2 => (if r2 = 0 then some (-1 : Int32) else (fX4_isThere x3 σ).bind fun r3 => (if r3 = 0 then some (-1 : Int32) else (fX4_isThere x4 σ).bind fun r4 => (if r4 = 0 then some (-1 : Int32) else (fX4_isIn x5 (0 : Int32) (1 : Int32)).bind fun r5 => (if r5 = 0 then some (-1 : Int32) else (fX4_bitsOf (((((1 : Int32) <<< (x1 &&& 31)) ||| ((1 : Int32) <<< (x2 &&& 31))) ||| ((1 : Int32) <<< (x3 &&& 31))) ||| ((1 : Int32) <<< (x4 &&& 31)))).bind fun r6 => (if (4 : Int32) ≤ r6 then (fX4_changesOf x1 x2 x3 x4 σ).bind fun r7 => (fX4_changesOf x1 x3 x2 x4 σ).bind fun r8 => (fX4_changesOf x1 x4 x2 x3 σ).bind fun r9 => (if r7 ≤ r8 then fX4_quartet_120 σ x5 (0 : Int32) r7 r9 else fX4_quartet_120 σ x5 (1 : Int32) r8 r9) else some (-1 : Int32)))))))
abbrev rX4_quartet : Room := { frames := 2, cells := 0, slots := 0, locals := 43 }
set_option maxHeartbeats 4000000 in
set_option maxRecDepth 100000 in
theorem wX4_quartet_134 {q : Int32} {σ : Mst} (FX : CallFix p m c cX4_quartet 10 s args lw_all RX4) (hr : meth.sig.returnType = (some .int)) (hlk : meth.locks = false) : ∀ (x5 : Int32) (x6 : Int32) (x7 : Int32) (H : Heap) (locs : List Loc) (ls : Array Slot), lv_has ls 10 [(5, .int x5), (6, .int x6), (7, .int x7)] → Wd D dA A s (Mc dA h0 ad σ) H locs → fX4_quartet_134 σ x5 x6 x7 = some q → W p l e rX4_quartet s m args below meth c H locs 0 0 (QI D dA A below args s 0 0 q (Mc dA h0 ad σ)) (F0 m 134 ls []) := by
  have hx := FX.1; have hb := FX.2.1; have hown := FX.2.2.2.1; have hts := FX.2.2.2.2
  intro x5 x6 x7 H locs ls hl hW hf
  rw [fX4_quartet_134] at hf
  refine lv_iload hx hb dX4_quartet_134 (lv_at hl 0 rfl) ?_
  refine lv_if_ne (tgt := 144) hx hb dX4_quartet_136 (by decide) (fun c136 => ?_) (fun c136 => ?_)
  · have hf := ifn c136 hf
    refine lv_iload hx hb dX4_quartet_144 (lv_at hl 2 rfl) ?_
    exact g_iret FX hr hlk hW (Option.some.inj hf) dX4_quartet_146
  · have hf := ifp c136 hf
    refine lv_iload hx hb dX4_quartet_139 (lv_at hl 1 rfl) ?_
    refine lv_goto (tgt := 146) hx hb dX4_quartet_141 (by decide) ?_
    exact g_iret FX hr hlk hW (Option.some.inj hf) dX4_quartet_146
set_option maxHeartbeats 4000000 in
set_option maxRecDepth 100000 in
theorem wX4_quartet_120 {q : Int32} {σ : Mst} (FX : CallFix p m c cX4_quartet 10 s args lw_all RX4) (hr : meth.sig.returnType = (some .int)) (hlk : meth.locks = false) : ∀ (x5 : Int32) (x6 : Int32) (x7 : Int32) (x9 : Int32) (H : Heap) (locs : List Loc) (ls : Array Slot), lv_has ls 10 [(5, .int x5), (6, .int x6), (7, .int x7), (9, .int x9)] → Wd D dA A s (Mc dA h0 ad σ) H locs → fX4_quartet_120 σ x5 x6 x7 x9 = some q → W p l e rX4_quartet s m args below meth c H locs 0 0 (QI D dA A below args s 0 0 q (Mc dA h0 ad σ)) (F0 m 120 ls []) := by
  have hx := FX.1; have hb := FX.2.1; have hown := FX.2.2.2.1; have hts := FX.2.2.2.2
  intro x5 x6 x7 x9 H locs ls hl hW hf
  rw [fX4_quartet_120] at hf
  refine lv_iload hx hb dX4_quartet_120 (lv_at hl 3 rfl) ?_
  refine lv_iload hx hb dX4_quartet_122 (lv_at hl 2 rfl) ?_
  refine lv_icmp_ge (tgt := 134) hx hb dX4_quartet_124 (by decide) (fun c124 => ?_) (fun c124 => ?_)
  · have hf := ifp c124 hf
    exact wX4_quartet_134 FX hr hlk x5 x6 x7 _ _ _ (lv_sub hl [0, 1, 2] rfl) hW hf
  · have hf := ifn c124 hf
    refine lv_iconst (v := 2) hx hb dX4_quartet_127 (by decide) ?_
    refine lv_istore (lv' := [(6, .int (2 : Int32)), (5, .int x5), (7, .int x7), (9, .int x9)]) hx hb dX4_quartet_128 hl (by decide) rfl (fun ls hl => ?_)
    refine lv_iload hx hb dX4_quartet_130 (lv_at hl 3 rfl) ?_
    refine lv_istore (lv' := [(7, .int x9), (6, .int (2 : Int32)), (5, .int x5), (9, .int x9)]) hx hb dX4_quartet_132 hl (by decide) rfl (fun ls hl => ?_)
    exact wX4_quartet_134 FX hr hlk x5 (2 : Int32) x9 _ _ _ (lv_sub hl [2, 1, 0] rfl) hW hf
set_option maxHeartbeats 4000000 in
set_option maxRecDepth 100000 in
theorem mX4_quartet  {x1 : Int32} {x2 : Int32} {x3 : Int32} {x4 : Int32} {x5 : Int32} {σ : Mst} {q : Int32} (hf : fX4_quartet x1 x2 x3 x4 x5 σ = some q) : CtI l yX4_quartet cX4_quartet 10 (some .int) rX4_quartet D dA [.ref h0, .int x1, .int x2, .int x3, .int x4, .int x5] (Mc dA h0 ad σ) q (Mc dA h0 ad σ) := by
  refine e_I (by decide) (Nat.le_of_ble_eq_true rfl) ?_
  intro p e s m below meth c ls A FX hr hlk hl hW
  have hx := FX.1; have hb := FX.2.1; have hown := FX.2.2.2.1; have hts := FX.2.2.2.2
  have hl : lv_has ls 10 [(0, .ref h0), (1, .int x1), (2, .int x2), (3, .int x3), (4, .int x4), (5, .int x5)] := hl
  rw [fX4_quartet] at hf
  refine lv_aload_n hx hb dX4_quartet_0 rfl (lv_at hl 0 rfl) ?_
  refine lv_iload_n hx hb dX4_quartet_1 rfl (lv_at hl 1 rfl) ?_
  refine kX4_isThere FX ⟨Nat.le_of_ble_eq_true rfl, Nat.le_of_ble_eq_true rfl⟩ ⟨Nat.zero_le _, Nat.zero_le _⟩ hl.1 (Nat.le_of_ble_eq_true rfl) hW hf dX4_quartet_2 (fun r1 H locs hW hf => ?_)
  refine lv_if_eq (tgt := 43) hx hb dX4_quartet_5 (by decide) (fun c5 => ?_) (fun c5 => ?_)
  · have hf := ifp c5 hf
    refine lv_iconst (v := -1) hx hb dX4_quartet_43 (by decide) ?_
    exact g_iret FX hr hlk hW (Option.some.inj hf) dX4_quartet_44
  · have hf := ifn c5 hf
    refine lv_aload_n hx hb dX4_quartet_8 rfl (lv_at hl 0 rfl) ?_
    refine lv_iload_n hx hb dX4_quartet_9 rfl (lv_at hl 2 rfl) ?_
    refine kX4_isThere FX ⟨Nat.le_of_ble_eq_true rfl, Nat.le_of_ble_eq_true rfl⟩ ⟨Nat.zero_le _, Nat.zero_le _⟩ hl.1 (Nat.le_of_ble_eq_true rfl) hW hf dX4_quartet_10 (fun r2 H locs hW hf => ?_)
    refine lv_if_eq (tgt := 43) hx hb dX4_quartet_13 (by decide) (fun c13 => ?_) (fun c13 => ?_)
    · have hf := ifp c13 hf
      refine lv_iconst (v := -1) hx hb dX4_quartet_43 (by decide) ?_
      exact g_iret FX hr hlk hW (Option.some.inj hf) dX4_quartet_44
    · have hf := ifn c13 hf
      refine lv_aload_n hx hb dX4_quartet_16 rfl (lv_at hl 0 rfl) ?_
      refine lv_iload_n hx hb dX4_quartet_17 rfl (lv_at hl 3 rfl) ?_
      refine kX4_isThere FX ⟨Nat.le_of_ble_eq_true rfl, Nat.le_of_ble_eq_true rfl⟩ ⟨Nat.zero_le _, Nat.zero_le _⟩ hl.1 (Nat.le_of_ble_eq_true rfl) hW hf dX4_quartet_18 (fun r3 H locs hW hf => ?_)
      refine lv_if_eq (tgt := 43) hx hb dX4_quartet_21 (by decide) (fun c21 => ?_) (fun c21 => ?_)
      · have hf := ifp c21 hf
        refine lv_iconst (v := -1) hx hb dX4_quartet_43 (by decide) ?_
        exact g_iret FX hr hlk hW (Option.some.inj hf) dX4_quartet_44
      · have hf := ifn c21 hf
        refine lv_aload_n hx hb dX4_quartet_24 rfl (lv_at hl 0 rfl) ?_
        refine lv_iload hx hb dX4_quartet_25 (lv_at hl 4 rfl) ?_
        refine kX4_isThere FX ⟨Nat.le_of_ble_eq_true rfl, Nat.le_of_ble_eq_true rfl⟩ ⟨Nat.zero_le _, Nat.zero_le _⟩ hl.1 (Nat.le_of_ble_eq_true rfl) hW hf dX4_quartet_27 (fun r4 H locs hW hf => ?_)
        refine lv_if_eq (tgt := 43) hx hb dX4_quartet_30 (by decide) (fun c30 => ?_) (fun c30 => ?_)
        · have hf := ifp c30 hf
          refine lv_iconst (v := -1) hx hb dX4_quartet_43 (by decide) ?_
          exact g_iret FX hr hlk hW (Option.some.inj hf) dX4_quartet_44
        · have hf := ifn c30 hf
          refine lv_iload hx hb dX4_quartet_33 (lv_at hl 5 rfl) ?_
          refine lv_iconst (v := 0) hx hb dX4_quartet_35 (by decide) ?_
          refine lv_iconst (v := 1) hx hb dX4_quartet_36 (by decide) ?_
          refine kX4_isIn FX ⟨Nat.le_of_ble_eq_true rfl, Nat.le_of_ble_eq_true rfl⟩ ⟨Nat.zero_le _, Nat.zero_le _⟩ hl.1 (Nat.le_of_ble_eq_true rfl) hW hf dX4_quartet_37 (fun r5 H locs hW hf => ?_)
          refine lv_if_ne (tgt := 45) hx hb dX4_quartet_40 (by decide) (fun c40 => ?_) (fun c40 => ?_)
          · have hf := ifn c40 hf
            refine lv_iconst (v := 1) hx hb dX4_quartet_45 (by decide) ?_
            refine lv_iload_n hx hb dX4_quartet_46 rfl (lv_at hl 1 rfl) ?_
            refine lv_ishl hx hb dX4_quartet_47 ?_
            refine lv_iconst (v := 1) hx hb dX4_quartet_48 (by decide) ?_
            refine lv_iload_n hx hb dX4_quartet_49 rfl (lv_at hl 2 rfl) ?_
            refine lv_ishl hx hb dX4_quartet_50 ?_
            refine lv_ior hx hb dX4_quartet_51 ?_
            refine lv_iconst (v := 1) hx hb dX4_quartet_52 (by decide) ?_
            refine lv_iload_n hx hb dX4_quartet_53 rfl (lv_at hl 3 rfl) ?_
            refine lv_ishl hx hb dX4_quartet_54 ?_
            refine lv_ior hx hb dX4_quartet_55 ?_
            refine lv_iconst (v := 1) hx hb dX4_quartet_56 (by decide) ?_
            refine lv_iload hx hb dX4_quartet_57 (lv_at hl 4 rfl) ?_
            refine lv_ishl hx hb dX4_quartet_59 ?_
            refine lv_ior hx hb dX4_quartet_60 ?_
            refine kX4_bitsOf FX ⟨Nat.le_of_ble_eq_true rfl, Nat.le_of_ble_eq_true rfl⟩ ⟨Nat.zero_le _, Nat.zero_le _⟩ hl.1 (Nat.le_of_ble_eq_true rfl) hW hf dX4_quartet_61 (fun r6 H locs hW hf => ?_)
            refine lv_iconst (v := 4) hx hb dX4_quartet_64 (by decide) ?_
            refine lv_icmp_ge (tgt := 70) hx hb dX4_quartet_65 (by decide) (fun c65 => ?_) (fun c65 => ?_)
            · have hf := ifp c65 hf
              refine lv_iconst (v := 0) hx hb dX4_quartet_70 (by decide) ?_
              refine lv_istore (lv' := [(6, .int (0 : Int32)), (0, .ref h0), (1, .int x1), (2, .int x2), (3, .int x3), (4, .int x4), (5, .int x5)]) hx hb dX4_quartet_71 hl (by decide) rfl (fun ls hl => ?_)
              refine lv_aload_n hx hb dX4_quartet_73 rfl (lv_at hl 1 rfl) ?_
              refine lv_iload_n hx hb dX4_quartet_74 rfl (lv_at hl 2 rfl) ?_
              refine lv_iload_n hx hb dX4_quartet_75 rfl (lv_at hl 3 rfl) ?_
              refine lv_iload_n hx hb dX4_quartet_76 rfl (lv_at hl 4 rfl) ?_
              refine lv_iload hx hb dX4_quartet_77 (lv_at hl 5 rfl) ?_
              refine kX4_changesOf FX ⟨Nat.le_of_ble_eq_true rfl, Nat.le_of_ble_eq_true rfl⟩ ⟨Nat.zero_le _, Nat.zero_le _⟩ hl.1 (Nat.le_of_ble_eq_true rfl) hW hf dX4_quartet_79 (fun r7 H locs hW hf => ?_)
              refine lv_istore (lv' := [(7, .int r7), (6, .int (0 : Int32)), (0, .ref h0), (1, .int x1), (2, .int x2), (3, .int x3), (4, .int x4), (5, .int x5)]) hx hb dX4_quartet_82 hl (by decide) rfl (fun ls hl => ?_)
              refine lv_aload_n hx hb dX4_quartet_84 rfl (lv_at hl 2 rfl) ?_
              refine lv_iload_n hx hb dX4_quartet_85 rfl (lv_at hl 3 rfl) ?_
              refine lv_iload_n hx hb dX4_quartet_86 rfl (lv_at hl 5 rfl) ?_
              refine lv_iload_n hx hb dX4_quartet_87 rfl (lv_at hl 4 rfl) ?_
              refine lv_iload hx hb dX4_quartet_88 (lv_at hl 6 rfl) ?_
              refine kX4_changesOf FX ⟨Nat.le_of_ble_eq_true rfl, Nat.le_of_ble_eq_true rfl⟩ ⟨Nat.zero_le _, Nat.zero_le _⟩ hl.1 (Nat.le_of_ble_eq_true rfl) hW hf dX4_quartet_90 (fun r8 H locs hW hf => ?_)
              refine lv_istore (lv' := [(8, .int r8), (7, .int r7), (6, .int (0 : Int32)), (0, .ref h0), (1, .int x1), (2, .int x2), (3, .int x3), (4, .int x4), (5, .int x5)]) hx hb dX4_quartet_93 hl (by decide) rfl (fun ls hl => ?_)
              refine lv_aload_n hx hb dX4_quartet_95 rfl (lv_at hl 3 rfl) ?_
              refine lv_iload_n hx hb dX4_quartet_96 rfl (lv_at hl 4 rfl) ?_
              refine lv_iload hx hb dX4_quartet_97 (lv_at hl 7 rfl) ?_
              refine lv_iload_n hx hb dX4_quartet_99 rfl (lv_at hl 5 rfl) ?_
              refine lv_iload_n hx hb dX4_quartet_100 rfl (lv_at hl 6 rfl) ?_
              refine kX4_changesOf FX ⟨Nat.le_of_ble_eq_true rfl, Nat.le_of_ble_eq_true rfl⟩ ⟨Nat.zero_le _, Nat.zero_le _⟩ hl.1 (Nat.le_of_ble_eq_true rfl) hW hf dX4_quartet_101 (fun r9 H locs hW hf => ?_)
              refine lv_istore (lv' := [(9, .int r9), (8, .int r8), (7, .int r7), (6, .int (0 : Int32)), (0, .ref h0), (1, .int x1), (2, .int x2), (3, .int x3), (4, .int x4), (5, .int x5)]) hx hb dX4_quartet_104 hl (by decide) rfl (fun ls hl => ?_)
              refine lv_iload hx hb dX4_quartet_106 (lv_at hl 1 rfl) ?_
              refine lv_iload hx hb dX4_quartet_108 (lv_at hl 2 rfl) ?_
              refine lv_icmp_ge (tgt := 120) hx hb dX4_quartet_110 (by decide) (fun c110 => ?_) (fun c110 => ?_)
              · have hf := ifp c110 hf
                exact wX4_quartet_120 FX hr hlk x5 (0 : Int32) r7 r9 _ _ _ (lv_sub hl [9, 3, 2, 0] rfl) hW hf
              · have hf := ifn c110 hf
                refine lv_iconst (v := 1) hx hb dX4_quartet_113 (by decide) ?_
                refine lv_istore (lv' := [(6, .int (1 : Int32)), (9, .int r9), (8, .int r8), (7, .int r7), (0, .ref h0), (1, .int x1), (2, .int x2), (3, .int x3), (4, .int x4), (5, .int x5)]) hx hb dX4_quartet_114 hl (by decide) rfl (fun ls hl => ?_)
                refine lv_iload hx hb dX4_quartet_116 (lv_at hl 2 rfl) ?_
                refine lv_istore (lv' := [(7, .int r8), (6, .int (1 : Int32)), (9, .int r9), (8, .int r8), (0, .ref h0), (1, .int x1), (2, .int x2), (3, .int x3), (4, .int x4), (5, .int x5)]) hx hb dX4_quartet_118 hl (by decide) rfl (fun ls hl => ?_)
                exact wX4_quartet_120 FX hr hlk x5 (1 : Int32) r8 r9 _ _ _ (lv_sub hl [9, 1, 0, 2] rfl) hW hf
            · have hf := ifn c65 hf
              refine lv_iconst (v := -1) hx hb dX4_quartet_68 (by decide) ?_
              exact g_iret FX hr hlk hW (Option.some.inj hf) dX4_quartet_69
          · have hf := ifp c40 hf
            refine lv_iconst (v := -1) hx hb dX4_quartet_43 (by decide) ?_
            exact g_iret FX hr hlk hW (Option.some.inj hf) dX4_quartet_44

/-! TrunkLittersModel.those()I: kind R -/
def fX4_those_4 (σ : Mst) : Nat → Int32 → Int32 → Option Int32
  | 0, _, _ => none
  | n + 1, x1, x2 => (if (8 : Int32) ≤ x2 then some x1 else ald 59 (gA σ 40) ((0 : Int32) + x2) fun v1 => (if v1 ≤ 0 then fX4_those_4 σ n x1 (x2 + (1 : Int32)) else fX4_those_4 σ n (x1 ||| ((1 : Int32) <<< (x2 &&& 31))) (x2 + (1 : Int32))))
def fX4_those (σ : Mst) : Option Int32 := fX4_those_4 σ FU (0 : Int32) (0 : Int32)
abbrev rX4_those : Room := { frames := 0, cells := 0, slots := 0, locals := 0 }
set_option maxHeartbeats 4000000 in
set_option maxRecDepth 100000 in
theorem wX4_those_4 {q : Int32} {σ : Mst} (FX : CallFix p m c cX4_those 3 s args lw_all RX4) (hr : meth.sig.returnType = (some .int)) (hlk : meth.locks = false) : ∀ n : Nat, ∀ (x1 : Int32) (x2 : Int32) (H : Heap) (locs : List Loc) (ls : Array Slot), lv_has ls 3 [(0, .ref h0), (1, .int x1), (2, .int x2)] → Wd D dA A s (Mc dA h0 ad σ) H locs → fX4_those_4 σ n x1 x2 = some q → W p l e rX4_those s m args below meth c H locs 0 0 (QI D dA A below args s 0 0 q (Mc dA h0 ad σ)) (F0 m 4 ls []) := by
  have hx := FX.1; have hb := FX.2.1; have hown := FX.2.2.2.1; have hts := FX.2.2.2.2
  intro n
  induction n with
  | zero =>
    intro x1 x2 H locs ls hl hW hf
    cases (show (none : Option Int32) = some q from hf)
  | succ n ih =>
    intro x1 x2 H locs ls hl hW hf
    rw [fX4_those_4] at hf
    refine lv_iload_n hx hb dX4_those_4 rfl (lv_at hl 2 rfl) ?_
    refine lv_bipush (v := 8) hx hb dX4_those_5 (by decide) ?_
    refine lv_icmp_ge (tgt := 33) hx hb dX4_those_7 (by decide) (fun c7 => ?_) (fun c7 => ?_)
    · have hf := ifp c7 hf
      refine lv_iload_n hx hb dX4_those_33 rfl (lv_at hl 1 rfl) ?_
      exact g_iret FX hr hlk hW (Option.some.inj hf) dX4_those_34
    · have hf := ifn c7 hf
      refine lv_aload_n hx hb dX4_those_10 rfl (lv_at hl 0 rfl) ?_
      refine Mg40 FX hW dX4_those_11 ?_
      refine lv_iconst (v := 0) hx hb dX4_those_14 (by decide) ?_
      refine lv_iload_n hx hb dX4_those_15 rfl (lv_at hl 2 rfl) ?_
      refine lv_iadd hx hb dX4_those_16 ?_
      refine g_iald FX hW 24 Mp40 hf dX4_those_17 (fun v1 hf => ?_)
      refine lv_if_le (tgt := 27) hx hb dX4_those_18 (by decide) (fun c18 => ?_) (fun c18 => ?_)
      · have hf := ifp c18 hf
        refine lv_iinc (v := (x2 + (1 : Int32))) (lv' := [(2, .int (x2 + (1 : Int32))), (0, .ref h0), (1, .int x1)]) hx hb dX4_those_27 hl (k := 2) rfl rfl (by decide) rfl (fun ls hl => ?_)
        refine lv_goto (tgt := 4) hx hb dX4_those_30 (by decide) ?_
        exact ih x1 (x2 + (1 : Int32)) _ _ _ (lv_sub hl [1, 2, 0] rfl) hW hf
      · have hf := ifn c18 hf
        refine lv_iload_n hx hb dX4_those_21 rfl (lv_at hl 1 rfl) ?_
        refine lv_iconst (v := 1) hx hb dX4_those_22 (by decide) ?_
        refine lv_iload_n hx hb dX4_those_23 rfl (lv_at hl 2 rfl) ?_
        refine lv_ishl hx hb dX4_those_24 ?_
        refine lv_ior hx hb dX4_those_25 ?_
        refine lv_istore_n (lv' := [(1, .int (x1 ||| ((1 : Int32) <<< (x2 &&& 31)))), (0, .ref h0), (2, .int x2)]) hx hb dX4_those_26 rfl hl (by decide) rfl (fun ls hl => ?_)
        refine lv_iinc (v := (x2 + (1 : Int32))) (lv' := [(2, .int (x2 + (1 : Int32))), (1, .int (x1 ||| ((1 : Int32) <<< (x2 &&& 31)))), (0, .ref h0)]) hx hb dX4_those_27 hl (k := 2) rfl rfl (by decide) rfl (fun ls hl => ?_)
        refine lv_goto (tgt := 4) hx hb dX4_those_30 (by decide) ?_
        exact ih (x1 ||| ((1 : Int32) <<< (x2 &&& 31))) (x2 + (1 : Int32)) _ _ _ (lv_sub hl [2, 1, 0] rfl) hW hf
set_option maxHeartbeats 4000000 in
set_option maxRecDepth 100000 in
theorem mX4_those  {σ : Mst} {q : Int32} (hf : fX4_those σ = some q) : CtI l yX4_those cX4_those 3 (some .int) rX4_those D dA [.ref h0] (Mc dA h0 ad σ) q (Mc dA h0 ad σ) := by
  refine e_I (by decide) (Nat.le_of_ble_eq_true rfl) ?_
  intro p e s m below meth c ls A FX hr hlk hl hW
  have hx := FX.1; have hb := FX.2.1; have hown := FX.2.2.2.1; have hts := FX.2.2.2.2
  have hl : lv_has ls 3 [(0, .ref h0)] := hl
  rw [fX4_those] at hf
  refine lv_iconst (v := 0) hx hb dX4_those_0 (by decide) ?_
  refine lv_istore_n (lv' := [(1, .int (0 : Int32)), (0, .ref h0)]) hx hb dX4_those_1 rfl hl (by decide) rfl (fun ls hl => ?_)
  refine lv_iconst (v := 0) hx hb dX4_those_2 (by decide) ?_
  refine lv_istore_n (lv' := [(2, .int (0 : Int32)), (1, .int (0 : Int32)), (0, .ref h0)]) hx hb dX4_those_3 rfl hl (by decide) rfl (fun ls hl => ?_)
  exact wX4_those_4 FX hr hlk _ (0 : Int32) (0 : Int32) _ _ _ (lv_sub hl [2, 1, 0] rfl) hW hf
set_option maxHeartbeats 4000000 in
set_option maxRecDepth 100000 in
theorem kX4_those {α : Type} {q : α} {k : Int32 → Option α} {σ : Mst} (FX : CallFix p m c cc nL s args lw_all RX4) (hR : rX4_those.frames + 1 ≤ R.frames ∧ 8 + (3 + 11) + rX4_those.locals ≤ R.locals) (hcs : cells ≤ R.cells ∧ slots ≤ R.slots) (hl : ls.size = nL) (hrm : (rest.map fun v => v.category).sum ≤ 8) (hW : Wd D dA A s (Mc dA h0 ad σ) H locs) (hf : (fX4_those σ).bind k = some q) (hdg : decode cc pc = .ok (.invokevirtual 331, 3)) (kk : ∀ (r : Int32) (H1 : Heap) (locs1 : List Loc), Wd D dA A s (Mc dA h0 ad σ) H1 locs1 → k r = some q → W p l e R s m args below meth c H1 locs1 cells slots Q (F0 m (pc + 3) ls (.int r :: rest))) : W p l e R s m args below meth c H locs cells slots Q (F0 m pc ls (.ref h0 :: rest)) := by
  obtain ⟨r1, h1, hf⟩ := bnd hf
  refine w_Vi (C := RX4) (As := []) (rest := rest) (n := 0) (wr := []) FX (mX4_those h1) (cwV 0 FX.2.2.2.2 (lw_V q1953 q1955 qs92 q132 q1956) rfl rfl rfl (by decide +kernel) hR) (va_recv hW.2.2.2.1 hW.1 (ci := 4) (q0 := 0) rfl rfl) rfl hl rfl hrm ⟨Nat.le_trans (Nat.le_of_eq (Nat.add_zero cells)) hcs.1, Nat.le_trans (Nat.le_of_eq (Nat.add_zero slots)) hcs.2⟩ hdg hW.nil ?_
  exact fun H1 locs1 hW1 => kk r1 H1 locs1 hW1.nil' hf
/-! TrunkLittersModel.sharedBy(II)I: kind S -/
def fX4_sharedBy (x0 : Int32) (x1 : Int32) : Option Int32 := (fX4_bitsOf ((x0 ^^^ x1) &&& (63 : Int32))).bind fun r1 => some ((6 : Int32) - r1)
abbrev rX4_sharedBy : Room := { frames := 1, cells := 0, slots := 0, locals := 22 }
set_option maxHeartbeats 4000000 in
set_option maxRecDepth 100000 in
theorem mX4_sharedBy  {x0 : Int32} {x1 : Int32} {q : Int32} (hf : fX4_sharedBy x0 x1 = some q) : CtI l yX4_sharedBy cX4_sharedBy 2 (some .int) rX4_sharedBy D dA [.int x0, .int x1] [] q [] := by
  refine e_I (by decide) (Nat.le_of_ble_eq_true rfl) ?_
  intro p e s m below meth c ls A FX hr hlk hl hW
  have hx := FX.1; have hb := FX.2.1; have hown := FX.2.2.2.1; have hts := FX.2.2.2.2
  have hl : lv_has ls 2 [(0, .int x0), (1, .int x1)] := hl
  rw [fX4_sharedBy] at hf
  refine lv_bipush (v := 6) hx hb dX4_sharedBy_0 (by decide) ?_
  refine lv_iload_n hx hb dX4_sharedBy_2 rfl (lv_at hl 0 rfl) ?_
  refine lv_iload_n hx hb dX4_sharedBy_3 rfl (lv_at hl 1 rfl) ?_
  refine lv_ixor hx hb dX4_sharedBy_4 ?_
  refine lv_bipush (v := 63) hx hb dX4_sharedBy_5 (by decide) ?_
  refine lv_iand hx hb dX4_sharedBy_7 ?_
  refine kX4_bitsOf FX ⟨Nat.le_of_ble_eq_true rfl, Nat.le_of_ble_eq_true rfl⟩ ⟨Nat.zero_le _, Nat.zero_le _⟩ hl.1 (Nat.le_of_ble_eq_true rfl) hW hf dX4_sharedBy_8 (fun r1 H locs hW hf => ?_)
  refine lv_isub hx hb dX4_sharedBy_11 ?_
  exact g_iret FX hr hlk hW (Option.some.inj hf) dX4_sharedBy_12
set_option maxHeartbeats 4000000 in
set_option maxRecDepth 100000 in
theorem kX4_sharedBy {α : Type} {q : α} {k : Int32 → Option α} {x0 : Int32} {x1 : Int32} {ws : va_W} (FX : CallFix p m c cc nL s args lw_all RX4) (hR : rX4_sharedBy.frames + 1 ≤ R.frames ∧ 8 + (2 + 11) + rX4_sharedBy.locals ≤ R.locals) (hcs : cells ≤ R.cells ∧ slots ≤ R.slots) (hl : ls.size = nL) (hrm : (rest.map fun v => v.category).sum ≤ 8) (hW : Wd D dA A s ws H locs) (hf : (fX4_sharedBy x0 x1).bind k = some q) (hdg : decode cc pc = .ok (.invokestatic 325, 3)) (kk : ∀ (r : Int32) (H1 : Heap) (locs1 : List Loc), Wd D dA A s ws H1 locs1 → k r = some q → W p l e R s m args below meth c H1 locs1 cells slots Q (F0 m (pc + 3) ls (.int r :: rest))) : W p l e R s m args below meth c H locs cells slots Q (F0 m pc ls (.int x1 :: .int x0 :: rest)) := by
  obtain ⟨r1, h1, hf⟩ := bnd hf
  refine w_Si (As := [.int x0, .int x1]) (rest := rest) (n := 2) (wr := ws) FX (mX4_sharedBy h1) (va_cwS 2 FX.2.2.2.2 (lw_S q1947 q1948 q132 q1949) rfl rfl rfl (by decide +kernel) hR) rfl hl rfl hrm ⟨Nat.le_trans (Nat.le_of_eq (Nat.add_zero cells)) hcs.1, Nat.le_trans (Nat.le_of_eq (Nat.add_zero slots)) hcs.2⟩ hdg hW ?_
  exact fun H1 locs1 hW1 => kk r1 H1 locs1 hW1 hf
/-! TrunkLittersModel.alike(II)I: kind R -/
def fX4_alike (x1 : Int32) (x2 : Int32) (σ : Mst) : Option Int32 := (fX4_isThere x1 σ).bind fun r1 => (if r1 = 0 then some (-1 : Int32) else (fX4_isThere x2 σ).bind fun r2 => (if r2 = 0 then some (-1 : Int32) else ald 59 (gA σ 40) ((16 : Int32) + x1) fun v3 => ald 59 (gA σ 40) ((16 : Int32) + x2) fun v4 => (fX4_sharedBy v3 v4).bind fun r5 => some r5))
abbrev rX4_alike : Room := { frames := 2, cells := 0, slots := 0, locals := 43 }
set_option maxHeartbeats 4000000 in
set_option maxRecDepth 100000 in
theorem mX4_alike  {x1 : Int32} {x2 : Int32} {σ : Mst} {q : Int32} (hf : fX4_alike x1 x2 σ = some q) : CtI l yX4_alike cX4_alike 3 (some .int) rX4_alike D dA [.ref h0, .int x1, .int x2] (Mc dA h0 ad σ) q (Mc dA h0 ad σ) := by
  refine e_I (by decide) (Nat.le_of_ble_eq_true rfl) ?_
  intro p e s m below meth c ls A FX hr hlk hl hW
  have hx := FX.1; have hb := FX.2.1; have hown := FX.2.2.2.1; have hts := FX.2.2.2.2
  have hl : lv_has ls 3 [(0, .ref h0), (1, .int x1), (2, .int x2)] := hl
  rw [fX4_alike] at hf
  refine lv_aload_n hx hb dX4_alike_0 rfl (lv_at hl 0 rfl) ?_
  refine lv_iload_n hx hb dX4_alike_1 rfl (lv_at hl 1 rfl) ?_
  refine kX4_isThere FX ⟨Nat.le_of_ble_eq_true rfl, Nat.le_of_ble_eq_true rfl⟩ ⟨Nat.zero_le _, Nat.zero_le _⟩ hl.1 (Nat.le_of_ble_eq_true rfl) hW hf dX4_alike_2 (fun r1 H locs hW hf => ?_)
  refine lv_if_eq (tgt := 40) hx hb dX4_alike_5 (by decide) (fun c5 => ?_) (fun c5 => ?_)
  · have hf := ifp c5 hf
    refine lv_iconst (v := -1) hx hb dX4_alike_40 (by decide) ?_
    exact g_iret FX hr hlk hW (Option.some.inj hf) dX4_alike_41
  · have hf := ifn c5 hf
    refine lv_aload_n hx hb dX4_alike_8 rfl (lv_at hl 0 rfl) ?_
    refine lv_iload_n hx hb dX4_alike_9 rfl (lv_at hl 2 rfl) ?_
    refine kX4_isThere FX ⟨Nat.le_of_ble_eq_true rfl, Nat.le_of_ble_eq_true rfl⟩ ⟨Nat.zero_le _, Nat.zero_le _⟩ hl.1 (Nat.le_of_ble_eq_true rfl) hW hf dX4_alike_10 (fun r2 H locs hW hf => ?_)
    refine lv_if_eq (tgt := 40) hx hb dX4_alike_13 (by decide) (fun c13 => ?_) (fun c13 => ?_)
    · have hf := ifp c13 hf
      refine lv_iconst (v := -1) hx hb dX4_alike_40 (by decide) ?_
      exact g_iret FX hr hlk hW (Option.some.inj hf) dX4_alike_41
    · have hf := ifn c13 hf
      refine lv_aload_n hx hb dX4_alike_16 rfl (lv_at hl 0 rfl) ?_
      refine Mg40 FX hW dX4_alike_17 ?_
      refine lv_bipush (v := 16) hx hb dX4_alike_20 (by decide) ?_
      refine lv_iload_n hx hb dX4_alike_22 rfl (lv_at hl 1 rfl) ?_
      refine lv_iadd hx hb dX4_alike_23 ?_
      refine g_iald FX hW 24 Mp40 hf dX4_alike_24 (fun v3 hf => ?_)
      refine lv_aload_n hx hb dX4_alike_25 rfl (lv_at hl 0 rfl) ?_
      refine Mg40 FX hW dX4_alike_26 ?_
      refine lv_bipush (v := 16) hx hb dX4_alike_29 (by decide) ?_
      refine lv_iload_n hx hb dX4_alike_31 rfl (lv_at hl 2 rfl) ?_
      refine lv_iadd hx hb dX4_alike_32 ?_
      refine g_iald FX hW 24 Mp40 hf dX4_alike_33 (fun v4 hf => ?_)
      refine kX4_sharedBy FX ⟨Nat.le_of_ble_eq_true rfl, Nat.le_of_ble_eq_true rfl⟩ ⟨Nat.zero_le _, Nat.zero_le _⟩ hl.1 (Nat.le_of_ble_eq_true rfl) hW hf dX4_alike_34 (fun r5 H locs hW hf => ?_)
      refine lv_goto (tgt := 41) hx hb dX4_alike_37 (by decide) ?_
      exact g_iret FX hr hlk hW (Option.some.inj hf) dX4_alike_41
set_option maxHeartbeats 4000000 in
set_option maxRecDepth 100000 in
theorem kX4_alike {α : Type} {q : α} {k : Int32 → Option α} {x1 : Int32} {x2 : Int32} {σ : Mst} (FX : CallFix p m c cc nL s args lw_all RX4) (hR : rX4_alike.frames + 1 ≤ R.frames ∧ 8 + (3 + 11) + rX4_alike.locals ≤ R.locals) (hcs : cells ≤ R.cells ∧ slots ≤ R.slots) (hl : ls.size = nL) (hrm : (rest.map fun v => v.category).sum ≤ 8) (hW : Wd D dA A s (Mc dA h0 ad σ) H locs) (hf : (fX4_alike x1 x2 σ).bind k = some q) (hdg : decode cc pc = .ok (.invokevirtual 415, 3)) (kk : ∀ (r : Int32) (H1 : Heap) (locs1 : List Loc), Wd D dA A s (Mc dA h0 ad σ) H1 locs1 → k r = some q → W p l e R s m args below meth c H1 locs1 cells slots Q (F0 m (pc + 3) ls (.int r :: rest))) : W p l e R s m args below meth c H locs cells slots Q (F0 m pc ls (.int x2 :: .int x1 :: .ref h0 :: rest)) := by
  obtain ⟨r1, h1, hf⟩ := bnd hf
  refine w_Vi (C := RX4) (As := [.int x1, .int x2]) (rest := rest) (n := 2) (wr := []) FX (mX4_alike h1) (cwV 2 FX.2.2.2.2 (lw_V q2001 q1994 q1995 q132 q1996) rfl rfl rfl (by decide +kernel) hR) (va_recv hW.2.2.2.1 hW.1 (ci := 4) (q0 := 0) rfl rfl) rfl hl rfl hrm ⟨Nat.le_trans (Nat.le_of_eq (Nat.add_zero cells)) hcs.1, Nat.le_trans (Nat.le_of_eq (Nat.add_zero slots)) hcs.2⟩ hdg hW.nil ?_
  exact fun H1 locs1 hW1 => kk r1 H1 locs1 hW1.nil' hf
/-! TrunkLittersModel.span()I: kind R -/
def fX4_span_39 (σ : Mst) (k24 : Int32 → Int32 → Int32 → Option Int32) : Nat → Int32 → Int32 → Int32 → Int32 → Int32 → Int32 → Option Int32
  | 0, _, _, _, _, _, _ => none
  | n + 1, x1, x2, x3, x4, x5, x6 => (if (64 : Int32) ≤ x6 then k24 (x1 &&& (((1 : Int32) <<< (x4 &&& 31)) ^^^ (-1 : Int32))) (x2 ||| ((1 : Int32) <<< (x4 &&& 31))) (x3 + x5) else (fX4_bit x2 (x6 / (8 : Int32))).bind fun r1 => (if r1 = 0 then fX4_span_39 σ k24 n x1 x2 x3 x4 x5 (x6 + (1 : Int32)) else (fX4_bit x1 (x6 - x6 / (8 : Int32) * (8 : Int32))).bind fun r2 => (if r2 = 0 then fX4_span_39 σ k24 n x1 x2 x3 x4 x5 (x6 + (1 : Int32)) else (fX4_alike (x6 / (8 : Int32)) (x6 - x6 / (8 : Int32) * (8 : Int32)) σ).bind fun r3 => (if ((6 : Int32) - r3) < x5 then (fX4_alike (x6 / (8 : Int32)) (x6 - x6 / (8 : Int32) * (8 : Int32)) σ).bind fun r4 => fX4_span_39 σ k24 n x1 x2 x3 (x6 - x6 / (8 : Int32) * (8 : Int32)) ((6 : Int32) - r4) (x6 + (1 : Int32)) else fX4_span_39 σ k24 n x1 x2 x3 x4 x5 (x6 + (1 : Int32))))))
def fX4_span_24 (σ : Mst) : Nat → Int32 → Int32 → Int32 → Option Int32
  | 0, _, _, _ => none
  | n + 1, x1, x2, x3 => (if x1 = 0 then some x3 else fX4_span_39 σ (fX4_span_24 σ n) FU x1 x2 x3 (-1 : Int32) (1000 : Int32) (0 : Int32))
def fX4_span (σ : Mst) : Option Int32 := (fX4_those σ).bind fun r1 => (if r1 = 0 then some (0 : Int32) else fX4_span_24 σ FU (r1 &&& ((r1 &&& (-r1)) ^^^ (-1 : Int32))) (r1 &&& (-r1)) (0 : Int32))
abbrev rX4_span : Room := { frames := 3, cells := 0, slots := 0, locals := 65 }
set_option maxHeartbeats 4000000 in
set_option maxRecDepth 100000 in
theorem wX4_span_39 {q : Int32} {σ : Mst} (FX : CallFix p m c cX4_span 9 s args lw_all RX4) (hr : meth.sig.returnType = (some .int)) (hlk : meth.locks = false) {k24 : Int32 → Int32 → Int32 → Option Int32} (hk24 : ∀ (x1 : Int32) (x2 : Int32) (x3 : Int32) (H : Heap) (locs : List Loc) (ls : Array Slot), lv_has ls 9 [(0, .ref h0), (1, .int x1), (2, .int x2), (3, .int x3)] → Wd D dA A s (Mc dA h0 ad σ) H locs → k24 x1 x2 x3 = some q → W p l e rX4_span s m args below meth c H locs 0 0 (QI D dA A below args s 0 0 q (Mc dA h0 ad σ)) (F0 m 24 ls [])) : ∀ n : Nat, ∀ (x1 : Int32) (x2 : Int32) (x3 : Int32) (x4 : Int32) (x5 : Int32) (x6 : Int32) (H : Heap) (locs : List Loc) (ls : Array Slot), lv_has ls 9 [(0, .ref h0), (1, .int x1), (2, .int x2), (3, .int x3), (4, .int x4), (5, .int x5), (6, .int x6)] → Wd D dA A s (Mc dA h0 ad σ) H locs → fX4_span_39 σ k24 n x1 x2 x3 x4 x5 x6 = some q → W p l e rX4_span s m args below meth c H locs 0 0 (QI D dA A below args s 0 0 q (Mc dA h0 ad σ)) (F0 m 39 ls []) := by
  have hx := FX.1; have hb := FX.2.1; have hown := FX.2.2.2.1; have hts := FX.2.2.2.2
  intro n
  induction n with
  | zero =>
    intro x1 x2 x3 x4 x5 x6 H locs ls hl hW hf
    cases (show (none : Option Int32) = some q from hf)
  | succ n ih =>
    intro x1 x2 x3 x4 x5 x6 H locs ls hl hW hf
    rw [fX4_span_39] at hf
    refine lv_iload hx hb dX4_span_39 (lv_at hl 6 rfl) ?_
    refine lv_bipush (v := 64) hx hb dX4_span_41 (by decide) ?_
    refine lv_icmp_ge (tgt := 120) hx hb dX4_span_43 (by decide) (fun c43 => ?_) (fun c43 => ?_)
    · have hf := ifp c43 hf
      refine lv_iload_n hx hb dX4_span_120 rfl (lv_at hl 2 rfl) ?_
      refine lv_iconst (v := 1) hx hb dX4_span_121 (by decide) ?_
      refine lv_iload hx hb dX4_span_122 (lv_at hl 4 rfl) ?_
      refine lv_ishl hx hb dX4_span_124 ?_
      refine lv_ior hx hb dX4_span_125 ?_
      refine lv_istore_n (lv' := [(2, .int (x2 ||| ((1 : Int32) <<< (x4 &&& 31)))), (0, .ref h0), (1, .int x1), (3, .int x3), (4, .int x4), (5, .int x5), (6, .int x6)]) hx hb dX4_span_126 rfl hl (by decide) rfl (fun ls hl => ?_)
      refine lv_iload_n hx hb dX4_span_127 rfl (lv_at hl 2 rfl) ?_
      refine lv_iconst (v := 1) hx hb dX4_span_128 (by decide) ?_
      refine lv_iload hx hb dX4_span_129 (lv_at hl 4 rfl) ?_
      refine lv_ishl hx hb dX4_span_131 ?_
      refine lv_iconst (v := -1) hx hb dX4_span_132 (by decide) ?_
      refine lv_ixor hx hb dX4_span_133 ?_
      refine lv_iand hx hb dX4_span_134 ?_
      refine lv_istore_n (lv' := [(1, .int (x1 &&& (((1 : Int32) <<< (x4 &&& 31)) ^^^ (-1 : Int32)))), (2, .int (x2 ||| ((1 : Int32) <<< (x4 &&& 31)))), (0, .ref h0), (3, .int x3), (4, .int x4), (5, .int x5), (6, .int x6)]) hx hb dX4_span_135 rfl hl (by decide) rfl (fun ls hl => ?_)
      refine lv_iload_n hx hb dX4_span_136 rfl (lv_at hl 3 rfl) ?_
      refine lv_iload hx hb dX4_span_137 (lv_at hl 5 rfl) ?_
      refine lv_iadd hx hb dX4_span_139 ?_
      refine lv_istore_n (lv' := [(3, .int (x3 + x5)), (1, .int (x1 &&& (((1 : Int32) <<< (x4 &&& 31)) ^^^ (-1 : Int32)))), (2, .int (x2 ||| ((1 : Int32) <<< (x4 &&& 31)))), (0, .ref h0), (4, .int x4), (5, .int x5), (6, .int x6)]) hx hb dX4_span_140 rfl hl (by decide) rfl (fun ls hl => ?_)
      refine lv_goto (tgt := 24) hx hb dX4_span_141 (by decide) ?_
      exact hk24 (x1 &&& (((1 : Int32) <<< (x4 &&& 31)) ^^^ (-1 : Int32))) (x2 ||| ((1 : Int32) <<< (x4 &&& 31))) (x3 + x5) _ _ _ (lv_sub hl [3, 1, 2, 0] rfl) hW hf
    · have hf := ifn c43 hf
      refine lv_iload hx hb dX4_span_46 (lv_at hl 6 rfl) ?_
      refine lv_bipush (v := 8) hx hb dX4_span_48 (by decide) ?_
      refine lv_idiv hx hb dX4_span_50 (by decide) ?_
      refine lv_istore (lv' := [(7, .int (x6 / (8 : Int32))), (0, .ref h0), (1, .int x1), (2, .int x2), (3, .int x3), (4, .int x4), (5, .int x5), (6, .int x6)]) hx hb dX4_span_51 hl (by decide) rfl (fun ls hl => ?_)
      refine lv_iload hx hb dX4_span_53 (lv_at hl 7 rfl) ?_
      refine lv_bipush (v := 8) hx hb dX4_span_55 (by decide) ?_
      refine lv_irem hx hb dX4_span_57 (by decide) ?_
      refine lv_istore (lv' := [(8, .int (x6 - x6 / (8 : Int32) * (8 : Int32))), (7, .int (x6 / (8 : Int32))), (0, .ref h0), (1, .int x1), (2, .int x2), (3, .int x3), (4, .int x4), (5, .int x5), (6, .int x6)]) hx hb dX4_span_58 hl (by decide) rfl (fun ls hl => ?_)
      refine lv_iload_n hx hb dX4_span_60 rfl (lv_at hl 4 rfl) ?_
      refine lv_iload hx hb dX4_span_61 (lv_at hl 1 rfl) ?_
      refine kX4_bit FX ⟨Nat.le_of_ble_eq_true rfl, Nat.le_of_ble_eq_true rfl⟩ ⟨Nat.zero_le _, Nat.zero_le _⟩ hl.1 (Nat.le_of_ble_eq_true rfl) hW hf dX4_span_63 (fun r1 H locs hW hf => ?_)
      refine lv_if_eq (tgt := 114) hx hb dX4_span_66 (by decide) (fun c66 => ?_) (fun c66 => ?_)
      · have hf := ifp c66 hf
        refine lv_iinc (v := (x6 + (1 : Int32))) (lv' := [(6, .int (x6 + (1 : Int32))), (8, .int (x6 - x6 / (8 : Int32) * (8 : Int32))), (7, .int (x6 / (8 : Int32))), (0, .ref h0), (1, .int x1), (2, .int x2), (3, .int x3), (4, .int x4), (5, .int x5)]) hx hb dX4_span_114 hl (k := 8) rfl rfl (by decide) rfl (fun ls hl => ?_)
        refine lv_goto (tgt := 39) hx hb dX4_span_117 (by decide) ?_
        exact ih x1 x2 x3 x4 x5 (x6 + (1 : Int32)) _ _ _ (lv_sub hl [3, 4, 5, 6, 7, 8, 0] rfl) hW hf
      · have hf := ifn c66 hf
        refine lv_iload_n hx hb dX4_span_69 rfl (lv_at hl 3 rfl) ?_
        refine lv_iload hx hb dX4_span_70 (lv_at hl 0 rfl) ?_
        refine kX4_bit FX ⟨Nat.le_of_ble_eq_true rfl, Nat.le_of_ble_eq_true rfl⟩ ⟨Nat.zero_le _, Nat.zero_le _⟩ hl.1 (Nat.le_of_ble_eq_true rfl) hW hf dX4_span_72 (fun r2 H locs hW hf => ?_)
        refine lv_if_eq (tgt := 114) hx hb dX4_span_75 (by decide) (fun c75 => ?_) (fun c75 => ?_)
        · have hf := ifp c75 hf
          refine lv_iinc (v := (x6 + (1 : Int32))) (lv' := [(6, .int (x6 + (1 : Int32))), (8, .int (x6 - x6 / (8 : Int32) * (8 : Int32))), (7, .int (x6 / (8 : Int32))), (0, .ref h0), (1, .int x1), (2, .int x2), (3, .int x3), (4, .int x4), (5, .int x5)]) hx hb dX4_span_114 hl (k := 8) rfl rfl (by decide) rfl (fun ls hl => ?_)
          refine lv_goto (tgt := 39) hx hb dX4_span_117 (by decide) ?_
          exact ih x1 x2 x3 x4 x5 (x6 + (1 : Int32)) _ _ _ (lv_sub hl [3, 4, 5, 6, 7, 8, 0] rfl) hW hf
        · have hf := ifn c75 hf
          refine lv_bipush (v := 6) hx hb dX4_span_78 (by decide) ?_
          refine lv_aload_n hx hb dX4_span_80 rfl (lv_at hl 2 rfl) ?_
          refine lv_iload hx hb dX4_span_81 (lv_at hl 1 rfl) ?_
          refine lv_iload hx hb dX4_span_83 (lv_at hl 0 rfl) ?_
          refine kX4_alike FX ⟨Nat.le_of_ble_eq_true rfl, Nat.le_of_ble_eq_true rfl⟩ ⟨Nat.zero_le _, Nat.zero_le _⟩ hl.1 (Nat.le_of_ble_eq_true rfl) hW hf dX4_span_85 (fun r3 H locs hW hf => ?_)
          refine lv_isub hx hb dX4_span_88 ?_
          refine lv_iload hx hb dX4_span_89 (lv_at hl 7 rfl) ?_
          refine lv_icmp_lt (tgt := 97) hx hb dX4_span_91 (by decide) (fun c91 => ?_) (fun c91 => ?_)
          · have hf := ifp c91 hf
            refine lv_iload hx hb dX4_span_97 (lv_at hl 0 rfl) ?_
            refine lv_istore (lv' := [(4, .int (x6 - x6 / (8 : Int32) * (8 : Int32))), (8, .int (x6 - x6 / (8 : Int32) * (8 : Int32))), (7, .int (x6 / (8 : Int32))), (0, .ref h0), (1, .int x1), (2, .int x2), (3, .int x3), (5, .int x5), (6, .int x6)]) hx hb dX4_span_99 hl (by decide) rfl (fun ls hl => ?_)
            refine lv_bipush (v := 6) hx hb dX4_span_101 (by decide) ?_
            refine lv_aload_n hx hb dX4_span_103 rfl (lv_at hl 3 rfl) ?_
            refine lv_iload hx hb dX4_span_104 (lv_at hl 2 rfl) ?_
            refine lv_iload hx hb dX4_span_106 (lv_at hl 1 rfl) ?_
            refine kX4_alike FX ⟨Nat.le_of_ble_eq_true rfl, Nat.le_of_ble_eq_true rfl⟩ ⟨Nat.zero_le _, Nat.zero_le _⟩ hl.1 (Nat.le_of_ble_eq_true rfl) hW hf dX4_span_108 (fun r4 H locs hW hf => ?_)
            refine lv_isub hx hb dX4_span_111 ?_
            refine lv_istore (lv' := [(5, .int ((6 : Int32) - r4)), (4, .int (x6 - x6 / (8 : Int32) * (8 : Int32))), (8, .int (x6 - x6 / (8 : Int32) * (8 : Int32))), (7, .int (x6 / (8 : Int32))), (0, .ref h0), (1, .int x1), (2, .int x2), (3, .int x3), (6, .int x6)]) hx hb dX4_span_112 hl (by decide) rfl (fun ls hl => ?_)
            refine lv_iinc (v := (x6 + (1 : Int32))) (lv' := [(6, .int (x6 + (1 : Int32))), (5, .int ((6 : Int32) - r4)), (4, .int (x6 - x6 / (8 : Int32) * (8 : Int32))), (8, .int (x6 - x6 / (8 : Int32) * (8 : Int32))), (7, .int (x6 / (8 : Int32))), (0, .ref h0), (1, .int x1), (2, .int x2), (3, .int x3)]) hx hb dX4_span_114 hl (k := 8) rfl rfl (by decide) rfl (fun ls hl => ?_)
            refine lv_goto (tgt := 39) hx hb dX4_span_117 (by decide) ?_
            exact ih x1 x2 x3 (x6 - x6 / (8 : Int32) * (8 : Int32)) ((6 : Int32) - r4) (x6 + (1 : Int32)) _ _ _ (lv_sub hl [5, 6, 7, 8, 2, 1, 0] rfl) hW hf
          · have hf := ifn c91 hf
            refine lv_goto (tgt := 114) hx hb dX4_span_94 (by decide) ?_
            refine lv_iinc (v := (x6 + (1 : Int32))) (lv' := [(6, .int (x6 + (1 : Int32))), (8, .int (x6 - x6 / (8 : Int32) * (8 : Int32))), (7, .int (x6 / (8 : Int32))), (0, .ref h0), (1, .int x1), (2, .int x2), (3, .int x3), (4, .int x4), (5, .int x5)]) hx hb dX4_span_114 hl (k := 8) rfl rfl (by decide) rfl (fun ls hl => ?_)
            refine lv_goto (tgt := 39) hx hb dX4_span_117 (by decide) ?_
            exact ih x1 x2 x3 x4 x5 (x6 + (1 : Int32)) _ _ _ (lv_sub hl [3, 4, 5, 6, 7, 8, 0] rfl) hW hf
set_option maxHeartbeats 4000000 in
set_option maxRecDepth 100000 in
theorem wX4_span_24 {q : Int32} {σ : Mst} (FX : CallFix p m c cX4_span 9 s args lw_all RX4) (hr : meth.sig.returnType = (some .int)) (hlk : meth.locks = false) : ∀ n : Nat, ∀ (x1 : Int32) (x2 : Int32) (x3 : Int32) (H : Heap) (locs : List Loc) (ls : Array Slot), lv_has ls 9 [(0, .ref h0), (1, .int x1), (2, .int x2), (3, .int x3)] → Wd D dA A s (Mc dA h0 ad σ) H locs → fX4_span_24 σ n x1 x2 x3 = some q → W p l e rX4_span s m args below meth c H locs 0 0 (QI D dA A below args s 0 0 q (Mc dA h0 ad σ)) (F0 m 24 ls []) := by
  have hx := FX.1; have hb := FX.2.1; have hown := FX.2.2.2.1; have hts := FX.2.2.2.2
  intro n
  induction n with
  | zero =>
    intro x1 x2 x3 H locs ls hl hW hf
    cases (show (none : Option Int32) = some q from hf)
  | succ n ih =>
    intro x1 x2 x3 H locs ls hl hW hf
    rw [fX4_span_24] at hf
    refine lv_iload_n hx hb dX4_span_24 rfl (lv_at hl 1 rfl) ?_
    refine lv_if_eq (tgt := 144) hx hb dX4_span_25 (by decide) (fun c25 => ?_) (fun c25 => ?_)
    · have hf := ifp c25 hf
      refine lv_iload_n hx hb dX4_span_144 rfl (lv_at hl 3 rfl) ?_
      exact g_iret FX hr hlk hW (Option.some.inj hf) dX4_span_145
    · have hf := ifn c25 hf
      refine lv_iconst (v := -1) hx hb dX4_span_28 (by decide) ?_
      refine lv_istore (lv' := [(4, .int (-1 : Int32)), (0, .ref h0), (1, .int x1), (2, .int x2), (3, .int x3)]) hx hb dX4_span_29 hl (by decide) rfl (fun ls hl => ?_)
      refine lv_sipush (v := 1000) hx hb dX4_span_31 (by decide) ?_
      refine lv_istore (lv' := [(5, .int (1000 : Int32)), (4, .int (-1 : Int32)), (0, .ref h0), (1, .int x1), (2, .int x2), (3, .int x3)]) hx hb dX4_span_34 hl (by decide) rfl (fun ls hl => ?_)
      refine lv_iconst (v := 0) hx hb dX4_span_36 (by decide) ?_
      refine lv_istore (lv' := [(6, .int (0 : Int32)), (5, .int (1000 : Int32)), (4, .int (-1 : Int32)), (0, .ref h0), (1, .int x1), (2, .int x2), (3, .int x3)]) hx hb dX4_span_37 hl (by decide) rfl (fun ls hl => ?_)
      exact wX4_span_39 FX hr hlk (ih) _ x1 x2 x3 (-1 : Int32) (1000 : Int32) (0 : Int32) _ _ _ (lv_sub hl [3, 4, 5, 6, 2, 1, 0] rfl) hW hf
set_option maxHeartbeats 4000000 in
set_option maxRecDepth 100000 in
theorem mX4_span  {σ : Mst} {q : Int32} (hf : fX4_span σ = some q) : CtI l yX4_span cX4_span 9 (some .int) rX4_span D dA [.ref h0] (Mc dA h0 ad σ) q (Mc dA h0 ad σ) := by
  refine e_I (by decide) (Nat.le_of_ble_eq_true rfl) ?_
  intro p e s m below meth c ls A FX hr hlk hl hW
  have hx := FX.1; have hb := FX.2.1; have hown := FX.2.2.2.1; have hts := FX.2.2.2.2
  have hl : lv_has ls 9 [(0, .ref h0)] := hl
  rw [fX4_span] at hf
  refine lv_aload_n hx hb dX4_span_0 rfl (lv_at hl 0 rfl) ?_
  refine kX4_those FX ⟨Nat.le_of_ble_eq_true rfl, Nat.le_of_ble_eq_true rfl⟩ ⟨Nat.zero_le _, Nat.zero_le _⟩ hl.1 (Nat.le_of_ble_eq_true rfl) hW hf dX4_span_1 (fun r1 H locs hW hf => ?_)
  refine lv_istore_n (lv' := [(1, .int r1), (0, .ref h0)]) hx hb dX4_span_4 rfl hl (by decide) rfl (fun ls hl => ?_)
  refine lv_iload_n hx hb dX4_span_5 rfl (lv_at hl 0 rfl) ?_
  refine lv_if_ne (tgt := 11) hx hb dX4_span_6 (by decide) (fun c6 => ?_) (fun c6 => ?_)
  · have hf := ifn c6 hf
    refine lv_iload_n hx hb dX4_span_11 rfl (lv_at hl 0 rfl) ?_
    refine lv_iload_n hx hb dX4_span_12 rfl (lv_at hl 0 rfl) ?_
    refine lv_ineg hx hb dX4_span_13 ?_
    refine lv_iand hx hb dX4_span_14 ?_
    refine lv_istore_n (lv' := [(2, .int (r1 &&& (-r1))), (1, .int r1), (0, .ref h0)]) hx hb dX4_span_15 rfl hl (by decide) rfl (fun ls hl => ?_)
    refine lv_iload_n hx hb dX4_span_16 rfl (lv_at hl 1 rfl) ?_
    refine lv_iload_n hx hb dX4_span_17 rfl (lv_at hl 0 rfl) ?_
    refine lv_iconst (v := -1) hx hb dX4_span_18 (by decide) ?_
    refine lv_ixor hx hb dX4_span_19 ?_
    refine lv_iand hx hb dX4_span_20 ?_
    refine lv_istore_n (lv' := [(1, .int (r1 &&& ((r1 &&& (-r1)) ^^^ (-1 : Int32)))), (2, .int (r1 &&& (-r1))), (0, .ref h0)]) hx hb dX4_span_21 rfl hl (by decide) rfl (fun ls hl => ?_)
    refine lv_iconst (v := 0) hx hb dX4_span_22 (by decide) ?_
    refine lv_istore_n (lv' := [(3, .int (0 : Int32)), (1, .int (r1 &&& ((r1 &&& (-r1)) ^^^ (-1 : Int32)))), (2, .int (r1 &&& (-r1))), (0, .ref h0)]) hx hb dX4_span_23 rfl hl (by decide) rfl (fun ls hl => ?_)
    exact wX4_span_24 FX hr hlk _ (r1 &&& ((r1 &&& (-r1)) ^^^ (-1 : Int32))) (r1 &&& (-r1)) (0 : Int32) _ _ _ (lv_sub hl [3, 1, 2, 0] rfl) hW hf
  · have hf := ifp c6 hf
    refine lv_iconst (v := 0) hx hb dX4_span_9 (by decide) ?_
    exact g_iret FX hr hlk hW (Option.some.inj hf) dX4_span_10

/-! TrunkLittersModel.parentsOf(I)I: kind R -/
def fX4_parentsOf_47 (σ : Mst) (k4 : Int32 → Int32 → Int32 → Option Int32) (x1 : Int32) (x2 : Int32) (x3 : Int32) : Option Int32 := ald 59 (gA σ 40) ((48 : Int32) + x3) fun v1 => (if v1 < 0 then k4 x1 x2 (x3 + (1 : Int32)) else ald 59 (gA σ 40) ((48 : Int32) + x3) fun v2 => k4 x1 (x2 ||| ((1 : Int32) <<< (v2 &&& 31))) (x3 + (1 : Int32)))
def fX4_parentsOf_4 (σ : Mst) : Nat → Int32 → Int32 → Int32 → Option Int32
  | 0, _, _, _ => none
  | n + 1, x1, x2, x3 => (if (8 : Int32) ≤ x3 then some x2 else (fX4_bit x1 x3).bind fun r1 => (if r1 = 0 then fX4_parentsOf_4 σ n x1 x2 (x3 + (1 : Int32)) else ald 59 (gA σ 40) ((40 : Int32) + x3) fun v2 => (if v2 < 0 then fX4_parentsOf_47 σ (fX4_parentsOf_4 σ n) x1 x2 x3 else ald 59 (gA σ 40) ((40 : Int32) + x3) fun v3 => fX4_parentsOf_47 σ (fX4_parentsOf_4 σ n) x1 (x2 ||| ((1 : Int32) <<< (v3 &&& 31))) x3)))
def fX4_parentsOf (x1 : Int32) (σ : Mst) : Option Int32 := fX4_parentsOf_4 σ FU x1 (0 : Int32) (0 : Int32)
abbrev rX4_parentsOf : Room := { frames := 1, cells := 0, slots := 0, locals := 21 }
set_option maxHeartbeats 4000000 in
set_option maxRecDepth 100000 in
theorem wX4_parentsOf_47 {q : Int32} {σ : Mst} (FX : CallFix p m c cX4_parentsOf 4 s args lw_all RX4) (hr : meth.sig.returnType = (some .int)) (hlk : meth.locks = false) {k4 : Int32 → Int32 → Int32 → Option Int32} (hk4 : ∀ (x1 : Int32) (x2 : Int32) (x3 : Int32) (H : Heap) (locs : List Loc) (ls : Array Slot), lv_has ls 4 [(0, .ref h0), (1, .int x1), (2, .int x2), (3, .int x3)] → Wd D dA A s (Mc dA h0 ad σ) H locs → k4 x1 x2 x3 = some q → W p l e rX4_parentsOf s m args below meth c H locs 0 0 (QI D dA A below args s 0 0 q (Mc dA h0 ad σ)) (F0 m 4 ls [])) : ∀ (x1 : Int32) (x2 : Int32) (x3 : Int32) (H : Heap) (locs : List Loc) (ls : Array Slot), lv_has ls 4 [(0, .ref h0), (1, .int x1), (2, .int x2), (3, .int x3)] → Wd D dA A s (Mc dA h0 ad σ) H locs → fX4_parentsOf_47 σ k4 x1 x2 x3 = some q → W p l e rX4_parentsOf s m args below meth c H locs 0 0 (QI D dA A below args s 0 0 q (Mc dA h0 ad σ)) (F0 m 47 ls []) := by
  have hx := FX.1; have hb := FX.2.1; have hown := FX.2.2.2.1; have hts := FX.2.2.2.2
  intro x1 x2 x3 H locs ls hl hW hf
  rw [fX4_parentsOf_47] at hf
  refine lv_aload_n hx hb dX4_parentsOf_47 rfl (lv_at hl 0 rfl) ?_
  refine Mg40 FX hW dX4_parentsOf_48 ?_
  refine lv_bipush (v := 48) hx hb dX4_parentsOf_51 (by decide) ?_
  refine lv_iload_n hx hb dX4_parentsOf_53 rfl (lv_at hl 3 rfl) ?_
  refine lv_iadd hx hb dX4_parentsOf_54 ?_
  refine g_iald FX hW 24 Mp40 hf dX4_parentsOf_55 (fun v1 hf => ?_)
  refine lv_if_lt (tgt := 73) hx hb dX4_parentsOf_56 (by decide) (fun c56 => ?_) (fun c56 => ?_)
  · have hf := ifp c56 hf
    refine lv_iinc (v := (x3 + (1 : Int32))) (lv' := [(3, .int (x3 + (1 : Int32))), (0, .ref h0), (1, .int x1), (2, .int x2)]) hx hb dX4_parentsOf_73 hl (k := 3) rfl rfl (by decide) rfl (fun ls hl => ?_)
    refine lv_goto (tgt := 4) hx hb dX4_parentsOf_76 (by decide) ?_
    exact hk4 x1 x2 (x3 + (1 : Int32)) _ _ _ (lv_sub hl [1, 2, 3, 0] rfl) hW hf
  · have hf := ifn c56 hf
    refine lv_iload_n hx hb dX4_parentsOf_59 rfl (lv_at hl 2 rfl) ?_
    refine lv_iconst (v := 1) hx hb dX4_parentsOf_60 (by decide) ?_
    refine lv_aload_n hx hb dX4_parentsOf_61 rfl (lv_at hl 0 rfl) ?_
    refine Mg40 FX hW dX4_parentsOf_62 ?_
    refine lv_bipush (v := 48) hx hb dX4_parentsOf_65 (by decide) ?_
    refine lv_iload_n hx hb dX4_parentsOf_67 rfl (lv_at hl 3 rfl) ?_
    refine lv_iadd hx hb dX4_parentsOf_68 ?_
    refine g_iald FX hW 24 Mp40 hf dX4_parentsOf_69 (fun v2 hf => ?_)
    refine lv_ishl hx hb dX4_parentsOf_70 ?_
    refine lv_ior hx hb dX4_parentsOf_71 ?_
    refine lv_istore_n (lv' := [(2, .int (x2 ||| ((1 : Int32) <<< (v2 &&& 31)))), (0, .ref h0), (1, .int x1), (3, .int x3)]) hx hb dX4_parentsOf_72 rfl hl (by decide) rfl (fun ls hl => ?_)
    refine lv_iinc (v := (x3 + (1 : Int32))) (lv' := [(3, .int (x3 + (1 : Int32))), (2, .int (x2 ||| ((1 : Int32) <<< (v2 &&& 31)))), (0, .ref h0), (1, .int x1)]) hx hb dX4_parentsOf_73 hl (k := 3) rfl rfl (by decide) rfl (fun ls hl => ?_)
    refine lv_goto (tgt := 4) hx hb dX4_parentsOf_76 (by decide) ?_
    exact hk4 x1 (x2 ||| ((1 : Int32) <<< (v2 &&& 31))) (x3 + (1 : Int32)) _ _ _ (lv_sub hl [2, 3, 1, 0] rfl) hW hf
set_option maxHeartbeats 4000000 in
set_option maxRecDepth 100000 in
theorem wX4_parentsOf_4 {q : Int32} {σ : Mst} (FX : CallFix p m c cX4_parentsOf 4 s args lw_all RX4) (hr : meth.sig.returnType = (some .int)) (hlk : meth.locks = false) : ∀ n : Nat, ∀ (x1 : Int32) (x2 : Int32) (x3 : Int32) (H : Heap) (locs : List Loc) (ls : Array Slot), lv_has ls 4 [(0, .ref h0), (1, .int x1), (2, .int x2), (3, .int x3)] → Wd D dA A s (Mc dA h0 ad σ) H locs → fX4_parentsOf_4 σ n x1 x2 x3 = some q → W p l e rX4_parentsOf s m args below meth c H locs 0 0 (QI D dA A below args s 0 0 q (Mc dA h0 ad σ)) (F0 m 4 ls []) := by
  have hx := FX.1; have hb := FX.2.1; have hown := FX.2.2.2.1; have hts := FX.2.2.2.2
  intro n
  induction n with
  | zero =>
    intro x1 x2 x3 H locs ls hl hW hf
    cases (show (none : Option Int32) = some q from hf)
  | succ n ih =>
    intro x1 x2 x3 H locs ls hl hW hf
    rw [fX4_parentsOf_4] at hf
    refine lv_iload_n hx hb dX4_parentsOf_4 rfl (lv_at hl 3 rfl) ?_
    refine lv_bipush (v := 8) hx hb dX4_parentsOf_5 (by decide) ?_
    refine lv_icmp_ge (tgt := 79) hx hb dX4_parentsOf_7 (by decide) (fun c7 => ?_) (fun c7 => ?_)
    · have hf := ifp c7 hf
      refine lv_iload_n hx hb dX4_parentsOf_79 rfl (lv_at hl 2 rfl) ?_
      exact g_iret FX hr hlk hW (Option.some.inj hf) dX4_parentsOf_80
    · have hf := ifn c7 hf
      refine lv_iload_n hx hb dX4_parentsOf_10 rfl (lv_at hl 1 rfl) ?_
      refine lv_iload_n hx hb dX4_parentsOf_11 rfl (lv_at hl 3 rfl) ?_
      refine kX4_bit FX ⟨Nat.le_of_ble_eq_true rfl, Nat.le_of_ble_eq_true rfl⟩ ⟨Nat.zero_le _, Nat.zero_le _⟩ hl.1 (Nat.le_of_ble_eq_true rfl) hW hf dX4_parentsOf_12 (fun r1 H locs hW hf => ?_)
      refine lv_if_ne (tgt := 21) hx hb dX4_parentsOf_15 (by decide) (fun c15 => ?_) (fun c15 => ?_)
      · have hf := ifn c15 hf
        refine lv_aload_n hx hb dX4_parentsOf_21 rfl (lv_at hl 0 rfl) ?_
        refine Mg40 FX hW dX4_parentsOf_22 ?_
        refine lv_bipush (v := 40) hx hb dX4_parentsOf_25 (by decide) ?_
        refine lv_iload_n hx hb dX4_parentsOf_27 rfl (lv_at hl 3 rfl) ?_
        refine lv_iadd hx hb dX4_parentsOf_28 ?_
        refine g_iald FX hW 24 Mp40 hf dX4_parentsOf_29 (fun v2 hf => ?_)
        refine lv_if_lt (tgt := 47) hx hb dX4_parentsOf_30 (by decide) (fun c30 => ?_) (fun c30 => ?_)
        · have hf := ifp c30 hf
          exact wX4_parentsOf_47 FX hr hlk (ih) x1 x2 x3 _ _ _ (lv_sub hl [0, 1, 2, 3] rfl) hW hf
        · have hf := ifn c30 hf
          refine lv_iload_n hx hb dX4_parentsOf_33 rfl (lv_at hl 2 rfl) ?_
          refine lv_iconst (v := 1) hx hb dX4_parentsOf_34 (by decide) ?_
          refine lv_aload_n hx hb dX4_parentsOf_35 rfl (lv_at hl 0 rfl) ?_
          refine Mg40 FX hW dX4_parentsOf_36 ?_
          refine lv_bipush (v := 40) hx hb dX4_parentsOf_39 (by decide) ?_
          refine lv_iload_n hx hb dX4_parentsOf_41 rfl (lv_at hl 3 rfl) ?_
          refine lv_iadd hx hb dX4_parentsOf_42 ?_
          refine g_iald FX hW 24 Mp40 hf dX4_parentsOf_43 (fun v3 hf => ?_)
          refine lv_ishl hx hb dX4_parentsOf_44 ?_
          refine lv_ior hx hb dX4_parentsOf_45 ?_
          refine lv_istore_n (lv' := [(2, .int (x2 ||| ((1 : Int32) <<< (v3 &&& 31)))), (0, .ref h0), (1, .int x1), (3, .int x3)]) hx hb dX4_parentsOf_46 rfl hl (by decide) rfl (fun ls hl => ?_)
          exact wX4_parentsOf_47 FX hr hlk (ih) x1 (x2 ||| ((1 : Int32) <<< (v3 &&& 31))) x3 _ _ _ (lv_sub hl [1, 2, 0, 3] rfl) hW hf
      · have hf := ifp c15 hf
        refine lv_goto (tgt := 73) hx hb dX4_parentsOf_18 (by decide) ?_
        refine lv_iinc (v := (x3 + (1 : Int32))) (lv' := [(3, .int (x3 + (1 : Int32))), (0, .ref h0), (1, .int x1), (2, .int x2)]) hx hb dX4_parentsOf_73 hl (k := 3) rfl rfl (by decide) rfl (fun ls hl => ?_)
        refine lv_goto (tgt := 4) hx hb dX4_parentsOf_76 (by decide) ?_
        exact ih x1 x2 (x3 + (1 : Int32)) _ _ _ (lv_sub hl [1, 2, 3, 0] rfl) hW hf
set_option maxHeartbeats 4000000 in
set_option maxRecDepth 100000 in
theorem mX4_parentsOf  {x1 : Int32} {σ : Mst} {q : Int32} (hf : fX4_parentsOf x1 σ = some q) : CtI l yX4_parentsOf cX4_parentsOf 4 (some .int) rX4_parentsOf D dA [.ref h0, .int x1] (Mc dA h0 ad σ) q (Mc dA h0 ad σ) := by
  refine e_I (by decide) (Nat.le_of_ble_eq_true rfl) ?_
  intro p e s m below meth c ls A FX hr hlk hl hW
  have hx := FX.1; have hb := FX.2.1; have hown := FX.2.2.2.1; have hts := FX.2.2.2.2
  have hl : lv_has ls 4 [(0, .ref h0), (1, .int x1)] := hl
  rw [fX4_parentsOf] at hf
  refine lv_iconst (v := 0) hx hb dX4_parentsOf_0 (by decide) ?_
  refine lv_istore_n (lv' := [(2, .int (0 : Int32)), (0, .ref h0), (1, .int x1)]) hx hb dX4_parentsOf_1 rfl hl (by decide) rfl (fun ls hl => ?_)
  refine lv_iconst (v := 0) hx hb dX4_parentsOf_2 (by decide) ?_
  refine lv_istore_n (lv' := [(3, .int (0 : Int32)), (2, .int (0 : Int32)), (0, .ref h0), (1, .int x1)]) hx hb dX4_parentsOf_3 rfl hl (by decide) rfl (fun ls hl => ?_)
  exact wX4_parentsOf_4 FX hr hlk _ x1 (0 : Int32) (0 : Int32) _ _ _ (lv_sub hl [2, 3, 1, 0] rfl) hW hf
set_option maxHeartbeats 4000000 in
set_option maxRecDepth 100000 in
theorem kX4_parentsOf {α : Type} {q : α} {k : Int32 → Option α} {x1 : Int32} {σ : Mst} (FX : CallFix p m c cc nL s args lw_all RX4) (hR : rX4_parentsOf.frames + 1 ≤ R.frames ∧ 8 + (4 + 11) + rX4_parentsOf.locals ≤ R.locals) (hcs : cells ≤ R.cells ∧ slots ≤ R.slots) (hl : ls.size = nL) (hrm : (rest.map fun v => v.category).sum ≤ 8) (hW : Wd D dA A s (Mc dA h0 ad σ) H locs) (hf : (fX4_parentsOf x1 σ).bind k = some q) (hdg : decode cc pc = .ok (.invokevirtual 466, 3)) (kk : ∀ (r : Int32) (H1 : Heap) (locs1 : List Loc), Wd D dA A s (Mc dA h0 ad σ) H1 locs1 → k r = some q → W p l e R s m args below meth c H1 locs1 cells slots Q (F0 m (pc + 3) ls (.int r :: rest))) : W p l e R s m args below meth c H locs cells slots Q (F0 m pc ls (.int x1 :: .ref h0 :: rest)) := by
  obtain ⟨r1, h1, hf⟩ := bnd hf
  refine w_Vi (C := RX4) (As := [.int x1]) (rest := rest) (n := 1) (wr := []) FX (mX4_parentsOf h1) (cwV 1 FX.2.2.2.2 (lw_V q2174 q2176 qs116 q132 q2177) rfl rfl rfl (by decide +kernel) hR) (va_recv hW.2.2.2.1 hW.1 (ci := 4) (q0 := 0) rfl rfl) rfl hl rfl hrm ⟨Nat.le_trans (Nat.le_of_eq (Nat.add_zero cells)) hcs.1, Nat.le_trans (Nat.le_of_eq (Nat.add_zero slots)) hcs.2⟩ hdg hW.nil ?_
  exact fun H1 locs1 hW1 => kk r1 H1 locs1 hW1.nil' hf
/-! TrunkLittersModel.line(I)I: kind R -/
def fX4_line_20 (σ : Mst) : Nat → Int32 → Int32 → Option Int32
  | 0, _, _ => none
  | n + 1, x2, x3 => (if (8 : Int32) ≤ x3 then some x2 else (fX4_parentsOf x2 σ).bind fun r1 => fX4_line_20 σ n (x2 ||| r1) (x3 + (1 : Int32)))
def fX4_line (x1 : Int32) (σ : Mst) : Option Int32 := (fX4_isThere x1 σ).bind fun r1 => (if r1 = 0 then some (-1 : Int32) else (fX4_parentsOf ((1 : Int32) <<< (x1 &&& 31)) σ).bind fun r2 => fX4_line_20 σ FU r2 (0 : Int32))
abbrev rX4_line : Room := { frames := 2, cells := 0, slots := 0, locals := 44 }
set_option maxHeartbeats 4000000 in
set_option maxRecDepth 100000 in
theorem wX4_line_20 {q : Int32} {σ : Mst} (FX : CallFix p m c cX4_line 4 s args lw_all RX4) (hr : meth.sig.returnType = (some .int)) (hlk : meth.locks = false) : ∀ n : Nat, ∀ (x2 : Int32) (x3 : Int32) (H : Heap) (locs : List Loc) (ls : Array Slot), lv_has ls 4 [(0, .ref h0), (2, .int x2), (3, .int x3)] → Wd D dA A s (Mc dA h0 ad σ) H locs → fX4_line_20 σ n x2 x3 = some q → W p l e rX4_line s m args below meth c H locs 0 0 (QI D dA A below args s 0 0 q (Mc dA h0 ad σ)) (F0 m 20 ls []) := by
  have hx := FX.1; have hb := FX.2.1; have hown := FX.2.2.2.1; have hts := FX.2.2.2.2
  intro n
  induction n with
  | zero =>
    intro x2 x3 H locs ls hl hW hf
    cases (show (none : Option Int32) = some q from hf)
  | succ n ih =>
    intro x2 x3 H locs ls hl hW hf
    rw [fX4_line_20] at hf
    refine lv_iload_n hx hb dX4_line_20 rfl (lv_at hl 2 rfl) ?_
    refine lv_bipush (v := 8) hx hb dX4_line_21 (by decide) ?_
    refine lv_icmp_ge (tgt := 40) hx hb dX4_line_23 (by decide) (fun c23 => ?_) (fun c23 => ?_)
    · have hf := ifp c23 hf
      refine lv_iload_n hx hb dX4_line_40 rfl (lv_at hl 1 rfl) ?_
      exact g_iret FX hr hlk hW (Option.some.inj hf) dX4_line_41
    · have hf := ifn c23 hf
      refine lv_iload_n hx hb dX4_line_26 rfl (lv_at hl 1 rfl) ?_
      refine lv_aload_n hx hb dX4_line_27 rfl (lv_at hl 0 rfl) ?_
      refine lv_iload_n hx hb dX4_line_28 rfl (lv_at hl 1 rfl) ?_
      refine kX4_parentsOf FX ⟨Nat.le_of_ble_eq_true rfl, Nat.le_of_ble_eq_true rfl⟩ ⟨Nat.zero_le _, Nat.zero_le _⟩ hl.1 (Nat.le_of_ble_eq_true rfl) hW hf dX4_line_29 (fun r1 H locs hW hf => ?_)
      refine lv_ior hx hb dX4_line_32 ?_
      refine lv_istore_n (lv' := [(2, .int (x2 ||| r1)), (0, .ref h0), (3, .int x3)]) hx hb dX4_line_33 rfl hl (by decide) rfl (fun ls hl => ?_)
      refine lv_iinc (v := (x3 + (1 : Int32))) (lv' := [(3, .int (x3 + (1 : Int32))), (2, .int (x2 ||| r1)), (0, .ref h0)]) hx hb dX4_line_34 hl (k := 2) rfl rfl (by decide) rfl (fun ls hl => ?_)
      refine lv_goto (tgt := 20) hx hb dX4_line_37 (by decide) ?_
      exact ih (x2 ||| r1) (x3 + (1 : Int32)) _ _ _ (lv_sub hl [2, 1, 0] rfl) hW hf
set_option maxHeartbeats 4000000 in
set_option maxRecDepth 100000 in
theorem mX4_line  {x1 : Int32} {σ : Mst} {q : Int32} (hf : fX4_line x1 σ = some q) : CtI l yX4_line cX4_line 4 (some .int) rX4_line D dA [.ref h0, .int x1] (Mc dA h0 ad σ) q (Mc dA h0 ad σ) := by
  refine e_I (by decide) (Nat.le_of_ble_eq_true rfl) ?_
  intro p e s m below meth c ls A FX hr hlk hl hW
  have hx := FX.1; have hb := FX.2.1; have hown := FX.2.2.2.1; have hts := FX.2.2.2.2
  have hl : lv_has ls 4 [(0, .ref h0), (1, .int x1)] := hl
  rw [fX4_line] at hf
  refine lv_aload_n hx hb dX4_line_0 rfl (lv_at hl 0 rfl) ?_
  refine lv_iload_n hx hb dX4_line_1 rfl (lv_at hl 1 rfl) ?_
  refine kX4_isThere FX ⟨Nat.le_of_ble_eq_true rfl, Nat.le_of_ble_eq_true rfl⟩ ⟨Nat.zero_le _, Nat.zero_le _⟩ hl.1 (Nat.le_of_ble_eq_true rfl) hW hf dX4_line_2 (fun r1 H locs hW hf => ?_)
  refine lv_if_ne (tgt := 10) hx hb dX4_line_5 (by decide) (fun c5 => ?_) (fun c5 => ?_)
  · have hf := ifn c5 hf
    refine lv_aload_n hx hb dX4_line_10 rfl (lv_at hl 0 rfl) ?_
    refine lv_iconst (v := 1) hx hb dX4_line_11 (by decide) ?_
    refine lv_iload_n hx hb dX4_line_12 rfl (lv_at hl 1 rfl) ?_
    refine lv_ishl hx hb dX4_line_13 ?_
    refine kX4_parentsOf FX ⟨Nat.le_of_ble_eq_true rfl, Nat.le_of_ble_eq_true rfl⟩ ⟨Nat.zero_le _, Nat.zero_le _⟩ hl.1 (Nat.le_of_ble_eq_true rfl) hW hf dX4_line_14 (fun r2 H locs hW hf => ?_)
    refine lv_istore_n (lv' := [(2, .int r2), (0, .ref h0), (1, .int x1)]) hx hb dX4_line_17 rfl hl (by decide) rfl (fun ls hl => ?_)
    refine lv_iconst (v := 0) hx hb dX4_line_18 (by decide) ?_
    refine lv_istore_n (lv' := [(3, .int (0 : Int32)), (2, .int r2), (0, .ref h0), (1, .int x1)]) hx hb dX4_line_19 rfl hl (by decide) rfl (fun ls hl => ?_)
    exact wX4_line_20 FX hr hlk _ r2 (0 : Int32) _ _ _ (lv_sub hl [2, 1, 0] rfl) hW hf
  · have hf := ifp c5 hf
    refine lv_iconst (v := -1) hx hb dX4_line_8 (by decide) ?_
    exact g_iret FX hr hlk hW (Option.some.inj hf) dX4_line_9

/-! TrunkLittersModel.sign(I)I: kind R -/
def fX4_sign (x1 : Int32) (σ : Mst) : Option Int32 := (if (gF σ 3) ≤ x1 then some (0 : Int32) else ald 1600 (gA σ 1) x1 fun v1 => some (v1 &&& (255 : Int32)))
abbrev rX4_sign : Room := { frames := 0, cells := 0, slots := 0, locals := 0 }
set_option maxHeartbeats 4000000 in
set_option maxRecDepth 100000 in
theorem mX4_sign  {x1 : Int32} {σ : Mst} {q : Int32} (hf : fX4_sign x1 σ = some q) : CtI l yX4_sign cX4_sign 2 (some .int) rX4_sign D dA [.ref h0, .int x1] (Mc dA h0 ad σ) q (Mc dA h0 ad σ) := by
  refine e_I (by decide) (Nat.le_of_ble_eq_true rfl) ?_
  intro p e s m below meth c ls A FX hr hlk hl hW
  have hx := FX.1; have hb := FX.2.1; have hown := FX.2.2.2.1; have hts := FX.2.2.2.2
  have hl : lv_has ls 2 [(0, .ref h0), (1, .int x1)] := hl
  rw [fX4_sign] at hf
  refine lv_iload_n hx hb dX4_sign_0 rfl (lv_at hl 1 rfl) ?_
  refine lv_aload_n hx hb dX4_sign_1 rfl (lv_at hl 0 rfl) ?_
  refine Mg3 FX hW dX4_sign_2 ?_
  refine lv_icmp_ge (tgt := 21) hx hb dX4_sign_5 (by decide) (fun c5 => ?_) (fun c5 => ?_)
  · have hf := ifp c5 hf
    refine lv_iconst (v := 0) hx hb dX4_sign_21 (by decide) ?_
    exact g_iret FX hr hlk hW (Option.some.inj hf) dX4_sign_22
  · have hf := ifn c5 hf
    refine lv_aload_n hx hb dX4_sign_8 rfl (lv_at hl 0 rfl) ?_
    refine Mg1 FX hW dX4_sign_9 ?_
    refine lv_iload_n hx hb dX4_sign_12 rfl (lv_at hl 1 rfl) ?_
    refine g_bald FX hW 2 Mp1 hf dX4_sign_13 (fun v1 hf => ?_)
    refine lv_sipush (v := 255) hx hb dX4_sign_14 (by decide) ?_
    refine lv_iand hx hb dX4_sign_17 ?_
    refine lv_goto (tgt := 22) hx hb dX4_sign_18 (by decide) ?_
    exact g_iret FX hr hlk hW (Option.some.inj hf) dX4_sign_22
set_option maxHeartbeats 4000000 in
set_option maxRecDepth 100000 in
theorem kX4_sign {α : Type} {q : α} {k : Int32 → Option α} {x1 : Int32} {σ : Mst} (FX : CallFix p m c cc nL s args lw_all RX4) (hR : rX4_sign.frames + 1 ≤ R.frames ∧ 8 + (2 + 11) + rX4_sign.locals ≤ R.locals) (hcs : cells ≤ R.cells ∧ slots ≤ R.slots) (hl : ls.size = nL) (hrm : (rest.map fun v => v.category).sum ≤ 8) (hW : Wd D dA A s (Mc dA h0 ad σ) H locs) (hf : (fX4_sign x1 σ).bind k = some q) (hdg : decode cc pc = .ok (.invokevirtual 182, 3)) (kk : ∀ (r : Int32) (H1 : Heap) (locs1 : List Loc), Wd D dA A s (Mc dA h0 ad σ) H1 locs1 → k r = some q → W p l e R s m args below meth c H1 locs1 cells slots Q (F0 m (pc + 3) ls (.int r :: rest))) : W p l e R s m args below meth c H locs cells slots Q (F0 m pc ls (.int x1 :: .ref h0 :: rest)) := by
  obtain ⟨r1, h1, hf⟩ := bnd hf
  refine w_Vi (C := RX4) (As := [.int x1]) (rest := rest) (n := 1) (wr := []) FX (mX4_sign h1) (cwV 1 FX.2.2.2.2 (lw_V q1755 q1757 qs57 q132 q1758) rfl rfl rfl (by decide +kernel) hR) (va_recv hW.2.2.2.1 hW.1 (ci := 4) (q0 := 0) rfl rfl) rfl hl rfl hrm ⟨Nat.le_trans (Nat.le_of_eq (Nat.add_zero cells)) hcs.1, Nat.le_trans (Nat.le_of_eq (Nat.add_zero slots)) hcs.2⟩ hdg hW.nil ?_
  exact fun H1 locs1 hW1 => kk r1 H1 locs1 hW1.nil' hf
/-! TrunkLittersModel.isSignHere(I)Z: kind R -/
def fX4_isSignHere (x1 : Int32) (σ : Mst) : Option Int32 := (if (gF σ 8) = (5 : Int32) then (fX4_sign (gF σ 6) σ).bind fun r1 => (if r1 = x1 then some (1 : Int32) else some (0 : Int32)) else some (0 : Int32))
abbrev rX4_isSignHere : Room := { frames := 1, cells := 0, slots := 0, locals := 21 }
set_option maxHeartbeats 4000000 in
set_option maxRecDepth 100000 in
theorem mX4_isSignHere  {x1 : Int32} {σ : Mst} {q : Int32} (hf : fX4_isSignHere x1 σ = some q) : CtI l yX4_isSignHere cX4_isSignHere 2 (some .boolean) rX4_isSignHere D dA [.ref h0, .int x1] (Mc dA h0 ad σ) q (Mc dA h0 ad σ) := by
  refine e_I (by decide) (Nat.le_of_ble_eq_true rfl) ?_
  intro p e s m below meth c ls A FX hr hlk hl hW
  have hx := FX.1; have hb := FX.2.1; have hown := FX.2.2.2.1; have hts := FX.2.2.2.2
  have hl : lv_has ls 2 [(0, .ref h0), (1, .int x1)] := hl
  rw [fX4_isSignHere] at hf
  refine lv_aload_n hx hb dX4_isSignHere_0 rfl (lv_at hl 0 rfl) ?_
  refine Mg8 FX hW dX4_isSignHere_1 ?_
  refine lv_iconst (v := 5) hx hb dX4_isSignHere_4 (by decide) ?_
  refine lv_icmp_ne (tgt := 24) hx hb dX4_isSignHere_5 (by decide) (fun c5 => ?_) (fun c5 => ?_)
  · have hf := ifn c5 hf
    refine lv_iconst (v := 0) hx hb dX4_isSignHere_24 (by decide) ?_
    exact g_zret FX hr hlk hW rfl (Option.some.inj hf) dX4_isSignHere_25
  · have hf := ifp c5 hf
    refine lv_aload_n hx hb dX4_isSignHere_8 rfl (lv_at hl 0 rfl) ?_
    refine lv_aload_n hx hb dX4_isSignHere_9 rfl (lv_at hl 0 rfl) ?_
    refine Mg6 FX hW dX4_isSignHere_10 ?_
    refine kX4_sign FX ⟨Nat.le_of_ble_eq_true rfl, Nat.le_of_ble_eq_true rfl⟩ ⟨Nat.zero_le _, Nat.zero_le _⟩ hl.1 (Nat.le_of_ble_eq_true rfl) hW hf dX4_isSignHere_13 (fun r1 H locs hW hf => ?_)
    refine lv_iload_n hx hb dX4_isSignHere_16 rfl (lv_at hl 1 rfl) ?_
    refine lv_icmp_ne (tgt := 24) hx hb dX4_isSignHere_17 (by decide) (fun c17 => ?_) (fun c17 => ?_)
    · have hf := ifn c17 hf
      refine lv_iconst (v := 0) hx hb dX4_isSignHere_24 (by decide) ?_
      exact g_zret FX hr hlk hW rfl (Option.some.inj hf) dX4_isSignHere_25
    · have hf := ifp c17 hf
      refine lv_iconst (v := 1) hx hb dX4_isSignHere_20 (by decide) ?_
      refine lv_goto (tgt := 25) hx hb dX4_isSignHere_21 (by decide) ?_
      exact g_zret FX hr hlk hW rfl (Option.some.inj hf) dX4_isSignHere_25
set_option maxHeartbeats 4000000 in
set_option maxRecDepth 100000 in
theorem kX4_isSignHere {α : Type} {q : α} {k : Int32 → Option α} {x1 : Int32} {σ : Mst} (FX : CallFix p m c cc nL s args lw_all RX4) (hR : rX4_isSignHere.frames + 1 ≤ R.frames ∧ 8 + (2 + 11) + rX4_isSignHere.locals ≤ R.locals) (hcs : cells ≤ R.cells ∧ slots ≤ R.slots) (hl : ls.size = nL) (hrm : (rest.map fun v => v.category).sum ≤ 8) (hW : Wd D dA A s (Mc dA h0 ad σ) H locs) (hf : (fX4_isSignHere x1 σ).bind k = some q) (hdg : decode cc pc = .ok (.invokevirtual 279, 3)) (kk : ∀ (r : Int32) (H1 : Heap) (locs1 : List Loc), Wd D dA A s (Mc dA h0 ad σ) H1 locs1 → k r = some q → W p l e R s m args below meth c H1 locs1 cells slots Q (F0 m (pc + 3) ls (.int r :: rest))) : W p l e R s m args below meth c H locs cells slots Q (F0 m pc ls (.int x1 :: .ref h0 :: rest)) := by
  obtain ⟨r1, h1, hf⟩ := bnd hf
  refine w_Vi (C := RX4) (As := [.int x1]) (rest := rest) (n := 1) (wr := []) FX (mX4_isSignHere h1) (cwV 1 FX.2.2.2.2 (lw_V q1860 q1862 qs75 q132 q1863) rfl rfl rfl (by decide +kernel) hR) (va_recv hW.2.2.2.1 hW.1 (ci := 4) (q0 := 0) rfl rfl) rfl hl rfl hrm ⟨Nat.le_trans (Nat.le_of_eq (Nat.add_zero cells)) hcs.1, Nat.le_trans (Nat.le_of_eq (Nat.add_zero slots)) hcs.2⟩ hdg hW.nil ?_
  exact fun H1 locs1 hW1 => kk r1 H1 locs1 hW1.nil' hf
/-! TrunkLittersModel.litter(I)I: kind R -/
def fX4_litter_46 (σ : Mst) (k14 : Int32 → Int32 → Int32 → Option Int32) (x1 : Int32) (x2 : Int32) (x3 : Int32) : Option Int32 := k14 x1 (x2 ||| ((1 : Int32) <<< (x3 &&& 31))) (x3 + (1 : Int32))
def fX4_litter_14 (σ : Mst) : Nat → Int32 → Int32 → Int32 → Option Int32
  | 0, _, _, _ => none
  | n + 1, x1, x2, x3 => (if (8 : Int32) ≤ x3 then some x2 else ald 59 (gA σ 40) ((40 : Int32) + x3) fun v1 => (if v1 = x1 then fX4_litter_46 σ (fX4_litter_14 σ n) x1 x2 x3 else ald 59 (gA σ 40) ((48 : Int32) + x3) fun v2 => (if v2 = x1 then fX4_litter_46 σ (fX4_litter_14 σ n) x1 x2 x3 else fX4_litter_14 σ n x1 x2 (x3 + (1 : Int32)))))
def fX4_litter (x1 : Int32) (σ : Mst) : Option Int32 := (fX4_isThere x1 σ).bind fun r1 => (if r1 = 0 then some (-1 : Int32) else fX4_litter_14 σ FU x1 (0 : Int32) (0 : Int32))
abbrev rX4_litter : Room := { frames := 2, cells := 0, slots := 0, locals := 43 }
set_option maxHeartbeats 4000000 in
set_option maxRecDepth 100000 in
theorem wX4_litter_46 {q : Int32} {σ : Mst} (FX : CallFix p m c cX4_litter 4 s args lw_all RX4) (hr : meth.sig.returnType = (some .int)) (hlk : meth.locks = false) {k14 : Int32 → Int32 → Int32 → Option Int32} (hk14 : ∀ (x1 : Int32) (x2 : Int32) (x3 : Int32) (H : Heap) (locs : List Loc) (ls : Array Slot), lv_has ls 4 [(0, .ref h0), (1, .int x1), (2, .int x2), (3, .int x3)] → Wd D dA A s (Mc dA h0 ad σ) H locs → k14 x1 x2 x3 = some q → W p l e rX4_litter s m args below meth c H locs 0 0 (QI D dA A below args s 0 0 q (Mc dA h0 ad σ)) (F0 m 14 ls [])) : ∀ (x1 : Int32) (x2 : Int32) (x3 : Int32) (H : Heap) (locs : List Loc) (ls : Array Slot), lv_has ls 4 [(0, .ref h0), (1, .int x1), (2, .int x2), (3, .int x3)] → Wd D dA A s (Mc dA h0 ad σ) H locs → fX4_litter_46 σ k14 x1 x2 x3 = some q → W p l e rX4_litter s m args below meth c H locs 0 0 (QI D dA A below args s 0 0 q (Mc dA h0 ad σ)) (F0 m 46 ls []) := by
  have hx := FX.1; have hb := FX.2.1; have hown := FX.2.2.2.1; have hts := FX.2.2.2.2
  intro x1 x2 x3 H locs ls hl hW hf
  rw [fX4_litter_46] at hf
  refine lv_iload_n hx hb dX4_litter_46 rfl (lv_at hl 2 rfl) ?_
  refine lv_iconst (v := 1) hx hb dX4_litter_47 (by decide) ?_
  refine lv_iload_n hx hb dX4_litter_48 rfl (lv_at hl 3 rfl) ?_
  refine lv_ishl hx hb dX4_litter_49 ?_
  refine lv_ior hx hb dX4_litter_50 ?_
  refine lv_istore_n (lv' := [(2, .int (x2 ||| ((1 : Int32) <<< (x3 &&& 31)))), (0, .ref h0), (1, .int x1), (3, .int x3)]) hx hb dX4_litter_51 rfl hl (by decide) rfl (fun ls hl => ?_)
  refine lv_iinc (v := (x3 + (1 : Int32))) (lv' := [(3, .int (x3 + (1 : Int32))), (2, .int (x2 ||| ((1 : Int32) <<< (x3 &&& 31)))), (0, .ref h0), (1, .int x1)]) hx hb dX4_litter_52 hl (k := 3) rfl rfl (by decide) rfl (fun ls hl => ?_)
  refine lv_goto (tgt := 14) hx hb dX4_litter_55 (by decide) ?_
  exact hk14 x1 (x2 ||| ((1 : Int32) <<< (x3 &&& 31))) (x3 + (1 : Int32)) _ _ _ (lv_sub hl [2, 3, 1, 0] rfl) hW hf
set_option maxHeartbeats 4000000 in
set_option maxRecDepth 100000 in
theorem wX4_litter_14 {q : Int32} {σ : Mst} (FX : CallFix p m c cX4_litter 4 s args lw_all RX4) (hr : meth.sig.returnType = (some .int)) (hlk : meth.locks = false) : ∀ n : Nat, ∀ (x1 : Int32) (x2 : Int32) (x3 : Int32) (H : Heap) (locs : List Loc) (ls : Array Slot), lv_has ls 4 [(0, .ref h0), (1, .int x1), (2, .int x2), (3, .int x3)] → Wd D dA A s (Mc dA h0 ad σ) H locs → fX4_litter_14 σ n x1 x2 x3 = some q → W p l e rX4_litter s m args below meth c H locs 0 0 (QI D dA A below args s 0 0 q (Mc dA h0 ad σ)) (F0 m 14 ls []) := by
  have hx := FX.1; have hb := FX.2.1; have hown := FX.2.2.2.1; have hts := FX.2.2.2.2
  intro n
  induction n with
  | zero =>
    intro x1 x2 x3 H locs ls hl hW hf
    cases (show (none : Option Int32) = some q from hf)
  | succ n ih =>
    intro x1 x2 x3 H locs ls hl hW hf
    rw [fX4_litter_14] at hf
    refine lv_iload_n hx hb dX4_litter_14 rfl (lv_at hl 3 rfl) ?_
    refine lv_bipush (v := 8) hx hb dX4_litter_15 (by decide) ?_
    refine lv_icmp_ge (tgt := 58) hx hb dX4_litter_17 (by decide) (fun c17 => ?_) (fun c17 => ?_)
    · have hf := ifp c17 hf
      refine lv_iload_n hx hb dX4_litter_58 rfl (lv_at hl 2 rfl) ?_
      exact g_iret FX hr hlk hW (Option.some.inj hf) dX4_litter_59
    · have hf := ifn c17 hf
      refine lv_aload_n hx hb dX4_litter_20 rfl (lv_at hl 0 rfl) ?_
      refine Mg40 FX hW dX4_litter_21 ?_
      refine lv_bipush (v := 40) hx hb dX4_litter_24 (by decide) ?_
      refine lv_iload_n hx hb dX4_litter_26 rfl (lv_at hl 3 rfl) ?_
      refine lv_iadd hx hb dX4_litter_27 ?_
      refine g_iald FX hW 24 Mp40 hf dX4_litter_28 (fun v1 hf => ?_)
      refine lv_iload_n hx hb dX4_litter_29 rfl (lv_at hl 1 rfl) ?_
      refine lv_icmp_eq (tgt := 46) hx hb dX4_litter_30 (by decide) (fun c30 => ?_) (fun c30 => ?_)
      · have hf := ifp c30 hf
        exact wX4_litter_46 FX hr hlk (ih) x1 x2 x3 _ _ _ (lv_sub hl [0, 1, 2, 3] rfl) hW hf
      · have hf := ifn c30 hf
        refine lv_aload_n hx hb dX4_litter_33 rfl (lv_at hl 0 rfl) ?_
        refine Mg40 FX hW dX4_litter_34 ?_
        refine lv_bipush (v := 48) hx hb dX4_litter_37 (by decide) ?_
        refine lv_iload_n hx hb dX4_litter_39 rfl (lv_at hl 3 rfl) ?_
        refine lv_iadd hx hb dX4_litter_40 ?_
        refine g_iald FX hW 24 Mp40 hf dX4_litter_41 (fun v2 hf => ?_)
        refine lv_iload_n hx hb dX4_litter_42 rfl (lv_at hl 1 rfl) ?_
        refine lv_icmp_ne (tgt := 52) hx hb dX4_litter_43 (by decide) (fun c43 => ?_) (fun c43 => ?_)
        · have hf := ifn c43 hf
          refine lv_iinc (v := (x3 + (1 : Int32))) (lv' := [(3, .int (x3 + (1 : Int32))), (0, .ref h0), (1, .int x1), (2, .int x2)]) hx hb dX4_litter_52 hl (k := 3) rfl rfl (by decide) rfl (fun ls hl => ?_)
          refine lv_goto (tgt := 14) hx hb dX4_litter_55 (by decide) ?_
          exact ih x1 x2 (x3 + (1 : Int32)) _ _ _ (lv_sub hl [1, 2, 3, 0] rfl) hW hf
        · have hf := ifp c43 hf
          exact wX4_litter_46 FX hr hlk (ih) x1 x2 x3 _ _ _ (lv_sub hl [0, 1, 2, 3] rfl) hW hf
set_option maxHeartbeats 4000000 in
set_option maxRecDepth 100000 in
theorem mX4_litter  {x1 : Int32} {σ : Mst} {q : Int32} (hf : fX4_litter x1 σ = some q) : CtI l yX4_litter cX4_litter 4 (some .int) rX4_litter D dA [.ref h0, .int x1] (Mc dA h0 ad σ) q (Mc dA h0 ad σ) := by
  refine e_I (by decide) (Nat.le_of_ble_eq_true rfl) ?_
  intro p e s m below meth c ls A FX hr hlk hl hW
  have hx := FX.1; have hb := FX.2.1; have hown := FX.2.2.2.1; have hts := FX.2.2.2.2
  have hl : lv_has ls 4 [(0, .ref h0), (1, .int x1)] := hl
  rw [fX4_litter] at hf
  refine lv_aload_n hx hb dX4_litter_0 rfl (lv_at hl 0 rfl) ?_
  refine lv_iload_n hx hb dX4_litter_1 rfl (lv_at hl 1 rfl) ?_
  refine kX4_isThere FX ⟨Nat.le_of_ble_eq_true rfl, Nat.le_of_ble_eq_true rfl⟩ ⟨Nat.zero_le _, Nat.zero_le _⟩ hl.1 (Nat.le_of_ble_eq_true rfl) hW hf dX4_litter_2 (fun r1 H locs hW hf => ?_)
  refine lv_if_ne (tgt := 10) hx hb dX4_litter_5 (by decide) (fun c5 => ?_) (fun c5 => ?_)
  · have hf := ifn c5 hf
    refine lv_iconst (v := 0) hx hb dX4_litter_10 (by decide) ?_
    refine lv_istore_n (lv' := [(2, .int (0 : Int32)), (0, .ref h0), (1, .int x1)]) hx hb dX4_litter_11 rfl hl (by decide) rfl (fun ls hl => ?_)
    refine lv_iconst (v := 0) hx hb dX4_litter_12 (by decide) ?_
    refine lv_istore_n (lv' := [(3, .int (0 : Int32)), (2, .int (0 : Int32)), (0, .ref h0), (1, .int x1)]) hx hb dX4_litter_13 rfl hl (by decide) rfl (fun ls hl => ?_)
    exact wX4_litter_14 FX hr hlk _ x1 (0 : Int32) (0 : Int32) _ _ _ (lv_sub hl [2, 3, 1, 0] rfl) hW hf
  · have hf := ifp c5 hf
    refine lv_iconst (v := -1) hx hb dX4_litter_8 (by decide) ?_
    exact g_iret FX hr hlk hW (Option.some.inj hf) dX4_litter_9

/-! TrunkLittersModel.stepsUp(II)I: kind R -/
def fX4_stepsUp_7 (σ : Mst) : Nat → Int32 → Int32 → Int32 → Option Int32
  | 0, _, _, _ => none
  | n + 1, x2, x3, x4 => (if (8 : Int32) < x4 then some (1000 : Int32) else (fX4_bit x3 x2).bind fun r1 => (if r1 = 0 then (fX4_parentsOf x3 σ).bind fun r2 => fX4_stepsUp_7 σ n x2 r2 (x4 + (1 : Int32)) else some x4))
def fX4_stepsUp (x1 : Int32) (x2 : Int32) (σ : Mst) : Option Int32 := fX4_stepsUp_7 σ FU x2 ((1 : Int32) <<< (x1 &&& 31)) (0 : Int32)
abbrev rX4_stepsUp : Room := { frames := 2, cells := 0, slots := 0, locals := 44 }
set_option maxHeartbeats 4000000 in
set_option maxRecDepth 100000 in
theorem wX4_stepsUp_7 {q : Int32} {σ : Mst} (FX : CallFix p m c cX4_stepsUp 5 s args lw_all RX4) (hr : meth.sig.returnType = (some .int)) (hlk : meth.locks = false) : ∀ n : Nat, ∀ (x2 : Int32) (x3 : Int32) (x4 : Int32) (H : Heap) (locs : List Loc) (ls : Array Slot), lv_has ls 5 [(0, .ref h0), (2, .int x2), (3, .int x3), (4, .int x4)] → Wd D dA A s (Mc dA h0 ad σ) H locs → fX4_stepsUp_7 σ n x2 x3 x4 = some q → W p l e rX4_stepsUp s m args below meth c H locs 0 0 (QI D dA A below args s 0 0 q (Mc dA h0 ad σ)) (F0 m 7 ls []) := by
  have hx := FX.1; have hb := FX.2.1; have hown := FX.2.2.2.1; have hts := FX.2.2.2.2
  intro n
  induction n with
  | zero =>
    intro x2 x3 x4 H locs ls hl hW hf
    cases (show (none : Option Int32) = some q from hf)
  | succ n ih =>
    intro x2 x3 x4 H locs ls hl hW hf
    rw [fX4_stepsUp_7] at hf
    refine lv_iload hx hb dX4_stepsUp_7 (lv_at hl 3 rfl) ?_
    refine lv_bipush (v := 8) hx hb dX4_stepsUp_9 (by decide) ?_
    refine lv_icmp_gt (tgt := 37) hx hb dX4_stepsUp_11 (by decide) (fun c11 => ?_) (fun c11 => ?_)
    · have hf := ifp c11 hf
      refine lv_sipush (v := 1000) hx hb dX4_stepsUp_37 (by decide) ?_
      exact g_iret FX hr hlk hW (Option.some.inj hf) dX4_stepsUp_40
    · have hf := ifn c11 hf
      refine lv_iload_n hx hb dX4_stepsUp_14 rfl (lv_at hl 2 rfl) ?_
      refine lv_iload_n hx hb dX4_stepsUp_15 rfl (lv_at hl 1 rfl) ?_
      refine kX4_bit FX ⟨Nat.le_of_ble_eq_true rfl, Nat.le_of_ble_eq_true rfl⟩ ⟨Nat.zero_le _, Nat.zero_le _⟩ hl.1 (Nat.le_of_ble_eq_true rfl) hW hf dX4_stepsUp_16 (fun r1 H locs hW hf => ?_)
      refine lv_if_eq (tgt := 25) hx hb dX4_stepsUp_19 (by decide) (fun c19 => ?_) (fun c19 => ?_)
      · have hf := ifp c19 hf
        refine lv_aload_n hx hb dX4_stepsUp_25 rfl (lv_at hl 0 rfl) ?_
        refine lv_iload_n hx hb dX4_stepsUp_26 rfl (lv_at hl 2 rfl) ?_
        refine kX4_parentsOf FX ⟨Nat.le_of_ble_eq_true rfl, Nat.le_of_ble_eq_true rfl⟩ ⟨Nat.zero_le _, Nat.zero_le _⟩ hl.1 (Nat.le_of_ble_eq_true rfl) hW hf dX4_stepsUp_27 (fun r2 H locs hW hf => ?_)
        refine lv_istore_n (lv' := [(3, .int r2), (0, .ref h0), (2, .int x2), (4, .int x4)]) hx hb dX4_stepsUp_30 rfl hl (by decide) rfl (fun ls hl => ?_)
        refine lv_iinc (v := (x4 + (1 : Int32))) (lv' := [(4, .int (x4 + (1 : Int32))), (3, .int r2), (0, .ref h0), (2, .int x2)]) hx hb dX4_stepsUp_31 hl (k := 3) rfl rfl (by decide) rfl (fun ls hl => ?_)
        refine lv_goto (tgt := 7) hx hb dX4_stepsUp_34 (by decide) ?_
        exact ih x2 r2 (x4 + (1 : Int32)) _ _ _ (lv_sub hl [2, 3, 1, 0] rfl) hW hf
      · have hf := ifn c19 hf
        refine lv_iload hx hb dX4_stepsUp_22 (lv_at hl 3 rfl) ?_
        exact g_iret FX hr hlk hW (Option.some.inj hf) dX4_stepsUp_24
set_option maxHeartbeats 4000000 in
set_option maxRecDepth 100000 in
theorem mX4_stepsUp  {x1 : Int32} {x2 : Int32} {σ : Mst} {q : Int32} (hf : fX4_stepsUp x1 x2 σ = some q) : CtI l yX4_stepsUp cX4_stepsUp 5 (some .int) rX4_stepsUp D dA [.ref h0, .int x1, .int x2] (Mc dA h0 ad σ) q (Mc dA h0 ad σ) := by
  refine e_I (by decide) (Nat.le_of_ble_eq_true rfl) ?_
  intro p e s m below meth c ls A FX hr hlk hl hW
  have hx := FX.1; have hb := FX.2.1; have hown := FX.2.2.2.1; have hts := FX.2.2.2.2
  have hl : lv_has ls 5 [(0, .ref h0), (1, .int x1), (2, .int x2)] := hl
  rw [fX4_stepsUp] at hf
  refine lv_iconst (v := 1) hx hb dX4_stepsUp_0 (by decide) ?_
  refine lv_iload_n hx hb dX4_stepsUp_1 rfl (lv_at hl 1 rfl) ?_
  refine lv_ishl hx hb dX4_stepsUp_2 ?_
  refine lv_istore_n (lv' := [(3, .int ((1 : Int32) <<< (x1 &&& 31))), (0, .ref h0), (1, .int x1), (2, .int x2)]) hx hb dX4_stepsUp_3 rfl hl (by decide) rfl (fun ls hl => ?_)
  refine lv_iconst (v := 0) hx hb dX4_stepsUp_4 (by decide) ?_
  refine lv_istore (lv' := [(4, .int (0 : Int32)), (3, .int ((1 : Int32) <<< (x1 &&& 31))), (0, .ref h0), (1, .int x1), (2, .int x2)]) hx hb dX4_stepsUp_5 hl (by decide) rfl (fun ls hl => ?_)
  exact wX4_stepsUp_7 FX hr hlk _ x2 ((1 : Int32) <<< (x1 &&& 31)) (0 : Int32) _ _ _ (lv_sub hl [2, 4, 1, 0] rfl) hW hf
set_option maxHeartbeats 4000000 in
set_option maxRecDepth 100000 in
theorem kX4_stepsUp {α : Type} {q : α} {k : Int32 → Option α} {x1 : Int32} {x2 : Int32} {σ : Mst} (FX : CallFix p m c cc nL s args lw_all RX4) (hR : rX4_stepsUp.frames + 1 ≤ R.frames ∧ 8 + (5 + 11) + rX4_stepsUp.locals ≤ R.locals) (hcs : cells ≤ R.cells ∧ slots ≤ R.slots) (hl : ls.size = nL) (hrm : (rest.map fun v => v.category).sum ≤ 8) (hW : Wd D dA A s (Mc dA h0 ad σ) H locs) (hf : (fX4_stepsUp x1 x2 σ).bind k = some q) (hdg : decode cc pc = .ok (.invokevirtual 469, 3)) (kk : ∀ (r : Int32) (H1 : Heap) (locs1 : List Loc), Wd D dA A s (Mc dA h0 ad σ) H1 locs1 → k r = some q → W p l e R s m args below meth c H1 locs1 cells slots Q (F0 m (pc + 3) ls (.int r :: rest))) : W p l e R s m args below meth c H locs cells slots Q (F0 m pc ls (.int x2 :: .int x1 :: .ref h0 :: rest)) := by
  obtain ⟨r1, h1, hf⟩ := bnd hf
  refine w_Vi (C := RX4) (As := [.int x1, .int x2]) (rest := rest) (n := 2) (wr := []) FX (mX4_stepsUp h1) (cwV 2 FX.2.2.2.2 (lw_V q2186 q2188 qs117 q132 q2189) rfl rfl rfl (by decide +kernel) hR) (va_recv hW.2.2.2.1 hW.1 (ci := 4) (q0 := 0) rfl rfl) rfl hl rfl hrm ⟨Nat.le_trans (Nat.le_of_eq (Nat.add_zero cells)) hcs.1, Nat.le_trans (Nat.le_of_eq (Nat.add_zero slots)) hcs.2⟩ hdg hW.nil ?_
  exact fun H1 locs1 hW1 => kk r1 H1 locs1 hW1.nil' hf
/-! TrunkLittersModel.kin(II)I: kind R -/
def fX4_kin_25 (σ : Mst) : Nat → Int32 → Int32 → Int32 → Int32 → Option Int32
  | 0, _, _, _, _ => none
  | n + 1, x1, x2, x3, x4 => (if (8 : Int32) ≤ x4 then (if (1000 : Int32) ≤ x3 then some (-1 : Int32) else some x3) else (fX4_stepsUp x1 x4 σ).bind fun r1 => (fX4_stepsUp x2 x4 σ).bind fun r2 => (if x3 ≤ (r1 + r2) then fX4_kin_25 σ n x1 x2 x3 (x4 + (1 : Int32)) else fX4_kin_25 σ n x1 x2 (r1 + r2) (x4 + (1 : Int32))))
def fX4_kin (x1 : Int32) (x2 : Int32) (σ : Mst) : Option Int32 := (fX4_isThere x1 σ).bind fun r1 => (if r1 = 0 then some (-1 : Int32) else (fX4_isThere x2 σ).bind fun r2 => (if r2 = 0 then some (-1 : Int32) else fX4_kin_25 σ FU x1 x2 (1000 : Int32) (0 : Int32)))
abbrev rX4_kin : Room := { frames := 3, cells := 0, slots := 0, locals := 68 }
set_option maxHeartbeats 4000000 in
set_option maxRecDepth 100000 in
theorem wX4_kin_25 {q : Int32} {σ : Mst} (FX : CallFix p m c cX4_kin 6 s args lw_all RX4) (hr : meth.sig.returnType = (some .int)) (hlk : meth.locks = false) : ∀ n : Nat, ∀ (x1 : Int32) (x2 : Int32) (x3 : Int32) (x4 : Int32) (H : Heap) (locs : List Loc) (ls : Array Slot), lv_has ls 6 [(0, .ref h0), (1, .int x1), (2, .int x2), (3, .int x3), (4, .int x4)] → Wd D dA A s (Mc dA h0 ad σ) H locs → fX4_kin_25 σ n x1 x2 x3 x4 = some q → W p l e rX4_kin s m args below meth c H locs 0 0 (QI D dA A below args s 0 0 q (Mc dA h0 ad σ)) (F0 m 25 ls []) := by
  have hx := FX.1; have hb := FX.2.1; have hown := FX.2.2.2.1; have hts := FX.2.2.2.2
  intro n
  induction n with
  | zero =>
    intro x1 x2 x3 x4 H locs ls hl hW hf
    cases (show (none : Option Int32) = some q from hf)
  | succ n ih =>
    intro x1 x2 x3 x4 H locs ls hl hW hf
    rw [fX4_kin_25] at hf
    refine lv_iload hx hb dX4_kin_25 (lv_at hl 4 rfl) ?_
    refine lv_bipush (v := 8) hx hb dX4_kin_27 (by decide) ?_
    refine lv_icmp_ge (tgt := 64) hx hb dX4_kin_29 (by decide) (fun c29 => ?_) (fun c29 => ?_)
    · have hf := ifp c29 hf
      refine lv_iload_n hx hb dX4_kin_64 rfl (lv_at hl 3 rfl) ?_
      refine lv_sipush (v := 1000) hx hb dX4_kin_65 (by decide) ?_
      refine lv_icmp_ge (tgt := 75) hx hb dX4_kin_68 (by decide) (fun c68 => ?_) (fun c68 => ?_)
      · have hf := ifp c68 hf
        refine lv_iconst (v := -1) hx hb dX4_kin_75 (by decide) ?_
        exact g_iret FX hr hlk hW (Option.some.inj hf) dX4_kin_76
      · have hf := ifn c68 hf
        refine lv_iload_n hx hb dX4_kin_71 rfl (lv_at hl 3 rfl) ?_
        refine lv_goto (tgt := 76) hx hb dX4_kin_72 (by decide) ?_
        exact g_iret FX hr hlk hW (Option.some.inj hf) dX4_kin_76
    · have hf := ifn c29 hf
      refine lv_aload_n hx hb dX4_kin_32 rfl (lv_at hl 0 rfl) ?_
      refine lv_iload_n hx hb dX4_kin_33 rfl (lv_at hl 1 rfl) ?_
      refine lv_iload hx hb dX4_kin_34 (lv_at hl 4 rfl) ?_
      refine kX4_stepsUp FX ⟨Nat.le_of_ble_eq_true rfl, Nat.le_of_ble_eq_true rfl⟩ ⟨Nat.zero_le _, Nat.zero_le _⟩ hl.1 (Nat.le_of_ble_eq_true rfl) hW hf dX4_kin_36 (fun r1 H locs hW hf => ?_)
      refine lv_aload_n hx hb dX4_kin_39 rfl (lv_at hl 0 rfl) ?_
      refine lv_iload_n hx hb dX4_kin_40 rfl (lv_at hl 2 rfl) ?_
      refine lv_iload hx hb dX4_kin_41 (lv_at hl 4 rfl) ?_
      refine kX4_stepsUp FX ⟨Nat.le_of_ble_eq_true rfl, Nat.le_of_ble_eq_true rfl⟩ ⟨Nat.zero_le _, Nat.zero_le _⟩ hl.1 (Nat.le_of_ble_eq_true rfl) hW hf dX4_kin_43 (fun r2 H locs hW hf => ?_)
      refine lv_iadd hx hb dX4_kin_46 ?_
      refine lv_istore (lv' := [(5, .int (r1 + r2)), (0, .ref h0), (1, .int x1), (2, .int x2), (3, .int x3), (4, .int x4)]) hx hb dX4_kin_47 hl (by decide) rfl (fun ls hl => ?_)
      refine lv_iload hx hb dX4_kin_49 (lv_at hl 0 rfl) ?_
      refine lv_iload_n hx hb dX4_kin_51 rfl (lv_at hl 4 rfl) ?_
      refine lv_icmp_ge (tgt := 58) hx hb dX4_kin_52 (by decide) (fun c52 => ?_) (fun c52 => ?_)
      · have hf := ifp c52 hf
        refine lv_iinc (v := (x4 + (1 : Int32))) (lv' := [(4, .int (x4 + (1 : Int32))), (5, .int (r1 + r2)), (0, .ref h0), (1, .int x1), (2, .int x2), (3, .int x3)]) hx hb dX4_kin_58 hl (k := 5) rfl rfl (by decide) rfl (fun ls hl => ?_)
        refine lv_goto (tgt := 25) hx hb dX4_kin_61 (by decide) ?_
        exact ih x1 x2 x3 (x4 + (1 : Int32)) _ _ _ (lv_sub hl [2, 3, 4, 5, 0] rfl) hW hf
      · have hf := ifn c52 hf
        refine lv_iload hx hb dX4_kin_55 (lv_at hl 0 rfl) ?_
        refine lv_istore_n (lv' := [(3, .int (r1 + r2)), (5, .int (r1 + r2)), (0, .ref h0), (1, .int x1), (2, .int x2), (4, .int x4)]) hx hb dX4_kin_57 rfl hl (by decide) rfl (fun ls hl => ?_)
        refine lv_iinc (v := (x4 + (1 : Int32))) (lv' := [(4, .int (x4 + (1 : Int32))), (3, .int (r1 + r2)), (5, .int (r1 + r2)), (0, .ref h0), (1, .int x1), (2, .int x2)]) hx hb dX4_kin_58 hl (k := 5) rfl rfl (by decide) rfl (fun ls hl => ?_)
        refine lv_goto (tgt := 25) hx hb dX4_kin_61 (by decide) ?_
        exact ih x1 x2 (r1 + r2) (x4 + (1 : Int32)) _ _ _ (lv_sub hl [3, 4, 5, 1, 0] rfl) hW hf
set_option maxHeartbeats 4000000 in
set_option maxRecDepth 100000 in
theorem mX4_kin  {x1 : Int32} {x2 : Int32} {σ : Mst} {q : Int32} (hf : fX4_kin x1 x2 σ = some q) : CtI l yX4_kin cX4_kin 6 (some .int) rX4_kin D dA [.ref h0, .int x1, .int x2] (Mc dA h0 ad σ) q (Mc dA h0 ad σ) := by
  refine e_I (by decide) (Nat.le_of_ble_eq_true rfl) ?_
  intro p e s m below meth c ls A FX hr hlk hl hW
  have hx := FX.1; have hb := FX.2.1; have hown := FX.2.2.2.1; have hts := FX.2.2.2.2
  have hl : lv_has ls 6 [(0, .ref h0), (1, .int x1), (2, .int x2)] := hl
  rw [fX4_kin] at hf
  refine lv_aload_n hx hb dX4_kin_0 rfl (lv_at hl 0 rfl) ?_
  refine lv_iload_n hx hb dX4_kin_1 rfl (lv_at hl 1 rfl) ?_
  refine kX4_isThere FX ⟨Nat.le_of_ble_eq_true rfl, Nat.le_of_ble_eq_true rfl⟩ ⟨Nat.zero_le _, Nat.zero_le _⟩ hl.1 (Nat.le_of_ble_eq_true rfl) hW hf dX4_kin_2 (fun r1 H locs hW hf => ?_)
  refine lv_if_eq (tgt := 16) hx hb dX4_kin_5 (by decide) (fun c5 => ?_) (fun c5 => ?_)
  · have hf := ifp c5 hf
    refine lv_iconst (v := -1) hx hb dX4_kin_16 (by decide) ?_
    exact g_iret FX hr hlk hW (Option.some.inj hf) dX4_kin_17
  · have hf := ifn c5 hf
    refine lv_aload_n hx hb dX4_kin_8 rfl (lv_at hl 0 rfl) ?_
    refine lv_iload_n hx hb dX4_kin_9 rfl (lv_at hl 2 rfl) ?_
    refine kX4_isThere FX ⟨Nat.le_of_ble_eq_true rfl, Nat.le_of_ble_eq_true rfl⟩ ⟨Nat.zero_le _, Nat.zero_le _⟩ hl.1 (Nat.le_of_ble_eq_true rfl) hW hf dX4_kin_10 (fun r2 H locs hW hf => ?_)
    refine lv_if_ne (tgt := 18) hx hb dX4_kin_13 (by decide) (fun c13 => ?_) (fun c13 => ?_)
    · have hf := ifn c13 hf
      refine lv_sipush (v := 1000) hx hb dX4_kin_18 (by decide) ?_
      refine lv_istore_n (lv' := [(3, .int (1000 : Int32)), (0, .ref h0), (1, .int x1), (2, .int x2)]) hx hb dX4_kin_21 rfl hl (by decide) rfl (fun ls hl => ?_)
      refine lv_iconst (v := 0) hx hb dX4_kin_22 (by decide) ?_
      refine lv_istore (lv' := [(4, .int (0 : Int32)), (3, .int (1000 : Int32)), (0, .ref h0), (1, .int x1), (2, .int x2)]) hx hb dX4_kin_23 hl (by decide) rfl (fun ls hl => ?_)
      exact wX4_kin_25 FX hr hlk _ x1 x2 (1000 : Int32) (0 : Int32) _ _ _ (lv_sub hl [2, 3, 4, 1, 0] rfl) hW hf
    · have hf := ifp c13 hf
      refine lv_iconst (v := -1) hx hb dX4_kin_16 (by decide) ?_
      exact g_iret FX hr hlk hW (Option.some.inj hf) dX4_kin_17

/-! TrunkLittersModel.isOther(I)Z: kind R -/
def fX4_isOther (x1 : Int32) (σ : Mst) : Option Int32 := ald 2 (gA σ 12) (gF σ 32) fun v1 => (fX4_isIn x1 (0 : Int32) (v1 - (2 : Int32))).bind fun r2 => zrt r2 r2
abbrev rX4_isOther : Room := { frames := 1, cells := 0, slots := 0, locals := 22 }
set_option maxHeartbeats 4000000 in
set_option maxRecDepth 100000 in
theorem mX4_isOther  {x1 : Int32} {σ : Mst} {q : Int32} (hf : fX4_isOther x1 σ = some q) : CtI l yX4_isOther cX4_isOther 2 (some .boolean) rX4_isOther D dA [.ref h0, .int x1] (Mc dA h0 ad σ) q (Mc dA h0 ad σ) := by
  refine e_I (by decide) (Nat.le_of_ble_eq_true rfl) ?_
  intro p e s m below meth c ls A FX hr hlk hl hW
  have hx := FX.1; have hb := FX.2.1; have hown := FX.2.2.2.1; have hts := FX.2.2.2.2
  have hl : lv_has ls 2 [(0, .ref h0), (1, .int x1)] := hl
  rw [fX4_isOther] at hf
  refine lv_iload_n hx hb dX4_isOther_0 rfl (lv_at hl 1 rfl) ?_
  refine lv_iconst (v := 0) hx hb dX4_isOther_1 (by decide) ?_
  refine lv_aload_n hx hb dX4_isOther_2 rfl (lv_at hl 0 rfl) ?_
  refine Mg12 FX hW dX4_isOther_3 ?_
  refine lv_aload_n hx hb dX4_isOther_6 rfl (lv_at hl 0 rfl) ?_
  refine Mg32 FX hW dX4_isOther_7 ?_
  refine g_iald FX hW 4 Mp12 hf dX4_isOther_10 (fun v1 hf => ?_)
  refine lv_iconst (v := 2) hx hb dX4_isOther_11 (by decide) ?_
  refine lv_isub hx hb dX4_isOther_12 ?_
  refine kX4_isIn FX ⟨Nat.le_of_ble_eq_true rfl, Nat.le_of_ble_eq_true rfl⟩ ⟨Nat.zero_le _, Nat.zero_le _⟩ hl.1 (Nat.le_of_ble_eq_true rfl) hW hf dX4_isOther_13 (fun r2 H locs hW hf => ?_)
  exact g_zret FX hr hlk hW (zrt_some hf).1 (zrt_some hf).2 dX4_isOther_16
set_option maxHeartbeats 4000000 in
set_option maxRecDepth 100000 in
theorem kX4_isOther {α : Type} {q : α} {k : Int32 → Option α} {x1 : Int32} {σ : Mst} (FX : CallFix p m c cc nL s args lw_all RX4) (hR : rX4_isOther.frames + 1 ≤ R.frames ∧ 8 + (2 + 11) + rX4_isOther.locals ≤ R.locals) (hcs : cells ≤ R.cells ∧ slots ≤ R.slots) (hl : ls.size = nL) (hrm : (rest.map fun v => v.category).sum ≤ 8) (hW : Wd D dA A s (Mc dA h0 ad σ) H locs) (hf : (fX4_isOther x1 σ).bind k = some q) (hdg : decode cc pc = .ok (.invokevirtual 472, 3)) (kk : ∀ (r : Int32) (H1 : Heap) (locs1 : List Loc), Wd D dA A s (Mc dA h0 ad σ) H1 locs1 → k r = some q → W p l e R s m args below meth c H1 locs1 cells slots Q (F0 m (pc + 3) ls (.int r :: rest))) : W p l e R s m args below meth c H locs cells slots Q (F0 m pc ls (.int x1 :: .ref h0 :: rest)) := by
  obtain ⟨r1, h1, hf⟩ := bnd hf
  refine w_Vi (C := RX4) (As := [.int x1]) (rest := rest) (n := 1) (wr := []) FX (mX4_isOther h1) (cwV 1 FX.2.2.2.2 (lw_V q2194 q2196 qs118 q132 q2197) rfl rfl rfl (by decide +kernel) hR) (va_recv hW.2.2.2.1 hW.1 (ci := 4) (q0 := 0) rfl rfl) rfl hl rfl hrm ⟨Nat.le_trans (Nat.le_of_eq (Nat.add_zero cells)) hcs.1, Nat.le_trans (Nat.le_of_eq (Nat.add_zero slots)) hcs.2⟩ hdg hW.nil ?_
  exact fun H1 locs1 hW1 => kk r1 H1 locs1 hW1.nil' hf
/-! TrunkLittersModel.sharedIf(II)I: kind R -/
def fX4_sharedIf (x1 : Int32) (x2 : Int32) (σ : Mst) : Option Int32 := ald 12 (gA σ 21) (((6 : Int32) * (gF σ 32)) + x2) fun v1 => (fX4_sharedBy x1 v1).bind fun r2 => some r2
abbrev rX4_sharedIf : Room := { frames := 2, cells := 0, slots := 0, locals := 43 }
set_option maxHeartbeats 4000000 in
set_option maxRecDepth 100000 in
theorem mX4_sharedIf  {x1 : Int32} {x2 : Int32} {σ : Mst} {q : Int32} (hf : fX4_sharedIf x1 x2 σ = some q) : CtI l yX4_sharedIf cX4_sharedIf 3 (some .int) rX4_sharedIf D dA [.ref h0, .int x1, .int x2] (Mc dA h0 ad σ) q (Mc dA h0 ad σ) := by
  refine e_I (by decide) (Nat.le_of_ble_eq_true rfl) ?_
  intro p e s m below meth c ls A FX hr hlk hl hW
  have hx := FX.1; have hb := FX.2.1; have hown := FX.2.2.2.1; have hts := FX.2.2.2.2
  have hl : lv_has ls 3 [(0, .ref h0), (1, .int x1), (2, .int x2)] := hl
  rw [fX4_sharedIf] at hf
  refine lv_iload_n hx hb dX4_sharedIf_0 rfl (lv_at hl 1 rfl) ?_
  refine lv_aload_n hx hb dX4_sharedIf_1 rfl (lv_at hl 0 rfl) ?_
  refine Mg21 FX hW dX4_sharedIf_2 ?_
  refine lv_bipush (v := 6) hx hb dX4_sharedIf_5 (by decide) ?_
  refine lv_aload_n hx hb dX4_sharedIf_7 rfl (lv_at hl 0 rfl) ?_
  refine Mg32 FX hW dX4_sharedIf_8 ?_
  refine lv_imul hx hb dX4_sharedIf_11 ?_
  refine lv_iload_n hx hb dX4_sharedIf_12 rfl (lv_at hl 2 rfl) ?_
  refine lv_iadd hx hb dX4_sharedIf_13 ?_
  refine g_iald FX hW 13 Mp21 hf dX4_sharedIf_14 (fun v1 hf => ?_)
  refine kX4_sharedBy FX ⟨Nat.le_of_ble_eq_true rfl, Nat.le_of_ble_eq_true rfl⟩ ⟨Nat.zero_le _, Nat.zero_le _⟩ hl.1 (Nat.le_of_ble_eq_true rfl) hW hf dX4_sharedIf_15 (fun r2 H locs hW hf => ?_)
  exact g_iret FX hr hlk hW (Option.some.inj hf) dX4_sharedIf_18
set_option maxHeartbeats 4000000 in
set_option maxRecDepth 100000 in
theorem kX4_sharedIf {α : Type} {q : α} {k : Int32 → Option α} {x1 : Int32} {x2 : Int32} {σ : Mst} (FX : CallFix p m c cc nL s args lw_all RX4) (hR : rX4_sharedIf.frames + 1 ≤ R.frames ∧ 8 + (3 + 11) + rX4_sharedIf.locals ≤ R.locals) (hcs : cells ≤ R.cells ∧ slots ≤ R.slots) (hl : ls.size = nL) (hrm : (rest.map fun v => v.category).sum ≤ 8) (hW : Wd D dA A s (Mc dA h0 ad σ) H locs) (hf : (fX4_sharedIf x1 x2 σ).bind k = some q) (hdg : decode cc pc = .ok (.invokevirtual 479, 3)) (kk : ∀ (r : Int32) (H1 : Heap) (locs1 : List Loc), Wd D dA A s (Mc dA h0 ad σ) H1 locs1 → k r = some q → W p l e R s m args below meth c H1 locs1 cells slots Q (F0 m (pc + 3) ls (.int r :: rest))) : W p l e R s m args below meth c H locs cells slots Q (F0 m pc ls (.int x2 :: .int x1 :: .ref h0 :: rest)) := by
  obtain ⟨r1, h1, hf⟩ := bnd hf
  refine w_Vi (C := RX4) (As := [.int x1, .int x2]) (rest := rest) (n := 2) (wr := []) FX (mX4_sharedIf h1) (cwV 2 FX.2.2.2.2 (lw_V q2215 q2217 qs120 q132 q2218) rfl rfl rfl (by decide +kernel) hR) (va_recv hW.2.2.2.1 hW.1 (ci := 4) (q0 := 0) rfl rfl) rfl hl rfl hrm ⟨Nat.le_trans (Nat.le_of_eq (Nat.add_zero cells)) hcs.1, Nat.le_trans (Nat.le_of_eq (Nat.add_zero slots)) hcs.2⟩ hdg hW.nil ?_
  exact fun H1 locs1 hW1 => kk r1 H1 locs1 hW1.nil' hf
/-! TrunkLittersModel.held(IIZ)I: kind W -/
def fX4_held_66 (y1 : Int32) (y2 : Int32) (σ : Mst) : Option (Int32 × Mst) := ast 30 y1 (stp (sA σ 50 y1 y2) fun s1 => ast 30 (gF s1 55) (stp (sA s1 51 (gF s1 55) (gF s1 56)) fun s2 => ast 30 (gF s2 55) (stp (sA s2 52 (gF s2 55) (-1 : Int32)) fun s3 => stp (sF s3 55 ((gF s3 55) + (1 : Int32))) fun s4 => some (((gF s4 55) - (1 : Int32)), s4))))
def fX4_held (x1 : Int32) (x2 : Int32) (x3 : Int32) (σ : Mst) : Option (Int32 × Mst) := (fX4_isOther x1 σ).bind fun r1 => (if r1 = 0 then some ((-1 : Int32), σ) else (fX4_isIn x2 (0 : Int32) (6 : Int32)).bind fun r2 => (if r2 = 0 then some ((-1 : Int32), σ) else (if (gF σ 55) = (30 : Int32) then some ((-1 : Int32), σ) else ast 30 (gF σ 55) (stp (sA σ 48 (gF σ 55) x1) fun s3 => ast 30 (gF s3 55) (stp (sA s3 49 (gF s3 55) x2) fun s4 => (if x3 = 0 then fX4_held_66 (gF s4 55) (0 : Int32) s4 else fX4_held_66 (gF s4 55) (1 : Int32) s4))))))
abbrev rX4_held : Room := { frames := 2, cells := 0, slots := 0, locals := 43 }
set_option maxHeartbeats 4000000 in
set_option maxRecDepth 100000 in
theorem wX4_held_66 {q : (Int32 × Mst)} (FX : CallFix p m c cX4_held 4 s args lw_all RX4) (hr : meth.sig.returnType = (some .int)) (hlk : meth.locks = false) : ∀ (y1 : Int32) (y2 : Int32) (σ : Mst) (H : Heap) (locs : List Loc) (ls : Array Slot), lv_has ls 4 [(0, .ref h0)] → Wd D dA A s (Mc dA h0 ad σ) H locs → fX4_held_66 y1 y2 σ = some q → W p l e rX4_held s m args below meth c H locs 0 0 (QI D dA A below args s 0 0 q.1 (Mc dA h0 ad q.2)) (F0 m 66 ls [.int y2, .int y1, .ref (ad 50)]) := by
  have hx := FX.1; have hb := FX.2.1; have hown := FX.2.2.2.1; have hts := FX.2.2.2.2
  intro y1 y2 σ H locs ls hl hW hf
  rw [fX4_held_66] at hf
  refine g_iast FX hW 30 Mp50 (L := Mc dA h0 ad) (Mt50) hf dX4_held_66 (fun s1 H locs hW hf => ?_)
  refine lv_aload_n hx hb dX4_held_67 rfl (lv_at hl 0 rfl) ?_
  refine Mg51 FX hW dX4_held_68 ?_
  refine lv_aload_n hx hb dX4_held_71 rfl (lv_at hl 0 rfl) ?_
  refine Mg55 FX hW dX4_held_72 ?_
  refine lv_aload_n hx hb dX4_held_75 rfl (lv_at hl 0 rfl) ?_
  refine Mg56 FX hW dX4_held_76 ?_
  refine g_iast FX hW 31 Mp51 (L := Mc dA h0 ad) (Mt51) hf dX4_held_79 (fun s2 H locs hW hf => ?_)
  refine lv_aload_n hx hb dX4_held_80 rfl (lv_at hl 0 rfl) ?_
  refine Mg52 FX hW dX4_held_81 ?_
  refine lv_aload_n hx hb dX4_held_84 rfl (lv_at hl 0 rfl) ?_
  refine Mg55 FX hW dX4_held_85 ?_
  refine lv_iconst (v := -1) hx hb dX4_held_88 (by decide) ?_
  refine g_iast FX hW 32 Mp52 (L := Mc dA h0 ad) (Mt52) hf dX4_held_89 (fun s3 H locs hW hf => ?_)
  refine lv_aload_n hx hb dX4_held_90 rfl (lv_at hl 0 rfl) ?_
  refine lv_dup hx hb dX4_held_91 rfl ?_
  refine Mg55 FX hW dX4_held_92 ?_
  refine lv_iconst (v := 1) hx hb dX4_held_95 (by decide) ?_
  refine lv_iadd hx hb dX4_held_96 ?_
  refine Ms55 FX hW hf dX4_held_97 (fun s4 H locs hW hf => ?_)
  refine lv_aload_n hx hb dX4_held_100 rfl (lv_at hl 0 rfl) ?_
  refine Mg55 FX hW dX4_held_101 ?_
  refine lv_iconst (v := 1) hx hb dX4_held_104 (by decide) ?_
  refine lv_isub hx hb dX4_held_105 ?_
  obtain rfl := Option.some.inj hf
  exact g_iret FX hr hlk hW rfl dX4_held_106
set_option maxHeartbeats 4000000 in
set_option maxRecDepth 100000 in
theorem mX4_held  {x1 : Int32} {x2 : Int32} {x3 : Int32} {σ : Mst} {q : (Int32 × Mst)} (hf : fX4_held x1 x2 x3 σ = some q) : CtI l yX4_held cX4_held 4 (some .int) rX4_held D dA [.ref h0, .int x1, .int x2, .int x3] (Mc dA h0 ad σ) q.1 (Mc dA h0 ad q.2) := by
  refine e_I (by decide) (Nat.le_of_ble_eq_true rfl) ?_
  intro p e s m below meth c ls A FX hr hlk hl hW
  have hx := FX.1; have hb := FX.2.1; have hown := FX.2.2.2.1; have hts := FX.2.2.2.2
  have hl : lv_has ls 4 [(0, .ref h0), (1, .int x1), (2, .int x2), (3, .int x3)] := hl
  rw [fX4_held] at hf
  refine lv_aload_n hx hb dX4_held_0 rfl (lv_at hl 0 rfl) ?_
  refine lv_iload_n hx hb dX4_held_1 rfl (lv_at hl 1 rfl) ?_
  refine kX4_isOther FX ⟨Nat.le_of_ble_eq_true rfl, Nat.le_of_ble_eq_true rfl⟩ ⟨Nat.zero_le _, Nat.zero_le _⟩ hl.1 (Nat.le_of_ble_eq_true rfl) hW hf dX4_held_2 (fun r1 H locs hW hf => ?_)
  refine lv_if_eq (tgt := 27) hx hb dX4_held_5 (by decide) (fun c5 => ?_) (fun c5 => ?_)
  · have hf := ifp c5 hf
    refine lv_iconst (v := -1) hx hb dX4_held_27 (by decide) ?_
    obtain rfl := Option.some.inj hf
    exact g_iret FX hr hlk hW rfl dX4_held_28
  · have hf := ifn c5 hf
    refine lv_iload_n hx hb dX4_held_8 rfl (lv_at hl 2 rfl) ?_
    refine lv_iconst (v := 0) hx hb dX4_held_9 (by decide) ?_
    refine lv_bipush (v := 6) hx hb dX4_held_10 (by decide) ?_
    refine kX4_isIn FX ⟨Nat.le_of_ble_eq_true rfl, Nat.le_of_ble_eq_true rfl⟩ ⟨Nat.zero_le _, Nat.zero_le _⟩ hl.1 (Nat.le_of_ble_eq_true rfl) hW hf dX4_held_12 (fun r2 H locs hW hf => ?_)
    refine lv_if_eq (tgt := 27) hx hb dX4_held_15 (by decide) (fun c15 => ?_) (fun c15 => ?_)
    · have hf := ifp c15 hf
      refine lv_iconst (v := -1) hx hb dX4_held_27 (by decide) ?_
      obtain rfl := Option.some.inj hf
      exact g_iret FX hr hlk hW rfl dX4_held_28
    · have hf := ifn c15 hf
      refine lv_aload_n hx hb dX4_held_18 rfl (lv_at hl 0 rfl) ?_
      refine Mg55 FX hW dX4_held_19 ?_
      refine lv_bipush (v := 30) hx hb dX4_held_22 (by decide) ?_
      refine lv_icmp_ne (tgt := 29) hx hb dX4_held_24 (by decide) (fun c24 => ?_) (fun c24 => ?_)
      · have hf := ifn c24 hf
        refine lv_aload_n hx hb dX4_held_29 rfl (lv_at hl 0 rfl) ?_
        refine Mg48 FX hW dX4_held_30 ?_
        refine lv_aload_n hx hb dX4_held_33 rfl (lv_at hl 0 rfl) ?_
        refine Mg55 FX hW dX4_held_34 ?_
        refine lv_iload_n hx hb dX4_held_37 rfl (lv_at hl 1 rfl) ?_
        refine g_iast FX hW 28 Mp48 (L := Mc dA h0 ad) (Mt48) hf dX4_held_38 (fun s3 H locs hW hf => ?_)
        refine lv_aload_n hx hb dX4_held_39 rfl (lv_at hl 0 rfl) ?_
        refine Mg49 FX hW dX4_held_40 ?_
        refine lv_aload_n hx hb dX4_held_43 rfl (lv_at hl 0 rfl) ?_
        refine Mg55 FX hW dX4_held_44 ?_
        refine lv_iload_n hx hb dX4_held_47 rfl (lv_at hl 2 rfl) ?_
        refine g_iast FX hW 29 Mp49 (L := Mc dA h0 ad) (Mt49) hf dX4_held_48 (fun s4 H locs hW hf => ?_)
        refine lv_aload_n hx hb dX4_held_49 rfl (lv_at hl 0 rfl) ?_
        refine Mg50 FX hW dX4_held_50 ?_
        refine lv_aload_n hx hb dX4_held_53 rfl (lv_at hl 0 rfl) ?_
        refine Mg55 FX hW dX4_held_54 ?_
        refine lv_iload_n hx hb dX4_held_57 rfl (lv_at hl 3 rfl) ?_
        refine lv_if_eq (tgt := 65) hx hb dX4_held_58 (by decide) (fun c58 => ?_) (fun c58 => ?_)
        · have hf := ifp c58 hf
          refine lv_iconst (v := 0) hx hb dX4_held_65 (by decide) ?_
          exact wX4_held_66 FX hr hlk (gF s4 55) (0 : Int32) s4 _ _ _ (lv_sub hl [0] rfl) hW hf
        · have hf := ifn c58 hf
          refine lv_iconst (v := 1) hx hb dX4_held_61 (by decide) ?_
          refine lv_goto (tgt := 66) hx hb dX4_held_62 (by decide) ?_
          exact wX4_held_66 FX hr hlk (gF s4 55) (1 : Int32) s4 _ _ _ (lv_sub hl [0] rfl) hW hf
      · have hf := ifp c24 hf
        refine lv_iconst (v := -1) hx hb dX4_held_27 (by decide) ?_
        obtain rfl := Option.some.inj hf
        exact g_iret FX hr hlk hW rfl dX4_held_28

end M01
