section D02
variable {p : Program} {l : Launch} {e : Env} {R : Room} {s : State} {m : MethodId} {args : Array Value} {below : List Frame} {meth : Method} {c : Code} {H : Heap} {locs : List Loc} {cells slots : Nat} {Q : State → Prop}
variable {cc : ByteArray} {pc nL : Nat} {ls : Array Slot} {rest : List Value} {D : va_G} {dA : Nat → ClassId} {A : Nat → Prop}

set_option maxHeartbeats 4000000 in
set_option maxRecDepth 100000 in
theorem kX0_J15_lowestOneBit {α : Type} {q : α} {k : Int32 → Option α} {x0 : Int32} {ws : va_W} (FX : CallFix p m c cc nL s args lw_all RX0) (hR : rJ15_lowestOneBit.frames + 1 ≤ R.frames ∧ 8 + (1 + 11) + rJ15_lowestOneBit.locals ≤ R.locals) (hcs : cells ≤ R.cells ∧ slots ≤ R.slots) (hl : ls.size = nL) (hrm : (rest.map fun v => v.category).sum ≤ 8) (hW : Wd D dA A s ws H locs) (hf : (fJ15_lowestOneBit x0).bind k = some q) (hdg : decode cc pc = .ok (.invokestatic 289, 3)) (kk : ∀ (r : Int32) (H1 : Heap) (locs1 : List Loc), Wd D dA A s ws H1 locs1 → k r = some q → W p l e R s m args below meth c H1 locs1 cells slots Q (F0 m (pc + 3) ls (.int r :: rest))) : W p l e R s m args below meth c H locs cells slots Q (F0 m pc ls (.int x0 :: rest)) := by
  obtain ⟨r1, h1, hf⟩ := bnd hf
  have hW2 := hW
  refine w_Si (As := [.int x0]) (rest := rest) (n := 1) (wr := ws) FX (mJ15_lowestOneBit h1) (va_cwS 1 FX.2.2.2.2 (lw_S q1399 q1400 q154 q1401) rfl rfl rfl (by decide +kernel) hR) rfl hl rfl hrm ⟨Nat.le_trans (Nat.le_of_eq (Nat.add_zero cells)) hcs.1, Nat.le_trans (Nat.le_of_eq (Nat.add_zero slots)) hcs.2⟩ hdg hW ?_
  exact fun H1 locs1 hW1 => kk r1 H1 locs1 hW1 hf
/-! TrunkLitters.span()I: kind R -/
def fD_span_43 (dA : Nat → Nat) (B : Bk) (σ : Dst) (k13 : Int32 → Int32 → Option Int32) (k33 : Int32 → Int32 → Int32 → Int32 → Int32 → Option Int32) : Nat → Int32 → Int32 → Int32 → Int32 → Int32 → Int32 → Option Int32
  | 0, _, _, _, _, _, _ => none
  | n + 1, x1, x2, x3, x4, x5, x6 => (if (8 : Int32) ≤ x6 then k33 x1 x2 x3 x4 (x5 + (1 : Int32)) else (if ((x1 >>> (x5 &&& 31)) &&& (1 : Int32)) = 0 then fD_span_43 dA B σ k13 k33 n x1 x2 x3 x4 x5 (x6 + (1 : Int32)) else (fX3_has x6 (tN σ)).bind fun r1 => (if r1 = 0 then fD_span_43 dA B σ k13 k33 n x1 x2 x3 x4 x5 (x6 + (1 : Int32)) else (if ((x1 >>> (x6 &&& 31)) &&& (1 : Int32)) = (1 : Int32) then fD_span_43 dA B σ k13 k33 n x1 x2 x3 x4 x5 (x6 + (1 : Int32)) else ald 8 (hA (tN σ) 2) x5 fun v2 => ald 8 (hA (tN σ) 2) x6 fun v3 => (fX0_shared v2 v3).bind fun r4 => (if ((6 : Int32) - r4) < x4 then ald 8 (hA (tN σ) 2) x5 fun v5 => ald 8 (hA (tN σ) 2) x6 fun v6 => (fX0_shared v5 v6).bind fun r7 => fD_span_43 dA B σ k13 k33 n x1 x2 x6 ((6 : Int32) - r7) x5 (x6 + (1 : Int32)) else fD_span_43 dA B σ k13 k33 n x1 x2 x3 x4 x5 (x6 + (1 : Int32)))))))
def fD_span_33 (dA : Nat → Nat) (B : Bk) (σ : Dst) (k13 : Int32 → Int32 → Option Int32) : Nat → Int32 → Int32 → Int32 → Int32 → Int32 → Option Int32
  | 0, _, _, _, _, _ => none
  | n + 1, x1, x2, x3, x4, x5 => (if (8 : Int32) ≤ x5 then k13 (x1 ||| ((1 : Int32) <<< (x3 &&& 31))) (x2 + x4) else fD_span_43 dA B σ k13 (fD_span_33 dA B σ k13 n) FU x1 x2 x3 x4 x5 (0 : Int32))
def fD_span_13 (dA : Nat → Nat) (B : Bk) (σ : Dst) : Nat → Int32 → Int32 → Option Int32
  | 0, _, _ => none
  | n + 1, x1, x2 => (if x1 = (hF (tN σ) 8) then some x2 else fD_span_33 dA B σ (fD_span_13 dA B σ n) FU x1 x2 (-1 : Int32) (7 : Int32) (0 : Int32))
def fD_span (dA : Nat → Nat) (B : Bk) (σ : Dst) : Option Int32 := (fJ15_lowestOneBit (hF (tN σ) 8)).bind fun r1 => fD_span_13 dA B σ FU r1 (0 : Int32)
abbrev rD_span : Room := { frames := 2, cells := 0, slots := 0, locals := 41 }
set_option maxHeartbeats 4000000 in
set_option maxRecDepth 100000 in
theorem wD_span_43 {t0 : Nat} {ad : Nat → Nat} {B : Bk} {wr : va_W} {q : Int32} {σ : Dst} (FX : CallFix p m c cX0_span 7 s args lw_all RX0) (hr : meth.sig.returnType = (some .int)) (hlk : meth.locks = false) {k13 : Int32 → Int32 → Option Int32} (hk13 : ∀ (x1 : Int32) (x2 : Int32) (H : Heap) (locs : List Loc) (ls : Array Slot), lv_has ls 7 [(0, .ref t0), (1, .int x1), (2, .int x2)] → Wd D dA A s (Dx dA t0 ad B wr σ) H locs → k13 x1 x2 = some q → W p l e rD_span s m args below meth c H locs 0 0 (QI D dA A below args s 0 0 q (Dx dA t0 ad B wr σ)) (F0 m 13 ls [])) {k33 : Int32 → Int32 → Int32 → Int32 → Int32 → Option Int32} (hk33 : ∀ (x1 : Int32) (x2 : Int32) (x3 : Int32) (x4 : Int32) (x5 : Int32) (H : Heap) (locs : List Loc) (ls : Array Slot), lv_has ls 7 [(0, .ref t0), (1, .int x1), (2, .int x2), (3, .int x3), (4, .int x4), (5, .int x5)] → Wd D dA A s (Dx dA t0 ad B wr σ) H locs → k33 x1 x2 x3 x4 x5 = some q → W p l e rD_span s m args below meth c H locs 0 0 (QI D dA A below args s 0 0 q (Dx dA t0 ad B wr σ)) (F0 m 33 ls [])) : ∀ n : Nat, ∀ (x1 : Int32) (x2 : Int32) (x3 : Int32) (x4 : Int32) (x5 : Int32) (x6 : Int32) (H : Heap) (locs : List Loc) (ls : Array Slot), lv_has ls 7 [(0, .ref t0), (1, .int x1), (2, .int x2), (3, .int x3), (4, .int x4), (5, .int x5), (6, .int x6)] → Wd D dA A s (Dx dA t0 ad B wr σ) H locs → fD_span_43 dA B σ k13 k33 n x1 x2 x3 x4 x5 x6 = some q → W p l e rD_span s m args below meth c H locs 0 0 (QI D dA A below args s 0 0 q (Dx dA t0 ad B wr σ)) (F0 m 43 ls []) := by
  have hx := FX.1; have hb := FX.2.1; have hown := FX.2.2.2.1; have hts := FX.2.2.2.2
  intro n
  induction n with
  | zero =>
    intro x1 x2 x3 x4 x5 x6 H locs ls hl hW hf
    cases (show (none : Option Int32) = some q from hf)
  | succ n ih =>
    intro x1 x2 x3 x4 x5 x6 H locs ls hl hW hf
    rw [fD_span_43] at hf
    refine lv_iload hx hb dX0_span_43 (lv_at hl 6 rfl) ?_
    refine lv_bipush (v := 8) hx hb dX0_span_45 (by decide) ?_
    refine lv_icmp_ge (tgt := 152) hx hb dX0_span_47 (by decide) (fun c47 => ?_) (fun c47 => ?_)
    · have hf := ifp c47 hf
      refine lv_iinc (v := (x5 + (1 : Int32))) (lv' := [(5, .int (x5 + (1 : Int32))), (0, .ref t0), (1, .int x1), (2, .int x2), (3, .int x3), (4, .int x4), (6, .int x6)]) hx hb dX0_span_152 hl (k := 5) rfl rfl (by decide) rfl (fun ls hl => ?_)
      refine lv_goto (tgt := 33) hx hb dX0_span_155 (by decide) ?_
      exact hk33 x1 x2 x3 x4 (x5 + (1 : Int32)) _ _ _ (lv_sub hl [1, 2, 3, 4, 5, 0] rfl) hW hf
    · have hf := ifn c47 hf
      refine lv_iload_n hx hb dX0_span_50 rfl (lv_at hl 1 rfl) ?_
      refine lv_iload hx hb dX0_span_51 (lv_at hl 5 rfl) ?_
      refine lv_ishr hx hb dX0_span_53 ?_
      refine lv_iconst (v := 1) hx hb dX0_span_54 (by decide) ?_
      refine lv_iand hx hb dX0_span_55 ?_
      refine lv_if_eq (tgt := 146) hx hb dX0_span_56 (by decide) (fun c56 => ?_) (fun c56 => ?_)
      · have hf := ifp c56 hf
        refine lv_iinc (v := (x6 + (1 : Int32))) (lv' := [(6, .int (x6 + (1 : Int32))), (0, .ref t0), (1, .int x1), (2, .int x2), (3, .int x3), (4, .int x4), (5, .int x5)]) hx hb dX0_span_146 hl (k := 6) rfl rfl (by decide) rfl (fun ls hl => ?_)
        refine lv_goto (tgt := 43) hx hb dX0_span_149 (by decide) ?_
        exact ih x1 x2 x3 x4 x5 (x6 + (1 : Int32)) _ _ _ (lv_sub hl [1, 2, 3, 4, 5, 6, 0] rfl) hW hf
      · have hf := ifn c56 hf
        refine lv_aload_n hx hb dX0_span_59 rfl (lv_at hl 0 rfl) ?_
        refine DgX0_0_5 FX hW dX0_span_60 ?_
        refine lv_iload hx hb dX0_span_63 (lv_at hl 6 rfl) ?_
        refine kD_now_has FX ⟨Nat.le_of_ble_eq_true rfl, Nat.le_of_ble_eq_true rfl⟩ ⟨Nat.zero_le _, Nat.zero_le _⟩ hl.1 (Nat.le_of_ble_eq_true rfl) hW hf dX0_span_65 (fun r1 H locs hW hf => ?_)
        refine lv_if_eq (tgt := 146) hx hb dX0_span_68 (by decide) (fun c68 => ?_) (fun c68 => ?_)
        · have hf := ifp c68 hf
          refine lv_iinc (v := (x6 + (1 : Int32))) (lv' := [(6, .int (x6 + (1 : Int32))), (0, .ref t0), (1, .int x1), (2, .int x2), (3, .int x3), (4, .int x4), (5, .int x5)]) hx hb dX0_span_146 hl (k := 6) rfl rfl (by decide) rfl (fun ls hl => ?_)
          refine lv_goto (tgt := 43) hx hb dX0_span_149 (by decide) ?_
          exact ih x1 x2 x3 x4 x5 (x6 + (1 : Int32)) _ _ _ (lv_sub hl [1, 2, 3, 4, 5, 6, 0] rfl) hW hf
        · have hf := ifn c68 hf
          refine lv_iload_n hx hb dX0_span_71 rfl (lv_at hl 1 rfl) ?_
          refine lv_iload hx hb dX0_span_72 (lv_at hl 6 rfl) ?_
          refine lv_ishr hx hb dX0_span_74 ?_
          refine lv_iconst (v := 1) hx hb dX0_span_75 (by decide) ?_
          refine lv_iand hx hb dX0_span_76 ?_
          refine lv_iconst (v := 1) hx hb dX0_span_77 (by decide) ?_
          refine lv_icmp_eq (tgt := 146) hx hb dX0_span_78 (by decide) (fun c78 => ?_) (fun c78 => ?_)
          · have hf := ifp c78 hf
            refine lv_iinc (v := (x6 + (1 : Int32))) (lv' := [(6, .int (x6 + (1 : Int32))), (0, .ref t0), (1, .int x1), (2, .int x2), (3, .int x3), (4, .int x4), (5, .int x5)]) hx hb dX0_span_146 hl (k := 6) rfl rfl (by decide) rfl (fun ls hl => ?_)
            refine lv_goto (tgt := 43) hx hb dX0_span_149 (by decide) ?_
            exact ih x1 x2 x3 x4 x5 (x6 + (1 : Int32)) _ _ _ (lv_sub hl [1, 2, 3, 4, 5, 6, 0] rfl) hW hf
          · have hf := ifn c78 hf
            refine lv_bipush (v := 6) hx hb dX0_span_81 (by decide) ?_
            refine lv_aload_n hx hb dX0_span_83 rfl (lv_at hl 0 rfl) ?_
            refine DgX0_0_5 FX hW dX0_span_84 ?_
            refine DgX0_18_2 FX hW dX0_span_87 ?_
            refine lv_iload hx hb dX0_span_90 (lv_at hl 5 rfl) ?_
            refine g_iald FX hW 21 Dp21 hf dX0_span_92 (fun v2 hf => ?_)
            refine lv_aload_n hx hb dX0_span_93 rfl (lv_at hl 0 rfl) ?_
            refine DgX0_0_5 FX hW dX0_span_94 ?_
            refine DgX0_18_2 FX hW dX0_span_97 ?_
            refine lv_iload hx hb dX0_span_100 (lv_at hl 6 rfl) ?_
            refine g_iald FX hW 21 Dp21 hf dX0_span_102 (fun v3 hf => ?_)
            refine kX0_X0_shared FX ⟨Nat.le_of_ble_eq_true rfl, Nat.le_of_ble_eq_true rfl⟩ ⟨Nat.zero_le _, Nat.zero_le _⟩ hl.1 (Nat.le_of_ble_eq_true rfl) hW hf dX0_span_103 (fun r4 H locs hW hf => ?_)
            refine lv_isub hx hb dX0_span_106 ?_
            refine lv_iload hx hb dX0_span_107 (lv_at hl 4 rfl) ?_
            refine lv_icmp_lt (tgt := 115) hx hb dX0_span_109 (by decide) (fun c109 => ?_) (fun c109 => ?_)
            · have hf := ifp c109 hf
              refine lv_iload hx hb dX0_span_115 (lv_at hl 6 rfl) ?_
              refine lv_istore_n (lv' := [(3, .int x6), (0, .ref t0), (1, .int x1), (2, .int x2), (4, .int x4), (5, .int x5), (6, .int x6)]) hx hb dX0_span_117 rfl hl (by decide) rfl (fun ls hl => ?_)
              refine lv_bipush (v := 6) hx hb dX0_span_118 (by decide) ?_
              refine lv_aload_n hx hb dX0_span_120 rfl (lv_at hl 1 rfl) ?_
              refine DgX0_0_5 FX hW dX0_span_121 ?_
              refine DgX0_18_2 FX hW dX0_span_124 ?_
              refine lv_iload hx hb dX0_span_127 (lv_at hl 5 rfl) ?_
              refine g_iald FX hW 21 Dp21 hf dX0_span_129 (fun v5 hf => ?_)
              refine lv_aload_n hx hb dX0_span_130 rfl (lv_at hl 1 rfl) ?_
              refine DgX0_0_5 FX hW dX0_span_131 ?_
              refine DgX0_18_2 FX hW dX0_span_134 ?_
              refine lv_iload hx hb dX0_span_137 (lv_at hl 6 rfl) ?_
              refine g_iald FX hW 21 Dp21 hf dX0_span_139 (fun v6 hf => ?_)
              refine kX0_X0_shared FX ⟨Nat.le_of_ble_eq_true rfl, Nat.le_of_ble_eq_true rfl⟩ ⟨Nat.zero_le _, Nat.zero_le _⟩ hl.1 (Nat.le_of_ble_eq_true rfl) hW hf dX0_span_140 (fun r7 H locs hW hf => ?_)
              refine lv_isub hx hb dX0_span_143 ?_
              refine lv_istore (lv' := [(4, .int ((6 : Int32) - r7)), (3, .int x6), (0, .ref t0), (1, .int x1), (2, .int x2), (5, .int x5), (6, .int x6)]) hx hb dX0_span_144 hl (by decide) rfl (fun ls hl => ?_)
              refine lv_iinc (v := (x6 + (1 : Int32))) (lv' := [(6, .int (x6 + (1 : Int32))), (4, .int ((6 : Int32) - r7)), (3, .int x6), (0, .ref t0), (1, .int x1), (2, .int x2), (5, .int x5)]) hx hb dX0_span_146 hl (k := 6) rfl rfl (by decide) rfl (fun ls hl => ?_)
              refine lv_goto (tgt := 43) hx hb dX0_span_149 (by decide) ?_
              exact ih x1 x2 x6 ((6 : Int32) - r7) x5 (x6 + (1 : Int32)) _ _ _ (lv_sub hl [3, 4, 5, 2, 1, 6, 0] rfl) hW hf
            · have hf := ifn c109 hf
              refine lv_goto (tgt := 146) hx hb dX0_span_112 (by decide) ?_
              refine lv_iinc (v := (x6 + (1 : Int32))) (lv' := [(6, .int (x6 + (1 : Int32))), (0, .ref t0), (1, .int x1), (2, .int x2), (3, .int x3), (4, .int x4), (5, .int x5)]) hx hb dX0_span_146 hl (k := 6) rfl rfl (by decide) rfl (fun ls hl => ?_)
              refine lv_goto (tgt := 43) hx hb dX0_span_149 (by decide) ?_
              exact ih x1 x2 x3 x4 x5 (x6 + (1 : Int32)) _ _ _ (lv_sub hl [1, 2, 3, 4, 5, 6, 0] rfl) hW hf
set_option maxHeartbeats 4000000 in
set_option maxRecDepth 100000 in
theorem wD_span_33 {t0 : Nat} {ad : Nat → Nat} {B : Bk} {wr : va_W} {q : Int32} {σ : Dst} (FX : CallFix p m c cX0_span 7 s args lw_all RX0) (hr : meth.sig.returnType = (some .int)) (hlk : meth.locks = false) {k13 : Int32 → Int32 → Option Int32} (hk13 : ∀ (x1 : Int32) (x2 : Int32) (H : Heap) (locs : List Loc) (ls : Array Slot), lv_has ls 7 [(0, .ref t0), (1, .int x1), (2, .int x2)] → Wd D dA A s (Dx dA t0 ad B wr σ) H locs → k13 x1 x2 = some q → W p l e rD_span s m args below meth c H locs 0 0 (QI D dA A below args s 0 0 q (Dx dA t0 ad B wr σ)) (F0 m 13 ls [])) : ∀ n : Nat, ∀ (x1 : Int32) (x2 : Int32) (x3 : Int32) (x4 : Int32) (x5 : Int32) (H : Heap) (locs : List Loc) (ls : Array Slot), lv_has ls 7 [(0, .ref t0), (1, .int x1), (2, .int x2), (3, .int x3), (4, .int x4), (5, .int x5)] → Wd D dA A s (Dx dA t0 ad B wr σ) H locs → fD_span_33 dA B σ k13 n x1 x2 x3 x4 x5 = some q → W p l e rD_span s m args below meth c H locs 0 0 (QI D dA A below args s 0 0 q (Dx dA t0 ad B wr σ)) (F0 m 33 ls []) := by
  have hx := FX.1; have hb := FX.2.1; have hown := FX.2.2.2.1; have hts := FX.2.2.2.2
  intro n
  induction n with
  | zero =>
    intro x1 x2 x3 x4 x5 H locs ls hl hW hf
    cases (show (none : Option Int32) = some q from hf)
  | succ n ih =>
    intro x1 x2 x3 x4 x5 H locs ls hl hW hf
    rw [fD_span_33] at hf
    refine lv_iload hx hb dX0_span_33 (lv_at hl 5 rfl) ?_
    refine lv_bipush (v := 8) hx hb dX0_span_35 (by decide) ?_
    refine lv_icmp_ge (tgt := 158) hx hb dX0_span_37 (by decide) (fun c37 => ?_) (fun c37 => ?_)
    · have hf := ifp c37 hf
      refine lv_iload_n hx hb dX0_span_158 rfl (lv_at hl 1 rfl) ?_
      refine lv_iconst (v := 1) hx hb dX0_span_159 (by decide) ?_
      refine lv_iload_n hx hb dX0_span_160 rfl (lv_at hl 3 rfl) ?_
      refine lv_ishl hx hb dX0_span_161 ?_
      refine lv_ior hx hb dX0_span_162 ?_
      refine lv_istore_n (lv' := [(1, .int (x1 ||| ((1 : Int32) <<< (x3 &&& 31)))), (0, .ref t0), (2, .int x2), (3, .int x3), (4, .int x4), (5, .int x5)]) hx hb dX0_span_163 rfl hl (by decide) rfl (fun ls hl => ?_)
      refine lv_iload_n hx hb dX0_span_164 rfl (lv_at hl 2 rfl) ?_
      refine lv_iload hx hb dX0_span_165 (lv_at hl 4 rfl) ?_
      refine lv_iadd hx hb dX0_span_167 ?_
      refine lv_istore_n (lv' := [(2, .int (x2 + x4)), (1, .int (x1 ||| ((1 : Int32) <<< (x3 &&& 31)))), (0, .ref t0), (3, .int x3), (4, .int x4), (5, .int x5)]) hx hb dX0_span_168 rfl hl (by decide) rfl (fun ls hl => ?_)
      refine lv_goto (tgt := 13) hx hb dX0_span_169 (by decide) ?_
      exact hk13 (x1 ||| ((1 : Int32) <<< (x3 &&& 31))) (x2 + x4) _ _ _ (lv_sub hl [2, 1, 0] rfl) hW hf
    · have hf := ifn c37 hf
      refine lv_iconst (v := 0) hx hb dX0_span_40 (by decide) ?_
      refine lv_istore (lv' := [(6, .int (0 : Int32)), (0, .ref t0), (1, .int x1), (2, .int x2), (3, .int x3), (4, .int x4), (5, .int x5)]) hx hb dX0_span_41 hl (by decide) rfl (fun ls hl => ?_)
      exact wD_span_43 FX hr hlk hk13 (ih) _ x1 x2 x3 x4 x5 (0 : Int32) _ _ _ (lv_sub hl [1, 2, 3, 4, 5, 6, 0] rfl) hW hf
set_option maxHeartbeats 4000000 in
set_option maxRecDepth 100000 in
theorem wD_span_13 {t0 : Nat} {ad : Nat → Nat} {B : Bk} {wr : va_W} {q : Int32} {σ : Dst} (FX : CallFix p m c cX0_span 7 s args lw_all RX0) (hr : meth.sig.returnType = (some .int)) (hlk : meth.locks = false) : ∀ n : Nat, ∀ (x1 : Int32) (x2 : Int32) (H : Heap) (locs : List Loc) (ls : Array Slot), lv_has ls 7 [(0, .ref t0), (1, .int x1), (2, .int x2)] → Wd D dA A s (Dx dA t0 ad B wr σ) H locs → fD_span_13 dA B σ n x1 x2 = some q → W p l e rD_span s m args below meth c H locs 0 0 (QI D dA A below args s 0 0 q (Dx dA t0 ad B wr σ)) (F0 m 13 ls []) := by
  have hx := FX.1; have hb := FX.2.1; have hown := FX.2.2.2.1; have hts := FX.2.2.2.2
  intro n
  induction n with
  | zero =>
    intro x1 x2 H locs ls hl hW hf
    cases (show (none : Option Int32) = some q from hf)
  | succ n ih =>
    intro x1 x2 H locs ls hl hW hf
    rw [fD_span_13] at hf
    refine lv_iload_n hx hb dX0_span_13 rfl (lv_at hl 1 rfl) ?_
    refine lv_aload_n hx hb dX0_span_14 rfl (lv_at hl 0 rfl) ?_
    refine DgX0_0_5 FX hW dX0_span_15 ?_
    refine DgX0_18_8 FX hW dX0_span_18 ?_
    refine lv_icmp_eq (tgt := 172) hx hb dX0_span_21 (by decide) (fun c21 => ?_) (fun c21 => ?_)
    · have hf := ifp c21 hf
      refine lv_iload_n hx hb dX0_span_172 rfl (lv_at hl 2 rfl) ?_
      exact g_iret FX hr hlk hW (Option.some.inj hf) dX0_span_173
    · have hf := ifn c21 hf
      refine lv_iconst (v := -1) hx hb dX0_span_24 (by decide) ?_
      refine lv_istore_n (lv' := [(3, .int (-1 : Int32)), (0, .ref t0), (1, .int x1), (2, .int x2)]) hx hb dX0_span_25 rfl hl (by decide) rfl (fun ls hl => ?_)
      refine lv_bipush (v := 7) hx hb dX0_span_26 (by decide) ?_
      refine lv_istore (lv' := [(4, .int (7 : Int32)), (3, .int (-1 : Int32)), (0, .ref t0), (1, .int x1), (2, .int x2)]) hx hb dX0_span_28 hl (by decide) rfl (fun ls hl => ?_)
      refine lv_iconst (v := 0) hx hb dX0_span_30 (by decide) ?_
      refine lv_istore (lv' := [(5, .int (0 : Int32)), (4, .int (7 : Int32)), (3, .int (-1 : Int32)), (0, .ref t0), (1, .int x1), (2, .int x2)]) hx hb dX0_span_31 hl (by decide) rfl (fun ls hl => ?_)
      exact wD_span_33 FX hr hlk (ih) _ x1 x2 (-1 : Int32) (7 : Int32) (0 : Int32) _ _ _ (lv_sub hl [3, 4, 5, 2, 1, 0] rfl) hW hf
set_option maxHeartbeats 4000000 in
set_option maxRecDepth 100000 in
theorem mD_span {t0 : Nat} {ad : Nat → Nat} {B : Bk} {wr : va_W}  {σ : Dst} {q : Int32} (hf : fD_span dA B σ = some q) : CtI l yX0_span cX0_span 7 (some .int) rD_span D dA [.ref t0] (Dx dA t0 ad B wr σ) q (Dx dA t0 ad B wr σ) := by
  refine e_I (by decide) (Nat.le_of_ble_eq_true rfl) ?_
  intro p e s m below meth c ls A FX hr hlk hl hW
  have hx := FX.1; have hb := FX.2.1; have hown := FX.2.2.2.1; have hts := FX.2.2.2.2
  have hl : lv_has ls 7 [(0, .ref t0)] := hl
  rw [fD_span] at hf
  refine lv_aload_n hx hb dX0_span_0 rfl (lv_at hl 0 rfl) ?_
  refine DgX0_0_5 FX hW dX0_span_1 ?_
  refine DgX0_18_8 FX hW dX0_span_4 ?_
  refine kX0_J15_lowestOneBit FX ⟨Nat.le_of_ble_eq_true rfl, Nat.le_of_ble_eq_true rfl⟩ ⟨Nat.zero_le _, Nat.zero_le _⟩ hl.1 (Nat.le_of_ble_eq_true rfl) hW hf dX0_span_7 (fun r1 H locs hW hf => ?_)
  refine lv_istore_n (lv' := [(1, .int r1), (0, .ref t0)]) hx hb dX0_span_10 rfl hl (by decide) rfl (fun ls hl => ?_)
  refine lv_iconst (v := 0) hx hb dX0_span_11 (by decide) ?_
  refine lv_istore_n (lv' := [(2, .int (0 : Int32)), (1, .int r1), (0, .ref t0)]) hx hb dX0_span_12 rfl hl (by decide) rfl (fun ls hl => ?_)
  exact wD_span_13 FX hr hlk _ r1 (0 : Int32) _ _ _ (lv_sub hl [2, 1, 0] rfl) hW hf


/-! TrunkLitters.sharedWithAll(I)I: kind R -/
def fD_sharedWithAll_51 (dA : Nat → Nat) (B : Bk) (σ : Dst) (k4 : Int32 → Int32 → Int32 → Option Int32) (x1 : Int32) (x3 : Int32) (y0 : Int32) : Option Int32 := k4 x1 (y0 + (0 : Int32)) (x3 + (1 : Int32))
def fD_sharedWithAll_4 (dA : Nat → Nat) (B : Bk) (σ : Dst) : Nat → Int32 → Int32 → Int32 → Option Int32
  | 0, _, _, _ => none
  | n + 1, x1, x2, x3 => (if (8 : Int32) ≤ x3 then some x2 else (if x3 = x1 then fD_sharedWithAll_51 dA B σ (fD_sharedWithAll_4 dA B σ n) x1 x3 x2 else (fX3_has x3 (tN σ)).bind fun r1 => (if r1 = 0 then fD_sharedWithAll_51 dA B σ (fD_sharedWithAll_4 dA B σ n) x1 x3 x2 else ald 8 (hA (tN σ) 2) x1 fun v2 => ald 8 (hA (tN σ) 2) x3 fun v3 => (fX0_shared v2 v3).bind fun r4 => fD_sharedWithAll_4 dA B σ n x1 (x2 + r4) (x3 + (1 : Int32)))))
def fD_sharedWithAll (dA : Nat → Nat) (B : Bk) (x1 : Int32) (σ : Dst) : Option Int32 := fD_sharedWithAll_4 dA B σ FU x1 (0 : Int32) (0 : Int32)
abbrev rD_sharedWithAll : Room := { frames := 2, cells := 0, slots := 0, locals := 41 }
set_option maxHeartbeats 4000000 in
set_option maxRecDepth 100000 in
theorem wD_sharedWithAll_51 {t0 : Nat} {ad : Nat → Nat} {B : Bk} {wr : va_W} {q : Int32} {σ : Dst} (FX : CallFix p m c cX0_sharedWithAll 4 s args lw_all RX0) (hr : meth.sig.returnType = (some .int)) (hlk : meth.locks = false) {k4 : Int32 → Int32 → Int32 → Option Int32} (hk4 : ∀ (x1 : Int32) (x2 : Int32) (x3 : Int32) (H : Heap) (locs : List Loc) (ls : Array Slot), lv_has ls 4 [(0, .ref t0), (1, .int x1), (2, .int x2), (3, .int x3)] → Wd D dA A s (Dx dA t0 ad B wr σ) H locs → k4 x1 x2 x3 = some q → W p l e rD_sharedWithAll s m args below meth c H locs 0 0 (QI D dA A below args s 0 0 q (Dx dA t0 ad B wr σ)) (F0 m 4 ls [])) : ∀ (x1 : Int32) (x3 : Int32) (y0 : Int32) (H : Heap) (locs : List Loc) (ls : Array Slot), lv_has ls 4 [(0, .ref t0), (1, .int x1), (3, .int x3)] → Wd D dA A s (Dx dA t0 ad B wr σ) H locs → fD_sharedWithAll_51 dA B σ k4 x1 x3 y0 = some q → W p l e rD_sharedWithAll s m args below meth c H locs 0 0 (QI D dA A below args s 0 0 q (Dx dA t0 ad B wr σ)) (F0 m 51 ls [.int y0]) := by
  have hx := FX.1; have hb := FX.2.1; have hown := FX.2.2.2.1; have hts := FX.2.2.2.2
  intro x1 x3 y0 H locs ls hl hW hf
  rw [fD_sharedWithAll_51] at hf
  refine lv_iconst (v := 0) hx hb dX0_sharedWithAll_51 (by decide) ?_
  refine lv_iadd hx hb dX0_sharedWithAll_52 ?_
  refine lv_istore_n (lv' := [(2, .int (y0 + (0 : Int32))), (0, .ref t0), (1, .int x1), (3, .int x3)]) hx hb dX0_sharedWithAll_53 rfl hl (by decide) rfl (fun ls hl => ?_)
  refine lv_iinc (v := (x3 + (1 : Int32))) (lv' := [(3, .int (x3 + (1 : Int32))), (2, .int (y0 + (0 : Int32))), (0, .ref t0), (1, .int x1)]) hx hb dX0_sharedWithAll_54 hl (k := 3) rfl rfl (by decide) rfl (fun ls hl => ?_)
  refine lv_goto (tgt := 4) hx hb dX0_sharedWithAll_57 (by decide) ?_
  exact hk4 x1 (y0 + (0 : Int32)) (x3 + (1 : Int32)) _ _ _ (lv_sub hl [2, 3, 1, 0] rfl) hW hf
set_option maxHeartbeats 4000000 in
set_option maxRecDepth 100000 in
theorem wD_sharedWithAll_4 {t0 : Nat} {ad : Nat → Nat} {B : Bk} {wr : va_W} {q : Int32} {σ : Dst} (FX : CallFix p m c cX0_sharedWithAll 4 s args lw_all RX0) (hr : meth.sig.returnType = (some .int)) (hlk : meth.locks = false) : ∀ n : Nat, ∀ (x1 : Int32) (x2 : Int32) (x3 : Int32) (H : Heap) (locs : List Loc) (ls : Array Slot), lv_has ls 4 [(0, .ref t0), (1, .int x1), (2, .int x2), (3, .int x3)] → Wd D dA A s (Dx dA t0 ad B wr σ) H locs → fD_sharedWithAll_4 dA B σ n x1 x2 x3 = some q → W p l e rD_sharedWithAll s m args below meth c H locs 0 0 (QI D dA A below args s 0 0 q (Dx dA t0 ad B wr σ)) (F0 m 4 ls []) := by
  have hx := FX.1; have hb := FX.2.1; have hown := FX.2.2.2.1; have hts := FX.2.2.2.2
  intro n
  induction n with
  | zero =>
    intro x1 x2 x3 H locs ls hl hW hf
    cases (show (none : Option Int32) = some q from hf)
  | succ n ih =>
    intro x1 x2 x3 H locs ls hl hW hf
    rw [fD_sharedWithAll_4] at hf
    refine lv_iload_n hx hb dX0_sharedWithAll_4 rfl (lv_at hl 3 rfl) ?_
    refine lv_bipush (v := 8) hx hb dX0_sharedWithAll_5 (by decide) ?_
    refine lv_icmp_ge (tgt := 60) hx hb dX0_sharedWithAll_7 (by decide) (fun c7 => ?_) (fun c7 => ?_)
    · have hf := ifp c7 hf
      refine lv_iload_n hx hb dX0_sharedWithAll_60 rfl (lv_at hl 2 rfl) ?_
      exact g_iret FX hr hlk hW (Option.some.inj hf) dX0_sharedWithAll_61
    · have hf := ifn c7 hf
      refine lv_iload_n hx hb dX0_sharedWithAll_10 rfl (lv_at hl 2 rfl) ?_
      refine lv_iload_n hx hb dX0_sharedWithAll_11 rfl (lv_at hl 3 rfl) ?_
      refine lv_iload_n hx hb dX0_sharedWithAll_12 rfl (lv_at hl 1 rfl) ?_
      refine lv_icmp_eq (tgt := 51) hx hb dX0_sharedWithAll_13 (by decide) (fun c13 => ?_) (fun c13 => ?_)
      · have hf := ifp c13 hf
        exact wD_sharedWithAll_51 FX hr hlk (ih) x1 x3 x2 _ _ _ (lv_sub hl [0, 1, 3] rfl) hW hf
      · have hf := ifn c13 hf
        refine lv_aload_n hx hb dX0_sharedWithAll_16 rfl (lv_at hl 0 rfl) ?_
        refine DgX0_0_5 FX hW dX0_sharedWithAll_17 ?_
        refine lv_iload_n hx hb dX0_sharedWithAll_20 rfl (lv_at hl 3 rfl) ?_
        refine kD_now_has FX ⟨Nat.le_of_ble_eq_true rfl, Nat.le_of_ble_eq_true rfl⟩ ⟨Nat.zero_le _, Nat.zero_le _⟩ hl.1 (Nat.le_of_ble_eq_true rfl) hW hf dX0_sharedWithAll_21 (fun r1 H locs hW hf => ?_)
        refine lv_if_eq (tgt := 51) hx hb dX0_sharedWithAll_24 (by decide) (fun c24 => ?_) (fun c24 => ?_)
        · have hf := ifp c24 hf
          exact wD_sharedWithAll_51 FX hr hlk (ih) x1 x3 x2 _ _ _ (lv_sub hl [0, 1, 3] rfl) hW hf
        · have hf := ifn c24 hf
          refine lv_aload_n hx hb dX0_sharedWithAll_27 rfl (lv_at hl 0 rfl) ?_
          refine DgX0_0_5 FX hW dX0_sharedWithAll_28 ?_
          refine DgX0_18_2 FX hW dX0_sharedWithAll_31 ?_
          refine lv_iload_n hx hb dX0_sharedWithAll_34 rfl (lv_at hl 1 rfl) ?_
          refine g_iald FX hW 21 Dp21 hf dX0_sharedWithAll_35 (fun v2 hf => ?_)
          refine lv_aload_n hx hb dX0_sharedWithAll_36 rfl (lv_at hl 0 rfl) ?_
          refine DgX0_0_5 FX hW dX0_sharedWithAll_37 ?_
          refine DgX0_18_2 FX hW dX0_sharedWithAll_40 ?_
          refine lv_iload_n hx hb dX0_sharedWithAll_43 rfl (lv_at hl 3 rfl) ?_
          refine g_iald FX hW 21 Dp21 hf dX0_sharedWithAll_44 (fun v3 hf => ?_)
          refine kX0_X0_shared FX ⟨Nat.le_of_ble_eq_true rfl, Nat.le_of_ble_eq_true rfl⟩ ⟨Nat.zero_le _, Nat.zero_le _⟩ hl.1 (Nat.le_of_ble_eq_true rfl) hW hf dX0_sharedWithAll_45 (fun r4 H locs hW hf => ?_)
          refine lv_goto (tgt := 52) hx hb dX0_sharedWithAll_48 (by decide) ?_
          refine lv_iadd hx hb dX0_sharedWithAll_52 ?_
          refine lv_istore_n (lv' := [(2, .int (x2 + r4)), (0, .ref t0), (1, .int x1), (3, .int x3)]) hx hb dX0_sharedWithAll_53 rfl hl (by decide) rfl (fun ls hl => ?_)
          refine lv_iinc (v := (x3 + (1 : Int32))) (lv' := [(3, .int (x3 + (1 : Int32))), (2, .int (x2 + r4)), (0, .ref t0), (1, .int x1)]) hx hb dX0_sharedWithAll_54 hl (k := 3) rfl rfl (by decide) rfl (fun ls hl => ?_)
          refine lv_goto (tgt := 4) hx hb dX0_sharedWithAll_57 (by decide) ?_
          exact ih x1 (x2 + r4) (x3 + (1 : Int32)) _ _ _ (lv_sub hl [2, 3, 1, 0] rfl) hW hf
set_option maxHeartbeats 4000000 in
set_option maxRecDepth 100000 in
theorem mD_sharedWithAll {t0 : Nat} {ad : Nat → Nat} {B : Bk} {wr : va_W}  {x1 : Int32} {σ : Dst} {q : Int32} (hf : fD_sharedWithAll dA B x1 σ = some q) : CtI l yX0_sharedWithAll cX0_sharedWithAll 4 (some .int) rD_sharedWithAll D dA [.ref t0, .int x1] (Dx dA t0 ad B wr σ) q (Dx dA t0 ad B wr σ) := by
  refine e_I (by decide) (Nat.le_of_ble_eq_true rfl) ?_
  intro p e s m below meth c ls A FX hr hlk hl hW
  have hx := FX.1; have hb := FX.2.1; have hown := FX.2.2.2.1; have hts := FX.2.2.2.2
  have hl : lv_has ls 4 [(0, .ref t0), (1, .int x1)] := hl
  rw [fD_sharedWithAll] at hf
  refine lv_iconst (v := 0) hx hb dX0_sharedWithAll_0 (by decide) ?_
  refine lv_istore_n (lv' := [(2, .int (0 : Int32)), (0, .ref t0), (1, .int x1)]) hx hb dX0_sharedWithAll_1 rfl hl (by decide) rfl (fun ls hl => ?_)
  refine lv_iconst (v := 0) hx hb dX0_sharedWithAll_2 (by decide) ?_
  refine lv_istore_n (lv' := [(3, .int (0 : Int32)), (2, .int (0 : Int32)), (0, .ref t0), (1, .int x1)]) hx hb dX0_sharedWithAll_3 rfl hl (by decide) rfl (fun ls hl => ?_)
  exact wD_sharedWithAll_4 FX hr hlk _ x1 (0 : Int32) (0 : Int32) _ _ _ (lv_sub hl [2, 3, 1, 0] rfl) hW hf

set_option maxHeartbeats 4000000 in
set_option maxRecDepth 100000 in
theorem kD_sharedWithAll {t0 : Nat} {ad : Nat → Nat} {B : Bk} {wr : va_W} {α : Type} {q : α} {k : Int32 → Option α} {x1 : Int32} {σ : Dst} (FX : CallFix p m c cc nL s args lw_all RX0) (hR : rD_sharedWithAll.frames + 1 ≤ R.frames ∧ 8 + (4 + 11) + rD_sharedWithAll.locals ≤ R.locals) (hcs : cells ≤ R.cells ∧ slots ≤ R.slots) (hl : ls.size = nL) (hrm : (rest.map fun v => v.category).sum ≤ 8) (hW : Wd D dA A s (Dx dA t0 ad B wr σ) H locs) (hf : (fD_sharedWithAll dA B x1 σ).bind k = some q) (hdg : decode cc pc = .ok (.invokevirtual 292, 3)) (kk : ∀ (r : Int32) (H1 : Heap) (locs1 : List Loc), Wd D dA A s (Dx dA t0 ad B wr σ) H1 locs1 → k r = some q → W p l e R s m args below meth c H1 locs1 cells slots Q (F0 m (pc + 3) ls (.int r :: rest))) : W p l e R s m args below meth c H locs cells slots Q (F0 m pc ls (.int x1 :: .ref t0 :: rest)) := by
  obtain ⟨r1, h1, hf⟩ := bnd hf
  have hW2 := hW
  refine w_Vi (C := RX0) (As := [.int x1]) (rest := rest) (n := 1) (wr := []) FX (mD_sharedWithAll h1) (cwV 1 FX.2.2.2.2 (lw_V q1406 q1408 qs45 q123 q1409) rfl rfl rfl (by decide +kernel) hR) (va_recv hW2.2.2.2.1 hW2.1 (ci := 0) (q0 := 0) rfl rfl) rfl hl rfl hrm ⟨Nat.le_trans (Nat.le_of_eq (Nat.add_zero cells)) hcs.1, Nat.le_trans (Nat.le_of_eq (Nat.add_zero slots)) hcs.2⟩ hdg hW2.nil ?_
  exact fun H1 locs1 hW1 => kk r1 H1 locs1 (hW1.nil') hf
/-! TrunkLitters.odd()I: kind R -/
def fD_odd_38 (dA : Nat → Nat) (B : Bk) (σ : Dst) (k4 : Int32 → Int32 → Option Int32) (x2 : Int32) : Option Int32 := k4 x2 (x2 + (1 : Int32))
def fD_odd_4 (dA : Nat → Nat) (B : Bk) (σ : Dst) : Nat → Int32 → Int32 → Option Int32
  | 0, _, _ => none
  | n + 1, x1, x2 => (if (8 : Int32) ≤ x2 then some x1 else (fX3_has x2 (tN σ)).bind fun r1 => (if r1 = 0 then fD_odd_4 dA B σ n x1 (x2 + (1 : Int32)) else (if x1 < 0 then fD_odd_38 dA B σ (fD_odd_4 dA B σ n) x2 else (fD_sharedWithAll dA B x2 σ).bind fun r2 => (fD_sharedWithAll dA B x1 σ).bind fun r3 => (if r3 ≤ r2 then fD_odd_4 dA B σ n x1 (x2 + (1 : Int32)) else fD_odd_38 dA B σ (fD_odd_4 dA B σ n) x2))))
def fD_odd (dA : Nat → Nat) (B : Bk) (σ : Dst) : Option Int32 := fD_odd_4 dA B σ FU (-1 : Int32) (0 : Int32)
abbrev rD_odd : Room := { frames := 3, cells := 0, slots := 0, locals := 64 }
set_option maxHeartbeats 4000000 in
set_option maxRecDepth 100000 in
theorem wD_odd_38 {t0 : Nat} {ad : Nat → Nat} {B : Bk} {wr : va_W} {q : Int32} {σ : Dst} (FX : CallFix p m c cX0_odd 3 s args lw_all RX0) (hr : meth.sig.returnType = (some .int)) (hlk : meth.locks = false) {k4 : Int32 → Int32 → Option Int32} (hk4 : ∀ (x1 : Int32) (x2 : Int32) (H : Heap) (locs : List Loc) (ls : Array Slot), lv_has ls 3 [(0, .ref t0), (1, .int x1), (2, .int x2)] → Wd D dA A s (Dx dA t0 ad B wr σ) H locs → k4 x1 x2 = some q → W p l e rD_odd s m args below meth c H locs 0 0 (QI D dA A below args s 0 0 q (Dx dA t0 ad B wr σ)) (F0 m 4 ls [])) : ∀ (x2 : Int32) (H : Heap) (locs : List Loc) (ls : Array Slot), lv_has ls 3 [(0, .ref t0), (2, .int x2)] → Wd D dA A s (Dx dA t0 ad B wr σ) H locs → fD_odd_38 dA B σ k4 x2 = some q → W p l e rD_odd s m args below meth c H locs 0 0 (QI D dA A below args s 0 0 q (Dx dA t0 ad B wr σ)) (F0 m 38 ls []) := by
  have hx := FX.1; have hb := FX.2.1; have hown := FX.2.2.2.1; have hts := FX.2.2.2.2
  intro x2 H locs ls hl hW hf
  rw [fD_odd_38] at hf
  refine lv_iload_n hx hb dX0_odd_38 rfl (lv_at hl 1 rfl) ?_
  refine lv_istore_n (lv' := [(1, .int x2), (0, .ref t0), (2, .int x2)]) hx hb dX0_odd_39 rfl hl (by decide) rfl (fun ls hl => ?_)
  refine lv_iinc (v := (x2 + (1 : Int32))) (lv' := [(2, .int (x2 + (1 : Int32))), (1, .int x2), (0, .ref t0)]) hx hb dX0_odd_40 hl (k := 2) rfl rfl (by decide) rfl (fun ls hl => ?_)
  refine lv_goto (tgt := 4) hx hb dX0_odd_43 (by decide) ?_
  exact hk4 x2 (x2 + (1 : Int32)) _ _ _ (lv_sub hl [2, 1, 0] rfl) hW hf
set_option maxHeartbeats 4000000 in
set_option maxRecDepth 100000 in
theorem wD_odd_4 {t0 : Nat} {ad : Nat → Nat} {B : Bk} {wr : va_W} {q : Int32} {σ : Dst} (FX : CallFix p m c cX0_odd 3 s args lw_all RX0) (hr : meth.sig.returnType = (some .int)) (hlk : meth.locks = false) : ∀ n : Nat, ∀ (x1 : Int32) (x2 : Int32) (H : Heap) (locs : List Loc) (ls : Array Slot), lv_has ls 3 [(0, .ref t0), (1, .int x1), (2, .int x2)] → Wd D dA A s (Dx dA t0 ad B wr σ) H locs → fD_odd_4 dA B σ n x1 x2 = some q → W p l e rD_odd s m args below meth c H locs 0 0 (QI D dA A below args s 0 0 q (Dx dA t0 ad B wr σ)) (F0 m 4 ls []) := by
  have hx := FX.1; have hb := FX.2.1; have hown := FX.2.2.2.1; have hts := FX.2.2.2.2
  intro n
  induction n with
  | zero =>
    intro x1 x2 H locs ls hl hW hf
    cases (show (none : Option Int32) = some q from hf)
  | succ n ih =>
    intro x1 x2 H locs ls hl hW hf
    rw [fD_odd_4] at hf
    refine lv_iload_n hx hb dX0_odd_4 rfl (lv_at hl 2 rfl) ?_
    refine lv_bipush (v := 8) hx hb dX0_odd_5 (by decide) ?_
    refine lv_icmp_ge (tgt := 46) hx hb dX0_odd_7 (by decide) (fun c7 => ?_) (fun c7 => ?_)
    · have hf := ifp c7 hf
      refine lv_iload_n hx hb dX0_odd_46 rfl (lv_at hl 1 rfl) ?_
      exact g_iret FX hr hlk hW (Option.some.inj hf) dX0_odd_47
    · have hf := ifn c7 hf
      refine lv_aload_n hx hb dX0_odd_10 rfl (lv_at hl 0 rfl) ?_
      refine DgX0_0_5 FX hW dX0_odd_11 ?_
      refine lv_iload_n hx hb dX0_odd_14 rfl (lv_at hl 2 rfl) ?_
      refine kD_now_has FX ⟨Nat.le_of_ble_eq_true rfl, Nat.le_of_ble_eq_true rfl⟩ ⟨Nat.zero_le _, Nat.zero_le _⟩ hl.1 (Nat.le_of_ble_eq_true rfl) hW hf dX0_odd_15 (fun r1 H locs hW hf => ?_)
      refine lv_if_eq (tgt := 40) hx hb dX0_odd_18 (by decide) (fun c18 => ?_) (fun c18 => ?_)
      · have hf := ifp c18 hf
        refine lv_iinc (v := (x2 + (1 : Int32))) (lv' := [(2, .int (x2 + (1 : Int32))), (0, .ref t0), (1, .int x1)]) hx hb dX0_odd_40 hl (k := 2) rfl rfl (by decide) rfl (fun ls hl => ?_)
        refine lv_goto (tgt := 4) hx hb dX0_odd_43 (by decide) ?_
        exact ih x1 (x2 + (1 : Int32)) _ _ _ (lv_sub hl [1, 2, 0] rfl) hW hf
      · have hf := ifn c18 hf
        refine lv_iload_n hx hb dX0_odd_21 rfl (lv_at hl 1 rfl) ?_
        refine lv_if_lt (tgt := 38) hx hb dX0_odd_22 (by decide) (fun c22 => ?_) (fun c22 => ?_)
        · have hf := ifp c22 hf
          exact wD_odd_38 FX hr hlk (ih) x2 _ _ _ (lv_sub hl [0, 2] rfl) hW hf
        · have hf := ifn c22 hf
          refine lv_aload_n hx hb dX0_odd_25 rfl (lv_at hl 0 rfl) ?_
          refine lv_iload_n hx hb dX0_odd_26 rfl (lv_at hl 2 rfl) ?_
          refine kD_sharedWithAll FX ⟨Nat.le_of_ble_eq_true rfl, Nat.le_of_ble_eq_true rfl⟩ ⟨Nat.zero_le _, Nat.zero_le _⟩ hl.1 (Nat.le_of_ble_eq_true rfl) hW hf dX0_odd_27 (fun r2 H locs hW hf => ?_)
          refine lv_aload_n hx hb dX0_odd_30 rfl (lv_at hl 0 rfl) ?_
          refine lv_iload_n hx hb dX0_odd_31 rfl (lv_at hl 1 rfl) ?_
          refine kD_sharedWithAll FX ⟨Nat.le_of_ble_eq_true rfl, Nat.le_of_ble_eq_true rfl⟩ ⟨Nat.zero_le _, Nat.zero_le _⟩ hl.1 (Nat.le_of_ble_eq_true rfl) hW hf dX0_odd_32 (fun r3 H locs hW hf => ?_)
          refine lv_icmp_ge (tgt := 40) hx hb dX0_odd_35 (by decide) (fun c35 => ?_) (fun c35 => ?_)
          · have hf := ifp c35 hf
            refine lv_iinc (v := (x2 + (1 : Int32))) (lv' := [(2, .int (x2 + (1 : Int32))), (0, .ref t0), (1, .int x1)]) hx hb dX0_odd_40 hl (k := 2) rfl rfl (by decide) rfl (fun ls hl => ?_)
            refine lv_goto (tgt := 4) hx hb dX0_odd_43 (by decide) ?_
            exact ih x1 (x2 + (1 : Int32)) _ _ _ (lv_sub hl [1, 2, 0] rfl) hW hf
          · have hf := ifn c35 hf
            exact wD_odd_38 FX hr hlk (ih) x2 _ _ _ (lv_sub hl [0, 2] rfl) hW hf
set_option maxHeartbeats 4000000 in
set_option maxRecDepth 100000 in
theorem mD_odd {t0 : Nat} {ad : Nat → Nat} {B : Bk} {wr : va_W}  {σ : Dst} {q : Int32} (hf : fD_odd dA B σ = some q) : CtI l yX0_odd cX0_odd 3 (some .int) rD_odd D dA [.ref t0] (Dx dA t0 ad B wr σ) q (Dx dA t0 ad B wr σ) := by
  refine e_I (by decide) (Nat.le_of_ble_eq_true rfl) ?_
  intro p e s m below meth c ls A FX hr hlk hl hW
  have hx := FX.1; have hb := FX.2.1; have hown := FX.2.2.2.1; have hts := FX.2.2.2.2
  have hl : lv_has ls 3 [(0, .ref t0)] := hl
  rw [fD_odd] at hf
  refine lv_iconst (v := -1) hx hb dX0_odd_0 (by decide) ?_
  refine lv_istore_n (lv' := [(1, .int (-1 : Int32)), (0, .ref t0)]) hx hb dX0_odd_1 rfl hl (by decide) rfl (fun ls hl => ?_)
  refine lv_iconst (v := 0) hx hb dX0_odd_2 (by decide) ?_
  refine lv_istore_n (lv' := [(2, .int (0 : Int32)), (1, .int (-1 : Int32)), (0, .ref t0)]) hx hb dX0_odd_3 rfl hl (by decide) rfl (fun ls hl => ?_)
  exact wD_odd_4 FX hr hlk _ (-1 : Int32) (0 : Int32) _ _ _ (lv_sub hl [2, 1, 0] rfl) hW hf

set_option maxHeartbeats 4000000 in
set_option maxRecDepth 100000 in
theorem kD_alike {t0 : Nat} {ad : Nat → Nat} {B : Bk} {wr : va_W} {α : Type} {q : α} {k : Int32 → Option α} {x1 : Int32} {x2 : Int32} {σ : Dst} (FX : CallFix p m c cc nL s args lw_all RX0) (hR : rD_alike.frames + 1 ≤ R.frames ∧ 8 + (3 + 11) + rD_alike.locals ≤ R.locals) (hcs : cells ≤ R.cells ∧ slots ≤ R.slots) (hl : ls.size = nL) (hrm : (rest.map fun v => v.category).sum ≤ 8) (hW : Wd D dA A s (Dx dA t0 ad B wr σ) H locs) (hf : (fD_alike dA B x1 x2 σ).bind k = some q) (hdg : decode cc pc = .ok (.invokevirtual 295, 3)) (kk : ∀ (r : Int32) (H1 : Heap) (locs1 : List Loc), Wd D dA A s (Dx dA t0 ad B wr σ) H1 locs1 → k r = some q → W p l e R s m args below meth c H1 locs1 cells slots Q (F0 m (pc + 3) ls (.int r :: rest))) : W p l e R s m args below meth c H locs cells slots Q (F0 m pc ls (.int x2 :: .int x1 :: .ref t0 :: rest)) := by
  obtain ⟨r1, h1, hf⟩ := bnd hf
  have hW2 := hW
  refine w_Vi (C := RX0) (As := [.int x1, .int x2]) (rest := rest) (n := 2) (wr := []) FX (mD_alike h1) (cwV 2 FX.2.2.2.2 (lw_V q1414 q1374 q1375 q123 q1376) rfl rfl rfl (by decide +kernel) hR) (va_recv hW2.2.2.2.1 hW2.1 (ci := 0) (q0 := 0) rfl rfl) rfl hl rfl hrm ⟨Nat.le_trans (Nat.le_of_eq (Nat.add_zero cells)) hcs.1, Nat.le_trans (Nat.le_of_eq (Nat.add_zero slots)) hcs.2⟩ hdg hW2.nil ?_
  exact fun H1 locs1 hW1 => kk r1 H1 locs1 (hW1.nil') hf
/-! TrunkLitters.like(I)I: kind R -/
def fD_like_55 (dA : Nat → Nat) (B : Bk) (σ : Dst) (k14 : Int32 → Int32 → Int32 → Option Int32) (x1 : Int32) (x3 : Int32) : Option Int32 := k14 x1 x3 (x3 + (1 : Int32))
def fD_like_14 (dA : Nat → Nat) (B : Bk) (σ : Dst) : Nat → Int32 → Int32 → Int32 → Option Int32
  | 0, _, _, _ => none
  | n + 1, x1, x2, x3 => (if (8 : Int32) ≤ x3 then some x2 else (if x3 = x1 then fD_like_14 dA B σ n x1 x2 (x3 + (1 : Int32)) else (fX3_has x3 (tN σ)).bind fun r1 => (if r1 = 0 then fD_like_14 dA B σ n x1 x2 (x3 + (1 : Int32)) else (if x2 < 0 then fD_like_55 dA B σ (fD_like_14 dA B σ n) x1 x3 else (fD_alike dA B x1 x3 σ).bind fun r2 => (fD_alike dA B x1 x2 σ).bind fun r3 => (if r2 ≤ r3 then fD_like_14 dA B σ n x1 x2 (x3 + (1 : Int32)) else fD_like_55 dA B σ (fD_like_14 dA B σ n) x1 x3)))))
def fD_like (dA : Nat → Nat) (B : Bk) (x1 : Int32) (σ : Dst) : Option Int32 := (fD_isTrunk dA B x1 σ).bind fun r1 => (if r1 = 0 then some (-1 : Int32) else fD_like_14 dA B σ FU x1 (-1 : Int32) (0 : Int32))
abbrev rD_like : Room := { frames := 3, cells := 0, slots := 0, locals := 65 }
set_option maxHeartbeats 4000000 in
set_option maxRecDepth 100000 in
theorem wD_like_55 {t0 : Nat} {ad : Nat → Nat} {B : Bk} {wr : va_W} {q : Int32} {σ : Dst} (FX : CallFix p m c cX0_like 4 s args lw_all RX0) (hr : meth.sig.returnType = (some .int)) (hlk : meth.locks = false) {k14 : Int32 → Int32 → Int32 → Option Int32} (hk14 : ∀ (x1 : Int32) (x2 : Int32) (x3 : Int32) (H : Heap) (locs : List Loc) (ls : Array Slot), lv_has ls 4 [(0, .ref t0), (1, .int x1), (2, .int x2), (3, .int x3)] → Wd D dA A s (Dx dA t0 ad B wr σ) H locs → k14 x1 x2 x3 = some q → W p l e rD_like s m args below meth c H locs 0 0 (QI D dA A below args s 0 0 q (Dx dA t0 ad B wr σ)) (F0 m 14 ls [])) : ∀ (x1 : Int32) (x3 : Int32) (H : Heap) (locs : List Loc) (ls : Array Slot), lv_has ls 4 [(0, .ref t0), (1, .int x1), (3, .int x3)] → Wd D dA A s (Dx dA t0 ad B wr σ) H locs → fD_like_55 dA B σ k14 x1 x3 = some q → W p l e rD_like s m args below meth c H locs 0 0 (QI D dA A below args s 0 0 q (Dx dA t0 ad B wr σ)) (F0 m 55 ls []) := by
  have hx := FX.1; have hb := FX.2.1; have hown := FX.2.2.2.1; have hts := FX.2.2.2.2
  intro x1 x3 H locs ls hl hW hf
  rw [fD_like_55] at hf
  refine lv_iload_n hx hb dX0_like_55 rfl (lv_at hl 2 rfl) ?_
  refine lv_istore_n (lv' := [(2, .int x3), (0, .ref t0), (1, .int x1), (3, .int x3)]) hx hb dX0_like_56 rfl hl (by decide) rfl (fun ls hl => ?_)
  refine lv_iinc (v := (x3 + (1 : Int32))) (lv' := [(3, .int (x3 + (1 : Int32))), (2, .int x3), (0, .ref t0), (1, .int x1)]) hx hb dX0_like_57 hl (k := 3) rfl rfl (by decide) rfl (fun ls hl => ?_)
  refine lv_goto (tgt := 14) hx hb dX0_like_60 (by decide) ?_
  exact hk14 x1 x3 (x3 + (1 : Int32)) _ _ _ (lv_sub hl [2, 3, 1, 0] rfl) hW hf
set_option maxHeartbeats 4000000 in
set_option maxRecDepth 100000 in
theorem wD_like_14 {t0 : Nat} {ad : Nat → Nat} {B : Bk} {wr : va_W} {q : Int32} {σ : Dst} (FX : CallFix p m c cX0_like 4 s args lw_all RX0) (hr : meth.sig.returnType = (some .int)) (hlk : meth.locks = false) : ∀ n : Nat, ∀ (x1 : Int32) (x2 : Int32) (x3 : Int32) (H : Heap) (locs : List Loc) (ls : Array Slot), lv_has ls 4 [(0, .ref t0), (1, .int x1), (2, .int x2), (3, .int x3)] → Wd D dA A s (Dx dA t0 ad B wr σ) H locs → fD_like_14 dA B σ n x1 x2 x3 = some q → W p l e rD_like s m args below meth c H locs 0 0 (QI D dA A below args s 0 0 q (Dx dA t0 ad B wr σ)) (F0 m 14 ls []) := by
  have hx := FX.1; have hb := FX.2.1; have hown := FX.2.2.2.1; have hts := FX.2.2.2.2
  intro n
  induction n with
  | zero =>
    intro x1 x2 x3 H locs ls hl hW hf
    cases (show (none : Option Int32) = some q from hf)
  | succ n ih =>
    intro x1 x2 x3 H locs ls hl hW hf
    rw [fD_like_14] at hf
    refine lv_iload_n hx hb dX0_like_14 rfl (lv_at hl 3 rfl) ?_
    refine lv_bipush (v := 8) hx hb dX0_like_15 (by decide) ?_
    refine lv_icmp_ge (tgt := 63) hx hb dX0_like_17 (by decide) (fun c17 => ?_) (fun c17 => ?_)
    · have hf := ifp c17 hf
      refine lv_iload_n hx hb dX0_like_63 rfl (lv_at hl 2 rfl) ?_
      exact g_iret FX hr hlk hW (Option.some.inj hf) dX0_like_64
    · have hf := ifn c17 hf
      refine lv_iload_n hx hb dX0_like_20 rfl (lv_at hl 3 rfl) ?_
      refine lv_iload_n hx hb dX0_like_21 rfl (lv_at hl 1 rfl) ?_
      refine lv_icmp_eq (tgt := 57) hx hb dX0_like_22 (by decide) (fun c22 => ?_) (fun c22 => ?_)
      · have hf := ifp c22 hf
        refine lv_iinc (v := (x3 + (1 : Int32))) (lv' := [(3, .int (x3 + (1 : Int32))), (0, .ref t0), (1, .int x1), (2, .int x2)]) hx hb dX0_like_57 hl (k := 3) rfl rfl (by decide) rfl (fun ls hl => ?_)
        refine lv_goto (tgt := 14) hx hb dX0_like_60 (by decide) ?_
        exact ih x1 x2 (x3 + (1 : Int32)) _ _ _ (lv_sub hl [1, 2, 3, 0] rfl) hW hf
      · have hf := ifn c22 hf
        refine lv_aload_n hx hb dX0_like_25 rfl (lv_at hl 0 rfl) ?_
        refine DgX0_0_5 FX hW dX0_like_26 ?_
        refine lv_iload_n hx hb dX0_like_29 rfl (lv_at hl 3 rfl) ?_
        refine kD_now_has FX ⟨Nat.le_of_ble_eq_true rfl, Nat.le_of_ble_eq_true rfl⟩ ⟨Nat.zero_le _, Nat.zero_le _⟩ hl.1 (Nat.le_of_ble_eq_true rfl) hW hf dX0_like_30 (fun r1 H locs hW hf => ?_)
        refine lv_if_eq (tgt := 57) hx hb dX0_like_33 (by decide) (fun c33 => ?_) (fun c33 => ?_)
        · have hf := ifp c33 hf
          refine lv_iinc (v := (x3 + (1 : Int32))) (lv' := [(3, .int (x3 + (1 : Int32))), (0, .ref t0), (1, .int x1), (2, .int x2)]) hx hb dX0_like_57 hl (k := 3) rfl rfl (by decide) rfl (fun ls hl => ?_)
          refine lv_goto (tgt := 14) hx hb dX0_like_60 (by decide) ?_
          exact ih x1 x2 (x3 + (1 : Int32)) _ _ _ (lv_sub hl [1, 2, 3, 0] rfl) hW hf
        · have hf := ifn c33 hf
          refine lv_iload_n hx hb dX0_like_36 rfl (lv_at hl 2 rfl) ?_
          refine lv_if_lt (tgt := 55) hx hb dX0_like_37 (by decide) (fun c37 => ?_) (fun c37 => ?_)
          · have hf := ifp c37 hf
            exact wD_like_55 FX hr hlk (ih) x1 x3 _ _ _ (lv_sub hl [0, 1, 3] rfl) hW hf
          · have hf := ifn c37 hf
            refine lv_aload_n hx hb dX0_like_40 rfl (lv_at hl 0 rfl) ?_
            refine lv_iload_n hx hb dX0_like_41 rfl (lv_at hl 1 rfl) ?_
            refine lv_iload_n hx hb dX0_like_42 rfl (lv_at hl 3 rfl) ?_
            refine kD_alike FX ⟨Nat.le_of_ble_eq_true rfl, Nat.le_of_ble_eq_true rfl⟩ ⟨Nat.zero_le _, Nat.zero_le _⟩ hl.1 (Nat.le_of_ble_eq_true rfl) hW hf dX0_like_43 (fun r2 H locs hW hf => ?_)
            refine lv_aload_n hx hb dX0_like_46 rfl (lv_at hl 0 rfl) ?_
            refine lv_iload_n hx hb dX0_like_47 rfl (lv_at hl 1 rfl) ?_
            refine lv_iload_n hx hb dX0_like_48 rfl (lv_at hl 2 rfl) ?_
            refine kD_alike FX ⟨Nat.le_of_ble_eq_true rfl, Nat.le_of_ble_eq_true rfl⟩ ⟨Nat.zero_le _, Nat.zero_le _⟩ hl.1 (Nat.le_of_ble_eq_true rfl) hW hf dX0_like_49 (fun r3 H locs hW hf => ?_)
            refine lv_icmp_le (tgt := 57) hx hb dX0_like_52 (by decide) (fun c52 => ?_) (fun c52 => ?_)
            · have hf := ifp c52 hf
              refine lv_iinc (v := (x3 + (1 : Int32))) (lv' := [(3, .int (x3 + (1 : Int32))), (0, .ref t0), (1, .int x1), (2, .int x2)]) hx hb dX0_like_57 hl (k := 3) rfl rfl (by decide) rfl (fun ls hl => ?_)
              refine lv_goto (tgt := 14) hx hb dX0_like_60 (by decide) ?_
              exact ih x1 x2 (x3 + (1 : Int32)) _ _ _ (lv_sub hl [1, 2, 3, 0] rfl) hW hf
            · have hf := ifn c52 hf
              exact wD_like_55 FX hr hlk (ih) x1 x3 _ _ _ (lv_sub hl [0, 1, 3] rfl) hW hf
set_option maxHeartbeats 4000000 in
set_option maxRecDepth 100000 in
theorem mD_like {t0 : Nat} {ad : Nat → Nat} {B : Bk} {wr : va_W}  {x1 : Int32} {σ : Dst} {q : Int32} (hf : fD_like dA B x1 σ = some q) : CtI l yX0_like cX0_like 4 (some .int) rD_like D dA [.ref t0, .int x1] (Dx dA t0 ad B wr σ) q (Dx dA t0 ad B wr σ) := by
  refine e_I (by decide) (Nat.le_of_ble_eq_true rfl) ?_
  intro p e s m below meth c ls A FX hr hlk hl hW
  have hx := FX.1; have hb := FX.2.1; have hown := FX.2.2.2.1; have hts := FX.2.2.2.2
  have hl : lv_has ls 4 [(0, .ref t0), (1, .int x1)] := hl
  rw [fD_like] at hf
  refine lv_aload_n hx hb dX0_like_0 rfl (lv_at hl 0 rfl) ?_
  refine lv_iload_n hx hb dX0_like_1 rfl (lv_at hl 1 rfl) ?_
  refine kD_isTrunk FX ⟨Nat.le_of_ble_eq_true rfl, Nat.le_of_ble_eq_true rfl⟩ ⟨Nat.zero_le _, Nat.zero_le _⟩ hl.1 (Nat.le_of_ble_eq_true rfl) hW hf dX0_like_2 (fun r1 H locs hW hf => ?_)
  refine lv_if_ne (tgt := 10) hx hb dX0_like_5 (by decide) (fun c5 => ?_) (fun c5 => ?_)
  · have hf := ifn c5 hf
    refine lv_iconst (v := -1) hx hb dX0_like_10 (by decide) ?_
    refine lv_istore_n (lv' := [(2, .int (-1 : Int32)), (0, .ref t0), (1, .int x1)]) hx hb dX0_like_11 rfl hl (by decide) rfl (fun ls hl => ?_)
    refine lv_iconst (v := 0) hx hb dX0_like_12 (by decide) ?_
    refine lv_istore_n (lv' := [(3, .int (0 : Int32)), (2, .int (-1 : Int32)), (0, .ref t0), (1, .int x1)]) hx hb dX0_like_13 rfl hl (by decide) rfl (fun ls hl => ?_)
    exact wD_like_14 FX hr hlk _ x1 (-1 : Int32) (0 : Int32) _ _ _ (lv_sub hl [2, 3, 1, 0] rfl) hW hf
  · have hf := ifp c5 hf
    refine lv_iconst (v := -1) hx hb dX0_like_8 (by decide) ?_
    exact g_iret FX hr hlk hW (Option.some.inj hf) dX0_like_9


/-! TrunkLitters.bearers(I)I: kind R -/
def fD_bearers_15 (dA : Nat → Nat) (B : Bk) (σ : Dst) : Nat → Int32 → Int32 → Int32 → Option Int32
  | 0, _, _, _ => none
  | n + 1, x1, x2, x3 => (if (8 : Int32) ≤ x3 then some x2 else (fX3_has x3 (tN σ)).bind fun r1 => (if r1 = 0 then fD_bearers_15 dA B σ n x1 (x2 + (0 : Int32)) (x3 + (1 : Int32)) else ald 8 (hA (tN σ) 2) x3 fun v2 => fD_bearers_15 dA B σ n x1 (x2 + ((v2 >>> (x1 &&& 31)) &&& (1 : Int32))) (x3 + (1 : Int32))))
def fD_bearers (dA : Nat → Nat) (B : Bk) (x1 : Int32) (σ : Dst) : Option Int32 := (fX0_isIn x1 (0 : Int32) (5 : Int32)).bind fun r1 => (if r1 = 0 then some (-1 : Int32) else fD_bearers_15 dA B σ FU x1 (0 : Int32) (0 : Int32))
abbrev rD_bearers : Room := { frames := 1, cells := 0, slots := 0, locals := 22 }
set_option maxHeartbeats 4000000 in
set_option maxRecDepth 100000 in
theorem wD_bearers_15 {t0 : Nat} {ad : Nat → Nat} {B : Bk} {wr : va_W} {q : Int32} {σ : Dst} (FX : CallFix p m c cX0_bearers 4 s args lw_all RX0) (hr : meth.sig.returnType = (some .int)) (hlk : meth.locks = false) : ∀ n : Nat, ∀ (x1 : Int32) (x2 : Int32) (x3 : Int32) (H : Heap) (locs : List Loc) (ls : Array Slot), lv_has ls 4 [(0, .ref t0), (1, .int x1), (2, .int x2), (3, .int x3)] → Wd D dA A s (Dx dA t0 ad B wr σ) H locs → fD_bearers_15 dA B σ n x1 x2 x3 = some q → W p l e rD_bearers s m args below meth c H locs 0 0 (QI D dA A below args s 0 0 q (Dx dA t0 ad B wr σ)) (F0 m 15 ls []) := by
  have hx := FX.1; have hb := FX.2.1; have hown := FX.2.2.2.1; have hts := FX.2.2.2.2
  intro n
  induction n with
  | zero =>
    intro x1 x2 x3 H locs ls hl hW hf
    cases (show (none : Option Int32) = some q from hf)
  | succ n ih =>
    intro x1 x2 x3 H locs ls hl hW hf
    rw [fD_bearers_15] at hf
    refine lv_iload_n hx hb dX0_bearers_15 rfl (lv_at hl 3 rfl) ?_
    refine lv_bipush (v := 8) hx hb dX0_bearers_16 (by decide) ?_
    refine lv_icmp_ge (tgt := 58) hx hb dX0_bearers_18 (by decide) (fun c18 => ?_) (fun c18 => ?_)
    · have hf := ifp c18 hf
      refine lv_iload_n hx hb dX0_bearers_58 rfl (lv_at hl 2 rfl) ?_
      exact g_iret FX hr hlk hW (Option.some.inj hf) dX0_bearers_59
    · have hf := ifn c18 hf
      refine lv_iload_n hx hb dX0_bearers_21 rfl (lv_at hl 2 rfl) ?_
      refine lv_aload_n hx hb dX0_bearers_22 rfl (lv_at hl 0 rfl) ?_
      refine DgX0_0_5 FX hW dX0_bearers_23 ?_
      refine lv_iload_n hx hb dX0_bearers_26 rfl (lv_at hl 3 rfl) ?_
      refine kD_now_has FX ⟨Nat.le_of_ble_eq_true rfl, Nat.le_of_ble_eq_true rfl⟩ ⟨Nat.zero_le _, Nat.zero_le _⟩ hl.1 (Nat.le_of_ble_eq_true rfl) hW hf dX0_bearers_27 (fun r1 H locs hW hf => ?_)
      refine lv_if_eq (tgt := 49) hx hb dX0_bearers_30 (by decide) (fun c30 => ?_) (fun c30 => ?_)
      · have hf := ifp c30 hf
        refine lv_iconst (v := 0) hx hb dX0_bearers_49 (by decide) ?_
        refine lv_iadd hx hb dX0_bearers_50 ?_
        refine lv_istore_n (lv' := [(2, .int (x2 + (0 : Int32))), (0, .ref t0), (1, .int x1), (3, .int x3)]) hx hb dX0_bearers_51 rfl hl (by decide) rfl (fun ls hl => ?_)
        refine lv_iinc (v := (x3 + (1 : Int32))) (lv' := [(3, .int (x3 + (1 : Int32))), (2, .int (x2 + (0 : Int32))), (0, .ref t0), (1, .int x1)]) hx hb dX0_bearers_52 hl (k := 3) rfl rfl (by decide) rfl (fun ls hl => ?_)
        refine lv_goto (tgt := 15) hx hb dX0_bearers_55 (by decide) ?_
        exact ih x1 (x2 + (0 : Int32)) (x3 + (1 : Int32)) _ _ _ (lv_sub hl [2, 3, 1, 0] rfl) hW hf
      · have hf := ifn c30 hf
        refine lv_aload_n hx hb dX0_bearers_33 rfl (lv_at hl 0 rfl) ?_
        refine DgX0_0_5 FX hW dX0_bearers_34 ?_
        refine DgX0_18_2 FX hW dX0_bearers_37 ?_
        refine lv_iload_n hx hb dX0_bearers_40 rfl (lv_at hl 3 rfl) ?_
        refine g_iald FX hW 21 Dp21 hf dX0_bearers_41 (fun v2 hf => ?_)
        refine lv_iload_n hx hb dX0_bearers_42 rfl (lv_at hl 1 rfl) ?_
        refine lv_ishr hx hb dX0_bearers_43 ?_
        refine lv_iconst (v := 1) hx hb dX0_bearers_44 (by decide) ?_
        refine lv_iand hx hb dX0_bearers_45 ?_
        refine lv_goto (tgt := 50) hx hb dX0_bearers_46 (by decide) ?_
        refine lv_iadd hx hb dX0_bearers_50 ?_
        refine lv_istore_n (lv' := [(2, .int (x2 + ((v2 >>> (x1 &&& 31)) &&& (1 : Int32)))), (0, .ref t0), (1, .int x1), (3, .int x3)]) hx hb dX0_bearers_51 rfl hl (by decide) rfl (fun ls hl => ?_)
        refine lv_iinc (v := (x3 + (1 : Int32))) (lv' := [(3, .int (x3 + (1 : Int32))), (2, .int (x2 + ((v2 >>> (x1 &&& 31)) &&& (1 : Int32)))), (0, .ref t0), (1, .int x1)]) hx hb dX0_bearers_52 hl (k := 3) rfl rfl (by decide) rfl (fun ls hl => ?_)
        refine lv_goto (tgt := 15) hx hb dX0_bearers_55 (by decide) ?_
        exact ih x1 (x2 + ((v2 >>> (x1 &&& 31)) &&& (1 : Int32))) (x3 + (1 : Int32)) _ _ _ (lv_sub hl [2, 3, 1, 0] rfl) hW hf
set_option maxHeartbeats 4000000 in
set_option maxRecDepth 100000 in
theorem mD_bearers {t0 : Nat} {ad : Nat → Nat} {B : Bk} {wr : va_W}  {x1 : Int32} {σ : Dst} {q : Int32} (hf : fD_bearers dA B x1 σ = some q) : CtI l yX0_bearers cX0_bearers 4 (some .int) rD_bearers D dA [.ref t0, .int x1] (Dx dA t0 ad B wr σ) q (Dx dA t0 ad B wr σ) := by
  refine e_I (by decide) (Nat.le_of_ble_eq_true rfl) ?_
  intro p e s m below meth c ls A FX hr hlk hl hW
  have hx := FX.1; have hb := FX.2.1; have hown := FX.2.2.2.1; have hts := FX.2.2.2.2
  have hl : lv_has ls 4 [(0, .ref t0), (1, .int x1)] := hl
  rw [fD_bearers] at hf
  refine lv_iload_n hx hb dX0_bearers_0 rfl (lv_at hl 1 rfl) ?_
  refine lv_iconst (v := 0) hx hb dX0_bearers_1 (by decide) ?_
  refine lv_iconst (v := 5) hx hb dX0_bearers_2 (by decide) ?_
  refine kX0_X0_isIn FX ⟨Nat.le_of_ble_eq_true rfl, Nat.le_of_ble_eq_true rfl⟩ ⟨Nat.zero_le _, Nat.zero_le _⟩ hl.1 (Nat.le_of_ble_eq_true rfl) hW hf dX0_bearers_3 (fun r1 H locs hW hf => ?_)
  refine lv_if_ne (tgt := 11) hx hb dX0_bearers_6 (by decide) (fun c6 => ?_) (fun c6 => ?_)
  · have hf := ifn c6 hf
    refine lv_iconst (v := 0) hx hb dX0_bearers_11 (by decide) ?_
    refine lv_istore_n (lv' := [(2, .int (0 : Int32)), (0, .ref t0), (1, .int x1)]) hx hb dX0_bearers_12 rfl hl (by decide) rfl (fun ls hl => ?_)
    refine lv_iconst (v := 0) hx hb dX0_bearers_13 (by decide) ?_
    refine lv_istore_n (lv' := [(3, .int (0 : Int32)), (2, .int (0 : Int32)), (0, .ref t0), (1, .int x1)]) hx hb dX0_bearers_14 rfl hl (by decide) rfl (fun ls hl => ?_)
    exact wD_bearers_15 FX hr hlk _ x1 (0 : Int32) (0 : Int32) _ _ _ (lv_sub hl [2, 3, 1, 0] rfl) hW hf
  · have hf := ifp c6 hf
    refine lv_iconst (v := -1) hx hb dX0_bearers_9 (by decide) ?_
    exact g_iret FX hr hlk hW (Option.some.inj hf) dX0_bearers_10


/-! TrunkLitters.roomiest()I: kind R -/
def fD_roomiest_43 (dA : Nat → Nat) (B : Bk) (σ : Dst) (k4 : Int32 → Int32 → Option Int32) (x2 : Int32) : Option Int32 := k4 x2 (x2 + (1 : Int32))
def fD_roomiest_4 (dA : Nat → Nat) (B : Bk) (σ : Dst) : Nat → Int32 → Int32 → Option Int32
  | 0, _, _ => none
  | n + 1, x1, x2 => (fD_rooms dA B σ).bind fun r1 => (if r1 ≤ x2 then some x1 else (if x1 < 0 then fD_roomiest_43 dA B σ (fD_roomiest_4 dA B σ n) x2 else (fHB_left dA B x2 ((tN σ), tU σ)).bind fun r2 => (fHB_left dA B x1 ((tN σ), tU σ)).bind fun r3 => (if r2 ≤ r3 then fD_roomiest_4 dA B σ n x1 (x2 + (1 : Int32)) else fD_roomiest_43 dA B σ (fD_roomiest_4 dA B σ n) x2)))
def fD_roomiest (dA : Nat → Nat) (B : Bk) (σ : Dst) : Option Int32 := fD_roomiest_4 dA B σ FU (-1 : Int32) (0 : Int32)
abbrev rD_roomiest : Room := { frames := 5, cells := 0, slots := 0, locals := 113 }
set_option maxHeartbeats 4000000 in
set_option maxRecDepth 100000 in
theorem wD_roomiest_43 {t0 : Nat} {ad : Nat → Nat} {B : Bk} {wr : va_W} {q : Int32} {σ : Dst} (FX : CallFix p m c cX0_roomiest 3 s args lw_all RX0) (hr : meth.sig.returnType = (some .int)) (hlk : meth.locks = false) {k4 : Int32 → Int32 → Option Int32} (hk4 : ∀ (x1 : Int32) (x2 : Int32) (H : Heap) (locs : List Loc) (ls : Array Slot), lv_has ls 3 [(0, .ref t0), (1, .int x1), (2, .int x2)] → Wd D dA A s (Dx dA t0 ad B wr σ) H locs → k4 x1 x2 = some q → W p l e rD_roomiest s m args below meth c H locs 0 0 (QI D dA A below args s 0 0 q (Dx dA t0 ad B wr σ)) (F0 m 4 ls [])) : ∀ (x2 : Int32) (H : Heap) (locs : List Loc) (ls : Array Slot), lv_has ls 3 [(0, .ref t0), (2, .int x2)] → Wd D dA A s (Dx dA t0 ad B wr σ) H locs → fD_roomiest_43 dA B σ k4 x2 = some q → W p l e rD_roomiest s m args below meth c H locs 0 0 (QI D dA A below args s 0 0 q (Dx dA t0 ad B wr σ)) (F0 m 43 ls []) := by
  have hx := FX.1; have hb := FX.2.1; have hown := FX.2.2.2.1; have hts := FX.2.2.2.2
  intro x2 H locs ls hl hW hf
  rw [fD_roomiest_43] at hf
  refine lv_iload_n hx hb dX0_roomiest_43 rfl (lv_at hl 1 rfl) ?_
  refine lv_goto (tgt := 48) hx hb dX0_roomiest_44 (by decide) ?_
  refine lv_istore_n (lv' := [(1, .int x2), (0, .ref t0), (2, .int x2)]) hx hb dX0_roomiest_48 rfl hl (by decide) rfl (fun ls hl => ?_)
  refine lv_iinc (v := (x2 + (1 : Int32))) (lv' := [(2, .int (x2 + (1 : Int32))), (1, .int x2), (0, .ref t0)]) hx hb dX0_roomiest_49 hl (k := 2) rfl rfl (by decide) rfl (fun ls hl => ?_)
  refine lv_goto (tgt := 4) hx hb dX0_roomiest_52 (by decide) ?_
  exact hk4 x2 (x2 + (1 : Int32)) _ _ _ (lv_sub hl [2, 1, 0] rfl) hW hf
set_option maxHeartbeats 4000000 in
set_option maxRecDepth 100000 in
theorem wD_roomiest_4 {t0 : Nat} {ad : Nat → Nat} {B : Bk} {wr : va_W} {q : Int32} {σ : Dst} (FX : CallFix p m c cX0_roomiest 3 s args lw_all RX0) (hr : meth.sig.returnType = (some .int)) (hlk : meth.locks = false) : ∀ n : Nat, ∀ (x1 : Int32) (x2 : Int32) (H : Heap) (locs : List Loc) (ls : Array Slot), lv_has ls 3 [(0, .ref t0), (1, .int x1), (2, .int x2)] → Wd D dA A s (Dx dA t0 ad B wr σ) H locs → fD_roomiest_4 dA B σ n x1 x2 = some q → W p l e rD_roomiest s m args below meth c H locs 0 0 (QI D dA A below args s 0 0 q (Dx dA t0 ad B wr σ)) (F0 m 4 ls []) := by
  have hx := FX.1; have hb := FX.2.1; have hown := FX.2.2.2.1; have hts := FX.2.2.2.2
  intro n
  induction n with
  | zero =>
    intro x1 x2 H locs ls hl hW hf
    cases (show (none : Option Int32) = some q from hf)
  | succ n ih =>
    intro x1 x2 H locs ls hl hW hf
    rw [fD_roomiest_4] at hf
    refine lv_iload_n hx hb dX0_roomiest_4 rfl (lv_at hl 2 rfl) ?_
    refine lv_aload_n hx hb dX0_roomiest_5 rfl (lv_at hl 0 rfl) ?_
    refine kD_rooms FX ⟨Nat.le_of_ble_eq_true rfl, Nat.le_of_ble_eq_true rfl⟩ ⟨Nat.zero_le _, Nat.zero_le _⟩ hl.1 (Nat.le_of_ble_eq_true rfl) hW hf dX0_roomiest_6 (fun r1 H locs hW hf => ?_)
    refine lv_icmp_ge (tgt := 55) hx hb dX0_roomiest_9 (by decide) (fun c9 => ?_) (fun c9 => ?_)
    · have hf := ifp c9 hf
      refine lv_iload_n hx hb dX0_roomiest_55 rfl (lv_at hl 1 rfl) ?_
      exact g_iret FX hr hlk hW (Option.some.inj hf) dX0_roomiest_56
    · have hf := ifn c9 hf
      refine lv_iload_n hx hb dX0_roomiest_12 rfl (lv_at hl 1 rfl) ?_
      refine lv_if_lt (tgt := 43) hx hb dX0_roomiest_13 (by decide) (fun c13 => ?_) (fun c13 => ?_)
      · have hf := ifp c13 hf
        exact wD_roomiest_43 FX hr hlk (ih) x2 _ _ _ (lv_sub hl [0, 2] rfl) hW hf
      · have hf := ifn c13 hf
        refine lv_aload_n hx hb dX0_roomiest_16 rfl (lv_at hl 0 rfl) ?_
        refine DgX0_0_5 FX hW dX0_roomiest_17 ?_
        refine lv_aload_n hx hb dX0_roomiest_20 rfl (lv_at hl 0 rfl) ?_
        refine DgX0_0_4 FX hW dX0_roomiest_21 ?_
        refine lv_iload_n hx hb dX0_roomiest_24 rfl (lv_at hl 2 rfl) ?_
        refine kD_now_left FX ⟨Nat.le_of_ble_eq_true rfl, Nat.le_of_ble_eq_true rfl⟩ ⟨Nat.zero_le _, Nat.zero_le _⟩ hl.1 (Nat.le_of_ble_eq_true rfl) hW hf dX0_roomiest_25 (fun r2 H locs hW hf => ?_)
        refine lv_aload_n hx hb dX0_roomiest_28 rfl (lv_at hl 0 rfl) ?_
        refine DgX0_0_5 FX hW dX0_roomiest_29 ?_
        refine lv_aload_n hx hb dX0_roomiest_32 rfl (lv_at hl 0 rfl) ?_
        refine DgX0_0_4 FX hW dX0_roomiest_33 ?_
        refine lv_iload_n hx hb dX0_roomiest_36 rfl (lv_at hl 1 rfl) ?_
        refine kD_now_left FX ⟨Nat.le_of_ble_eq_true rfl, Nat.le_of_ble_eq_true rfl⟩ ⟨Nat.zero_le _, Nat.zero_le _⟩ hl.1 (Nat.le_of_ble_eq_true rfl) hW hf dX0_roomiest_37 (fun r3 H locs hW hf => ?_)
        refine lv_icmp_le (tgt := 47) hx hb dX0_roomiest_40 (by decide) (fun c40 => ?_) (fun c40 => ?_)
        · have hf := ifp c40 hf
          refine lv_iload_n hx hb dX0_roomiest_47 rfl (lv_at hl 1 rfl) ?_
          refine lv_istore_n (lv' := [(1, .int x1), (0, .ref t0), (2, .int x2)]) hx hb dX0_roomiest_48 rfl hl (by decide) rfl (fun ls hl => ?_)
          refine lv_iinc (v := (x2 + (1 : Int32))) (lv' := [(2, .int (x2 + (1 : Int32))), (1, .int x1), (0, .ref t0)]) hx hb dX0_roomiest_49 hl (k := 2) rfl rfl (by decide) rfl (fun ls hl => ?_)
          refine lv_goto (tgt := 4) hx hb dX0_roomiest_52 (by decide) ?_
          exact ih x1 (x2 + (1 : Int32)) _ _ _ (lv_sub hl [2, 1, 0] rfl) hW hf
        · have hf := ifn c40 hf
          exact wD_roomiest_43 FX hr hlk (ih) x2 _ _ _ (lv_sub hl [0, 2] rfl) hW hf
set_option maxHeartbeats 4000000 in
set_option maxRecDepth 100000 in
theorem mD_roomiest {t0 : Nat} {ad : Nat → Nat} {B : Bk} {wr : va_W}  {σ : Dst} {q : Int32} (hf : fD_roomiest dA B σ = some q) : CtI l yX0_roomiest cX0_roomiest 3 (some .int) rD_roomiest D dA [.ref t0] (Dx dA t0 ad B wr σ) q (Dx dA t0 ad B wr σ) := by
  refine e_I (by decide) (Nat.le_of_ble_eq_true rfl) ?_
  intro p e s m below meth c ls A FX hr hlk hl hW
  have hx := FX.1; have hb := FX.2.1; have hown := FX.2.2.2.1; have hts := FX.2.2.2.2
  have hl : lv_has ls 3 [(0, .ref t0)] := hl
  rw [fD_roomiest] at hf
  refine lv_iconst (v := -1) hx hb dX0_roomiest_0 (by decide) ?_
  refine lv_istore_n (lv' := [(1, .int (-1 : Int32)), (0, .ref t0)]) hx hb dX0_roomiest_1 rfl hl (by decide) rfl (fun ls hl => ?_)
  refine lv_iconst (v := 0) hx hb dX0_roomiest_2 (by decide) ?_
  refine lv_istore_n (lv' := [(2, .int (0 : Int32)), (1, .int (-1 : Int32)), (0, .ref t0)]) hx hb dX0_roomiest_3 rfl hl (by decide) rfl (fun ls hl => ?_)
  exact wD_roomiest_4 FX hr hlk _ (-1 : Int32) (0 : Int32) _ _ _ (lv_sub hl [2, 1, 0] rfl) hW hf


/-! TrunkLitters.parentsOf(I)I: kind R -/
def fD_parentsOf_79 (dA : Nat → Nat) (B : Bk) (σ : Dst) (k4 : Int32 → Int32 → Int32 → Option Int32) (x1 : Int32) (x3 : Int32) (y0 : Int32) (y1 : Int32) : Option Int32 := k4 x1 (y0 ||| y1) (x3 + (1 : Int32))
def fD_parentsOf_49 (dA : Nat → Nat) (B : Bk) (σ : Dst) (k4 : Int32 → Int32 → Int32 → Option Int32) (x1 : Int32) (x3 : Int32) (y0 : Int32) (y1 : Int32) : Option Int32 := ald 8 (hA (tN σ) 6) x3 fun v1 => (if 0 ≤ v1 then ald 8 (hA (tN σ) 6) x3 fun v2 => fD_parentsOf_79 dA B σ k4 x1 x3 (y0 ||| y1) ((1 : Int32) <<< (v2 &&& 31)) else fD_parentsOf_79 dA B σ k4 x1 x3 (y0 ||| y1) (0 : Int32))
def fD_parentsOf_4 (dA : Nat → Nat) (B : Bk) (σ : Dst) : Nat → Int32 → Int32 → Int32 → Option Int32
  | 0, _, _, _ => none
  | n + 1, x1, x2, x3 => (if (8 : Int32) ≤ x3 then some x2 else (if ((x1 >>> (x3 &&& 31)) &&& (1 : Int32)) = 0 then fD_parentsOf_4 dA B σ n x1 x2 (x3 + (1 : Int32)) else ald 8 (hA (tN σ) 5) x3 fun v1 => (if 0 ≤ v1 then ald 8 (hA (tN σ) 5) x3 fun v2 => fD_parentsOf_49 dA B σ (fD_parentsOf_4 dA B σ n) x1 x3 x2 ((1 : Int32) <<< (v2 &&& 31)) else fD_parentsOf_49 dA B σ (fD_parentsOf_4 dA B σ n) x1 x3 x2 (0 : Int32))))
def fD_parentsOf (dA : Nat → Nat) (B : Bk) (x1 : Int32) (σ : Dst) : Option Int32 := fD_parentsOf_4 dA B σ FU x1 (0 : Int32) (0 : Int32)
abbrev rD_parentsOf : Room := { frames := 0, cells := 0, slots := 0, locals := 0 }
set_option maxHeartbeats 4000000 in
set_option maxRecDepth 100000 in
theorem wD_parentsOf_79 {t0 : Nat} {ad : Nat → Nat} {B : Bk} {wr : va_W} {q : Int32} {σ : Dst} (FX : CallFix p m c cX0_parentsOf 4 s args lw_all RX0) (hr : meth.sig.returnType = (some .int)) (hlk : meth.locks = false) {k4 : Int32 → Int32 → Int32 → Option Int32} (hk4 : ∀ (x1 : Int32) (x2 : Int32) (x3 : Int32) (H : Heap) (locs : List Loc) (ls : Array Slot), lv_has ls 4 [(0, .ref t0), (1, .int x1), (2, .int x2), (3, .int x3)] → Wd D dA A s (Dx dA t0 ad B wr σ) H locs → k4 x1 x2 x3 = some q → W p l e rD_parentsOf s m args below meth c H locs 0 0 (QI D dA A below args s 0 0 q (Dx dA t0 ad B wr σ)) (F0 m 4 ls [])) : ∀ (x1 : Int32) (x3 : Int32) (y0 : Int32) (y1 : Int32) (H : Heap) (locs : List Loc) (ls : Array Slot), lv_has ls 4 [(0, .ref t0), (1, .int x1), (3, .int x3)] → Wd D dA A s (Dx dA t0 ad B wr σ) H locs → fD_parentsOf_79 dA B σ k4 x1 x3 y0 y1 = some q → W p l e rD_parentsOf s m args below meth c H locs 0 0 (QI D dA A below args s 0 0 q (Dx dA t0 ad B wr σ)) (F0 m 79 ls [.int y1, .int y0]) := by
  have hx := FX.1; have hb := FX.2.1; have hown := FX.2.2.2.1; have hts := FX.2.2.2.2
  intro x1 x3 y0 y1 H locs ls hl hW hf
  rw [fD_parentsOf_79] at hf
  refine lv_ior hx hb dX0_parentsOf_79 ?_
  refine lv_istore_n (lv' := [(2, .int (y0 ||| y1)), (0, .ref t0), (1, .int x1), (3, .int x3)]) hx hb dX0_parentsOf_80 rfl hl (by decide) rfl (fun ls hl => ?_)
  refine lv_iinc (v := (x3 + (1 : Int32))) (lv' := [(3, .int (x3 + (1 : Int32))), (2, .int (y0 ||| y1)), (0, .ref t0), (1, .int x1)]) hx hb dX0_parentsOf_81 hl (k := 3) rfl rfl (by decide) rfl (fun ls hl => ?_)
  refine lv_goto (tgt := 4) hx hb dX0_parentsOf_84 (by decide) ?_
  exact hk4 x1 (y0 ||| y1) (x3 + (1 : Int32)) _ _ _ (lv_sub hl [2, 3, 1, 0] rfl) hW hf
set_option maxHeartbeats 4000000 in
set_option maxRecDepth 100000 in
theorem wD_parentsOf_49 {t0 : Nat} {ad : Nat → Nat} {B : Bk} {wr : va_W} {q : Int32} {σ : Dst} (FX : CallFix p m c cX0_parentsOf 4 s args lw_all RX0) (hr : meth.sig.returnType = (some .int)) (hlk : meth.locks = false) {k4 : Int32 → Int32 → Int32 → Option Int32} (hk4 : ∀ (x1 : Int32) (x2 : Int32) (x3 : Int32) (H : Heap) (locs : List Loc) (ls : Array Slot), lv_has ls 4 [(0, .ref t0), (1, .int x1), (2, .int x2), (3, .int x3)] → Wd D dA A s (Dx dA t0 ad B wr σ) H locs → k4 x1 x2 x3 = some q → W p l e rD_parentsOf s m args below meth c H locs 0 0 (QI D dA A below args s 0 0 q (Dx dA t0 ad B wr σ)) (F0 m 4 ls [])) : ∀ (x1 : Int32) (x3 : Int32) (y0 : Int32) (y1 : Int32) (H : Heap) (locs : List Loc) (ls : Array Slot), lv_has ls 4 [(0, .ref t0), (1, .int x1), (3, .int x3)] → Wd D dA A s (Dx dA t0 ad B wr σ) H locs → fD_parentsOf_49 dA B σ k4 x1 x3 y0 y1 = some q → W p l e rD_parentsOf s m args below meth c H locs 0 0 (QI D dA A below args s 0 0 q (Dx dA t0 ad B wr σ)) (F0 m 49 ls [.int y1, .int y0]) := by
  have hx := FX.1; have hb := FX.2.1; have hown := FX.2.2.2.1; have hts := FX.2.2.2.2
  intro x1 x3 y0 y1 H locs ls hl hW hf
  rw [fD_parentsOf_49] at hf
  refine lv_ior hx hb dX0_parentsOf_49 ?_
  refine lv_istore_n (lv' := [(2, .int (y0 ||| y1)), (0, .ref t0), (1, .int x1), (3, .int x3)]) hx hb dX0_parentsOf_50 rfl hl (by decide) rfl (fun ls hl => ?_)
  refine lv_iload_n hx hb dX0_parentsOf_51 rfl (lv_at hl 0 rfl) ?_
  refine lv_aload_n hx hb dX0_parentsOf_52 rfl (lv_at hl 1 rfl) ?_
  refine DgX0_0_5 FX hW dX0_parentsOf_53 ?_
  refine DgX0_18_6 FX hW dX0_parentsOf_56 ?_
  refine lv_iload_n hx hb dX0_parentsOf_59 rfl (lv_at hl 3 rfl) ?_
  refine g_iald FX hW 25 Dp25 hf dX0_parentsOf_60 (fun v1 hf => ?_)
  refine lv_if_ge (tgt := 68) hx hb dX0_parentsOf_61 (by decide) (fun c61 => ?_) (fun c61 => ?_)
  · have hf := ifp c61 hf
    refine lv_iconst (v := 1) hx hb dX0_parentsOf_68 (by decide) ?_
    refine lv_aload_n hx hb dX0_parentsOf_69 rfl (lv_at hl 1 rfl) ?_
    refine DgX0_0_5 FX hW dX0_parentsOf_70 ?_
    refine DgX0_18_6 FX hW dX0_parentsOf_73 ?_
    refine lv_iload_n hx hb dX0_parentsOf_76 rfl (lv_at hl 3 rfl) ?_
    refine g_iald FX hW 25 Dp25 hf dX0_parentsOf_77 (fun v2 hf => ?_)
    refine lv_ishl hx hb dX0_parentsOf_78 ?_
    exact wD_parentsOf_79 FX hr hlk hk4 x1 x3 (y0 ||| y1) ((1 : Int32) <<< (v2 &&& 31)) _ _ _ (lv_sub hl [1, 2, 3] rfl) hW hf
  · have hf := ifn c61 hf
    refine lv_iconst (v := 0) hx hb dX0_parentsOf_64 (by decide) ?_
    refine lv_goto (tgt := 79) hx hb dX0_parentsOf_65 (by decide) ?_
    exact wD_parentsOf_79 FX hr hlk hk4 x1 x3 (y0 ||| y1) (0 : Int32) _ _ _ (lv_sub hl [1, 2, 3] rfl) hW hf
set_option maxHeartbeats 4000000 in
set_option maxRecDepth 100000 in
theorem wD_parentsOf_4 {t0 : Nat} {ad : Nat → Nat} {B : Bk} {wr : va_W} {q : Int32} {σ : Dst} (FX : CallFix p m c cX0_parentsOf 4 s args lw_all RX0) (hr : meth.sig.returnType = (some .int)) (hlk : meth.locks = false) : ∀ n : Nat, ∀ (x1 : Int32) (x2 : Int32) (x3 : Int32) (H : Heap) (locs : List Loc) (ls : Array Slot), lv_has ls 4 [(0, .ref t0), (1, .int x1), (2, .int x2), (3, .int x3)] → Wd D dA A s (Dx dA t0 ad B wr σ) H locs → fD_parentsOf_4 dA B σ n x1 x2 x3 = some q → W p l e rD_parentsOf s m args below meth c H locs 0 0 (QI D dA A below args s 0 0 q (Dx dA t0 ad B wr σ)) (F0 m 4 ls []) := by
  have hx := FX.1; have hb := FX.2.1; have hown := FX.2.2.2.1; have hts := FX.2.2.2.2
  intro n
  induction n with
  | zero =>
    intro x1 x2 x3 H locs ls hl hW hf
    cases (show (none : Option Int32) = some q from hf)
  | succ n ih =>
    intro x1 x2 x3 H locs ls hl hW hf
    rw [fD_parentsOf_4] at hf
    refine lv_iload_n hx hb dX0_parentsOf_4 rfl (lv_at hl 3 rfl) ?_
    refine lv_bipush (v := 8) hx hb dX0_parentsOf_5 (by decide) ?_
    refine lv_icmp_ge (tgt := 87) hx hb dX0_parentsOf_7 (by decide) (fun c7 => ?_) (fun c7 => ?_)
    · have hf := ifp c7 hf
      refine lv_iload_n hx hb dX0_parentsOf_87 rfl (lv_at hl 2 rfl) ?_
      exact g_iret FX hr hlk hW (Option.some.inj hf) dX0_parentsOf_88
    · have hf := ifn c7 hf
      refine lv_iload_n hx hb dX0_parentsOf_10 rfl (lv_at hl 1 rfl) ?_
      refine lv_iload_n hx hb dX0_parentsOf_11 rfl (lv_at hl 3 rfl) ?_
      refine lv_ishr hx hb dX0_parentsOf_12 ?_
      refine lv_iconst (v := 1) hx hb dX0_parentsOf_13 (by decide) ?_
      refine lv_iand hx hb dX0_parentsOf_14 ?_
      refine lv_if_ne (tgt := 21) hx hb dX0_parentsOf_15 (by decide) (fun c15 => ?_) (fun c15 => ?_)
      · have hf := ifn c15 hf
        refine lv_iload_n hx hb dX0_parentsOf_21 rfl (lv_at hl 2 rfl) ?_
        refine lv_aload_n hx hb dX0_parentsOf_22 rfl (lv_at hl 0 rfl) ?_
        refine DgX0_0_5 FX hW dX0_parentsOf_23 ?_
        refine DgX0_18_5 FX hW dX0_parentsOf_26 ?_
        refine lv_iload_n hx hb dX0_parentsOf_29 rfl (lv_at hl 3 rfl) ?_
        refine g_iald FX hW 24 Dp24 hf dX0_parentsOf_30 (fun v1 hf => ?_)
        refine lv_if_ge (tgt := 38) hx hb dX0_parentsOf_31 (by decide) (fun c31 => ?_) (fun c31 => ?_)
        · have hf := ifp c31 hf
          refine lv_iconst (v := 1) hx hb dX0_parentsOf_38 (by decide) ?_
          refine lv_aload_n hx hb dX0_parentsOf_39 rfl (lv_at hl 0 rfl) ?_
          refine DgX0_0_5 FX hW dX0_parentsOf_40 ?_
          refine DgX0_18_5 FX hW dX0_parentsOf_43 ?_
          refine lv_iload_n hx hb dX0_parentsOf_46 rfl (lv_at hl 3 rfl) ?_
          refine g_iald FX hW 24 Dp24 hf dX0_parentsOf_47 (fun v2 hf => ?_)
          refine lv_ishl hx hb dX0_parentsOf_48 ?_
          exact wD_parentsOf_49 FX hr hlk (ih) x1 x3 x2 ((1 : Int32) <<< (v2 &&& 31)) _ _ _ (lv_sub hl [0, 1, 3] rfl) hW hf
        · have hf := ifn c31 hf
          refine lv_iconst (v := 0) hx hb dX0_parentsOf_34 (by decide) ?_
          refine lv_goto (tgt := 49) hx hb dX0_parentsOf_35 (by decide) ?_
          exact wD_parentsOf_49 FX hr hlk (ih) x1 x3 x2 (0 : Int32) _ _ _ (lv_sub hl [0, 1, 3] rfl) hW hf
      · have hf := ifp c15 hf
        refine lv_goto (tgt := 81) hx hb dX0_parentsOf_18 (by decide) ?_
        refine lv_iinc (v := (x3 + (1 : Int32))) (lv' := [(3, .int (x3 + (1 : Int32))), (0, .ref t0), (1, .int x1), (2, .int x2)]) hx hb dX0_parentsOf_81 hl (k := 3) rfl rfl (by decide) rfl (fun ls hl => ?_)
        refine lv_goto (tgt := 4) hx hb dX0_parentsOf_84 (by decide) ?_
        exact ih x1 x2 (x3 + (1 : Int32)) _ _ _ (lv_sub hl [1, 2, 3, 0] rfl) hW hf
set_option maxHeartbeats 4000000 in
set_option maxRecDepth 100000 in
theorem mD_parentsOf {t0 : Nat} {ad : Nat → Nat} {B : Bk} {wr : va_W}  {x1 : Int32} {σ : Dst} {q : Int32} (hf : fD_parentsOf dA B x1 σ = some q) : CtI l yX0_parentsOf cX0_parentsOf 4 (some .int) rD_parentsOf D dA [.ref t0, .int x1] (Dx dA t0 ad B wr σ) q (Dx dA t0 ad B wr σ) := by
  refine e_I (by decide) (Nat.le_of_ble_eq_true rfl) ?_
  intro p e s m below meth c ls A FX hr hlk hl hW
  have hx := FX.1; have hb := FX.2.1; have hown := FX.2.2.2.1; have hts := FX.2.2.2.2
  have hl : lv_has ls 4 [(0, .ref t0), (1, .int x1)] := hl
  rw [fD_parentsOf] at hf
  refine lv_iconst (v := 0) hx hb dX0_parentsOf_0 (by decide) ?_
  refine lv_istore_n (lv' := [(2, .int (0 : Int32)), (0, .ref t0), (1, .int x1)]) hx hb dX0_parentsOf_1 rfl hl (by decide) rfl (fun ls hl => ?_)
  refine lv_iconst (v := 0) hx hb dX0_parentsOf_2 (by decide) ?_
  refine lv_istore_n (lv' := [(3, .int (0 : Int32)), (2, .int (0 : Int32)), (0, .ref t0), (1, .int x1)]) hx hb dX0_parentsOf_3 rfl hl (by decide) rfl (fun ls hl => ?_)
  exact wD_parentsOf_4 FX hr hlk _ x1 (0 : Int32) (0 : Int32) _ _ _ (lv_sub hl [2, 3, 1, 0] rfl) hW hf

set_option maxHeartbeats 4000000 in
set_option maxRecDepth 100000 in
theorem kD_parentsOf {t0 : Nat} {ad : Nat → Nat} {B : Bk} {wr : va_W} {α : Type} {q : α} {k : Int32 → Option α} {x1 : Int32} {σ : Dst} (FX : CallFix p m c cc nL s args lw_all RX0) (hR : rD_parentsOf.frames + 1 ≤ R.frames ∧ 8 + (4 + 11) + rD_parentsOf.locals ≤ R.locals) (hcs : cells ≤ R.cells ∧ slots ≤ R.slots) (hl : ls.size = nL) (hrm : (rest.map fun v => v.category).sum ≤ 8) (hW : Wd D dA A s (Dx dA t0 ad B wr σ) H locs) (hf : (fD_parentsOf dA B x1 σ).bind k = some q) (hdg : decode cc pc = .ok (.invokevirtual 298, 3)) (kk : ∀ (r : Int32) (H1 : Heap) (locs1 : List Loc), Wd D dA A s (Dx dA t0 ad B wr σ) H1 locs1 → k r = some q → W p l e R s m args below meth c H1 locs1 cells slots Q (F0 m (pc + 3) ls (.int r :: rest))) : W p l e R s m args below meth c H locs cells slots Q (F0 m pc ls (.int x1 :: .ref t0 :: rest)) := by
  obtain ⟨r1, h1, hf⟩ := bnd hf
  have hW2 := hW
  refine w_Vi (C := RX0) (As := [.int x1]) (rest := rest) (n := 1) (wr := []) FX (mD_parentsOf h1) (cwV 1 FX.2.2.2.2 (lw_V q1427 q1429 qs46 q123 q1430) rfl rfl rfl (by decide +kernel) hR) (va_recv hW2.2.2.2.1 hW2.1 (ci := 0) (q0 := 0) rfl rfl) rfl hl rfl hrm ⟨Nat.le_trans (Nat.le_of_eq (Nat.add_zero cells)) hcs.1, Nat.le_trans (Nat.le_of_eq (Nat.add_zero slots)) hcs.2⟩ hdg hW2.nil ?_
  exact fun H1 locs1 hW1 => kk r1 H1 locs1 (hW1.nil') hf
/-! TrunkLitters.line(I)I: kind R -/
def fD_line_20 (dA : Nat → Nat) (B : Bk) (σ : Dst) : Nat → Int32 → Int32 → Option Int32
  | 0, _, _ => none
  | n + 1, x2, x3 => (if (8 : Int32) ≤ x3 then some x2 else (fD_parentsOf dA B x2 σ).bind fun r1 => fD_line_20 dA B σ n (x2 ||| r1) (x3 + (1 : Int32)))
def fD_line (dA : Nat → Nat) (B : Bk) (x1 : Int32) (σ : Dst) : Option Int32 := (fD_isTrunk dA B x1 σ).bind fun r1 => (if r1 = 0 then some (-1 : Int32) else (fD_parentsOf dA B ((1 : Int32) <<< (x1 &&& 31)) σ).bind fun r2 => fD_line_20 dA B σ FU r2 (0 : Int32))
abbrev rD_line : Room := { frames := 2, cells := 0, slots := 0, locals := 43 }
set_option maxHeartbeats 4000000 in
set_option maxRecDepth 100000 in
theorem wD_line_20 {t0 : Nat} {ad : Nat → Nat} {B : Bk} {wr : va_W} {q : Int32} {σ : Dst} (FX : CallFix p m c cX0_line 4 s args lw_all RX0) (hr : meth.sig.returnType = (some .int)) (hlk : meth.locks = false) : ∀ n : Nat, ∀ (x2 : Int32) (x3 : Int32) (H : Heap) (locs : List Loc) (ls : Array Slot), lv_has ls 4 [(0, .ref t0), (2, .int x2), (3, .int x3)] → Wd D dA A s (Dx dA t0 ad B wr σ) H locs → fD_line_20 dA B σ n x2 x3 = some q → W p l e rD_line s m args below meth c H locs 0 0 (QI D dA A below args s 0 0 q (Dx dA t0 ad B wr σ)) (F0 m 20 ls []) := by
  have hx := FX.1; have hb := FX.2.1; have hown := FX.2.2.2.1; have hts := FX.2.2.2.2
  intro n
  induction n with
  | zero =>
    intro x2 x3 H locs ls hl hW hf
    cases (show (none : Option Int32) = some q from hf)
  | succ n ih =>
    intro x2 x3 H locs ls hl hW hf
    rw [fD_line_20] at hf
    refine lv_iload_n hx hb dX0_line_20 rfl (lv_at hl 2 rfl) ?_
    refine lv_bipush (v := 8) hx hb dX0_line_21 (by decide) ?_
    refine lv_icmp_ge (tgt := 40) hx hb dX0_line_23 (by decide) (fun c23 => ?_) (fun c23 => ?_)
    · have hf := ifp c23 hf
      refine lv_iload_n hx hb dX0_line_40 rfl (lv_at hl 1 rfl) ?_
      exact g_iret FX hr hlk hW (Option.some.inj hf) dX0_line_41
    · have hf := ifn c23 hf
      refine lv_iload_n hx hb dX0_line_26 rfl (lv_at hl 1 rfl) ?_
      refine lv_aload_n hx hb dX0_line_27 rfl (lv_at hl 0 rfl) ?_
      refine lv_iload_n hx hb dX0_line_28 rfl (lv_at hl 1 rfl) ?_
      refine kD_parentsOf FX ⟨Nat.le_of_ble_eq_true rfl, Nat.le_of_ble_eq_true rfl⟩ ⟨Nat.zero_le _, Nat.zero_le _⟩ hl.1 (Nat.le_of_ble_eq_true rfl) hW hf dX0_line_29 (fun r1 H locs hW hf => ?_)
      refine lv_ior hx hb dX0_line_32 ?_
      refine lv_istore_n (lv' := [(2, .int (x2 ||| r1)), (0, .ref t0), (3, .int x3)]) hx hb dX0_line_33 rfl hl (by decide) rfl (fun ls hl => ?_)
      refine lv_iinc (v := (x3 + (1 : Int32))) (lv' := [(3, .int (x3 + (1 : Int32))), (2, .int (x2 ||| r1)), (0, .ref t0)]) hx hb dX0_line_34 hl (k := 2) rfl rfl (by decide) rfl (fun ls hl => ?_)
      refine lv_goto (tgt := 20) hx hb dX0_line_37 (by decide) ?_
      exact ih (x2 ||| r1) (x3 + (1 : Int32)) _ _ _ (lv_sub hl [2, 1, 0] rfl) hW hf
set_option maxHeartbeats 4000000 in
set_option maxRecDepth 100000 in
theorem mD_line {t0 : Nat} {ad : Nat → Nat} {B : Bk} {wr : va_W}  {x1 : Int32} {σ : Dst} {q : Int32} (hf : fD_line dA B x1 σ = some q) : CtI l yX0_line cX0_line 4 (some .int) rD_line D dA [.ref t0, .int x1] (Dx dA t0 ad B wr σ) q (Dx dA t0 ad B wr σ) := by
  refine e_I (by decide) (Nat.le_of_ble_eq_true rfl) ?_
  intro p e s m below meth c ls A FX hr hlk hl hW
  have hx := FX.1; have hb := FX.2.1; have hown := FX.2.2.2.1; have hts := FX.2.2.2.2
  have hl : lv_has ls 4 [(0, .ref t0), (1, .int x1)] := hl
  rw [fD_line] at hf
  refine lv_aload_n hx hb dX0_line_0 rfl (lv_at hl 0 rfl) ?_
  refine lv_iload_n hx hb dX0_line_1 rfl (lv_at hl 1 rfl) ?_
  refine kD_isTrunk FX ⟨Nat.le_of_ble_eq_true rfl, Nat.le_of_ble_eq_true rfl⟩ ⟨Nat.zero_le _, Nat.zero_le _⟩ hl.1 (Nat.le_of_ble_eq_true rfl) hW hf dX0_line_2 (fun r1 H locs hW hf => ?_)
  refine lv_if_ne (tgt := 10) hx hb dX0_line_5 (by decide) (fun c5 => ?_) (fun c5 => ?_)
  · have hf := ifn c5 hf
    refine lv_aload_n hx hb dX0_line_10 rfl (lv_at hl 0 rfl) ?_
    refine lv_iconst (v := 1) hx hb dX0_line_11 (by decide) ?_
    refine lv_iload_n hx hb dX0_line_12 rfl (lv_at hl 1 rfl) ?_
    refine lv_ishl hx hb dX0_line_13 ?_
    refine kD_parentsOf FX ⟨Nat.le_of_ble_eq_true rfl, Nat.le_of_ble_eq_true rfl⟩ ⟨Nat.zero_le _, Nat.zero_le _⟩ hl.1 (Nat.le_of_ble_eq_true rfl) hW hf dX0_line_14 (fun r2 H locs hW hf => ?_)
    refine lv_istore_n (lv' := [(2, .int r2), (0, .ref t0), (1, .int x1)]) hx hb dX0_line_17 rfl hl (by decide) rfl (fun ls hl => ?_)
    refine lv_iconst (v := 0) hx hb dX0_line_18 (by decide) ?_
    refine lv_istore_n (lv' := [(3, .int (0 : Int32)), (2, .int r2), (0, .ref t0), (1, .int x1)]) hx hb dX0_line_19 rfl hl (by decide) rfl (fun ls hl => ?_)
    exact wD_line_20 FX hr hlk _ r2 (0 : Int32) _ _ _ (lv_sub hl [2, 1, 0] rfl) hW hf
  · have hf := ifp c5 hf
    refine lv_iconst (v := -1) hx hb dX0_line_8 (by decide) ?_
    exact g_iret FX hr hlk hW (Option.some.inj hf) dX0_line_9


/-! TrunkLitters.litter(I)I: kind R -/
def fD_litter_64 (dA : Nat → Nat) (B : Bk) (σ : Dst) (k14 : Int32 → Int32 → Int32 → Option Int32) (x1 : Int32) (x3 : Int32) (y0 : Int32) : Option Int32 := k14 x1 (y0 ||| (0 : Int32)) (x3 + (1 : Int32))
def fD_litter_58 (dA : Nat → Nat) (B : Bk) (σ : Dst) (k14 : Int32 → Int32 → Int32 → Option Int32) (x1 : Int32) (x3 : Int32) (y0 : Int32) : Option Int32 := k14 x1 (y0 ||| ((1 : Int32) <<< (x3 &&& 31))) (x3 + (1 : Int32))
def fD_litter_14 (dA : Nat → Nat) (B : Bk) (σ : Dst) : Nat → Int32 → Int32 → Int32 → Option Int32
  | 0, _, _, _ => none
  | n + 1, x1, x2, x3 => (if (8 : Int32) ≤ x3 then some x2 else (fX3_has x3 (tN σ)).bind fun r1 => (if r1 = 0 then fD_litter_64 dA B σ (fD_litter_14 dA B σ n) x1 x3 x2 else ald 8 (hA (tN σ) 5) x3 fun v2 => (if v2 = x1 then fD_litter_58 dA B σ (fD_litter_14 dA B σ n) x1 x3 x2 else ald 8 (hA (tN σ) 6) x3 fun v3 => (if v3 = x1 then fD_litter_58 dA B σ (fD_litter_14 dA B σ n) x1 x3 x2 else fD_litter_64 dA B σ (fD_litter_14 dA B σ n) x1 x3 x2))))
def fD_litter (dA : Nat → Nat) (B : Bk) (x1 : Int32) (σ : Dst) : Option Int32 := (fD_isTrunk dA B x1 σ).bind fun r1 => (if r1 = 0 then some (-1 : Int32) else fD_litter_14 dA B σ FU x1 (0 : Int32) (0 : Int32))
abbrev rD_litter : Room := { frames := 2, cells := 0, slots := 0, locals := 43 }
set_option maxHeartbeats 4000000 in
set_option maxRecDepth 100000 in
theorem wD_litter_64 {t0 : Nat} {ad : Nat → Nat} {B : Bk} {wr : va_W} {q : Int32} {σ : Dst} (FX : CallFix p m c cX0_litter 4 s args lw_all RX0) (hr : meth.sig.returnType = (some .int)) (hlk : meth.locks = false) {k14 : Int32 → Int32 → Int32 → Option Int32} (hk14 : ∀ (x1 : Int32) (x2 : Int32) (x3 : Int32) (H : Heap) (locs : List Loc) (ls : Array Slot), lv_has ls 4 [(0, .ref t0), (1, .int x1), (2, .int x2), (3, .int x3)] → Wd D dA A s (Dx dA t0 ad B wr σ) H locs → k14 x1 x2 x3 = some q → W p l e rD_litter s m args below meth c H locs 0 0 (QI D dA A below args s 0 0 q (Dx dA t0 ad B wr σ)) (F0 m 14 ls [])) : ∀ (x1 : Int32) (x3 : Int32) (y0 : Int32) (H : Heap) (locs : List Loc) (ls : Array Slot), lv_has ls 4 [(0, .ref t0), (1, .int x1), (3, .int x3)] → Wd D dA A s (Dx dA t0 ad B wr σ) H locs → fD_litter_64 dA B σ k14 x1 x3 y0 = some q → W p l e rD_litter s m args below meth c H locs 0 0 (QI D dA A below args s 0 0 q (Dx dA t0 ad B wr σ)) (F0 m 64 ls [.int y0]) := by
  have hx := FX.1; have hb := FX.2.1; have hown := FX.2.2.2.1; have hts := FX.2.2.2.2
  intro x1 x3 y0 H locs ls hl hW hf
  rw [fD_litter_64] at hf
  refine lv_iconst (v := 0) hx hb dX0_litter_64 (by decide) ?_
  refine lv_ior hx hb dX0_litter_65 ?_
  refine lv_istore_n (lv' := [(2, .int (y0 ||| (0 : Int32))), (0, .ref t0), (1, .int x1), (3, .int x3)]) hx hb dX0_litter_66 rfl hl (by decide) rfl (fun ls hl => ?_)
  refine lv_iinc (v := (x3 + (1 : Int32))) (lv' := [(3, .int (x3 + (1 : Int32))), (2, .int (y0 ||| (0 : Int32))), (0, .ref t0), (1, .int x1)]) hx hb dX0_litter_67 hl (k := 3) rfl rfl (by decide) rfl (fun ls hl => ?_)
  refine lv_goto (tgt := 14) hx hb dX0_litter_70 (by decide) ?_
  exact hk14 x1 (y0 ||| (0 : Int32)) (x3 + (1 : Int32)) _ _ _ (lv_sub hl [2, 3, 1, 0] rfl) hW hf
set_option maxHeartbeats 4000000 in
set_option maxRecDepth 100000 in
theorem wD_litter_58 {t0 : Nat} {ad : Nat → Nat} {B : Bk} {wr : va_W} {q : Int32} {σ : Dst} (FX : CallFix p m c cX0_litter 4 s args lw_all RX0) (hr : meth.sig.returnType = (some .int)) (hlk : meth.locks = false) {k14 : Int32 → Int32 → Int32 → Option Int32} (hk14 : ∀ (x1 : Int32) (x2 : Int32) (x3 : Int32) (H : Heap) (locs : List Loc) (ls : Array Slot), lv_has ls 4 [(0, .ref t0), (1, .int x1), (2, .int x2), (3, .int x3)] → Wd D dA A s (Dx dA t0 ad B wr σ) H locs → k14 x1 x2 x3 = some q → W p l e rD_litter s m args below meth c H locs 0 0 (QI D dA A below args s 0 0 q (Dx dA t0 ad B wr σ)) (F0 m 14 ls [])) : ∀ (x1 : Int32) (x3 : Int32) (y0 : Int32) (H : Heap) (locs : List Loc) (ls : Array Slot), lv_has ls 4 [(0, .ref t0), (1, .int x1), (3, .int x3)] → Wd D dA A s (Dx dA t0 ad B wr σ) H locs → fD_litter_58 dA B σ k14 x1 x3 y0 = some q → W p l e rD_litter s m args below meth c H locs 0 0 (QI D dA A below args s 0 0 q (Dx dA t0 ad B wr σ)) (F0 m 58 ls [.int y0]) := by
  have hx := FX.1; have hb := FX.2.1; have hown := FX.2.2.2.1; have hts := FX.2.2.2.2
  intro x1 x3 y0 H locs ls hl hW hf
  rw [fD_litter_58] at hf
  refine lv_iconst (v := 1) hx hb dX0_litter_58 (by decide) ?_
  refine lv_iload_n hx hb dX0_litter_59 rfl (lv_at hl 2 rfl) ?_
  refine lv_ishl hx hb dX0_litter_60 ?_
  refine lv_goto (tgt := 65) hx hb dX0_litter_61 (by decide) ?_
  refine lv_ior hx hb dX0_litter_65 ?_
  refine lv_istore_n (lv' := [(2, .int (y0 ||| ((1 : Int32) <<< (x3 &&& 31)))), (0, .ref t0), (1, .int x1), (3, .int x3)]) hx hb dX0_litter_66 rfl hl (by decide) rfl (fun ls hl => ?_)
  refine lv_iinc (v := (x3 + (1 : Int32))) (lv' := [(3, .int (x3 + (1 : Int32))), (2, .int (y0 ||| ((1 : Int32) <<< (x3 &&& 31)))), (0, .ref t0), (1, .int x1)]) hx hb dX0_litter_67 hl (k := 3) rfl rfl (by decide) rfl (fun ls hl => ?_)
  refine lv_goto (tgt := 14) hx hb dX0_litter_70 (by decide) ?_
  exact hk14 x1 (y0 ||| ((1 : Int32) <<< (x3 &&& 31))) (x3 + (1 : Int32)) _ _ _ (lv_sub hl [2, 3, 1, 0] rfl) hW hf
set_option maxHeartbeats 4000000 in
set_option maxRecDepth 100000 in
theorem wD_litter_14 {t0 : Nat} {ad : Nat → Nat} {B : Bk} {wr : va_W} {q : Int32} {σ : Dst} (FX : CallFix p m c cX0_litter 4 s args lw_all RX0) (hr : meth.sig.returnType = (some .int)) (hlk : meth.locks = false) : ∀ n : Nat, ∀ (x1 : Int32) (x2 : Int32) (x3 : Int32) (H : Heap) (locs : List Loc) (ls : Array Slot), lv_has ls 4 [(0, .ref t0), (1, .int x1), (2, .int x2), (3, .int x3)] → Wd D dA A s (Dx dA t0 ad B wr σ) H locs → fD_litter_14 dA B σ n x1 x2 x3 = some q → W p l e rD_litter s m args below meth c H locs 0 0 (QI D dA A below args s 0 0 q (Dx dA t0 ad B wr σ)) (F0 m 14 ls []) := by
  have hx := FX.1; have hb := FX.2.1; have hown := FX.2.2.2.1; have hts := FX.2.2.2.2
  intro n
  induction n with
  | zero =>
    intro x1 x2 x3 H locs ls hl hW hf
    cases (show (none : Option Int32) = some q from hf)
  | succ n ih =>
    intro x1 x2 x3 H locs ls hl hW hf
    rw [fD_litter_14] at hf
    refine lv_iload_n hx hb dX0_litter_14 rfl (lv_at hl 3 rfl) ?_
    refine lv_bipush (v := 8) hx hb dX0_litter_15 (by decide) ?_
    refine lv_icmp_ge (tgt := 73) hx hb dX0_litter_17 (by decide) (fun c17 => ?_) (fun c17 => ?_)
    · have hf := ifp c17 hf
      refine lv_iload_n hx hb dX0_litter_73 rfl (lv_at hl 2 rfl) ?_
      exact g_iret FX hr hlk hW (Option.some.inj hf) dX0_litter_74
    · have hf := ifn c17 hf
      refine lv_iload_n hx hb dX0_litter_20 rfl (lv_at hl 2 rfl) ?_
      refine lv_aload_n hx hb dX0_litter_21 rfl (lv_at hl 0 rfl) ?_
      refine DgX0_0_5 FX hW dX0_litter_22 ?_
      refine lv_iload_n hx hb dX0_litter_25 rfl (lv_at hl 3 rfl) ?_
      refine kD_now_has FX ⟨Nat.le_of_ble_eq_true rfl, Nat.le_of_ble_eq_true rfl⟩ ⟨Nat.zero_le _, Nat.zero_le _⟩ hl.1 (Nat.le_of_ble_eq_true rfl) hW hf dX0_litter_26 (fun r1 H locs hW hf => ?_)
      refine lv_if_eq (tgt := 64) hx hb dX0_litter_29 (by decide) (fun c29 => ?_) (fun c29 => ?_)
      · have hf := ifp c29 hf
        exact wD_litter_64 FX hr hlk (ih) x1 x3 x2 _ _ _ (lv_sub hl [0, 1, 3] rfl) hW hf
      · have hf := ifn c29 hf
        refine lv_aload_n hx hb dX0_litter_32 rfl (lv_at hl 0 rfl) ?_
        refine DgX0_0_5 FX hW dX0_litter_33 ?_
        refine DgX0_18_5 FX hW dX0_litter_36 ?_
        refine lv_iload_n hx hb dX0_litter_39 rfl (lv_at hl 3 rfl) ?_
        refine g_iald FX hW 24 Dp24 hf dX0_litter_40 (fun v2 hf => ?_)
        refine lv_iload_n hx hb dX0_litter_41 rfl (lv_at hl 1 rfl) ?_
        refine lv_icmp_eq (tgt := 58) hx hb dX0_litter_42 (by decide) (fun c42 => ?_) (fun c42 => ?_)
        · have hf := ifp c42 hf
          exact wD_litter_58 FX hr hlk (ih) x1 x3 x2 _ _ _ (lv_sub hl [0, 1, 3] rfl) hW hf
        · have hf := ifn c42 hf
          refine lv_aload_n hx hb dX0_litter_45 rfl (lv_at hl 0 rfl) ?_
          refine DgX0_0_5 FX hW dX0_litter_46 ?_
          refine DgX0_18_6 FX hW dX0_litter_49 ?_
          refine lv_iload_n hx hb dX0_litter_52 rfl (lv_at hl 3 rfl) ?_
          refine g_iald FX hW 25 Dp25 hf dX0_litter_53 (fun v3 hf => ?_)
          refine lv_iload_n hx hb dX0_litter_54 rfl (lv_at hl 1 rfl) ?_
          refine lv_icmp_ne (tgt := 64) hx hb dX0_litter_55 (by decide) (fun c55 => ?_) (fun c55 => ?_)
          · have hf := ifn c55 hf
            exact wD_litter_64 FX hr hlk (ih) x1 x3 x2 _ _ _ (lv_sub hl [0, 1, 3] rfl) hW hf
          · have hf := ifp c55 hf
            exact wD_litter_58 FX hr hlk (ih) x1 x3 x2 _ _ _ (lv_sub hl [0, 1, 3] rfl) hW hf
set_option maxHeartbeats 4000000 in
set_option maxRecDepth 100000 in
theorem mD_litter {t0 : Nat} {ad : Nat → Nat} {B : Bk} {wr : va_W}  {x1 : Int32} {σ : Dst} {q : Int32} (hf : fD_litter dA B x1 σ = some q) : CtI l yX0_litter cX0_litter 4 (some .int) rD_litter D dA [.ref t0, .int x1] (Dx dA t0 ad B wr σ) q (Dx dA t0 ad B wr σ) := by
  refine e_I (by decide) (Nat.le_of_ble_eq_true rfl) ?_
  intro p e s m below meth c ls A FX hr hlk hl hW
  have hx := FX.1; have hb := FX.2.1; have hown := FX.2.2.2.1; have hts := FX.2.2.2.2
  have hl : lv_has ls 4 [(0, .ref t0), (1, .int x1)] := hl
  rw [fD_litter] at hf
  refine lv_aload_n hx hb dX0_litter_0 rfl (lv_at hl 0 rfl) ?_
  refine lv_iload_n hx hb dX0_litter_1 rfl (lv_at hl 1 rfl) ?_
  refine kD_isTrunk FX ⟨Nat.le_of_ble_eq_true rfl, Nat.le_of_ble_eq_true rfl⟩ ⟨Nat.zero_le _, Nat.zero_le _⟩ hl.1 (Nat.le_of_ble_eq_true rfl) hW hf dX0_litter_2 (fun r1 H locs hW hf => ?_)
  refine lv_if_ne (tgt := 10) hx hb dX0_litter_5 (by decide) (fun c5 => ?_) (fun c5 => ?_)
  · have hf := ifn c5 hf
    refine lv_iconst (v := 0) hx hb dX0_litter_10 (by decide) ?_
    refine lv_istore_n (lv' := [(2, .int (0 : Int32)), (0, .ref t0), (1, .int x1)]) hx hb dX0_litter_11 rfl hl (by decide) rfl (fun ls hl => ?_)
    refine lv_iconst (v := 0) hx hb dX0_litter_12 (by decide) ?_
    refine lv_istore_n (lv' := [(3, .int (0 : Int32)), (2, .int (0 : Int32)), (0, .ref t0), (1, .int x1)]) hx hb dX0_litter_13 rfl hl (by decide) rfl (fun ls hl => ?_)
    exact wD_litter_14 FX hr hlk _ x1 (0 : Int32) (0 : Int32) _ _ _ (lv_sub hl [2, 3, 1, 0] rfl) hW hf
  · have hf := ifp c5 hf
    refine lv_iconst (v := -1) hx hb dX0_litter_8 (by decide) ?_
    exact g_iret FX hr hlk hW (Option.some.inj hf) dX0_litter_9


/-! TrunkLitters.steps(II)I: kind R -/
def fD_steps_7 (dA : Nat → Nat) (B : Bk) (σ : Dst) : Nat → Int32 → Int32 → Int32 → Option Int32
  | 0, _, _, _ => none
  | n + 1, x2, x3, x4 => (if (8 : Int32) < x4 then some (-1 : Int32) else (if ((x3 >>> (x2 &&& 31)) &&& (1 : Int32)) = (1 : Int32) then some x4 else (fD_parentsOf dA B x3 σ).bind fun r1 => fD_steps_7 dA B σ n x2 r1 (x4 + (1 : Int32))))
def fD_steps (dA : Nat → Nat) (B : Bk) (x1 : Int32) (x2 : Int32) (σ : Dst) : Option Int32 := fD_steps_7 dA B σ FU x2 ((1 : Int32) <<< (x1 &&& 31)) (0 : Int32)
abbrev rD_steps : Room := { frames := 1, cells := 0, slots := 0, locals := 23 }
set_option maxHeartbeats 4000000 in
set_option maxRecDepth 100000 in
theorem wD_steps_7 {t0 : Nat} {ad : Nat → Nat} {B : Bk} {wr : va_W} {q : Int32} {σ : Dst} (FX : CallFix p m c cX0_steps 5 s args lw_all RX0) (hr : meth.sig.returnType = (some .int)) (hlk : meth.locks = false) : ∀ n : Nat, ∀ (x2 : Int32) (x3 : Int32) (x4 : Int32) (H : Heap) (locs : List Loc) (ls : Array Slot), lv_has ls 5 [(0, .ref t0), (2, .int x2), (3, .int x3), (4, .int x4)] → Wd D dA A s (Dx dA t0 ad B wr σ) H locs → fD_steps_7 dA B σ n x2 x3 x4 = some q → W p l e rD_steps s m args below meth c H locs 0 0 (QI D dA A below args s 0 0 q (Dx dA t0 ad B wr σ)) (F0 m 7 ls []) := by
  have hx := FX.1; have hb := FX.2.1; have hown := FX.2.2.2.1; have hts := FX.2.2.2.2
  intro n
  induction n with
  | zero =>
    intro x2 x3 x4 H locs ls hl hW hf
    cases (show (none : Option Int32) = some q from hf)
  | succ n ih =>
    intro x2 x3 x4 H locs ls hl hW hf
    rw [fD_steps_7] at hf
    refine lv_iload hx hb dX0_steps_7 (lv_at hl 3 rfl) ?_
    refine lv_bipush (v := 8) hx hb dX0_steps_9 (by decide) ?_
    refine lv_icmp_gt (tgt := 38) hx hb dX0_steps_11 (by decide) (fun c11 => ?_) (fun c11 => ?_)
    · have hf := ifp c11 hf
      refine lv_iconst (v := -1) hx hb dX0_steps_38 (by decide) ?_
      exact g_iret FX hr hlk hW (Option.some.inj hf) dX0_steps_39
    · have hf := ifn c11 hf
      refine lv_iload_n hx hb dX0_steps_14 rfl (lv_at hl 2 rfl) ?_
      refine lv_iload_n hx hb dX0_steps_15 rfl (lv_at hl 1 rfl) ?_
      refine lv_ishr hx hb dX0_steps_16 ?_
      refine lv_iconst (v := 1) hx hb dX0_steps_17 (by decide) ?_
      refine lv_iand hx hb dX0_steps_18 ?_
      refine lv_iconst (v := 1) hx hb dX0_steps_19 (by decide) ?_
      refine lv_icmp_ne (tgt := 26) hx hb dX0_steps_20 (by decide) (fun c20 => ?_) (fun c20 => ?_)
      · have hf := ifn c20 hf
        refine lv_aload_n hx hb dX0_steps_26 rfl (lv_at hl 0 rfl) ?_
        refine lv_iload_n hx hb dX0_steps_27 rfl (lv_at hl 2 rfl) ?_
        refine kD_parentsOf FX ⟨Nat.le_of_ble_eq_true rfl, Nat.le_of_ble_eq_true rfl⟩ ⟨Nat.zero_le _, Nat.zero_le _⟩ hl.1 (Nat.le_of_ble_eq_true rfl) hW hf dX0_steps_28 (fun r1 H locs hW hf => ?_)
        refine lv_istore_n (lv' := [(3, .int r1), (0, .ref t0), (2, .int x2), (4, .int x4)]) hx hb dX0_steps_31 rfl hl (by decide) rfl (fun ls hl => ?_)
        refine lv_iinc (v := (x4 + (1 : Int32))) (lv' := [(4, .int (x4 + (1 : Int32))), (3, .int r1), (0, .ref t0), (2, .int x2)]) hx hb dX0_steps_32 hl (k := 3) rfl rfl (by decide) rfl (fun ls hl => ?_)
        refine lv_goto (tgt := 7) hx hb dX0_steps_35 (by decide) ?_
        exact ih x2 r1 (x4 + (1 : Int32)) _ _ _ (lv_sub hl [2, 3, 1, 0] rfl) hW hf
      · have hf := ifp c20 hf
        refine lv_iload hx hb dX0_steps_23 (lv_at hl 3 rfl) ?_
        exact g_iret FX hr hlk hW (Option.some.inj hf) dX0_steps_25
set_option maxHeartbeats 4000000 in
set_option maxRecDepth 100000 in
theorem mD_steps {t0 : Nat} {ad : Nat → Nat} {B : Bk} {wr : va_W}  {x1 : Int32} {x2 : Int32} {σ : Dst} {q : Int32} (hf : fD_steps dA B x1 x2 σ = some q) : CtI l yX0_steps cX0_steps 5 (some .int) rD_steps D dA [.ref t0, .int x1, .int x2] (Dx dA t0 ad B wr σ) q (Dx dA t0 ad B wr σ) := by
  refine e_I (by decide) (Nat.le_of_ble_eq_true rfl) ?_
  intro p e s m below meth c ls A FX hr hlk hl hW
  have hx := FX.1; have hb := FX.2.1; have hown := FX.2.2.2.1; have hts := FX.2.2.2.2
  have hl : lv_has ls 5 [(0, .ref t0), (1, .int x1), (2, .int x2)] := hl
  rw [fD_steps] at hf
  refine lv_iconst (v := 1) hx hb dX0_steps_0 (by decide) ?_
  refine lv_iload_n hx hb dX0_steps_1 rfl (lv_at hl 1 rfl) ?_
  refine lv_ishl hx hb dX0_steps_2 ?_
  refine lv_istore_n (lv' := [(3, .int ((1 : Int32) <<< (x1 &&& 31))), (0, .ref t0), (1, .int x1), (2, .int x2)]) hx hb dX0_steps_3 rfl hl (by decide) rfl (fun ls hl => ?_)
  refine lv_iconst (v := 0) hx hb dX0_steps_4 (by decide) ?_
  refine lv_istore (lv' := [(4, .int (0 : Int32)), (3, .int ((1 : Int32) <<< (x1 &&& 31))), (0, .ref t0), (1, .int x1), (2, .int x2)]) hx hb dX0_steps_5 hl (by decide) rfl (fun ls hl => ?_)
  exact wD_steps_7 FX hr hlk _ x2 ((1 : Int32) <<< (x1 &&& 31)) (0 : Int32) _ _ _ (lv_sub hl [2, 4, 1, 0] rfl) hW hf
end D02
