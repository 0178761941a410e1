section M05
variable {p : Program} {l : Launch} {e : Env} {R : Room} {s : State} {m : MethodId} {args : Array Value} {below : List Frame} {meth : Method} {c : Code} {H : Heap} {locs : List Loc} {cells slots : Nat} {Q : State → Prop}
variable {cc : ByteArray} {pc nL : Nat} {ls : Array Slot} {rest : List Value} {D : va_G} {dA : Nat → ClassId} {A : Nat → Prop} {h0 : Nat} {ad : Nat → Nat}
/-! TrunkLittersModel.isCompared()Z: kind R -/
def fX4_isCompared_7 (σ : Mst) : Nat → Int32 → Option Int32
  | 0, _ => none
  | n + 1, x1 => ald 90 (gA σ 29) x1 fun v1 => (if v1 = (5 : Int32) then fX4_isCompared_7 σ n (x1 + (-1 : Int32)) else ald 90 (gA σ 29) x1 fun v2 => (if v2 = (6 : Int32) then fX4_isCompared_7 σ n (x1 + (-1 : Int32)) else ald 90 (gA σ 29) x1 fun v3 => (if v3 = (4 : Int32) then some (1 : Int32) else some (0 : Int32))))
def fX4_isCompared (σ : Mst) : Option Int32 := fX4_isCompared_7 σ FU ((gF σ 36) - (1 : Int32))
abbrev rX4_isCompared : Room := { frames := 0, cells := 0, slots := 0, locals := 0 }
set_option maxHeartbeats 4000000 in
set_option maxRecDepth 100000 in
theorem wX4_isCompared_7 {q : Int32} {σ : Mst} (FX : CallFix p m c cX4_isCompared 2 s args lw_all RX4) (hr : meth.sig.returnType = (some .boolean)) (hlk : meth.locks = false) : ∀ n : Nat, ∀ (x1 : Int32) (H : Heap) (locs : List Loc) (ls : Array Slot), lv_has ls 2 [(0, .ref h0), (1, .int x1)] → Wd D dA A s (Mc dA h0 ad σ) H locs → fX4_isCompared_7 σ n x1 = some q → W p l e rX4_isCompared s m args below meth c H locs 0 0 (QI D dA A below args s 0 0 q (Mc dA h0 ad σ)) (F0 m 7 ls []) := by
  have hx := FX.1; have hb := FX.2.1; have hown := FX.2.2.2.1; have hts := FX.2.2.2.2
  intro n
  induction n with
  | zero =>
    intro x1 H locs ls hl hW hf
    cases (show (none : Option Int32) = some q from hf)
  | succ n ih =>
    intro x1 H locs ls hl hW hf
    rw [fX4_isCompared_7] at hf
    refine lv_aload_n hx hb dX4_isCompared_7 rfl (lv_at hl 0 rfl) ?_
    refine Mg29 FX hW dX4_isCompared_8 ?_
    refine lv_iload_n hx hb dX4_isCompared_11 rfl (lv_at hl 1 rfl) ?_
    refine g_iald FX hW 21 Mp29 hf dX4_isCompared_12 (fun v1 hf => ?_)
    refine lv_iconst (v := 5) hx hb dX4_isCompared_13 (by decide) ?_
    refine lv_icmp_eq (tgt := 28) hx hb dX4_isCompared_14 (by decide) (fun c14 => ?_) (fun c14 => ?_)
    · have hf := ifp c14 hf
      refine lv_iinc (v := (x1 + (-1 : Int32))) (lv' := [(1, .int (x1 + (-1 : Int32))), (0, .ref h0)]) hx hb dX4_isCompared_28 hl (k := 1) rfl rfl (by decide) rfl (fun ls hl => ?_)
      refine lv_goto (tgt := 7) hx hb dX4_isCompared_31 (by decide) ?_
      exact ih (x1 + (-1 : Int32)) _ _ _ (lv_sub hl [1, 0] rfl) hW hf
    · have hf := ifn c14 hf
      refine lv_aload_n hx hb dX4_isCompared_17 rfl (lv_at hl 0 rfl) ?_
      refine Mg29 FX hW dX4_isCompared_18 ?_
      refine lv_iload_n hx hb dX4_isCompared_21 rfl (lv_at hl 1 rfl) ?_
      refine g_iald FX hW 21 Mp29 hf dX4_isCompared_22 (fun v2 hf => ?_)
      refine lv_bipush (v := 6) hx hb dX4_isCompared_23 (by decide) ?_
      refine lv_icmp_ne (tgt := 34) hx hb dX4_isCompared_25 (by decide) (fun c25 => ?_) (fun c25 => ?_)
      · have hf := ifn c25 hf
        refine lv_aload_n hx hb dX4_isCompared_34 rfl (lv_at hl 0 rfl) ?_
        refine Mg29 FX hW dX4_isCompared_35 ?_
        refine lv_iload_n hx hb dX4_isCompared_38 rfl (lv_at hl 1 rfl) ?_
        refine g_iald FX hW 21 Mp29 hf dX4_isCompared_39 (fun v3 hf => ?_)
        refine lv_iconst (v := 4) hx hb dX4_isCompared_40 (by decide) ?_
        refine lv_icmp_ne (tgt := 48) hx hb dX4_isCompared_41 (by decide) (fun c41 => ?_) (fun c41 => ?_)
        · have hf := ifn c41 hf
          refine lv_iconst (v := 0) hx hb dX4_isCompared_48 (by decide) ?_
          exact g_zret FX hr hlk hW rfl (Option.some.inj hf) dX4_isCompared_49
        · have hf := ifp c41 hf
          refine lv_iconst (v := 1) hx hb dX4_isCompared_44 (by decide) ?_
          refine lv_goto (tgt := 49) hx hb dX4_isCompared_45 (by decide) ?_
          exact g_zret FX hr hlk hW rfl (Option.some.inj hf) dX4_isCompared_49
      · have hf := ifp c25 hf
        refine lv_iinc (v := (x1 + (-1 : Int32))) (lv' := [(1, .int (x1 + (-1 : Int32))), (0, .ref h0)]) hx hb dX4_isCompared_28 hl (k := 1) rfl rfl (by decide) rfl (fun ls hl => ?_)
        refine lv_goto (tgt := 7) hx hb dX4_isCompared_31 (by decide) ?_
        exact ih (x1 + (-1 : Int32)) _ _ _ (lv_sub hl [1, 0] rfl) hW hf
set_option maxHeartbeats 4000000 in
set_option maxRecDepth 100000 in
theorem mX4_isCompared  {σ : Mst} {q : Int32} (hf : fX4_isCompared σ = some q) : CtI l yX4_isCompared cX4_isCompared 2 (some .boolean) rX4_isCompared D dA [.ref h0] (Mc dA h0 ad σ) q (Mc dA h0 ad σ) := by
  refine e_I (by decide) (Nat.le_of_ble_eq_true rfl) ?_
  intro p e s m below meth c ls A FX hr hlk hl hW
  have hx := FX.1; have hb := FX.2.1; have hown := FX.2.2.2.1; have hts := FX.2.2.2.2
  have hl : lv_has ls 2 [(0, .ref h0)] := hl
  rw [fX4_isCompared] at hf
  refine lv_aload_n hx hb dX4_isCompared_0 rfl (lv_at hl 0 rfl) ?_
  refine Mg36 FX hW dX4_isCompared_1 ?_
  refine lv_iconst (v := 1) hx hb dX4_isCompared_4 (by decide) ?_
  refine lv_isub hx hb dX4_isCompared_5 ?_
  refine lv_istore_n (lv' := [(1, .int ((gF σ 36) - (1 : Int32))), (0, .ref h0)]) hx hb dX4_isCompared_6 rfl hl (by decide) rfl (fun ls hl => ?_)
  exact wX4_isCompared_7 FX hr hlk _ ((gF σ 36) - (1 : Int32)) _ _ _ (lv_sub hl [1, 0] rfl) hW hf
set_option maxHeartbeats 4000000 in
set_option maxRecDepth 100000 in
theorem kX4_isCompared {α : Type} {q : α} {k : Int32 → Option α} {σ : Mst} (FX : CallFix p m c cc nL s args lw_all RX4) (hR : rX4_isCompared.frames + 1 ≤ R.frames ∧ 8 + (2 + 11) + rX4_isCompared.locals ≤ R.locals) (hcs : cells ≤ R.cells ∧ slots ≤ R.slots) (hl : ls.size = nL) (hrm : (rest.map fun v => v.category).sum ≤ 8) (hW : Wd D dA A s (Mc dA h0 ad σ) H locs) (hf : (fX4_isCompared σ).bind k = some q) (hdg : decode cc pc = .ok (.invokevirtual 316, 3)) (kk : ∀ (r : Int32) (H1 : Heap) (locs1 : List Loc), Wd D dA A s (Mc dA h0 ad σ) H1 locs1 → k r = some q → W p l e R s m args below meth c H1 locs1 cells slots Q (F0 m (pc + 3) ls (.int r :: rest))) : W p l e R s m args below meth c H locs cells slots Q (F0 m pc ls (.ref h0 :: rest)) := by
  obtain ⟨r1, h1, hf⟩ := bnd hf
  refine w_Vi (C := RX4) (As := []) (rest := rest) (n := 0) (wr := []) FX (mX4_isCompared h1) (cwV 0 FX.2.2.2.2 (lw_V q1880 q1882 qs80 q132 q1883) rfl rfl rfl (by decide +kernel) hR) (va_recv hW.2.2.2.1 hW.1 (ci := 4) (q0 := 0) rfl rfl) rfl hl rfl hrm ⟨Nat.le_trans (Nat.le_of_eq (Nat.add_zero cells)) hcs.1, Nat.le_trans (Nat.le_of_eq (Nat.add_zero slots)) hcs.2⟩ hdg hW.nil ?_
  exact fun H1 locs1 hW1 => kk r1 H1 locs1 hW1.nil' hf
/-! TrunkLittersModel.behindUnit()Z: kind W -/
def fX4_behindUnit_138 (y1 : Int32) (y2 : Int32) (σ : Mst) : Option (Int32 × Mst) := (fX4_pushE y1 y2 σ).bind fun s1 => (fX4_goOn s1).bind fun s2 => some ((1 : Int32), s2)
def fX4_behindUnit_104 (x1 : Int32) (σ : Mst) : Option (Int32 × Mst) := (if x1 ≤ 0 then stp (sF σ 36 ((gF σ 36) - (1 : Int32))) fun s1 => ald 90 (gA s1 29) (gF s1 36) fun v2 => (if v2 = (7 : Int32) then stp (sF s1 35 ((gF s1 35) - (1 : Int32))) fun s3 => (fX4_isSignHere (41 : Int32) s3).bind fun r4 => (fX4_must r4 s3).bind fun s5 => some ((0 : Int32), s5) else some ((0 : Int32), s1)) else (if x1 = (2 : Int32) then fX4_behindUnit_138 x1 (38 : Int32) σ else (if x1 = (1 : Int32) then fX4_behindUnit_138 x1 (124 : Int32) σ else (fX4_sign (gF σ 6) σ).bind fun r6 => fX4_behindUnit_138 x1 r6 σ)))
def fX4_behindUnit_87 (k23 : Int32 → Mst → Option (Int32 × Mst)) (x1 : Int32) (σ : Mst) : Option (Int32 × Mst) := ald 90 (gA σ 30) (gF σ 36) fun v1 => (fX4_emit v1 (0 : Int32) σ).bind fun s2 => k23 x1 s2
def fX4_behindUnit_23 : Nat → Int32 → Mst → Option (Int32 × Mst)
  | 0, _, _ => none
  | n + 1, x1, σ => ald 90 (gA σ 29) ((gF σ 36) - (1 : Int32)) fun v1 => (if (6 : Int32) < v1 then fX4_behindUnit_104 x1 σ else ald 90 (gA σ 29) ((gF σ 36) - (1 : Int32)) fun v2 => (if v2 < x1 then fX4_behindUnit_104 x1 σ else stp (sF σ 36 ((gF σ 36) - (1 : Int32))) fun s3 => ald 90 (gA s3 29) (gF s3 36) fun v4 => (if v4 = (3 : Int32) then stp (sF s3 35 ((gF s3 35) - (1 : Int32))) fun s5 => fX4_behindUnit_87 (fX4_behindUnit_23 n) x1 s5 else fX4_behindUnit_87 (fX4_behindUnit_23 n) x1 s3)))
def fX4_behindUnit (σ : Mst) : Option (Int32 × Mst) := (fX4_rankHere σ).bind fun r1 => (if r1 = (4 : Int32) then (fX4_isCompared σ).bind fun r2 => (if r2 = 0 then fX4_behindUnit_23 FU r1 σ else (fX4_misplaced σ).bind fun s3 => some ((1 : Int32), s3)) else fX4_behindUnit_23 FU r1 σ)
abbrev rX4_behindUnit : Room := { frames := 3, cells := 0, slots := 0, locals := 65 }
set_option maxHeartbeats 4000000 in
set_option maxRecDepth 100000 in
theorem wX4_behindUnit_138 {q : (Int32 × Mst)} (FX : CallFix p m c cX4_behindUnit 2 s args lw_all RX4) (hr : meth.sig.returnType = (some .boolean)) (hlk : meth.locks = false) : ∀ (y1 : Int32) (y2 : Int32) (σ : Mst) (H : Heap) (locs : List Loc) (ls : Array Slot), lv_has ls 2 [(0, .ref h0)] → Wd D dA A s (Mc dA h0 ad σ) H locs → fX4_behindUnit_138 y1 y2 σ = some q → W p l e rX4_behindUnit s m args below meth c H locs 0 0 (QI D dA A below args s 0 0 q.1 (Mc dA h0 ad q.2)) (F0 m 138 ls [.int y2, .int y1, .ref h0]) := by
  have hx := FX.1; have hb := FX.2.1; have hown := FX.2.2.2.1; have hts := FX.2.2.2.2
  intro y1 y2 σ H locs ls hl hW hf
  rw [fX4_behindUnit_138] at hf
  refine kX4_pushE FX ⟨Nat.le_of_ble_eq_true rfl, Nat.le_of_ble_eq_true rfl⟩ ⟨Nat.zero_le _, Nat.zero_le _⟩ hl.1 (Nat.le_of_ble_eq_true rfl) hW hf dX4_behindUnit_138 (fun s1 H locs hW hf => ?_)
  refine lv_aload_n hx hb dX4_behindUnit_141 rfl (lv_at hl 0 rfl) ?_
  refine kX4_goOn FX ⟨Nat.le_of_ble_eq_true rfl, Nat.le_of_ble_eq_true rfl⟩ ⟨Nat.zero_le _, Nat.zero_le _⟩ hl.1 (Nat.le_of_ble_eq_true rfl) hW hf dX4_behindUnit_142 (fun s2 H locs hW hf => ?_)
  refine lv_iconst (v := 1) hx hb dX4_behindUnit_145 (by decide) ?_
  obtain rfl := Option.some.inj hf
  exact g_zret FX hr hlk hW rfl rfl dX4_behindUnit_146
set_option maxHeartbeats 4000000 in
set_option maxRecDepth 100000 in
theorem wX4_behindUnit_104 {q : (Int32 × Mst)} (FX : CallFix p m c cX4_behindUnit 2 s args lw_all RX4) (hr : meth.sig.returnType = (some .boolean)) (hlk : meth.locks = false) : ∀ (x1 : Int32) (σ : Mst) (H : Heap) (locs : List Loc) (ls : Array Slot), lv_has ls 2 [(0, .ref h0), (1, .int x1)] → Wd D dA A s (Mc dA h0 ad σ) H locs → fX4_behindUnit_104 x1 σ = some q → W p l e rX4_behindUnit s m args below meth c H locs 0 0 (QI D dA A below args s 0 0 q.1 (Mc dA h0 ad q.2)) (F0 m 104 ls []) := by
  have hx := FX.1; have hb := FX.2.1; have hown := FX.2.2.2.1; have hts := FX.2.2.2.2
  intro x1 σ H locs ls hl hW hf
  rw [fX4_behindUnit_104] at hf
  refine lv_iload_n hx hb dX4_behindUnit_104 rfl (lv_at hl 1 rfl) ?_
  refine lv_if_le (tgt := 147) hx hb dX4_behindUnit_105 (by decide) (fun c105 => ?_) (fun c105 => ?_)
  · have hf := ifp c105 hf
    refine lv_aload_n hx hb dX4_behindUnit_147 rfl (lv_at hl 0 rfl) ?_
    refine lv_dup hx hb dX4_behindUnit_148 rfl ?_
    refine Mg36 FX hW dX4_behindUnit_149 ?_
    refine lv_iconst (v := 1) hx hb dX4_behindUnit_152 (by decide) ?_
    refine lv_isub hx hb dX4_behindUnit_153 ?_
    refine Ms36 FX hW hf dX4_behindUnit_154 (fun s1 H locs hW hf => ?_)
    refine lv_aload_n hx hb dX4_behindUnit_157 rfl (lv_at hl 0 rfl) ?_
    refine Mg29 FX hW dX4_behindUnit_158 ?_
    refine lv_aload_n hx hb dX4_behindUnit_161 rfl (lv_at hl 0 rfl) ?_
    refine Mg36 FX hW dX4_behindUnit_162 ?_
    refine g_iald FX hW 21 Mp29 hf dX4_behindUnit_165 (fun v2 hf => ?_)
    refine lv_bipush (v := 7) hx hb dX4_behindUnit_166 (by decide) ?_
    refine lv_icmp_ne (tgt := 191) hx hb dX4_behindUnit_168 (by decide) (fun c168 => ?_) (fun c168 => ?_)
    · have hf := ifn c168 hf
      refine lv_iconst (v := 0) hx hb dX4_behindUnit_191 (by decide) ?_
      obtain rfl := Option.some.inj hf
      exact g_zret FX hr hlk hW rfl rfl dX4_behindUnit_192
    · have hf := ifp c168 hf
      refine lv_aload_n hx hb dX4_behindUnit_171 rfl (lv_at hl 0 rfl) ?_
      refine lv_dup hx hb dX4_behindUnit_172 rfl ?_
      refine Mg35 FX hW dX4_behindUnit_173 ?_
      refine lv_iconst (v := 1) hx hb dX4_behindUnit_176 (by decide) ?_
      refine lv_isub hx hb dX4_behindUnit_177 ?_
      refine Ms35 FX hW hf dX4_behindUnit_178 (fun s3 H locs hW hf => ?_)
      refine lv_aload_n hx hb dX4_behindUnit_181 rfl (lv_at hl 0 rfl) ?_
      refine lv_aload_n hx hb dX4_behindUnit_182 rfl (lv_at hl 0 rfl) ?_
      refine lv_bipush (v := 41) hx hb dX4_behindUnit_183 (by decide) ?_
      refine kX4_isSignHere FX ⟨Nat.le_of_ble_eq_true rfl, Nat.le_of_ble_eq_true rfl⟩ ⟨Nat.zero_le _, Nat.zero_le _⟩ hl.1 (Nat.le_of_ble_eq_true rfl) hW hf dX4_behindUnit_185 (fun r4 H locs hW hf => ?_)
      refine kX4_must FX ⟨Nat.le_of_ble_eq_true rfl, Nat.le_of_ble_eq_true rfl⟩ ⟨Nat.zero_le _, Nat.zero_le _⟩ hl.1 (Nat.le_of_ble_eq_true rfl) hW hf dX4_behindUnit_188 (fun s5 H locs hW hf => ?_)
      refine lv_iconst (v := 0) hx hb dX4_behindUnit_191 (by decide) ?_
      obtain rfl := Option.some.inj hf
      exact g_zret FX hr hlk hW rfl rfl dX4_behindUnit_192
  · have hf := ifn c105 hf
    refine lv_aload_n hx hb dX4_behindUnit_108 rfl (lv_at hl 0 rfl) ?_
    refine lv_iload_n hx hb dX4_behindUnit_109 rfl (lv_at hl 1 rfl) ?_
    refine lv_iload_n hx hb dX4_behindUnit_110 rfl (lv_at hl 1 rfl) ?_
    refine lv_iconst (v := 2) hx hb dX4_behindUnit_111 (by decide) ?_
    refine lv_icmp_ne (tgt := 120) hx hb dX4_behindUnit_112 (by decide) (fun c112 => ?_) (fun c112 => ?_)
    · have hf := ifn c112 hf
      refine lv_iload_n hx hb dX4_behindUnit_120 rfl (lv_at hl 1 rfl) ?_
      refine lv_iconst (v := 1) hx hb dX4_behindUnit_121 (by decide) ?_
      refine lv_icmp_ne (tgt := 130) hx hb dX4_behindUnit_122 (by decide) (fun c122 => ?_) (fun c122 => ?_)
      · have hf := ifn c122 hf
        refine lv_aload_n hx hb dX4_behindUnit_130 rfl (lv_at hl 0 rfl) ?_
        refine lv_aload_n hx hb dX4_behindUnit_131 rfl (lv_at hl 0 rfl) ?_
        refine Mg6 FX hW dX4_behindUnit_132 ?_
        refine kX4_sign FX ⟨Nat.le_of_ble_eq_true rfl, Nat.le_of_ble_eq_true rfl⟩ ⟨Nat.zero_le _, Nat.zero_le _⟩ hl.1 (Nat.le_of_ble_eq_true rfl) hW hf dX4_behindUnit_135 (fun r6 H locs hW hf => ?_)
        exact wX4_behindUnit_138 FX hr hlk x1 r6 σ _ _ _ (lv_sub hl [0] rfl) hW hf
      · have hf := ifp c122 hf
        refine lv_bipush (v := 124) hx hb dX4_behindUnit_125 (by decide) ?_
        refine lv_goto (tgt := 138) hx hb dX4_behindUnit_127 (by decide) ?_
        exact wX4_behindUnit_138 FX hr hlk x1 (124 : Int32) σ _ _ _ (lv_sub hl [0] rfl) hW hf
    · have hf := ifp c112 hf
      refine lv_bipush (v := 38) hx hb dX4_behindUnit_115 (by decide) ?_
      refine lv_goto (tgt := 138) hx hb dX4_behindUnit_117 (by decide) ?_
      exact wX4_behindUnit_138 FX hr hlk x1 (38 : Int32) σ _ _ _ (lv_sub hl [0] rfl) hW hf
set_option maxHeartbeats 4000000 in
set_option maxRecDepth 100000 in
theorem wX4_behindUnit_87 {q : (Int32 × Mst)} (FX : CallFix p m c cX4_behindUnit 2 s args lw_all RX4) (hr : meth.sig.returnType = (some .boolean)) (hlk : meth.locks = false) {k23 : Int32 → Mst → Option (Int32 × Mst)} (hk23 : ∀ (x1 : Int32) (σ : Mst) (H : Heap) (locs : List Loc) (ls : Array Slot), lv_has ls 2 [(0, .ref h0), (1, .int x1)] → Wd D dA A s (Mc dA h0 ad σ) H locs → k23 x1 σ = some q → W p l e rX4_behindUnit s m args below meth c H locs 0 0 (QI D dA A below args s 0 0 q.1 (Mc dA h0 ad q.2)) (F0 m 23 ls [])) : ∀ (x1 : Int32) (σ : Mst) (H : Heap) (locs : List Loc) (ls : Array Slot), lv_has ls 2 [(0, .ref h0), (1, .int x1)] → Wd D dA A s (Mc dA h0 ad σ) H locs → fX4_behindUnit_87 k23 x1 σ = some q → W p l e rX4_behindUnit s m args below meth c H locs 0 0 (QI D dA A below args s 0 0 q.1 (Mc dA h0 ad q.2)) (F0 m 87 ls []) := by
  have hx := FX.1; have hb := FX.2.1; have hown := FX.2.2.2.1; have hts := FX.2.2.2.2
  intro x1 σ H locs ls hl hW hf
  rw [fX4_behindUnit_87] at hf
  refine lv_aload_n hx hb dX4_behindUnit_87 rfl (lv_at hl 0 rfl) ?_
  refine lv_aload_n hx hb dX4_behindUnit_88 rfl (lv_at hl 0 rfl) ?_
  refine Mg30 FX hW dX4_behindUnit_89 ?_
  refine lv_aload_n hx hb dX4_behindUnit_92 rfl (lv_at hl 0 rfl) ?_
  refine Mg36 FX hW dX4_behindUnit_93 ?_
  refine g_iald FX hW 22 Mp30 hf dX4_behindUnit_96 (fun v1 hf => ?_)
  refine lv_iconst (v := 0) hx hb dX4_behindUnit_97 (by decide) ?_
  refine kX4_emit FX ⟨Nat.le_of_ble_eq_true rfl, Nat.le_of_ble_eq_true rfl⟩ ⟨Nat.zero_le _, Nat.zero_le _⟩ hl.1 (Nat.le_of_ble_eq_true rfl) hW hf dX4_behindUnit_98 (fun s2 H locs hW hf => ?_)
  refine lv_goto (tgt := 23) hx hb dX4_behindUnit_101 (by decide) ?_
  exact hk23 x1 s2 _ _ _ (lv_sub hl [0, 1] rfl) hW hf
set_option maxHeartbeats 4000000 in
set_option maxRecDepth 100000 in
theorem wX4_behindUnit_23 {q : (Int32 × Mst)} (FX : CallFix p m c cX4_behindUnit 2 s args lw_all RX4) (hr : meth.sig.returnType = (some .boolean)) (hlk : meth.locks = false) : ∀ n : Nat, ∀ (x1 : Int32) (σ : Mst) (H : Heap) (locs : List Loc) (ls : Array Slot), lv_has ls 2 [(0, .ref h0), (1, .int x1)] → Wd D dA A s (Mc dA h0 ad σ) H locs → fX4_behindUnit_23 n x1 σ = some q → W p l e rX4_behindUnit s m args below meth c H locs 0 0 (QI D dA A below args s 0 0 q.1 (Mc dA h0 ad q.2)) (F0 m 23 ls []) := by
  have hx := FX.1; have hb := FX.2.1; have hown := FX.2.2.2.1; have hts := FX.2.2.2.2
  intro n
  induction n with
  | zero =>
    intro x1 σ H locs ls hl hW hf
    cases (show (none : Option (Int32 × Mst)) = some q from hf)
  | succ n ih =>
    intro x1 σ H locs ls hl hW hf
    rw [fX4_behindUnit_23] at hf
    refine lv_aload_n hx hb dX4_behindUnit_23 rfl (lv_at hl 0 rfl) ?_
    refine Mg29 FX hW dX4_behindUnit_24 ?_
    refine lv_aload_n hx hb dX4_behindUnit_27 rfl (lv_at hl 0 rfl) ?_
    refine Mg36 FX hW dX4_behindUnit_28 ?_
    refine lv_iconst (v := 1) hx hb dX4_behindUnit_31 (by decide) ?_
    refine lv_isub hx hb dX4_behindUnit_32 ?_
    refine g_iald FX hW 21 Mp29 hf dX4_behindUnit_33 (fun v1 hf => ?_)
    refine lv_bipush (v := 6) hx hb dX4_behindUnit_34 (by decide) ?_
    refine lv_icmp_gt (tgt := 104) hx hb dX4_behindUnit_36 (by decide) (fun c36 => ?_) (fun c36 => ?_)
    · have hf := ifp c36 hf
      exact wX4_behindUnit_104 FX hr hlk x1 σ _ _ _ (lv_sub hl [0, 1] rfl) hW hf
    · have hf := ifn c36 hf
      refine lv_aload_n hx hb dX4_behindUnit_39 rfl (lv_at hl 0 rfl) ?_
      refine Mg29 FX hW dX4_behindUnit_40 ?_
      refine lv_aload_n hx hb dX4_behindUnit_43 rfl (lv_at hl 0 rfl) ?_
      refine Mg36 FX hW dX4_behindUnit_44 ?_
      refine lv_iconst (v := 1) hx hb dX4_behindUnit_47 (by decide) ?_
      refine lv_isub hx hb dX4_behindUnit_48 ?_
      refine g_iald FX hW 21 Mp29 hf dX4_behindUnit_49 (fun v2 hf => ?_)
      refine lv_iload_n hx hb dX4_behindUnit_50 rfl (lv_at hl 1 rfl) ?_
      refine lv_icmp_lt (tgt := 104) hx hb dX4_behindUnit_51 (by decide) (fun c51 => ?_) (fun c51 => ?_)
      · have hf := ifp c51 hf
        exact wX4_behindUnit_104 FX hr hlk x1 σ _ _ _ (lv_sub hl [0, 1] rfl) hW hf
      · have hf := ifn c51 hf
        refine lv_aload_n hx hb dX4_behindUnit_54 rfl (lv_at hl 0 rfl) ?_
        refine lv_dup hx hb dX4_behindUnit_55 rfl ?_
        refine Mg36 FX hW dX4_behindUnit_56 ?_
        refine lv_iconst (v := 1) hx hb dX4_behindUnit_59 (by decide) ?_
        refine lv_isub hx hb dX4_behindUnit_60 ?_
        refine Ms36 FX hW hf dX4_behindUnit_61 (fun s3 H locs hW hf => ?_)
        refine lv_aload_n hx hb dX4_behindUnit_64 rfl (lv_at hl 0 rfl) ?_
        refine Mg29 FX hW dX4_behindUnit_65 ?_
        refine lv_aload_n hx hb dX4_behindUnit_68 rfl (lv_at hl 0 rfl) ?_
        refine Mg36 FX hW dX4_behindUnit_69 ?_
        refine g_iald FX hW 21 Mp29 hf dX4_behindUnit_72 (fun v4 hf => ?_)
        refine lv_iconst (v := 3) hx hb dX4_behindUnit_73 (by decide) ?_
        refine lv_icmp_ne (tgt := 87) hx hb dX4_behindUnit_74 (by decide) (fun c74 => ?_) (fun c74 => ?_)
        · have hf := ifn c74 hf
          exact wX4_behindUnit_87 FX hr hlk (ih) x1 s3 _ _ _ (lv_sub hl [0, 1] rfl) hW hf
        · have hf := ifp c74 hf
          refine lv_aload_n hx hb dX4_behindUnit_77 rfl (lv_at hl 0 rfl) ?_
          refine lv_dup hx hb dX4_behindUnit_78 rfl ?_
          refine Mg35 FX hW dX4_behindUnit_79 ?_
          refine lv_iconst (v := 1) hx hb dX4_behindUnit_82 (by decide) ?_
          refine lv_isub hx hb dX4_behindUnit_83 ?_
          refine Ms35 FX hW hf dX4_behindUnit_84 (fun s5 H locs hW hf => ?_)
          exact wX4_behindUnit_87 FX hr hlk (ih) x1 s5 _ _ _ (lv_sub hl [0, 1] rfl) hW hf
set_option maxHeartbeats 4000000 in
set_option maxRecDepth 100000 in
theorem mX4_behindUnit  {σ : Mst} {q : (Int32 × Mst)} (hf : fX4_behindUnit σ = some q) : CtI l yX4_behindUnit cX4_behindUnit 2 (some .boolean) rX4_behindUnit D dA [.ref h0] (Mc dA h0 ad σ) q.1 (Mc dA h0 ad q.2) := by
  refine e_I (by decide) (Nat.le_of_ble_eq_true rfl) ?_
  intro p e s m below meth c ls A FX hr hlk hl hW
  have hx := FX.1; have hb := FX.2.1; have hown := FX.2.2.2.1; have hts := FX.2.2.2.2
  have hl : lv_has ls 2 [(0, .ref h0)] := hl
  rw [fX4_behindUnit] at hf
  refine lv_aload_n hx hb dX4_behindUnit_0 rfl (lv_at hl 0 rfl) ?_
  refine kX4_rankHere FX ⟨Nat.le_of_ble_eq_true rfl, Nat.le_of_ble_eq_true rfl⟩ ⟨Nat.zero_le _, Nat.zero_le _⟩ hl.1 (Nat.le_of_ble_eq_true rfl) hW hf dX4_behindUnit_1 (fun r1 H locs hW hf => ?_)
  refine lv_istore_n (lv' := [(1, .int r1), (0, .ref h0)]) hx hb dX4_behindUnit_4 rfl hl (by decide) rfl (fun ls hl => ?_)
  refine lv_iload_n hx hb dX4_behindUnit_5 rfl (lv_at hl 0 rfl) ?_
  refine lv_iconst (v := 4) hx hb dX4_behindUnit_6 (by decide) ?_
  refine lv_icmp_ne (tgt := 23) hx hb dX4_behindUnit_7 (by decide) (fun c7 => ?_) (fun c7 => ?_)
  · have hf := ifn c7 hf
    exact wX4_behindUnit_23 FX hr hlk _ r1 σ _ _ _ (lv_sub hl [1, 0] rfl) hW hf
  · have hf := ifp c7 hf
    refine lv_aload_n hx hb dX4_behindUnit_10 rfl (lv_at hl 1 rfl) ?_
    refine kX4_isCompared FX ⟨Nat.le_of_ble_eq_true rfl, Nat.le_of_ble_eq_true rfl⟩ ⟨Nat.zero_le _, Nat.zero_le _⟩ hl.1 (Nat.le_of_ble_eq_true rfl) hW hf dX4_behindUnit_11 (fun r2 H locs hW hf => ?_)
    refine lv_if_eq (tgt := 23) hx hb dX4_behindUnit_14 (by decide) (fun c14 => ?_) (fun c14 => ?_)
    · have hf := ifp c14 hf
      exact wX4_behindUnit_23 FX hr hlk _ r1 σ _ _ _ (lv_sub hl [1, 0] rfl) hW hf
    · have hf := ifn c14 hf
      refine lv_aload_n hx hb dX4_behindUnit_17 rfl (lv_at hl 1 rfl) ?_
      refine kX4_misplaced FX ⟨Nat.le_of_ble_eq_true rfl, Nat.le_of_ble_eq_true rfl⟩ ⟨Nat.zero_le _, Nat.zero_le _⟩ hl.1 (Nat.le_of_ble_eq_true rfl) hW hf dX4_behindUnit_18 (fun s3 H locs hW hf => ?_)
      refine lv_iconst (v := 1) hx hb dX4_behindUnit_21 (by decide) ?_
      obtain rfl := Option.some.inj hf
      exact g_zret FX hr hlk hW rfl rfl dX4_behindUnit_22
set_option maxHeartbeats 4000000 in
set_option maxRecDepth 100000 in
theorem kX4_behindUnit {α : Type} {q : α} {k : Int32 → Mst → Option α} {σ : Mst} (FX : CallFix p m c cc nL s args lw_all RX4) (hR : rX4_behindUnit.frames + 1 ≤ R.frames ∧ 8 + (2 + 11) + rX4_behindUnit.locals ≤ R.locals) (hcs : cells ≤ R.cells ∧ slots ≤ R.slots) (hl : ls.size = nL) (hrm : (rest.map fun v => v.category).sum ≤ 8) (hW : Wd D dA A s (Mc dA h0 ad σ) H locs) (hf : bnd2 (fX4_behindUnit σ) k = some q) (hdg : decode cc pc = .ok (.invokevirtual 304, 3)) (kk : ∀ (r : Int32) (σ1 : Mst) (H1 : Heap) (locs1 : List Loc), Wd D dA A s (Mc dA h0 ad σ1) H1 locs1 → k r σ1 = some q → W p l e R s m args below meth c H1 locs1 cells slots Q (F0 m (pc + 3) ls (.int r :: rest))) : W p l e R s m args below meth c H locs cells slots Q (F0 m pc ls (.ref h0 :: rest)) := by
  obtain ⟨r1, h1, hf⟩ := bnd (bnd2_eq hf)
  refine w_Vi (C := RX4) (As := []) (rest := rest) (n := 0) (wr := []) FX (mX4_behindUnit h1) (cwV 0 FX.2.2.2.2 (lw_V q1872 q1874 qs78 q132 q1875) rfl rfl rfl (by decide +kernel) hR) (va_recv hW.2.2.2.1 hW.1 (ci := 4) (q0 := 0) rfl rfl) rfl hl rfl hrm ⟨Nat.le_trans (Nat.le_of_eq (Nat.add_zero cells)) hcs.1, Nat.le_trans (Nat.le_of_eq (Nat.add_zero slots)) hcs.2⟩ hdg hW.nil ?_
  exact fun H1 locs1 hW1 => kk r1.1 r1.2 H1 locs1 hW1.nil' hf
/-! TrunkLittersModel.e()V: kind W -/
def fX4_e_19 : Nat → Int32 → Mst → Option Mst
  | 0, _, _ => none
  | n + 1, x1, σ => (fX4_isGood σ).bind fun r1 => (if r1 = 0 then some σ else (if (gF σ 36) ≤ 0 then some σ else (if x1 = 0 then bnd2 (fX4_behindUnit σ) fun r2 s3 => fX4_e_19 n r2 s3 else bnd2 (fX4_unit σ) fun r4 s5 => fX4_e_19 n r4 s5)))
def fX4_e (σ : Mst) : Option Mst := stp (sF σ 36 (0 : Int32)) fun s1 => stp (sF s1 35 (0 : Int32)) fun s2 => (fX4_pushE (8 : Int32) (0 : Int32) s2).bind fun s3 => fX4_e_19 FU (1 : Int32) s3
abbrev rX4_e : Room := { frames := 4, cells := 0, slots := 0, locals := 86 }
set_option maxHeartbeats 4000000 in
set_option maxRecDepth 100000 in
theorem wX4_e_19 {q : Mst} (FX : CallFix p m c cX4_e 2 s args lw_all RX4) (hr : meth.sig.returnType = none) (hlk : meth.locks = false) : ∀ n : Nat, ∀ (x1 : Int32) (σ : Mst) (H : Heap) (locs : List Loc) (ls : Array Slot), lv_has ls 2 [(0, .ref h0), (1, .int x1)] → Wd D dA A s (Mc dA h0 ad σ) H locs → fX4_e_19 n x1 σ = some q → W p l e rX4_e s m args below meth c H locs 0 0 (QV D dA A below args s 0 0 (Mc dA h0 ad q)) (F0 m 19 ls []) := by
  have hx := FX.1; have hb := FX.2.1; have hown := FX.2.2.2.1; have hts := FX.2.2.2.2
  intro n
  induction n with
  | zero =>
    intro x1 σ H locs ls hl hW hf
    cases (show (none : Option Mst) = some q from hf)
  | succ n ih =>
    intro x1 σ H locs ls hl hW hf
    rw [fX4_e_19] at hf
    refine lv_aload_n hx hb dX4_e_19 rfl (lv_at hl 0 rfl) ?_
    refine kX4_isGood FX ⟨Nat.le_of_ble_eq_true rfl, Nat.le_of_ble_eq_true rfl⟩ ⟨Nat.zero_le _, Nat.zero_le _⟩ hl.1 (Nat.le_of_ble_eq_true rfl) hW hf dX4_e_20 (fun r1 H locs hW hf => ?_)
    refine lv_if_eq (tgt := 52) hx hb dX4_e_23 (by decide) (fun c23 => ?_) (fun c23 => ?_)
    · have hf := ifp c23 hf
      obtain rfl := Option.some.inj hf
      exact g_vret FX hr hlk hW dX4_e_52
    · have hf := ifn c23 hf
      refine lv_aload_n hx hb dX4_e_26 rfl (lv_at hl 0 rfl) ?_
      refine Mg36 FX hW dX4_e_27 ?_
      refine lv_if_le (tgt := 52) hx hb dX4_e_30 (by decide) (fun c30 => ?_) (fun c30 => ?_)
      · have hf := ifp c30 hf
        obtain rfl := Option.some.inj hf
        exact g_vret FX hr hlk hW dX4_e_52
      · have hf := ifn c30 hf
        refine lv_iload_n hx hb dX4_e_33 rfl (lv_at hl 1 rfl) ?_
        refine lv_if_eq (tgt := 44) hx hb dX4_e_34 (by decide) (fun c34 => ?_) (fun c34 => ?_)
        · have hf := ifp c34 hf
          refine lv_aload_n hx hb dX4_e_44 rfl (lv_at hl 0 rfl) ?_
          refine kX4_behindUnit FX ⟨Nat.le_of_ble_eq_true rfl, Nat.le_of_ble_eq_true rfl⟩ ⟨Nat.zero_le _, Nat.zero_le _⟩ hl.1 (Nat.le_of_ble_eq_true rfl) hW hf dX4_e_45 (fun r2 s3 H locs hW hf => ?_)
          refine lv_istore_n (lv' := [(1, .int r2), (0, .ref h0)]) hx hb dX4_e_48 rfl hl (by decide) rfl (fun ls hl => ?_)
          refine lv_goto (tgt := 19) hx hb dX4_e_49 (by decide) ?_
          exact ih r2 s3 _ _ _ (lv_sub hl [1, 0] rfl) hW hf
        · have hf := ifn c34 hf
          refine lv_aload_n hx hb dX4_e_37 rfl (lv_at hl 0 rfl) ?_
          refine kX4_unit FX ⟨Nat.le_of_ble_eq_true rfl, Nat.le_of_ble_eq_true rfl⟩ ⟨Nat.zero_le _, Nat.zero_le _⟩ hl.1 (Nat.le_of_ble_eq_true rfl) hW hf dX4_e_38 (fun r4 s5 H locs hW hf => ?_)
          refine lv_goto (tgt := 48) hx hb dX4_e_41 (by decide) ?_
          refine lv_istore_n (lv' := [(1, .int r4), (0, .ref h0)]) hx hb dX4_e_48 rfl hl (by decide) rfl (fun ls hl => ?_)
          refine lv_goto (tgt := 19) hx hb dX4_e_49 (by decide) ?_
          exact ih r4 s5 _ _ _ (lv_sub hl [1, 0] rfl) hW hf
set_option maxHeartbeats 4000000 in
set_option maxRecDepth 100000 in
theorem mX4_e  {σ : Mst} {q : Mst} (hf : fX4_e σ = some q) : CtV l yX4_e cX4_e 2 none rX4_e D dA [.ref h0] (Mc dA h0 ad σ) (Mc dA h0 ad q) := by
  refine e_V (by decide) (Nat.le_of_ble_eq_true rfl) ?_
  intro p e s m below meth c ls A FX hr hlk hl hW
  have hx := FX.1; have hb := FX.2.1; have hown := FX.2.2.2.1; have hts := FX.2.2.2.2
  have hl : lv_has ls 2 [(0, .ref h0)] := hl
  rw [fX4_e] at hf
  refine lv_aload_n hx hb dX4_e_0 rfl (lv_at hl 0 rfl) ?_
  refine lv_iconst (v := 0) hx hb dX4_e_1 (by decide) ?_
  refine Ms36 FX hW hf dX4_e_2 (fun s1 H locs hW hf => ?_)
  refine lv_aload_n hx hb dX4_e_5 rfl (lv_at hl 0 rfl) ?_
  refine lv_iconst (v := 0) hx hb dX4_e_6 (by decide) ?_
  refine Ms35 FX hW hf dX4_e_7 (fun s2 H locs hW hf => ?_)
  refine lv_aload_n hx hb dX4_e_10 rfl (lv_at hl 0 rfl) ?_
  refine lv_bipush (v := 8) hx hb dX4_e_11 (by decide) ?_
  refine lv_iconst (v := 0) hx hb dX4_e_13 (by decide) ?_
  refine kX4_pushE FX ⟨Nat.le_of_ble_eq_true rfl, Nat.le_of_ble_eq_true rfl⟩ ⟨Nat.zero_le _, Nat.zero_le _⟩ hl.1 (Nat.le_of_ble_eq_true rfl) hW hf dX4_e_14 (fun s3 H locs hW hf => ?_)
  refine lv_iconst (v := 1) hx hb dX4_e_17 (by decide) ?_
  refine lv_istore_n (lv' := [(1, .int (1 : Int32)), (0, .ref h0)]) hx hb dX4_e_18 rfl hl (by decide) rfl (fun ls hl => ?_)
  exact wX4_e_19 FX hr hlk _ (1 : Int32) s3 _ _ _ (lv_sub hl [1, 0] rfl) hW hf
set_option maxHeartbeats 4000000 in
set_option maxRecDepth 100000 in
theorem kX4_e {α : Type} {q : α} {k : Mst → Option α} {σ : Mst} (FX : CallFix p m c cc nL s args lw_all RX4) (hR : rX4_e.frames + 1 ≤ R.frames ∧ 8 + (2 + 11) + rX4_e.locals ≤ R.locals) (hcs : cells ≤ R.cells ∧ slots ≤ R.slots) (hl : ls.size = nL) (hrm : (rest.map fun v => v.category).sum ≤ 8) (hW : Wd D dA A s (Mc dA h0 ad σ) H locs) (hf : (fX4_e σ).bind k = some q) (hdg : decode cc pc = .ok (.invokevirtual 289, 3)) (kk : ∀ (σ1 : Mst) (H1 : Heap) (locs1 : List Loc), Wd D dA A s (Mc dA h0 ad σ1) H1 locs1 → k σ1 = some q → W p l e R s m args below meth c H1 locs1 cells slots Q (F0 m (pc + 3) ls (rest))) : W p l e R s m args below meth c H locs cells slots Q (F0 m pc ls (.ref h0 :: rest)) := by
  obtain ⟨r1, h1, hf⟩ := bnd hf
  refine w_Vv (C := RX4) (As := []) (rest := rest) (n := 0) (wr := []) FX (mX4_e h1) (cwV 0 FX.2.2.2.2 (lw_V q1848 q1850 qs72 q132 q1851) rfl rfl rfl (by decide +kernel) hR) (va_recv hW.2.2.2.1 hW.1 (ci := 4) (q0 := 0) rfl rfl) rfl hl rfl hrm ⟨Nat.le_trans (Nat.le_of_eq (Nat.add_zero cells)) hcs.1, Nat.le_trans (Nat.le_of_eq (Nat.add_zero slots)) hcs.2⟩ hdg hW.nil ?_
  exact fun H1 locs1 hW1 => kk r1 H1 locs1 hW1.nil' hf
/-! TrunkLittersModel.readRule()V: kind W -/
def fX4_readRule (σ : Mst) : Option Mst := ald 2 (gA σ 17) (gF σ 33) fun v1 => ast 2 (gF σ 33) (stp (sA σ 17 (gF σ 33) (v1 ||| (1 : Int32))) fun s2 => stp (sF s2 37 (0 : Int32)) fun s3 => ast 2 (gF s3 33) (stp (sA s3 23 (gF s3 33) (gF s3 34)) fun s4 => (fX4_e s4).bind fun s5 => ast 2 (gF s5 33) (stp (sA s5 24 (gF s5 33) (gF s5 34)) fun s6 => some s6)))
abbrev rX4_readRule : Room := { frames := 5, cells := 0, slots := 0, locals := 107 }
set_option maxHeartbeats 4000000 in
set_option maxRecDepth 100000 in
theorem mX4_readRule  {σ : Mst} {q : Mst} (hf : fX4_readRule σ = some q) : CtV l yX4_readRule cX4_readRule 1 none rX4_readRule D dA [.ref h0] (Mc dA h0 ad σ) (Mc dA h0 ad q) := by
  refine e_V (by decide) (Nat.le_of_ble_eq_true rfl) ?_
  intro p e s m below meth c ls A FX hr hlk hl hW
  have hx := FX.1; have hb := FX.2.1; have hown := FX.2.2.2.1; have hts := FX.2.2.2.2
  have hl : lv_has ls 1 [(0, .ref h0)] := hl
  rw [fX4_readRule] at hf
  refine lv_aload_n hx hb dX4_readRule_0 rfl (lv_at hl 0 rfl) ?_
  refine Mg17 FX hW dX4_readRule_1 ?_
  refine lv_aload_n hx hb dX4_readRule_4 rfl (lv_at hl 0 rfl) ?_
  refine Mg33 FX hW dX4_readRule_5 ?_
  refine lv_dup2_11 hx hb dX4_readRule_8 rfl rfl ?_
  refine g_iald FX hW 9 Mp17 hf dX4_readRule_9 (fun v1 hf => ?_)
  refine lv_iconst (v := 1) hx hb dX4_readRule_10 (by decide) ?_
  refine lv_ior hx hb dX4_readRule_11 ?_
  refine g_iast FX hW 9 Mp17 (L := Mc dA h0 ad) (Mt17) hf dX4_readRule_12 (fun s2 H locs hW hf => ?_)
  refine lv_aload_n hx hb dX4_readRule_13 rfl (lv_at hl 0 rfl) ?_
  refine lv_iconst (v := 0) hx hb dX4_readRule_14 (by decide) ?_
  refine Ms37 FX hW hf dX4_readRule_15 (fun s3 H locs hW hf => ?_)
  refine lv_aload_n hx hb dX4_readRule_18 rfl (lv_at hl 0 rfl) ?_
  refine Mg23 FX hW dX4_readRule_19 ?_
  refine lv_aload_n hx hb dX4_readRule_22 rfl (lv_at hl 0 rfl) ?_
  refine Mg33 FX hW dX4_readRule_23 ?_
  refine lv_aload_n hx hb dX4_readRule_26 rfl (lv_at hl 0 rfl) ?_
  refine Mg34 FX hW dX4_readRule_27 ?_
  refine g_iast FX hW 15 Mp23 (L := Mc dA h0 ad) (Mt23) hf dX4_readRule_30 (fun s4 H locs hW hf => ?_)
  refine lv_aload_n hx hb dX4_readRule_31 rfl (lv_at hl 0 rfl) ?_
  refine kX4_e FX ⟨Nat.le_of_ble_eq_true rfl, Nat.le_of_ble_eq_true rfl⟩ ⟨Nat.zero_le _, Nat.zero_le _⟩ hl.1 (Nat.le_of_ble_eq_true rfl) hW hf dX4_readRule_32 (fun s5 H locs hW hf => ?_)
  refine lv_aload_n hx hb dX4_readRule_35 rfl (lv_at hl 0 rfl) ?_
  refine Mg24 FX hW dX4_readRule_36 ?_
  refine lv_aload_n hx hb dX4_readRule_39 rfl (lv_at hl 0 rfl) ?_
  refine Mg33 FX hW dX4_readRule_40 ?_
  refine lv_aload_n hx hb dX4_readRule_43 rfl (lv_at hl 0 rfl) ?_
  refine Mg34 FX hW dX4_readRule_44 ?_
  refine g_iast FX hW 16 Mp24 (L := Mc dA h0 ad) (Mt24) hf dX4_readRule_47 (fun s6 H locs hW hf => ?_)
  obtain rfl := Option.some.inj hf
  exact g_vret FX hr hlk hW dX4_readRule_48
set_option maxHeartbeats 4000000 in
set_option maxRecDepth 100000 in
theorem kX4_readRule {α : Type} {q : α} {k : Mst → Option α} {σ : Mst} (FX : CallFix p m c cc nL s args lw_all RX4) (hR : rX4_readRule.frames + 1 ≤ R.frames ∧ 8 + (1 + 11) + rX4_readRule.locals ≤ R.locals) (hcs : cells ≤ R.cells ∧ slots ≤ R.slots) (hl : ls.size = nL) (hrm : (rest.map fun v => v.category).sum ≤ 8) (hW : Wd D dA A s (Mc dA h0 ad σ) H locs) (hf : (fX4_readRule σ).bind k = some q) (hdg : decode cc pc = .ok (.invokevirtual 272, 3)) (kk : ∀ (σ1 : Mst) (H1 : Heap) (locs1 : List Loc), Wd D dA A s (Mc dA h0 ad σ1) H1 locs1 → k σ1 = some q → W p l e R s m args below meth c H1 locs1 cells slots Q (F0 m (pc + 3) ls (rest))) : W p l e R s m args below meth c H locs cells slots Q (F0 m pc ls (.ref h0 :: rest)) := by
  obtain ⟨r1, h1, hf⟩ := bnd hf
  refine w_Vv (C := RX4) (As := []) (rest := rest) (n := 0) (wr := []) FX (mX4_readRule h1) (cwV 0 FX.2.2.2.2 (lw_V q1844 q1846 qs71 q132 q1847) rfl rfl rfl (by decide +kernel) hR) (va_recv hW.2.2.2.1 hW.1 (ci := 4) (q0 := 0) rfl rfl) rfl hl rfl hrm ⟨Nat.le_trans (Nat.le_of_eq (Nat.add_zero cells)) hcs.1, Nat.le_trans (Nat.le_of_eq (Nat.add_zero slots)) hcs.2⟩ hdg hW.nil ?_
  exact fun H1 locs1 hW1 => kk r1 H1 locs1 hW1.nil' hf
/-! TrunkLittersModel.once(III)I: kind W -/
def fX4_once (x1 : Int32) (x2 : Int32) (x3 : Int32) (σ : Mst) : Option (Int32 × Mst) := ald 2 (gA σ 17) (gF σ 33) fun v1 => ast 2 (gF σ 33) (stp (sA σ 17 (gF σ 33) (v1 ||| ((1 : Int32) <<< (x1 &&& 31)))) fun s2 => bnd2 (fX4_numeral x2 x3 s2) fun r3 s4 => some (r3, s4))
abbrev rX4_once : Room := { frames := 3, cells := 0, slots := 0, locals := 67 }
set_option maxHeartbeats 4000000 in
set_option maxRecDepth 100000 in
theorem mX4_once  {x1 : Int32} {x2 : Int32} {x3 : Int32} {σ : Mst} {q : (Int32 × Mst)} (hf : fX4_once x1 x2 x3 σ = some q) : CtI l yX4_once cX4_once 4 (some .int) rX4_once D dA [.ref h0, .int x1, .int x2, .int x3] (Mc dA h0 ad σ) q.1 (Mc dA h0 ad q.2) := by
  refine e_I (by decide) (Nat.le_of_ble_eq_true rfl) ?_
  intro p e s m below meth c ls A FX hr hlk hl hW
  have hx := FX.1; have hb := FX.2.1; have hown := FX.2.2.2.1; have hts := FX.2.2.2.2
  have hl : lv_has ls 4 [(0, .ref h0), (1, .int x1), (2, .int x2), (3, .int x3)] := hl
  rw [fX4_once] at hf
  refine lv_aload_n hx hb dX4_once_0 rfl (lv_at hl 0 rfl) ?_
  refine Mg17 FX hW dX4_once_1 ?_
  refine lv_aload_n hx hb dX4_once_4 rfl (lv_at hl 0 rfl) ?_
  refine Mg33 FX hW dX4_once_5 ?_
  refine lv_dup2_11 hx hb dX4_once_8 rfl rfl ?_
  refine g_iald FX hW 9 Mp17 hf dX4_once_9 (fun v1 hf => ?_)
  refine lv_iconst (v := 1) hx hb dX4_once_10 (by decide) ?_
  refine lv_iload_n hx hb dX4_once_11 rfl (lv_at hl 1 rfl) ?_
  refine lv_ishl hx hb dX4_once_12 ?_
  refine lv_ior hx hb dX4_once_13 ?_
  refine g_iast FX hW 9 Mp17 (L := Mc dA h0 ad) (Mt17) hf dX4_once_14 (fun s2 H locs hW hf => ?_)
  refine lv_aload_n hx hb dX4_once_15 rfl (lv_at hl 0 rfl) ?_
  refine lv_iload_n hx hb dX4_once_16 rfl (lv_at hl 2 rfl) ?_
  refine lv_iload_n hx hb dX4_once_17 rfl (lv_at hl 3 rfl) ?_
  refine kX4_numeral FX ⟨Nat.le_of_ble_eq_true rfl, Nat.le_of_ble_eq_true rfl⟩ ⟨Nat.zero_le _, Nat.zero_le _⟩ hl.1 (Nat.le_of_ble_eq_true rfl) hW hf dX4_once_18 (fun r3 s4 H locs hW hf => ?_)
  obtain rfl := Option.some.inj hf
  exact g_iret FX hr hlk hW rfl dX4_once_21
set_option maxHeartbeats 4000000 in
set_option maxRecDepth 100000 in
theorem kX4_once {α : Type} {q : α} {k : Int32 → Mst → Option α} {x1 : Int32} {x2 : Int32} {x3 : Int32} {σ : Mst} (FX : CallFix p m c cc nL s args lw_all RX4) (hR : rX4_once.frames + 1 ≤ R.frames ∧ 8 + (4 + 11) + rX4_once.locals ≤ R.locals) (hcs : cells ≤ R.cells ∧ slots ≤ R.slots) (hl : ls.size = nL) (hrm : (rest.map fun v => v.category).sum ≤ 8) (hW : Wd D dA A s (Mc dA h0 ad σ) H locs) (hf : bnd2 (fX4_once x1 x2 x3 σ) k = some q) (hdg : decode cc pc = .ok (.invokevirtual 275, 3)) (kk : ∀ (r : Int32) (σ1 : Mst) (H1 : Heap) (locs1 : List Loc), Wd D dA A s (Mc dA h0 ad σ1) H1 locs1 → k r σ1 = some q → W p l e R s m args below meth c H1 locs1 cells slots Q (F0 m (pc + 3) ls (.int r :: rest))) : W p l e R s m args below meth c H locs cells slots Q (F0 m pc ls (.int x3 :: .int x2 :: .int x1 :: .ref h0 :: rest)) := by
  obtain ⟨r1, h1, hf⟩ := bnd (bnd2_eq hf)
  refine w_Vi (C := RX4) (As := [.int x1, .int x2, .int x3]) (rest := rest) (n := 3) (wr := []) FX (mX4_once h1) (cwV 3 FX.2.2.2.2 (lw_V q1884 q1886 qs81 q132 q1887) rfl rfl rfl (by decide +kernel) hR) (va_recv hW.2.2.2.1 hW.1 (ci := 4) (q0 := 0) rfl rfl) rfl hl rfl hrm ⟨Nat.le_trans (Nat.le_of_eq (Nat.add_zero cells)) hcs.1, Nat.le_trans (Nat.le_of_eq (Nat.add_zero slots)) hcs.2⟩ hdg hW.nil ?_
  exact fun H1 locs1 hW1 => kk r1.1 r1.2 H1 locs1 hW1.nil' hf
/-! TrunkLittersModel.readLine()V: kind W -/
def fX4_readLine_217 (σ : Mst) : Option Mst := (fX4_isSignHere (59 : Int32) σ).bind fun r1 => (fX4_must r1 σ).bind fun s2 => some s2
def fX4_readLine_191 (x1 : Int64) (σ : Mst) : Option Mst := (if (lg_cmp x1 (1685217655 : Int64)) = 0 then bnd2 (fX4_once (3 : Int32) (0 : Int32) (999 : Int32) σ) fun r1 s2 => ast 2 (gF σ 33) (stp (sA s2 16 (gF σ 33) r1) fun s3 => fX4_readLine_217 s3) else fX4_readLine_217 σ)
def fX4_readLine_166 (x1 : Int64) (σ : Mst) : Option Mst := (if (lg_cmp x1 (499850700147 : Int64)) = 0 then bnd2 (fX4_once (2 : Int32) (0 : Int32) (99 : Int32) σ) fun r1 s2 => ast 2 (gF σ 33) (stp (sA s2 15 (gF σ 33) r1) fun s3 => fX4_readLine_191 x1 s3) else fX4_readLine_191 x1 σ)
def fX4_readLine_141 (x1 : Int64) (σ : Mst) : Option Mst := (if (lg_cmp x1 (482805179763 : Int64)) = 0 then bnd2 (fX4_once (1 : Int32) (1 : Int32) (9 : Int32) σ) fun r1 s2 => ast 2 (gF σ 33) (stp (sA s2 14 (gF σ 33) r1) fun s3 => fX4_readLine_166 x1 s3) else fX4_readLine_166 x1 σ)
def fX4_readLine_129 (x1 : Int64) (σ : Mst) : Option Mst := (if (lg_cmp x1 (422826700644 : Int64)) = 0 then (fX4_readRule σ).bind fun s1 => fX4_readLine_141 x1 s1 else fX4_readLine_141 x1 σ)
def fX4_readLine_117 (x1 : Int64) (σ : Mst) : Option Mst := (if (lg_cmp x1 (500136504939 : Int64)) = 0 then (fX4_readTrunk σ).bind fun s1 => fX4_readLine_129 x1 s1 else fX4_readLine_129 x1 σ)
def fX4_readLine_24 (x1 : Int64) (σ : Mst) : Option Mst := (fX4_isGood σ).bind fun r1 => (if r1 = 0 then some σ else (fX4_goOn σ).bind fun s2 => (if (lg_cmp x1 (1919905645 : Int64)) = 0 then ald 2 (gA s2 11) (gF s2 33) fun v3 => (fX4_roomHere s2).bind fun r4 => bnd2 (fX4_fresh r4 s2) fun r5 s6 => ast 8 (((4 : Int32) * (gF s2 33)) + v3) (stp (sL s6 25 (((4 : Int32) * (gF s2 33)) + v3) r5) fun s7 => ald 2 (gA s7 11) (gF s7 33) fun v8 => bnd2 (fX4_after (448545973363 : Int64) (0 : Int32) (99 : Int32) s7) fun r9 s10 => ast 8 (((4 : Int32) * (gF s7 33)) + v8) (stp (sA s10 18 (((4 : Int32) * (gF s7 33)) + v8) r9) fun s11 => ald 2 (gA s11 11) (gF s11 33) fun v12 => ast 2 (gF s11 33) (stp (sA s11 11 (gF s11 33) (v12 + (1 : Int32))) fun s13 => fX4_readLine_117 x1 s13))) else fX4_readLine_117 x1 s2))
def fX4_readLine_20 (x1 : Int64) (σ : Mst) : Option Mst := (fX4_misplaced σ).bind fun s1 => fX4_readLine_24 x1 s1
def fX4_readLine (σ : Mst) : Option Mst := (if (gF σ 8) = (3 : Int32) then (fX4_isFull σ).bind fun r1 => (if r1 = 0 then fX4_readLine_24 (gN σ) σ else fX4_readLine_20 (gN σ) σ) else fX4_readLine_20 (gN σ) σ)
abbrev rX4_readLine : Room := { frames := 6, cells := 0, slots := 0, locals := 127 }
set_option maxHeartbeats 4000000 in
set_option maxRecDepth 100000 in
theorem wX4_readLine_217 {q : Mst} (FX : CallFix p m c cX4_readLine 3 s args lw_all RX4) (hr : meth.sig.returnType = none) (hlk : meth.locks = false) : ∀ (σ : Mst) (H : Heap) (locs : List Loc) (ls : Array Slot), lv_has ls 3 [(0, .ref h0)] → Wd D dA A s (Mc dA h0 ad σ) H locs → fX4_readLine_217 σ = some q → W p l e rX4_readLine s m args below meth c H locs 0 0 (QV D dA A below args s 0 0 (Mc dA h0 ad q)) (F0 m 217 ls []) := by
  have hx := FX.1; have hb := FX.2.1; have hown := FX.2.2.2.1; have hts := FX.2.2.2.2
  intro σ H locs ls hl hW hf
  rw [fX4_readLine_217] at hf
  refine lv_aload_n hx hb dX4_readLine_217 rfl (lv_at hl 0 rfl) ?_
  refine lv_aload_n hx hb dX4_readLine_218 rfl (lv_at hl 0 rfl) ?_
  refine lv_bipush (v := 59) hx hb dX4_readLine_219 (by decide) ?_
  refine kX4_isSignHere FX ⟨Nat.le_of_ble_eq_true rfl, Nat.le_of_ble_eq_true rfl⟩ ⟨Nat.zero_le _, Nat.zero_le _⟩ hl.1 (Nat.le_of_ble_eq_true rfl) hW hf dX4_readLine_221 (fun r1 H locs hW hf => ?_)
  refine kX4_must FX ⟨Nat.le_of_ble_eq_true rfl, Nat.le_of_ble_eq_true rfl⟩ ⟨Nat.zero_le _, Nat.zero_le _⟩ hl.1 (Nat.le_of_ble_eq_true rfl) hW hf dX4_readLine_224 (fun s2 H locs hW hf => ?_)
  obtain rfl := Option.some.inj hf
  exact g_vret FX hr hlk hW dX4_readLine_227
set_option maxHeartbeats 4000000 in
set_option maxRecDepth 100000 in
theorem wX4_readLine_191 {q : Mst} (FX : CallFix p m c cX4_readLine 3 s args lw_all RX4) (hr : meth.sig.returnType = none) (hlk : meth.locks = false) : ∀ (x1 : Int64) (σ : Mst) (H : Heap) (locs : List Loc) (ls : Array Slot), lv_has ls 3 [(0, .ref h0), (1, .long x1)] → Wd D dA A s (Mc dA h0 ad σ) H locs → fX4_readLine_191 x1 σ = some q → W p l e rX4_readLine s m args below meth c H locs 0 0 (QV D dA A below args s 0 0 (Mc dA h0 ad q)) (F0 m 191 ls []) := by
  have hx := FX.1; have hb := FX.2.1; have hown := FX.2.2.2.1; have hts := FX.2.2.2.2
  intro x1 σ H locs ls hl hW hf
  rw [fX4_readLine_191] at hf
  refine lv_lload_n hx hb dX4_readLine_191 rfl (lv_at hl 1 rfl) ?_
  refine lv_ldc2 (v := 1685217655) hx hb hown (hts _ q1775) dX4_readLine_192 ?_
  refine W.lcmp hx hb dX4_readLine_195 ?_
  refine lv_if_ne (tgt := 217) hx hb dX4_readLine_196 (by decide) (fun c196 => ?_) (fun c196 => ?_)
  · have hf := ifn c196 hf
    exact wX4_readLine_217 FX hr hlk σ _ _ _ (lv_sub hl [0] rfl) hW hf
  · have hf := ifp c196 hf
    refine lv_aload_n hx hb dX4_readLine_199 rfl (lv_at hl 0 rfl) ?_
    refine Mg16 FX hW dX4_readLine_200 ?_
    refine lv_aload_n hx hb dX4_readLine_203 rfl (lv_at hl 0 rfl) ?_
    refine Mg33 FX hW dX4_readLine_204 ?_
    refine lv_aload_n hx hb dX4_readLine_207 rfl (lv_at hl 0 rfl) ?_
    refine lv_iconst (v := 3) hx hb dX4_readLine_208 (by decide) ?_
    refine lv_iconst (v := 0) hx hb dX4_readLine_209 (by decide) ?_
    refine lv_sipush (v := 999) hx hb dX4_readLine_210 (by decide) ?_
    refine kX4_once FX ⟨Nat.le_of_ble_eq_true rfl, Nat.le_of_ble_eq_true rfl⟩ ⟨Nat.zero_le _, Nat.zero_le _⟩ hl.1 (Nat.le_of_ble_eq_true rfl) hW hf dX4_readLine_213 (fun r1 s2 H locs hW hf => ?_)
    refine g_iast FX hW 8 Mp16 (L := Mc dA h0 ad) (Mt16) hf dX4_readLine_216 (fun s3 H locs hW hf => ?_)
    exact wX4_readLine_217 FX hr hlk s3 _ _ _ (lv_sub hl [0] rfl) hW hf
set_option maxHeartbeats 4000000 in
set_option maxRecDepth 100000 in
theorem wX4_readLine_166 {q : Mst} (FX : CallFix p m c cX4_readLine 3 s args lw_all RX4) (hr : meth.sig.returnType = none) (hlk : meth.locks = false) : ∀ (x1 : Int64) (σ : Mst) (H : Heap) (locs : List Loc) (ls : Array Slot), lv_has ls 3 [(0, .ref h0), (1, .long x1)] → Wd D dA A s (Mc dA h0 ad σ) H locs → fX4_readLine_166 x1 σ = some q → W p l e rX4_readLine s m args below meth c H locs 0 0 (QV D dA A below args s 0 0 (Mc dA h0 ad q)) (F0 m 166 ls []) := by
  have hx := FX.1; have hb := FX.2.1; have hown := FX.2.2.2.1; have hts := FX.2.2.2.2
  intro x1 σ H locs ls hl hW hf
  rw [fX4_readLine_166] at hf
  refine lv_lload_n hx hb dX4_readLine_166 rfl (lv_at hl 1 rfl) ?_
  refine lv_ldc2 (v := 499850700147) hx hb hown (hts _ q1774) dX4_readLine_167 ?_
  refine W.lcmp hx hb dX4_readLine_170 ?_
  refine lv_if_ne (tgt := 191) hx hb dX4_readLine_171 (by decide) (fun c171 => ?_) (fun c171 => ?_)
  · have hf := ifn c171 hf
    exact wX4_readLine_191 FX hr hlk x1 σ _ _ _ (lv_sub hl [0, 1] rfl) hW hf
  · have hf := ifp c171 hf
    refine lv_aload_n hx hb dX4_readLine_174 rfl (lv_at hl 0 rfl) ?_
    refine Mg15 FX hW dX4_readLine_175 ?_
    refine lv_aload_n hx hb dX4_readLine_178 rfl (lv_at hl 0 rfl) ?_
    refine Mg33 FX hW dX4_readLine_179 ?_
    refine lv_aload_n hx hb dX4_readLine_182 rfl (lv_at hl 0 rfl) ?_
    refine lv_iconst (v := 2) hx hb dX4_readLine_183 (by decide) ?_
    refine lv_iconst (v := 0) hx hb dX4_readLine_184 (by decide) ?_
    refine lv_bipush (v := 99) hx hb dX4_readLine_185 (by decide) ?_
    refine kX4_once FX ⟨Nat.le_of_ble_eq_true rfl, Nat.le_of_ble_eq_true rfl⟩ ⟨Nat.zero_le _, Nat.zero_le _⟩ hl.1 (Nat.le_of_ble_eq_true rfl) hW hf dX4_readLine_187 (fun r1 s2 H locs hW hf => ?_)
    refine g_iast FX hW 7 Mp15 (L := Mc dA h0 ad) (Mt15) hf dX4_readLine_190 (fun s3 H locs hW hf => ?_)
    exact wX4_readLine_191 FX hr hlk x1 s3 _ _ _ (lv_sub hl [0, 1] rfl) hW hf
set_option maxHeartbeats 4000000 in
set_option maxRecDepth 100000 in
theorem wX4_readLine_141 {q : Mst} (FX : CallFix p m c cX4_readLine 3 s args lw_all RX4) (hr : meth.sig.returnType = none) (hlk : meth.locks = false) : ∀ (x1 : Int64) (σ : Mst) (H : Heap) (locs : List Loc) (ls : Array Slot), lv_has ls 3 [(0, .ref h0), (1, .long x1)] → Wd D dA A s (Mc dA h0 ad σ) H locs → fX4_readLine_141 x1 σ = some q → W p l e rX4_readLine s m args below meth c H locs 0 0 (QV D dA A below args s 0 0 (Mc dA h0 ad q)) (F0 m 141 ls []) := by
  have hx := FX.1; have hb := FX.2.1; have hown := FX.2.2.2.1; have hts := FX.2.2.2.2
  intro x1 σ H locs ls hl hW hf
  rw [fX4_readLine_141] at hf
  refine lv_lload_n hx hb dX4_readLine_141 rfl (lv_at hl 1 rfl) ?_
  refine lv_ldc2 (v := 482805179763) hx hb hown (hts _ q1773) dX4_readLine_142 ?_
  refine W.lcmp hx hb dX4_readLine_145 ?_
  refine lv_if_ne (tgt := 166) hx hb dX4_readLine_146 (by decide) (fun c146 => ?_) (fun c146 => ?_)
  · have hf := ifn c146 hf
    exact wX4_readLine_166 FX hr hlk x1 σ _ _ _ (lv_sub hl [0, 1] rfl) hW hf
  · have hf := ifp c146 hf
    refine lv_aload_n hx hb dX4_readLine_149 rfl (lv_at hl 0 rfl) ?_
    refine Mg14 FX hW dX4_readLine_150 ?_
    refine lv_aload_n hx hb dX4_readLine_153 rfl (lv_at hl 0 rfl) ?_
    refine Mg33 FX hW dX4_readLine_154 ?_
    refine lv_aload_n hx hb dX4_readLine_157 rfl (lv_at hl 0 rfl) ?_
    refine lv_iconst (v := 1) hx hb dX4_readLine_158 (by decide) ?_
    refine lv_iconst (v := 1) hx hb dX4_readLine_159 (by decide) ?_
    refine lv_bipush (v := 9) hx hb dX4_readLine_160 (by decide) ?_
    refine kX4_once FX ⟨Nat.le_of_ble_eq_true rfl, Nat.le_of_ble_eq_true rfl⟩ ⟨Nat.zero_le _, Nat.zero_le _⟩ hl.1 (Nat.le_of_ble_eq_true rfl) hW hf dX4_readLine_162 (fun r1 s2 H locs hW hf => ?_)
    refine g_iast FX hW 6 Mp14 (L := Mc dA h0 ad) (Mt14) hf dX4_readLine_165 (fun s3 H locs hW hf => ?_)
    exact wX4_readLine_166 FX hr hlk x1 s3 _ _ _ (lv_sub hl [0, 1] rfl) hW hf
set_option maxHeartbeats 4000000 in
set_option maxRecDepth 100000 in
theorem wX4_readLine_129 {q : Mst} (FX : CallFix p m c cX4_readLine 3 s args lw_all RX4) (hr : meth.sig.returnType = none) (hlk : meth.locks = false) : ∀ (x1 : Int64) (σ : Mst) (H : Heap) (locs : List Loc) (ls : Array Slot), lv_has ls 3 [(0, .ref h0), (1, .long x1)] → Wd D dA A s (Mc dA h0 ad σ) H locs → fX4_readLine_129 x1 σ = some q → W p l e rX4_readLine s m args below meth c H locs 0 0 (QV D dA A below args s 0 0 (Mc dA h0 ad q)) (F0 m 129 ls []) := by
  have hx := FX.1; have hb := FX.2.1; have hown := FX.2.2.2.1; have hts := FX.2.2.2.2
  intro x1 σ H locs ls hl hW hf
  rw [fX4_readLine_129] at hf
  refine lv_lload_n hx hb dX4_readLine_129 rfl (lv_at hl 1 rfl) ?_
  refine lv_ldc2 (v := 422826700644) hx hb hown (hts _ q1772) dX4_readLine_130 ?_
  refine W.lcmp hx hb dX4_readLine_133 ?_
  refine lv_if_ne (tgt := 141) hx hb dX4_readLine_134 (by decide) (fun c134 => ?_) (fun c134 => ?_)
  · have hf := ifn c134 hf
    exact wX4_readLine_141 FX hr hlk x1 σ _ _ _ (lv_sub hl [0, 1] rfl) hW hf
  · have hf := ifp c134 hf
    refine lv_aload_n hx hb dX4_readLine_137 rfl (lv_at hl 0 rfl) ?_
    refine kX4_readRule FX ⟨Nat.le_of_ble_eq_true rfl, Nat.le_of_ble_eq_true rfl⟩ ⟨Nat.zero_le _, Nat.zero_le _⟩ hl.1 (Nat.le_of_ble_eq_true rfl) hW hf dX4_readLine_138 (fun s1 H locs hW hf => ?_)
    exact wX4_readLine_141 FX hr hlk x1 s1 _ _ _ (lv_sub hl [0, 1] rfl) hW hf
set_option maxHeartbeats 4000000 in
set_option maxRecDepth 100000 in
theorem wX4_readLine_117 {q : Mst} (FX : CallFix p m c cX4_readLine 3 s args lw_all RX4) (hr : meth.sig.returnType = none) (hlk : meth.locks = false) : ∀ (x1 : Int64) (σ : Mst) (H : Heap) (locs : List Loc) (ls : Array Slot), lv_has ls 3 [(0, .ref h0), (1, .long x1)] → Wd D dA A s (Mc dA h0 ad σ) H locs → fX4_readLine_117 x1 σ = some q → W p l e rX4_readLine s m args below meth c H locs 0 0 (QV D dA A below args s 0 0 (Mc dA h0 ad q)) (F0 m 117 ls []) := by
  have hx := FX.1; have hb := FX.2.1; have hown := FX.2.2.2.1; have hts := FX.2.2.2.2
  intro x1 σ H locs ls hl hW hf
  rw [fX4_readLine_117] at hf
  refine lv_lload_n hx hb dX4_readLine_117 rfl (lv_at hl 1 rfl) ?_
  refine lv_ldc2 (v := 500136504939) hx hb hown (hts _ q1767) dX4_readLine_118 ?_
  refine W.lcmp hx hb dX4_readLine_121 ?_
  refine lv_if_ne (tgt := 129) hx hb dX4_readLine_122 (by decide) (fun c122 => ?_) (fun c122 => ?_)
  · have hf := ifn c122 hf
    exact wX4_readLine_129 FX hr hlk x1 σ _ _ _ (lv_sub hl [0, 1] rfl) hW hf
  · have hf := ifp c122 hf
    refine lv_aload_n hx hb dX4_readLine_125 rfl (lv_at hl 0 rfl) ?_
    refine kX4_readTrunk FX ⟨Nat.le_of_ble_eq_true rfl, Nat.le_of_ble_eq_true rfl⟩ ⟨Nat.zero_le _, Nat.zero_le _⟩ hl.1 (Nat.le_of_ble_eq_true rfl) hW hf dX4_readLine_126 (fun s1 H locs hW hf => ?_)
    exact wX4_readLine_129 FX hr hlk x1 s1 _ _ _ (lv_sub hl [0, 1] rfl) hW hf
set_option maxHeartbeats 4000000 in
set_option maxRecDepth 100000 in
theorem wX4_readLine_24 {q : Mst} (FX : CallFix p m c cX4_readLine 3 s args lw_all RX4) (hr : meth.sig.returnType = none) (hlk : meth.locks = false) : ∀ (x1 : Int64) (σ : Mst) (H : Heap) (locs : List Loc) (ls : Array Slot), lv_has ls 3 [(0, .ref h0), (1, .long x1)] → Wd D dA A s (Mc dA h0 ad σ) H locs → fX4_readLine_24 x1 σ = some q → W p l e rX4_readLine s m args below meth c H locs 0 0 (QV D dA A below args s 0 0 (Mc dA h0 ad q)) (F0 m 24 ls []) := by
  have hx := FX.1; have hb := FX.2.1; have hown := FX.2.2.2.1; have hts := FX.2.2.2.2
  intro x1 σ H locs ls hl hW hf
  rw [fX4_readLine_24] at hf
  refine lv_aload_n hx hb dX4_readLine_24 rfl (lv_at hl 0 rfl) ?_
  refine kX4_isGood FX ⟨Nat.le_of_ble_eq_true rfl, Nat.le_of_ble_eq_true rfl⟩ ⟨Nat.zero_le _, Nat.zero_le _⟩ hl.1 (Nat.le_of_ble_eq_true rfl) hW hf dX4_readLine_25 (fun r1 H locs hW hf => ?_)
  refine lv_if_ne (tgt := 32) hx hb dX4_readLine_28 (by decide) (fun c28 => ?_) (fun c28 => ?_)
  · have hf := ifn c28 hf
    refine lv_aload_n hx hb dX4_readLine_32 rfl (lv_at hl 0 rfl) ?_
    refine kX4_goOn FX ⟨Nat.le_of_ble_eq_true rfl, Nat.le_of_ble_eq_true rfl⟩ ⟨Nat.zero_le _, Nat.zero_le _⟩ hl.1 (Nat.le_of_ble_eq_true rfl) hW hf dX4_readLine_33 (fun s2 H locs hW hf => ?_)
    refine lv_lload_n hx hb dX4_readLine_36 rfl (lv_at hl 1 rfl) ?_
    refine lv_ldc2 (v := 1919905645) hx hb hown (hts _ q1765) dX4_readLine_37 ?_
    refine W.lcmp hx hb dX4_readLine_40 ?_
    refine lv_if_ne (tgt := 117) hx hb dX4_readLine_41 (by decide) (fun c41 => ?_) (fun c41 => ?_)
    · have hf := ifn c41 hf
      exact wX4_readLine_117 FX hr hlk x1 s2 _ _ _ (lv_sub hl [0, 1] rfl) hW hf
    · have hf := ifp c41 hf
      refine lv_aload_n hx hb dX4_readLine_44 rfl (lv_at hl 0 rfl) ?_
      refine Mg25 FX hW dX4_readLine_45 ?_
      refine lv_iconst (v := 4) hx hb dX4_readLine_48 (by decide) ?_
      refine lv_aload_n hx hb dX4_readLine_49 rfl (lv_at hl 0 rfl) ?_
      refine Mg33 FX hW dX4_readLine_50 ?_
      refine lv_imul hx hb dX4_readLine_53 ?_
      refine lv_aload_n hx hb dX4_readLine_54 rfl (lv_at hl 0 rfl) ?_
      refine Mg11 FX hW dX4_readLine_55 ?_
      refine lv_aload_n hx hb dX4_readLine_58 rfl (lv_at hl 0 rfl) ?_
      refine Mg33 FX hW dX4_readLine_59 ?_
      refine g_iald FX hW 3 Mp11 hf dX4_readLine_62 (fun v3 hf => ?_)
      refine lv_iadd hx hb dX4_readLine_63 ?_
      refine lv_aload_n hx hb dX4_readLine_64 rfl (lv_at hl 0 rfl) ?_
      refine lv_aload_n hx hb dX4_readLine_65 rfl (lv_at hl 0 rfl) ?_
      refine kX4_roomHere FX ⟨Nat.le_of_ble_eq_true rfl, Nat.le_of_ble_eq_true rfl⟩ ⟨Nat.zero_le _, Nat.zero_le _⟩ hl.1 (Nat.le_of_ble_eq_true rfl) hW hf dX4_readLine_66 (fun r4 H locs hW hf => ?_)
      refine kX4_fresh FX ⟨Nat.le_of_ble_eq_true rfl, Nat.le_of_ble_eq_true rfl⟩ ⟨Nat.zero_le _, Nat.zero_le _⟩ hl.1 (Nat.le_of_ble_eq_true rfl) hW hf dX4_readLine_69 (fun r5 s6 H locs hW hf => ?_)
      refine g_last FX hW 17 Mp25 (L := Mc dA h0 ad) (Mt25) hf dX4_readLine_72 (fun s7 H locs hW hf => ?_)
      refine lv_aload_n hx hb dX4_readLine_73 rfl (lv_at hl 0 rfl) ?_
      refine Mg18 FX hW dX4_readLine_74 ?_
      refine lv_iconst (v := 4) hx hb dX4_readLine_77 (by decide) ?_
      refine lv_aload_n hx hb dX4_readLine_78 rfl (lv_at hl 0 rfl) ?_
      refine Mg33 FX hW dX4_readLine_79 ?_
      refine lv_imul hx hb dX4_readLine_82 ?_
      refine lv_aload_n hx hb dX4_readLine_83 rfl (lv_at hl 0 rfl) ?_
      refine Mg11 FX hW dX4_readLine_84 ?_
      refine lv_aload_n hx hb dX4_readLine_87 rfl (lv_at hl 0 rfl) ?_
      refine Mg33 FX hW dX4_readLine_88 ?_
      refine g_iald FX hW 3 Mp11 hf dX4_readLine_91 (fun v8 hf => ?_)
      refine lv_iadd hx hb dX4_readLine_92 ?_
      refine lv_aload_n hx hb dX4_readLine_93 rfl (lv_at hl 0 rfl) ?_
      refine lv_ldc2 (v := 448545973363) hx hb hown (hts _ q1766) dX4_readLine_94 ?_
      refine lv_iconst (v := 0) hx hb dX4_readLine_97 (by decide) ?_
      refine lv_bipush (v := 99) hx hb dX4_readLine_98 (by decide) ?_
      refine kX4_after FX ⟨Nat.le_of_ble_eq_true rfl, Nat.le_of_ble_eq_true rfl⟩ ⟨Nat.zero_le _, Nat.zero_le _⟩ hl.1 (Nat.le_of_ble_eq_true rfl) hW hf dX4_readLine_100 (fun r9 s10 H locs hW hf => ?_)
      refine g_iast FX hW 10 Mp18 (L := Mc dA h0 ad) (Mt18) hf dX4_readLine_103 (fun s11 H locs hW hf => ?_)
      refine lv_aload_n hx hb dX4_readLine_104 rfl (lv_at hl 0 rfl) ?_
      refine Mg11 FX hW dX4_readLine_105 ?_
      refine lv_aload_n hx hb dX4_readLine_108 rfl (lv_at hl 0 rfl) ?_
      refine Mg33 FX hW dX4_readLine_109 ?_
      refine lv_dup2_11 hx hb dX4_readLine_112 rfl rfl ?_
      refine g_iald FX hW 3 Mp11 hf dX4_readLine_113 (fun v12 hf => ?_)
      refine lv_iconst (v := 1) hx hb dX4_readLine_114 (by decide) ?_
      refine lv_iadd hx hb dX4_readLine_115 ?_
      refine g_iast FX hW 3 Mp11 (L := Mc dA h0 ad) (Mt11) hf dX4_readLine_116 (fun s13 H locs hW hf => ?_)
      exact wX4_readLine_117 FX hr hlk x1 s13 _ _ _ (lv_sub hl [0, 1] rfl) hW hf
  · have hf := ifp c28 hf
    obtain rfl := Option.some.inj hf
    exact g_vret FX hr hlk hW dX4_readLine_31
set_option maxHeartbeats 4000000 in
set_option maxRecDepth 100000 in
theorem wX4_readLine_20 {q : Mst} (FX : CallFix p m c cX4_readLine 3 s args lw_all RX4) (hr : meth.sig.returnType = none) (hlk : meth.locks = false) : ∀ (x1 : Int64) (σ : Mst) (H : Heap) (locs : List Loc) (ls : Array Slot), lv_has ls 3 [(0, .ref h0), (1, .long x1)] → Wd D dA A s (Mc dA h0 ad σ) H locs → fX4_readLine_20 x1 σ = some q → W p l e rX4_readLine s m args below meth c H locs 0 0 (QV D dA A below args s 0 0 (Mc dA h0 ad q)) (F0 m 20 ls []) := by
  have hx := FX.1; have hb := FX.2.1; have hown := FX.2.2.2.1; have hts := FX.2.2.2.2
  intro x1 σ H locs ls hl hW hf
  rw [fX4_readLine_20] at hf
  refine lv_aload_n hx hb dX4_readLine_20 rfl (lv_at hl 0 rfl) ?_
  refine kX4_misplaced FX ⟨Nat.le_of_ble_eq_true rfl, Nat.le_of_ble_eq_true rfl⟩ ⟨Nat.zero_le _, Nat.zero_le _⟩ hl.1 (Nat.le_of_ble_eq_true rfl) hW hf dX4_readLine_21 (fun s1 H locs hW hf => ?_)
  exact wX4_readLine_24 FX hr hlk x1 s1 _ _ _ (lv_sub hl [0, 1] rfl) hW hf
set_option maxHeartbeats 4000000 in
set_option maxRecDepth 100000 in
theorem mX4_readLine  {σ : Mst} {q : Mst} (hf : fX4_readLine σ = some q) : CtV l yX4_readLine cX4_readLine 3 none rX4_readLine D dA [.ref h0] (Mc dA h0 ad σ) (Mc dA h0 ad q) := by
  refine e_V (by decide) (Nat.le_of_ble_eq_true rfl) ?_
  intro p e s m below meth c ls A FX hr hlk hl hW
  have hx := FX.1; have hb := FX.2.1; have hown := FX.2.2.2.1; have hts := FX.2.2.2.2
  have hl : lv_has ls 3 [(0, .ref h0)] := hl
  rw [fX4_readLine] at hf
  refine lv_aload_n hx hb dX4_readLine_0 rfl (lv_at hl 0 rfl) ?_
  refine Mg10 FX hW dX4_readLine_1 ?_
  refine lv_lstore_n (lv' := [(1, .long (gN σ)), (0, .ref h0)]) hx hb dX4_readLine_4 rfl hl (by decide) rfl (fun ls hl => ?_)
  refine lv_aload_n hx hb dX4_readLine_5 rfl (lv_at hl 1 rfl) ?_
  refine Mg8 FX hW dX4_readLine_6 ?_
  refine lv_iconst (v := 3) hx hb dX4_readLine_9 (by decide) ?_
  refine lv_icmp_ne (tgt := 20) hx hb dX4_readLine_10 (by decide) (fun c10 => ?_) (fun c10 => ?_)
  · have hf := ifn c10 hf
    exact wX4_readLine_20 FX hr hlk (gN σ) σ _ _ _ (lv_sub hl [1, 0] rfl) hW hf
  · have hf := ifp c10 hf
    refine lv_aload_n hx hb dX4_readLine_13 rfl (lv_at hl 1 rfl) ?_
    refine kX4_isFull FX ⟨Nat.le_of_ble_eq_true rfl, Nat.le_of_ble_eq_true rfl⟩ ⟨Nat.zero_le _, Nat.zero_le _⟩ hl.1 (Nat.le_of_ble_eq_true rfl) hW hf dX4_readLine_14 (fun r1 H locs hW hf => ?_)
    refine lv_if_eq (tgt := 24) hx hb dX4_readLine_17 (by decide) (fun c17 => ?_) (fun c17 => ?_)
    · have hf := ifp c17 hf
      exact wX4_readLine_24 FX hr hlk (gN σ) σ _ _ _ (lv_sub hl [1, 0] rfl) hW hf
    · have hf := ifn c17 hf
      exact wX4_readLine_20 FX hr hlk (gN σ) σ _ _ _ (lv_sub hl [1, 0] rfl) hW hf
set_option maxHeartbeats 4000000 in
set_option maxRecDepth 100000 in
theorem kX4_readLine {α : Type} {q : α} {k : Mst → Option α} {σ : Mst} (FX : CallFix p m c cc nL s args lw_all RX4) (hR : rX4_readLine.frames + 1 ≤ R.frames ∧ 8 + (3 + 11) + rX4_readLine.locals ≤ R.locals) (hcs : cells ≤ R.cells ∧ slots ≤ R.slots) (hl : ls.size = nL) (hrm : (rest.map fun v => v.category).sum ≤ 8) (hW : Wd D dA A s (Mc dA h0 ad σ) H locs) (hf : (fX4_readLine σ).bind k = some q) (hdg : decode cc pc = .ok (.invokevirtual 247, 3)) (kk : ∀ (σ1 : Mst) (H1 : Heap) (locs1 : List Loc), Wd D dA A s (Mc dA h0 ad σ1) H1 locs1 → k σ1 = some q → W p l e R s m args below meth c H1 locs1 cells slots Q (F0 m (pc + 3) ls (rest))) : W p l e R s m args below meth c H locs cells slots Q (F0 m pc ls (.ref h0 :: rest)) := by
  obtain ⟨r1, h1, hf⟩ := bnd hf
  refine w_Vv (C := RX4) (As := []) (rest := rest) (n := 0) (wr := []) FX (mX4_readLine h1) (cwV 0 FX.2.2.2.2 (lw_V q1793 q1795 qs59 q132 q1796) rfl rfl rfl (by decide +kernel) hR) (va_recv hW.2.2.2.1 hW.1 (ci := 4) (q0 := 0) rfl rfl) rfl hl rfl hrm ⟨Nat.le_trans (Nat.le_of_eq (Nat.add_zero cells)) hcs.1, Nat.le_trans (Nat.le_of_eq (Nat.add_zero slots)) hcs.2⟩ hdg hW.nil ?_
  exact fun H1 locs1 hW1 => kk r1 H1 locs1 hW1.nil' hf
/-! TrunkLittersModel.clearPlace(I)V: kind W -/
def fX4_clearPlace (x1 : Int32) (σ : Mst) : Option Mst := ast 59 ((0 : Int32) + x1) (stp (sA σ 40 ((0 : Int32) + x1) (0 : Int32)) fun s1 => ast 59 ((8 : Int32) + x1) (stp (sA s1 40 ((8 : Int32) + x1) (0 : Int32)) fun s2 => ast 59 ((16 : Int32) + x1) (stp (sA s2 40 ((16 : Int32) + x1) (0 : Int32)) fun s3 => ast 59 ((24 : Int32) + x1) (stp (sA s3 40 ((24 : Int32) + x1) (0 : Int32)) fun s4 => ast 59 ((32 : Int32) + x1) (stp (sA s4 40 ((32 : Int32) + x1) (0 : Int32)) fun s5 => ast 59 ((40 : Int32) + x1) (stp (sA s5 40 ((40 : Int32) + x1) (-1 : Int32)) fun s6 => ast 59 ((48 : Int32) + x1) (stp (sA s6 40 ((48 : Int32) + x1) (-1 : Int32)) fun s7 => some s7)))))))
abbrev rX4_clearPlace : Room := { frames := 0, cells := 0, slots := 0, locals := 0 }
set_option maxHeartbeats 4000000 in
set_option maxRecDepth 100000 in
theorem mX4_clearPlace  {x1 : Int32} {σ : Mst} {q : Mst} (hf : fX4_clearPlace x1 σ = some q) : CtV l yX4_clearPlace cX4_clearPlace 2 none rX4_clearPlace D dA [.ref h0, .int x1] (Mc dA h0 ad σ) (Mc dA h0 ad q) := by
  refine e_V (by decide) (Nat.le_of_ble_eq_true rfl) ?_
  intro p e s m below meth c ls A FX hr hlk hl hW
  have hx := FX.1; have hb := FX.2.1; have hown := FX.2.2.2.1; have hts := FX.2.2.2.2
  have hl : lv_has ls 2 [(0, .ref h0), (1, .int x1)] := hl
  rw [fX4_clearPlace] at hf
  refine lv_aload_n hx hb dX4_clearPlace_0 rfl (lv_at hl 0 rfl) ?_
  refine Mg40 FX hW dX4_clearPlace_1 ?_
  refine lv_iconst (v := 0) hx hb dX4_clearPlace_4 (by decide) ?_
  refine lv_iload_n hx hb dX4_clearPlace_5 rfl (lv_at hl 1 rfl) ?_
  refine lv_iadd hx hb dX4_clearPlace_6 ?_
  refine lv_iconst (v := 0) hx hb dX4_clearPlace_7 (by decide) ?_
  refine g_iast FX hW 24 Mp40 (L := Mc dA h0 ad) (Mt40) hf dX4_clearPlace_8 (fun s1 H locs hW hf => ?_)
  refine lv_aload_n hx hb dX4_clearPlace_9 rfl (lv_at hl 0 rfl) ?_
  refine Mg40 FX hW dX4_clearPlace_10 ?_
  refine lv_bipush (v := 8) hx hb dX4_clearPlace_13 (by decide) ?_
  refine lv_iload_n hx hb dX4_clearPlace_15 rfl (lv_at hl 1 rfl) ?_
  refine lv_iadd hx hb dX4_clearPlace_16 ?_
  refine lv_iconst (v := 0) hx hb dX4_clearPlace_17 (by decide) ?_
  refine g_iast FX hW 24 Mp40 (L := Mc dA h0 ad) (Mt40) hf dX4_clearPlace_18 (fun s2 H locs hW hf => ?_)
  refine lv_aload_n hx hb dX4_clearPlace_19 rfl (lv_at hl 0 rfl) ?_
  refine Mg40 FX hW dX4_clearPlace_20 ?_
  refine lv_bipush (v := 16) hx hb dX4_clearPlace_23 (by decide) ?_
  refine lv_iload_n hx hb dX4_clearPlace_25 rfl (lv_at hl 1 rfl) ?_
  refine lv_iadd hx hb dX4_clearPlace_26 ?_
  refine lv_iconst (v := 0) hx hb dX4_clearPlace_27 (by decide) ?_
  refine g_iast FX hW 24 Mp40 (L := Mc dA h0 ad) (Mt40) hf dX4_clearPlace_28 (fun s3 H locs hW hf => ?_)
  refine lv_aload_n hx hb dX4_clearPlace_29 rfl (lv_at hl 0 rfl) ?_
  refine Mg40 FX hW dX4_clearPlace_30 ?_
  refine lv_bipush (v := 24) hx hb dX4_clearPlace_33 (by decide) ?_
  refine lv_iload_n hx hb dX4_clearPlace_35 rfl (lv_at hl 1 rfl) ?_
  refine lv_iadd hx hb dX4_clearPlace_36 ?_
  refine lv_iconst (v := 0) hx hb dX4_clearPlace_37 (by decide) ?_
  refine g_iast FX hW 24 Mp40 (L := Mc dA h0 ad) (Mt40) hf dX4_clearPlace_38 (fun s4 H locs hW hf => ?_)
  refine lv_aload_n hx hb dX4_clearPlace_39 rfl (lv_at hl 0 rfl) ?_
  refine Mg40 FX hW dX4_clearPlace_40 ?_
  refine lv_bipush (v := 32) hx hb dX4_clearPlace_43 (by decide) ?_
  refine lv_iload_n hx hb dX4_clearPlace_45 rfl (lv_at hl 1 rfl) ?_
  refine lv_iadd hx hb dX4_clearPlace_46 ?_
  refine lv_iconst (v := 0) hx hb dX4_clearPlace_47 (by decide) ?_
  refine g_iast FX hW 24 Mp40 (L := Mc dA h0 ad) (Mt40) hf dX4_clearPlace_48 (fun s5 H locs hW hf => ?_)
  refine lv_aload_n hx hb dX4_clearPlace_49 rfl (lv_at hl 0 rfl) ?_
  refine Mg40 FX hW dX4_clearPlace_50 ?_
  refine lv_bipush (v := 40) hx hb dX4_clearPlace_53 (by decide) ?_
  refine lv_iload_n hx hb dX4_clearPlace_55 rfl (lv_at hl 1 rfl) ?_
  refine lv_iadd hx hb dX4_clearPlace_56 ?_
  refine lv_iconst (v := -1) hx hb dX4_clearPlace_57 (by decide) ?_
  refine g_iast FX hW 24 Mp40 (L := Mc dA h0 ad) (Mt40) hf dX4_clearPlace_58 (fun s6 H locs hW hf => ?_)
  refine lv_aload_n hx hb dX4_clearPlace_59 rfl (lv_at hl 0 rfl) ?_
  refine Mg40 FX hW dX4_clearPlace_60 ?_
  refine lv_bipush (v := 48) hx hb dX4_clearPlace_63 (by decide) ?_
  refine lv_iload_n hx hb dX4_clearPlace_65 rfl (lv_at hl 1 rfl) ?_
  refine lv_iadd hx hb dX4_clearPlace_66 ?_
  refine lv_iconst (v := -1) hx hb dX4_clearPlace_67 (by decide) ?_
  refine g_iast FX hW 24 Mp40 (L := Mc dA h0 ad) (Mt40) hf dX4_clearPlace_68 (fun s7 H locs hW hf => ?_)
  obtain rfl := Option.some.inj hf
  exact g_vret FX hr hlk hW dX4_clearPlace_69
set_option maxHeartbeats 4000000 in
set_option maxRecDepth 100000 in
theorem kX4_clearPlace {α : Type} {q : α} {k : Mst → Option α} {x1 : Int32} {σ : Mst} (FX : CallFix p m c cc nL s args lw_all RX4) (hR : rX4_clearPlace.frames + 1 ≤ R.frames ∧ 8 + (2 + 11) + rX4_clearPlace.locals ≤ R.locals) (hcs : cells ≤ R.cells ∧ slots ≤ R.slots) (hl : ls.size = nL) (hrm : (rest.map fun v => v.category).sum ≤ 8) (hW : Wd D dA A s (Mc dA h0 ad σ) H locs) (hf : (fX4_clearPlace x1 σ).bind k = some q) (hdg : decode cc pc = .ok (.invokevirtual 359, 3)) (kk : ∀ (σ1 : Mst) (H1 : Heap) (locs1 : List Loc), Wd D dA A s (Mc dA h0 ad σ1) H1 locs1 → k σ1 = some q → W p l e R s m args below meth c H1 locs1 cells slots Q (F0 m (pc + 3) ls (rest))) : W p l e R s m args below meth c H locs cells slots Q (F0 m pc ls (.int x1 :: .ref h0 :: rest)) := by
  obtain ⟨r1, h1, hf⟩ := bnd hf
  refine w_Vv (C := RX4) (As := [.int x1]) (rest := rest) (n := 1) (wr := []) FX (mX4_clearPlace h1) (cwV 1 FX.2.2.2.2 (lw_V q1561 q1563 qs55 q132 q1564) rfl rfl rfl (by decide +kernel) hR) (va_recv hW.2.2.2.1 hW.1 (ci := 4) (q0 := 0) rfl rfl) rfl hl rfl hrm ⟨Nat.le_trans (Nat.le_of_eq (Nat.add_zero cells)) hcs.1, Nat.le_trans (Nat.le_of_eq (Nat.add_zero slots)) hcs.2⟩ hdg hW.nil ?_
  exact fun H1 locs1 hW1 => kk r1 H1 locs1 hW1.nil' hf
/-! TrunkLittersModel.startAnew()V: kind W -/
def fX4_startAnew_184 : Nat → Int32 → Mst → Option Mst
  | 0, _, _ => none
  | n + 1, x1, σ => (if (3 : Int32) ≤ x1 then some σ else ast 3 x1 (stp (sA σ 59 x1 (vp_nar .boolean (0 : Int32))) fun s1 => fX4_startAnew_184 n (x1 + (1 : Int32)) s1))
def fX4_startAnew_42 : Nat → Int32 → Mst → Option Mst
  | 0, _, _ => none
  | n + 1, x1, σ => ald 2 (gA σ 12) (gF σ 32) fun v1 => (if v1 ≤ x1 then ald 2 (gA σ 15) (gF σ 32) fun v2 => ast 59 (56 : Int32) (stp (sA σ 40 (56 : Int32) v2) fun s3 => ald 2 (gA s3 16) (gF s3 32) fun v4 => ast 59 (58 : Int32) (stp (sA s3 40 (58 : Int32) v4) fun s5 => stp (sF s5 44 (0 : Int32)) fun s6 => stp (sF s6 45 (0 : Int32)) fun s7 => stp (sF s7 55 (0 : Int32)) fun s8 => stp (sF s8 47 (0 : Int32)) fun s9 => fX4_startAnew_184 FU (0 : Int32) s9)) else ald 12 (gA σ 19) (((6 : Int32) * (gF σ 32)) + x1) fun v10 => ast 59 ((0 : Int32) + x1) (stp (sA σ 40 ((0 : Int32) + x1) v10) fun s11 => ald 12 (gA s11 20) (((6 : Int32) * (gF σ 32)) + x1) fun v12 => ast 59 ((8 : Int32) + x1) (stp (sA s11 40 ((8 : Int32) + x1) v12) fun s13 => ald 12 (gA s13 21) (((6 : Int32) * (gF σ 32)) + x1) fun v14 => ast 59 ((16 : Int32) + x1) (stp (sA s13 40 ((16 : Int32) + x1) v14) fun s15 => ald 12 (gA s15 22) (((6 : Int32) * (gF σ 32)) + x1) fun v16 => ast 59 ((24 : Int32) + x1) (stp (sA s15 40 ((24 : Int32) + x1) v16) fun s17 => fX4_startAnew_42 n (x1 + (1 : Int32)) s17)))))
def fX4_startAnew_23 : Nat → Int32 → Mst → Option Mst
  | 0, _, _ => none
  | n + 1, x1, σ => (if (8 : Int32) ≤ x1 then fX4_startAnew_42 FU (0 : Int32) σ else (fX4_clearPlace x1 σ).bind fun s1 => fX4_startAnew_23 n (x1 + (1 : Int32)) s1)
def fX4_startAnew_2 : Nat → Int32 → Mst → Option Mst
  | 0, _, _ => none
  | n + 1, x1, σ => (if (59 : Int32) ≤ x1 then fX4_startAnew_23 FU (0 : Int32) σ else ast 59 x1 (stp (sA σ 40 x1 (0 : Int32)) fun s1 => fX4_startAnew_2 n (x1 + (1 : Int32)) s1))
def fX4_startAnew (σ : Mst) : Option Mst := fX4_startAnew_2 FU (0 : Int32) σ
abbrev rX4_startAnew : Room := { frames := 1, cells := 0, slots := 0, locals := 21 }
set_option maxHeartbeats 4000000 in
set_option maxRecDepth 100000 in
theorem wX4_startAnew_184 {q : Mst} (FX : CallFix p m c cX4_startAnew 3 s args lw_all RX4) (hr : meth.sig.returnType = none) (hlk : meth.locks = false) : ∀ n : Nat, ∀ (x1 : Int32) (σ : Mst) (H : Heap) (locs : List Loc) (ls : Array Slot), lv_has ls 3 [(0, .ref h0), (1, .int x1)] → Wd D dA A s (Mc dA h0 ad σ) H locs → fX4_startAnew_184 n x1 σ = some q → W p l e rX4_startAnew s m args below meth c H locs 0 0 (QV D dA A below args s 0 0 (Mc dA h0 ad q)) (F0 m 184 ls []) := by
  have hx := FX.1; have hb := FX.2.1; have hown := FX.2.2.2.1; have hts := FX.2.2.2.2
  intro n
  induction n with
  | zero =>
    intro x1 σ H locs ls hl hW hf
    cases (show (none : Option Mst) = some q from hf)
  | succ n ih =>
    intro x1 σ H locs ls hl hW hf
    rw [fX4_startAnew_184] at hf
    refine lv_iload_n hx hb dX4_startAnew_184 rfl (lv_at hl 1 rfl) ?_
    refine lv_iconst (v := 3) hx hb dX4_startAnew_185 (by decide) ?_
    refine lv_icmp_ge (tgt := 202) hx hb dX4_startAnew_186 (by decide) (fun c186 => ?_) (fun c186 => ?_)
    · have hf := ifp c186 hf
      obtain rfl := Option.some.inj hf
      exact g_vret FX hr hlk hW dX4_startAnew_202
    · have hf := ifn c186 hf
      refine lv_aload_n hx hb dX4_startAnew_189 rfl (lv_at hl 0 rfl) ?_
      refine Mg59 FX hW dX4_startAnew_190 ?_
      refine lv_iload_n hx hb dX4_startAnew_193 rfl (lv_at hl 1 rfl) ?_
      refine lv_iconst (v := 0) hx hb dX4_startAnew_194 (by decide) ?_
      refine g_zast FX hW 36 Mp59 (L := Mc dA h0 ad) (Mt59) hf dX4_startAnew_195 (fun s1 H locs hW hf => ?_)
      refine lv_iinc (v := (x1 + (1 : Int32))) (lv' := [(1, .int (x1 + (1 : Int32))), (0, .ref h0)]) hx hb dX4_startAnew_196 hl (k := 1) rfl rfl (by decide) rfl (fun ls hl => ?_)
      refine lv_goto (tgt := 184) hx hb dX4_startAnew_199 (by decide) ?_
      exact ih (x1 + (1 : Int32)) s1 _ _ _ (lv_sub hl [1, 0] rfl) hW hf
set_option maxHeartbeats 4000000 in
set_option maxRecDepth 100000 in
theorem wX4_startAnew_42 {q : Mst} (FX : CallFix p m c cX4_startAnew 3 s args lw_all RX4) (hr : meth.sig.returnType = none) (hlk : meth.locks = false) : ∀ n : Nat, ∀ (x1 : Int32) (σ : Mst) (H : Heap) (locs : List Loc) (ls : Array Slot), lv_has ls 3 [(0, .ref h0), (1, .int x1)] → Wd D dA A s (Mc dA h0 ad σ) H locs → fX4_startAnew_42 n x1 σ = some q → W p l e rX4_startAnew s m args below meth c H locs 0 0 (QV D dA A below args s 0 0 (Mc dA h0 ad q)) (F0 m 42 ls []) := by
  have hx := FX.1; have hb := FX.2.1; have hown := FX.2.2.2.1; have hts := FX.2.2.2.2
  intro n
  induction n with
  | zero =>
    intro x1 σ H locs ls hl hW hf
    cases (show (none : Option Mst) = some q from hf)
  | succ n ih =>
    intro x1 σ H locs ls hl hW hf
    rw [fX4_startAnew_42] at hf
    refine lv_iload_n hx hb dX4_startAnew_42 rfl (lv_at hl 1 rfl) ?_
    refine lv_aload_n hx hb dX4_startAnew_43 rfl (lv_at hl 0 rfl) ?_
    refine Mg12 FX hW dX4_startAnew_44 ?_
    refine lv_aload_n hx hb dX4_startAnew_47 rfl (lv_at hl 0 rfl) ?_
    refine Mg32 FX hW dX4_startAnew_48 ?_
    refine g_iald FX hW 4 Mp12 hf dX4_startAnew_51 (fun v1 hf => ?_)
    refine lv_icmp_ge (tgt := 130) hx hb dX4_startAnew_52 (by decide) (fun c52 => ?_) (fun c52 => ?_)
    · have hf := ifp c52 hf
      refine lv_aload_n hx hb dX4_startAnew_130 rfl (lv_at hl 0 rfl) ?_
      refine Mg40 FX hW dX4_startAnew_131 ?_
      refine lv_bipush (v := 56) hx hb dX4_startAnew_134 (by decide) ?_
      refine lv_aload_n hx hb dX4_startAnew_136 rfl (lv_at hl 0 rfl) ?_
      refine Mg15 FX hW dX4_startAnew_137 ?_
      refine lv_aload_n hx hb dX4_startAnew_140 rfl (lv_at hl 0 rfl) ?_
      refine Mg32 FX hW dX4_startAnew_141 ?_
      refine g_iald FX hW 7 Mp15 hf dX4_startAnew_144 (fun v2 hf => ?_)
      refine g_iast FX hW 24 Mp40 (L := Mc dA h0 ad) (Mt40) hf dX4_startAnew_145 (fun s3 H locs hW hf => ?_)
      refine lv_aload_n hx hb dX4_startAnew_146 rfl (lv_at hl 0 rfl) ?_
      refine Mg40 FX hW dX4_startAnew_147 ?_
      refine lv_bipush (v := 58) hx hb dX4_startAnew_150 (by decide) ?_
      refine lv_aload_n hx hb dX4_startAnew_152 rfl (lv_at hl 0 rfl) ?_
      refine Mg16 FX hW dX4_startAnew_153 ?_
      refine lv_aload_n hx hb dX4_startAnew_156 rfl (lv_at hl 0 rfl) ?_
      refine Mg32 FX hW dX4_startAnew_157 ?_
      refine g_iald FX hW 8 Mp16 hf dX4_startAnew_160 (fun v4 hf => ?_)
      refine g_iast FX hW 24 Mp40 (L := Mc dA h0 ad) (Mt40) hf dX4_startAnew_161 (fun s5 H locs hW hf => ?_)
      refine lv_aload_n hx hb dX4_startAnew_162 rfl (lv_at hl 0 rfl) ?_
      refine lv_iconst (v := 0) hx hb dX4_startAnew_163 (by decide) ?_
      refine Ms44 FX hW hf dX4_startAnew_164 (fun s6 H locs hW hf => ?_)
      refine lv_aload_n hx hb dX4_startAnew_167 rfl (lv_at hl 0 rfl) ?_
      refine lv_iconst (v := 0) hx hb dX4_startAnew_168 (by decide) ?_
      refine Ms45 FX hW hf dX4_startAnew_169 (fun s7 H locs hW hf => ?_)
      refine lv_aload_n hx hb dX4_startAnew_172 rfl (lv_at hl 0 rfl) ?_
      refine lv_iconst (v := 0) hx hb dX4_startAnew_173 (by decide) ?_
      refine Ms55 FX hW hf dX4_startAnew_174 (fun s8 H locs hW hf => ?_)
      refine lv_aload_n hx hb dX4_startAnew_177 rfl (lv_at hl 0 rfl) ?_
      refine lv_iconst (v := 0) hx hb dX4_startAnew_178 (by decide) ?_
      refine Ms47 FX hW hf dX4_startAnew_179 (fun s9 H locs hW hf => ?_)
      refine lv_iconst (v := 0) hx hb dX4_startAnew_182 (by decide) ?_
      refine lv_istore_n (lv' := [(1, .int (0 : Int32)), (0, .ref h0)]) hx hb dX4_startAnew_183 rfl hl (by decide) rfl (fun ls hl => ?_)
      exact wX4_startAnew_184 FX hr hlk _ (0 : Int32) s9 _ _ _ (lv_sub hl [1, 0] rfl) hW hf
    · have hf := ifn c52 hf
      refine lv_bipush (v := 6) hx hb dX4_startAnew_55 (by decide) ?_
      refine lv_aload_n hx hb dX4_startAnew_57 rfl (lv_at hl 0 rfl) ?_
      refine Mg32 FX hW dX4_startAnew_58 ?_
      refine lv_imul hx hb dX4_startAnew_61 ?_
      refine lv_iload_n hx hb dX4_startAnew_62 rfl (lv_at hl 1 rfl) ?_
      refine lv_iadd hx hb dX4_startAnew_63 ?_
      refine lv_istore_n (lv' := [(2, .int (((6 : Int32) * (gF σ 32)) + x1)), (0, .ref h0), (1, .int x1)]) hx hb dX4_startAnew_64 rfl hl (by decide) rfl (fun ls hl => ?_)
      refine lv_aload_n hx hb dX4_startAnew_65 rfl (lv_at hl 1 rfl) ?_
      refine Mg40 FX hW dX4_startAnew_66 ?_
      refine lv_iconst (v := 0) hx hb dX4_startAnew_69 (by decide) ?_
      refine lv_iload_n hx hb dX4_startAnew_70 rfl (lv_at hl 2 rfl) ?_
      refine lv_iadd hx hb dX4_startAnew_71 ?_
      refine lv_aload_n hx hb dX4_startAnew_72 rfl (lv_at hl 1 rfl) ?_
      refine Mg19 FX hW dX4_startAnew_73 ?_
      refine lv_iload_n hx hb dX4_startAnew_76 rfl (lv_at hl 0 rfl) ?_
      refine g_iald FX hW 11 Mp19 hf dX4_startAnew_77 (fun v10 hf => ?_)
      refine g_iast FX hW 24 Mp40 (L := Mc dA h0 ad) (Mt40) hf dX4_startAnew_78 (fun s11 H locs hW hf => ?_)
      refine lv_aload_n hx hb dX4_startAnew_79 rfl (lv_at hl 1 rfl) ?_
      refine Mg40 FX hW dX4_startAnew_80 ?_
      refine lv_bipush (v := 8) hx hb dX4_startAnew_83 (by decide) ?_
      refine lv_iload_n hx hb dX4_startAnew_85 rfl (lv_at hl 2 rfl) ?_
      refine lv_iadd hx hb dX4_startAnew_86 ?_
      refine lv_aload_n hx hb dX4_startAnew_87 rfl (lv_at hl 1 rfl) ?_
      refine Mg20 FX hW dX4_startAnew_88 ?_
      refine lv_iload_n hx hb dX4_startAnew_91 rfl (lv_at hl 0 rfl) ?_
      refine g_iald FX hW 12 Mp20 hf dX4_startAnew_92 (fun v12 hf => ?_)
      refine g_iast FX hW 24 Mp40 (L := Mc dA h0 ad) (Mt40) hf dX4_startAnew_93 (fun s13 H locs hW hf => ?_)
      refine lv_aload_n hx hb dX4_startAnew_94 rfl (lv_at hl 1 rfl) ?_
      refine Mg40 FX hW dX4_startAnew_95 ?_
      refine lv_bipush (v := 16) hx hb dX4_startAnew_98 (by decide) ?_
      refine lv_iload_n hx hb dX4_startAnew_100 rfl (lv_at hl 2 rfl) ?_
      refine lv_iadd hx hb dX4_startAnew_101 ?_
      refine lv_aload_n hx hb dX4_startAnew_102 rfl (lv_at hl 1 rfl) ?_
      refine Mg21 FX hW dX4_startAnew_103 ?_
      refine lv_iload_n hx hb dX4_startAnew_106 rfl (lv_at hl 0 rfl) ?_
      refine g_iald FX hW 13 Mp21 hf dX4_startAnew_107 (fun v14 hf => ?_)
      refine g_iast FX hW 24 Mp40 (L := Mc dA h0 ad) (Mt40) hf dX4_startAnew_108 (fun s15 H locs hW hf => ?_)
      refine lv_aload_n hx hb dX4_startAnew_109 rfl (lv_at hl 1 rfl) ?_
      refine Mg40 FX hW dX4_startAnew_110 ?_
      refine lv_bipush (v := 24) hx hb dX4_startAnew_113 (by decide) ?_
      refine lv_iload_n hx hb dX4_startAnew_115 rfl (lv_at hl 2 rfl) ?_
      refine lv_iadd hx hb dX4_startAnew_116 ?_
      refine lv_aload_n hx hb dX4_startAnew_117 rfl (lv_at hl 1 rfl) ?_
      refine Mg22 FX hW dX4_startAnew_118 ?_
      refine lv_iload_n hx hb dX4_startAnew_121 rfl (lv_at hl 0 rfl) ?_
      refine g_iald FX hW 14 Mp22 hf dX4_startAnew_122 (fun v16 hf => ?_)
      refine g_iast FX hW 24 Mp40 (L := Mc dA h0 ad) (Mt40) hf dX4_startAnew_123 (fun s17 H locs hW hf => ?_)
      refine lv_iinc (v := (x1 + (1 : Int32))) (lv' := [(1, .int (x1 + (1 : Int32))), (2, .int (((6 : Int32) * (gF σ 32)) + x1)), (0, .ref h0)]) hx hb dX4_startAnew_124 hl (k := 2) rfl rfl (by decide) rfl (fun ls hl => ?_)
      refine lv_goto (tgt := 42) hx hb dX4_startAnew_127 (by decide) ?_
      exact ih (x1 + (1 : Int32)) s17 _ _ _ (lv_sub hl [2, 0] rfl) hW hf
set_option maxHeartbeats 4000000 in
set_option maxRecDepth 100000 in
theorem wX4_startAnew_23 {q : Mst} (FX : CallFix p m c cX4_startAnew 3 s args lw_all RX4) (hr : meth.sig.returnType = none) (hlk : meth.locks = false) : ∀ n : Nat, ∀ (x1 : Int32) (σ : Mst) (H : Heap) (locs : List Loc) (ls : Array Slot), lv_has ls 3 [(0, .ref h0), (1, .int x1)] → Wd D dA A s (Mc dA h0 ad σ) H locs → fX4_startAnew_23 n x1 σ = some q → W p l e rX4_startAnew s m args below meth c H locs 0 0 (QV D dA A below args s 0 0 (Mc dA h0 ad q)) (F0 m 23 ls []) := by
  have hx := FX.1; have hb := FX.2.1; have hown := FX.2.2.2.1; have hts := FX.2.2.2.2
  intro n
  induction n with
  | zero =>
    intro x1 σ H locs ls hl hW hf
    cases (show (none : Option Mst) = some q from hf)
  | succ n ih =>
    intro x1 σ H locs ls hl hW hf
    rw [fX4_startAnew_23] at hf
    refine lv_iload_n hx hb dX4_startAnew_23 rfl (lv_at hl 1 rfl) ?_
    refine lv_bipush (v := 8) hx hb dX4_startAnew_24 (by decide) ?_
    refine lv_icmp_ge (tgt := 40) hx hb dX4_startAnew_26 (by decide) (fun c26 => ?_) (fun c26 => ?_)
    · have hf := ifp c26 hf
      refine lv_iconst (v := 0) hx hb dX4_startAnew_40 (by decide) ?_
      refine lv_istore_n (lv' := [(1, .int (0 : Int32)), (0, .ref h0)]) hx hb dX4_startAnew_41 rfl hl (by decide) rfl (fun ls hl => ?_)
      exact wX4_startAnew_42 FX hr hlk _ (0 : Int32) σ _ _ _ (lv_sub hl [1, 0] rfl) hW hf
    · have hf := ifn c26 hf
      refine lv_aload_n hx hb dX4_startAnew_29 rfl (lv_at hl 0 rfl) ?_
      refine lv_iload_n hx hb dX4_startAnew_30 rfl (lv_at hl 1 rfl) ?_
      refine kX4_clearPlace FX ⟨Nat.le_of_ble_eq_true rfl, Nat.le_of_ble_eq_true rfl⟩ ⟨Nat.zero_le _, Nat.zero_le _⟩ hl.1 (Nat.le_of_ble_eq_true rfl) hW hf dX4_startAnew_31 (fun s1 H locs hW hf => ?_)
      refine lv_iinc (v := (x1 + (1 : Int32))) (lv' := [(1, .int (x1 + (1 : Int32))), (0, .ref h0)]) hx hb dX4_startAnew_34 hl (k := 1) rfl rfl (by decide) rfl (fun ls hl => ?_)
      refine lv_goto (tgt := 23) hx hb dX4_startAnew_37 (by decide) ?_
      exact ih (x1 + (1 : Int32)) s1 _ _ _ (lv_sub hl [1, 0] rfl) hW hf
set_option maxHeartbeats 4000000 in
set_option maxRecDepth 100000 in
theorem wX4_startAnew_2 {q : Mst} (FX : CallFix p m c cX4_startAnew 3 s args lw_all RX4) (hr : meth.sig.returnType = none) (hlk : meth.locks = false) : ∀ n : Nat, ∀ (x1 : Int32) (σ : Mst) (H : Heap) (locs : List Loc) (ls : Array Slot), lv_has ls 3 [(0, .ref h0), (1, .int x1)] → Wd D dA A s (Mc dA h0 ad σ) H locs → fX4_startAnew_2 n x1 σ = some q → W p l e rX4_startAnew s m args below meth c H locs 0 0 (QV D dA A below args s 0 0 (Mc dA h0 ad q)) (F0 m 2 ls []) := by
  have hx := FX.1; have hb := FX.2.1; have hown := FX.2.2.2.1; have hts := FX.2.2.2.2
  intro n
  induction n with
  | zero =>
    intro x1 σ H locs ls hl hW hf
    cases (show (none : Option Mst) = some q from hf)
  | succ n ih =>
    intro x1 σ H locs ls hl hW hf
    rw [fX4_startAnew_2] at hf
    refine lv_iload_n hx hb dX4_startAnew_2 rfl (lv_at hl 1 rfl) ?_
    refine lv_bipush (v := 59) hx hb dX4_startAnew_3 (by decide) ?_
    refine lv_icmp_ge (tgt := 21) hx hb dX4_startAnew_5 (by decide) (fun c5 => ?_) (fun c5 => ?_)
    · have hf := ifp c5 hf
      refine lv_iconst (v := 0) hx hb dX4_startAnew_21 (by decide) ?_
      refine lv_istore_n (lv' := [(1, .int (0 : Int32)), (0, .ref h0)]) hx hb dX4_startAnew_22 rfl hl (by decide) rfl (fun ls hl => ?_)
      exact wX4_startAnew_23 FX hr hlk _ (0 : Int32) σ _ _ _ (lv_sub hl [1, 0] rfl) hW hf
    · have hf := ifn c5 hf
      refine lv_aload_n hx hb dX4_startAnew_8 rfl (lv_at hl 0 rfl) ?_
      refine Mg40 FX hW dX4_startAnew_9 ?_
      refine lv_iload_n hx hb dX4_startAnew_12 rfl (lv_at hl 1 rfl) ?_
      refine lv_iconst (v := 0) hx hb dX4_startAnew_13 (by decide) ?_
      refine g_iast FX hW 24 Mp40 (L := Mc dA h0 ad) (Mt40) hf dX4_startAnew_14 (fun s1 H locs hW hf => ?_)
      refine lv_iinc (v := (x1 + (1 : Int32))) (lv' := [(1, .int (x1 + (1 : Int32))), (0, .ref h0)]) hx hb dX4_startAnew_15 hl (k := 1) rfl rfl (by decide) rfl (fun ls hl => ?_)
      refine lv_goto (tgt := 2) hx hb dX4_startAnew_18 (by decide) ?_
      exact ih (x1 + (1 : Int32)) s1 _ _ _ (lv_sub hl [1, 0] rfl) hW hf
set_option maxHeartbeats 4000000 in
set_option maxRecDepth 100000 in
theorem mX4_startAnew  {σ : Mst} {q : Mst} (hf : fX4_startAnew σ = some q) : CtV l yX4_startAnew cX4_startAnew 3 none rX4_startAnew D dA [.ref h0] (Mc dA h0 ad σ) (Mc dA h0 ad q) := by
  refine e_V (by decide) (Nat.le_of_ble_eq_true rfl) ?_
  intro p e s m below meth c ls A FX hr hlk hl hW
  have hx := FX.1; have hb := FX.2.1; have hown := FX.2.2.2.1; have hts := FX.2.2.2.2
  have hl : lv_has ls 3 [(0, .ref h0)] := hl
  rw [fX4_startAnew] at hf
  refine lv_iconst (v := 0) hx hb dX4_startAnew_0 (by decide) ?_
  refine lv_istore_n (lv' := [(1, .int (0 : Int32)), (0, .ref h0)]) hx hb dX4_startAnew_1 rfl hl (by decide) rfl (fun ls hl => ?_)
  exact wX4_startAnew_2 FX hr hlk _ (0 : Int32) σ _ _ _ (lv_sub hl [1, 0] rfl) hW hf
set_option maxHeartbeats 4000000 in
set_option maxRecDepth 100000 in
theorem kX4_startAnew {α : Type} {q : α} {k : Mst → Option α} {σ : Mst} (FX : CallFix p m c cc nL s args lw_all RX4) (hR : rX4_startAnew.frames + 1 ≤ R.frames ∧ 8 + (3 + 11) + rX4_startAnew.locals ≤ R.locals) (hcs : cells ≤ R.cells ∧ slots ≤ R.slots) (hl : ls.size = nL) (hrm : (rest.map fun v => v.category).sum ≤ 8) (hW : Wd D dA A s (Mc dA h0 ad σ) H locs) (hf : (fX4_startAnew σ).bind k = some q) (hdg : decode cc pc = .ok (.invokevirtual 131, 3)) (kk : ∀ (σ1 : Mst) (H1 : Heap) (locs1 : List Loc), Wd D dA A s (Mc dA h0 ad σ1) H1 locs1 → k σ1 = some q → W p l e R s m args below meth c H1 locs1 cells slots Q (F0 m (pc + 3) ls (rest))) : W p l e R s m args below meth c H locs cells slots Q (F0 m pc ls (.ref h0 :: rest)) := by
  obtain ⟨r1, h1, hf⟩ := bnd hf
  refine w_Vv (C := RX4) (As := []) (rest := rest) (n := 0) (wr := []) FX (mX4_startAnew h1) (cwV 0 FX.2.2.2.2 (lw_V q1557 q1559 qs54 q132 q1560) rfl rfl rfl (by decide +kernel) hR) (va_recv hW.2.2.2.1 hW.1 (ci := 4) (q0 := 0) rfl rfl) rfl hl rfl hrm ⟨Nat.le_trans (Nat.le_of_eq (Nat.add_zero cells)) hcs.1, Nat.le_trans (Nat.le_of_eq (Nat.add_zero slots)) hcs.2⟩ hdg hW.nil ?_
  exact fun H1 locs1 hW1 => kk r1 H1 locs1 hW1.nil' hf
end M05
