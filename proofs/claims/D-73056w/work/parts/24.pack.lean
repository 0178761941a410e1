section PK
variable {p : Program} {l : Launch} {e : Env} {R : Room} {s : State} {m : MethodId} {args : Array Value} {below : List Frame} {meth : Method} {c : Code} {H : Heap} {locs : List Loc} {cells slots : Nat} {Q : State → Prop}
variable {cc : ByteArray} {pc nL : Nat} {ls : Array Slot} {rest : List Value} {D : va_G} {dA : Nat → ClassId} {A : Nat → Prop}
abbrev rD_packs (d : Nat) : Room := { frames := d + 10, cells := 0, slots := 0, locals := 40 * d + 200 }
theorem DgX0_0_13 {t0 : Nat} {ad : Nat → Nat} {B : Bk} {wr : va_W} {σ : Dst} (FX : CallFix p m c cc nL s args lw_all RX0) (hW : Wd D dA A s (Dx dA t0 ad B wr σ) H locs) (hdg : decode cc pc = .ok (.getfield 77, 3)) (kk : W p l e R s m args below meth c H locs cells slots Q (F0 m (pc + 3) ls (.ref (ad 13) :: rest))) : W p l e R s m args below meth c H locs cells slots Q (F0 m pc ls (.ref t0 :: rest)) :=
  g_get FX hW (C := RX0) (T := TX0) (N := 26) (ci := 0) in_X0 0 rfl rfl 13 (by decide) q380 (fun _ h => h) rfl hdg kk
theorem Dp3 {t0 : Nat} {ad : Nat → Nat} {B : Bk} {wr : va_W} {σ : Dst} : (Dx dA t0 ad B wr σ)[3]? = some ((ad 13), .inl (dA 0, 8, .inl (tA σ 13))) := rfl
theorem Dt3 {t0 : Nat} {ad : Nat → Nat} {B : Bk} {wr : va_W} {σ : Dst} {i v : Int32} : (Dx dA t0 ad B wr σ).set 3 ((ad 13), .inl (dA 0, 8, .inl (upd (tA σ 13) i.toNatClampNeg v))) = Dx dA t0 ad B wr (xA σ 13 i v) := rfl
theorem DgX0_0_16 {t0 : Nat} {ad : Nat → Nat} {B : Bk} {wr : va_W} {σ : Dst} (FX : CallFix p m c cc nL s args lw_all RX0) (hW : Wd D dA A s (Dx dA t0 ad B wr σ) H locs) (hdg : decode cc pc = .ok (.getfield 265, 3)) (kk : W p l e R s m args below meth c H locs cells slots Q (F0 m (pc + 3) ls (.int (tF σ 16) :: rest))) : W p l e R s m args below meth c H locs cells slots Q (F0 m pc ls (.ref t0 :: rest)) :=
  g_get FX hW (C := RX0) (T := TX0) (N := 26) (ci := 0) in_X0 0 rfl rfl 16 (by decide) q383 (fun _ h => h) rfl hdg kk
theorem DsX0_0_16 {t0 : Nat} {ad : Nat → Nat} {B : Bk} {wr : va_W} {σ : Dst} {α : Type} {q : α} {v : Int32} {k : Dst → Option α} (FX : CallFix p m c cc nL s args lw_all RX0) (hW : Wd D dA A s (Dx dA t0 ad B wr σ) H locs) (hf : stp (xF σ 16 v) k = some q) (hdg : decode cc pc = .ok (.putfield 265, 3)) (kk : ∀ (σ1 : Dst) (H1 : Heap) (locs1 : List Loc), Wd D dA A s (Dx dA t0 ad B wr σ1) H1 locs1 → k σ1 = some q → W p l e R s m args below meth c H1 locs1 cells slots Q (F0 m (pc + 3) ls rest)) : W p l e R s m args below meth c H locs cells slots Q (F0 m pc ls (.int v :: .ref t0 :: rest)) :=
  g_put FX hW (C := RX0) (T := TX0) (N := 26) (ci := 0) (ty := .int) in_X0 tyX0 tyX0_ok nmX0 0 rfl rfl 16 (by decide) q383 (fun _ h => h) rfl (by decide +kernel) rfl rfl (Nat.le_of_ble_eq_true rfl) (ws' := Dx dA t0 ad B wr (xF σ 16 v)) rfl hdg (fun H1 locs1 hW1 => kk _ H1 locs1 hW1 hf)
theorem Dc3_2 {t0 : Nat} {ad : Nat → Nat} {B : Bk} {wr : va_W} {σ : Dst} : (Dx dA t0 ad B wr σ).set 2 ((ad 12), .inl (dA 0, 8, .inl (va_cpy (tA σ 13) (tA σ 12) (0 : Int32).toNatClampNeg (0 : Int32).toNatClampNeg (8 : Int32).toNatClampNeg))) = Dx dA t0 ad B wr (xW σ 12 (va_cpy (tA σ 13) (tA σ 12) 0 0 8)) := rfl

set_option maxHeartbeats 4000000 in
set_option maxRecDepth 100000 in
theorem kD_packsrc {t0 : Nat} {ad : Nat → Nat} {B : Bk} {wr : va_W} {α : Type} {q : α} {k : Dst → Option α} {x1 x2 : Int32} {σ : Dst} {rc : Int32 → Int32 → Dst → Option Dst} {d : Nat} (hrc : ∀ (x1 x2 : Int32) (σ q : Dst), rc x1 x2 σ = some q → CtV l yX0_packs cX0_packs 4 none (rD_packs d) D dA [.ref t0, .int x1, .int x2] (Dx dA t0 ad B wr σ) (Dx dA t0 ad B wr q)) (FX : CallFix p m c cc nL s args lw_all RX0) (hR : (rD_packs d).frames + 1 ≤ R.frames ∧ 8 + (4 + 11) + (rD_packs d).locals ≤ R.locals) (hcs : cells ≤ R.cells ∧ slots ≤ R.slots) (hl : ls.size = nL) (hrm : (rest.map fun v => v.category).sum ≤ 8) (hW : Wd D dA A s (Dx dA t0 ad B wr σ) H locs) (hf : (rc x1 x2 σ).bind k = some q) (hdg : decode cc pc = .ok (.invokevirtual 268, 3)) (kk : ∀ (σ1 : Dst) (H1 : Heap) (locs1 : List Loc), Wd D dA A s (Dx dA t0 ad B wr σ1) H1 locs1 → k σ1 = some q → W p l e R s m args below meth c H1 locs1 cells slots Q (F0 m (pc + 3) ls rest)) : W p l e R s m args below meth c H locs cells slots Q (F0 m pc ls (.int x2 :: .int x1 :: .ref t0 :: rest)) := by
  obtain ⟨r1, h1, hf⟩ := bnd hf
  have hW2 := hW
  refine w_Vv (C := RX0) (As := [.int x1, .int x2]) (rest := rest) (n := 2) (wr := []) FX (hrc _ _ _ _ h1) (cwV 2 FX.2.2.2.2 (lw_V q1364 q1366 qs42 q123 q1367) rfl rfl rfl (by decide +kernel) hR) (va_recv hW2.2.2.2.1 hW2.1 (ci := 0) (q0 := 0) rfl rfl) rfl hl rfl hrm ⟨Nat.le_trans (Nat.le_of_eq (Nat.add_zero cells)) hcs.1, Nat.le_trans (Nat.le_of_eq (Nat.add_zero slots)) hcs.2⟩ hdg hW2.nil ?_
  exact fun H1 locs1 hW1 => kk _ H1 locs1 hW1.nil' hf
def fD_packs_71 (rc : Int32 → Int32 → Dst → Option Dst) (dA : Nat → Nat) (B : Bk) : Nat → Int32 → Int32 → Int32 → Dst → Option Dst
  | 0, _, _, _, _ => none
  | n + 1, x1, x2, x3, σ => (fD_rooms dA B σ).bind fun r1 => (if r1 ≤ x3 then some σ else ald 4 (tA σ 14) x3 fun v2 => ald 8 (hA (tN σ) 0) x1 fun v3 => (if v3 ≤ v2 then ald 4 (tA σ 14) x3 fun v4 => ald 8 (hA (tN σ) 0) x1 fun v5 => ast 4 x3 (stp (xA σ 14 x3 (v4 - v5)) fun s6 => ast 8 x1 (stp (xA s6 13 x1 x3) fun s7 => (rc (x1 + (1 : Int32)) (x2 ||| ((1 : Int32) <<< (x3 &&& 31))) s7).bind fun s8 => ald 4 (tA s8 14) x3 fun v9 => ald 8 (hA (tN s8) 0) x1 fun v10 => ast 4 x3 (stp (xA s8 14 x3 (v9 + v10)) fun s11 => fD_packs_71 rc dA B n x1 x2 (x3 + (1 : Int32)) s11))) else fD_packs_71 rc dA B n x1 x2 (x3 + (1 : Int32)) σ))
def fD_packs (rc : Int32 → Int32 → Dst → Option Dst) (dA : Nat → Nat) (B : Bk) (x1 : Int32) (x2 : Int32) (σ : Dst) : Option Dst := (fJ15_bitCount x2).bind fun r1 => (if r1 < (tF σ 16) then (if x1 = (8 : Int32) then (fJ15_bitCount x2).bind fun r5 => stp (xF σ 16 r5) fun s6 => stp (xW s6 12 (va_cpy (tA s6 13) (tA s6 12) 0 0 8)) fun s7 => some s7 else ast 8 x1 (stp (xA σ 13 x1 (-1 : Int32)) fun s2 => (fX3_has x1 (tN s2)).bind fun r3 => (if r3 = 0 then (rc (x1 + (1 : Int32)) x2 s2).bind fun s4 => some s4 else fD_packs_71 rc dA B FU x1 x2 (0 : Int32) s2))) else some σ)
abbrev zD_packs : Nat := 0
set_option maxHeartbeats 4000000 in
set_option maxRecDepth 100000 in
theorem wD_packs_71 {t0 : Nat} {ad : Nat → Nat} {B : Bk} {wr : va_W} {rc : Int32 → Int32 → Dst → Option Dst} {d : Nat} {hrc : ∀ (x1 x2 : Int32) (σ q : Dst), rc x1 x2 σ = some q → CtV l yX0_packs cX0_packs 4 none (rD_packs d) D dA [.ref t0, .int x1, .int x2] (Dx dA t0 ad B wr σ) (Dx dA t0 ad B wr q)} {q : Dst} (FX : CallFix p m c cX0_packs 4 s args lw_all RX0) (hr : meth.sig.returnType = none) (hlk : meth.locks = false) : ∀ n : Nat, ∀ (x1 : Int32) (x2 : Int32) (x3 : Int32) (σ : Dst) (H : Heap) (locs : List Loc) (ls : Array Slot), lv_has ls 4 [(0, .ref t0), (1, .int x1), (2, .int x2), (3, .int x3)] → Wd D dA A s (Dx dA t0 ad B wr σ) H locs → fD_packs_71 rc dA B n x1 x2 x3 σ = some q → W p l e (rD_packs (d + 1)) s m args below meth c H locs 0 0 (QV D dA A below args s 0 0 (Dx dA t0 ad B wr q)) (F0 m 71 ls []) := by
  have hx := FX.1; have hb := FX.2.1; have hown := FX.2.2.2.1; have hts := FX.2.2.2.2
  intro n
  induction n with
  | zero =>
    intro x1 x2 x3 σ H locs ls hl hW hf
    cases (show (none : Option Dst) = some q from hf)
  | succ n ih =>
    intro x1 x2 x3 σ H locs ls hl hW hf
    rw [fD_packs_71] at hf
    refine lv_iload_n hx hb dX0_packs_71 rfl (lv_at hl 3 rfl) ?_
    refine lv_aload_n hx hb dX0_packs_72 rfl (lv_at hl 0 rfl) ?_
    refine kD_rooms FX ⟨Nat.le_of_ble_eq_true rfl, Nat.le_of_ble_eq_true rfl⟩ ⟨Nat.zero_le _, Nat.zero_le _⟩ hl.1 (Nat.le_of_ble_eq_true rfl) hW hf dX0_packs_73 (fun r1 H locs hW hf => ?_)
    refine lv_icmp_ge (tgt := 161) hx hb dX0_packs_76 (by decide) (fun c76 => ?_) (fun c76 => ?_)
    · have hf := ifp c76 hf
      obtain rfl := Option.some.inj hf
      exact g_vret FX hr hlk hW dX0_packs_161
    · have hf := ifn c76 hf
      refine lv_aload_n hx hb dX0_packs_79 rfl (lv_at hl 0 rfl) ?_
      refine DgX0_0_14 FX hW dX0_packs_80 ?_
      refine lv_iload_n hx hb dX0_packs_83 rfl (lv_at hl 3 rfl) ?_
      refine g_iald FX hW 4 Dp4 hf dX0_packs_84 (fun v2 hf => ?_)
      refine lv_aload_n hx hb dX0_packs_85 rfl (lv_at hl 0 rfl) ?_
      refine DgX0_0_5 FX hW dX0_packs_86 ?_
      refine DgX0_18_0 FX hW dX0_packs_89 ?_
      refine lv_iload_n hx hb dX0_packs_92 rfl (lv_at hl 1 rfl) ?_
      refine g_iald FX hW 19 Dp19 hf dX0_packs_93 (fun v3 hf => ?_)
      refine lv_icmp_ge (tgt := 100) hx hb dX0_packs_94 (by decide) (fun c94 => ?_) (fun c94 => ?_)
      · have hf := ifp c94 hf
        refine lv_aload_n hx hb dX0_packs_100 rfl (lv_at hl 0 rfl) ?_
        refine DgX0_0_14 FX hW dX0_packs_101 ?_
        refine lv_iload_n hx hb dX0_packs_104 rfl (lv_at hl 3 rfl) ?_
        refine lv_dup2_11 hx hb dX0_packs_105 rfl rfl ?_
        refine g_iald FX hW 4 Dp4 hf dX0_packs_106 (fun v4 hf => ?_)
        refine lv_aload_n hx hb dX0_packs_107 rfl (lv_at hl 0 rfl) ?_
        refine DgX0_0_5 FX hW dX0_packs_108 ?_
        refine DgX0_18_0 FX hW dX0_packs_111 ?_
        refine lv_iload_n hx hb dX0_packs_114 rfl (lv_at hl 1 rfl) ?_
        refine g_iald FX hW 19 Dp19 hf dX0_packs_115 (fun v5 hf => ?_)
        refine lv_isub hx hb dX0_packs_116 ?_
        refine g_iast FX hW 4 Dp4 (L := Dx dA t0 ad B wr) (Dt4) hf dX0_packs_117 (fun s6 H locs hW hf => ?_)
        refine lv_aload_n hx hb dX0_packs_118 rfl (lv_at hl 0 rfl) ?_
        refine DgX0_0_13 FX hW dX0_packs_119 ?_
        refine lv_iload_n hx hb dX0_packs_122 rfl (lv_at hl 1 rfl) ?_
        refine lv_iload_n hx hb dX0_packs_123 rfl (lv_at hl 3 rfl) ?_
        refine g_iast FX hW 3 Dp3 (L := Dx dA t0 ad B wr) (Dt3) hf dX0_packs_124 (fun s7 H locs hW hf => ?_)
        refine lv_aload_n hx hb dX0_packs_125 rfl (lv_at hl 0 rfl) ?_
        refine lv_iload_n hx hb dX0_packs_126 rfl (lv_at hl 1 rfl) ?_
        refine lv_iconst (v := 1) hx hb dX0_packs_127 (by decide) ?_
        refine lv_iadd hx hb dX0_packs_128 ?_
        refine lv_iload_n hx hb dX0_packs_129 rfl (lv_at hl 2 rfl) ?_
        refine lv_iconst (v := 1) hx hb dX0_packs_130 (by decide) ?_
        refine lv_iload_n hx hb dX0_packs_131 rfl (lv_at hl 3 rfl) ?_
        refine lv_ishl hx hb dX0_packs_132 ?_
        refine lv_ior hx hb dX0_packs_133 ?_
        refine kD_packsrc hrc FX ⟨by dsimp only [rD_packs]; omega, by dsimp only [rD_packs]; omega⟩ ⟨Nat.zero_le _, Nat.zero_le _⟩ hl.1 (Nat.le_of_ble_eq_true rfl) hW hf dX0_packs_134 (fun s8 H locs hW hf => ?_)
        refine lv_aload_n hx hb dX0_packs_137 rfl (lv_at hl 0 rfl) ?_
        refine DgX0_0_14 FX hW dX0_packs_138 ?_
        refine lv_iload_n hx hb dX0_packs_141 rfl (lv_at hl 3 rfl) ?_
        refine lv_dup2_11 hx hb dX0_packs_142 rfl rfl ?_
        refine g_iald FX hW 4 Dp4 hf dX0_packs_143 (fun v9 hf => ?_)
        refine lv_aload_n hx hb dX0_packs_144 rfl (lv_at hl 0 rfl) ?_
        refine DgX0_0_5 FX hW dX0_packs_145 ?_
        refine DgX0_18_0 FX hW dX0_packs_148 ?_
        refine lv_iload_n hx hb dX0_packs_151 rfl (lv_at hl 1 rfl) ?_
        refine g_iald FX hW 19 Dp19 hf dX0_packs_152 (fun v10 hf => ?_)
        refine lv_iadd hx hb dX0_packs_153 ?_
        refine g_iast FX hW 4 Dp4 (L := Dx dA t0 ad B wr) (Dt4) hf dX0_packs_154 (fun s11 H locs hW hf => ?_)
        refine lv_iinc (v := (x3 + (1 : Int32))) (lv' := [(3, .int (x3 + (1 : Int32))), (0, .ref t0), (1, .int x1), (2, .int x2)]) hx hb dX0_packs_155 hl (k := 3) rfl rfl (by decide) rfl (fun ls hl => ?_)
        refine lv_goto (tgt := 71) hx hb dX0_packs_158 (by decide) ?_
        exact ih x1 x2 (x3 + (1 : Int32)) s11 _ _ _ (lv_sub hl [1, 2, 3, 0] rfl) hW hf
      · have hf := ifn c94 hf
        refine lv_goto (tgt := 155) hx hb dX0_packs_97 (by decide) ?_
        refine lv_iinc (v := (x3 + (1 : Int32))) (lv' := [(3, .int (x3 + (1 : Int32))), (0, .ref t0), (1, .int x1), (2, .int x2)]) hx hb dX0_packs_155 hl (k := 3) rfl rfl (by decide) rfl (fun ls hl => ?_)
        refine lv_goto (tgt := 71) hx hb dX0_packs_158 (by decide) ?_
        exact ih x1 x2 (x3 + (1 : Int32)) σ _ _ _ (lv_sub hl [1, 2, 3, 0] rfl) hW hf
set_option maxHeartbeats 4000000 in
set_option maxRecDepth 100000 in
theorem mD_packs {t0 : Nat} {ad : Nat → Nat} {B : Bk} {wr : va_W} {rc : Int32 → Int32 → Dst → Option Dst} {d : Nat} {hrc : ∀ (x1 x2 : Int32) (σ q : Dst), rc x1 x2 σ = some q → CtV l yX0_packs cX0_packs 4 none (rD_packs d) D dA [.ref t0, .int x1, .int x2] (Dx dA t0 ad B wr σ) (Dx dA t0 ad B wr q)}  {x1 : Int32} {x2 : Int32} {σ : Dst} {q : Dst} (hf : fD_packs rc dA B x1 x2 σ = some q) : CtV l yX0_packs cX0_packs 4 none (rD_packs (d + 1)) D dA [.ref t0, .int x1, .int x2] (Dx dA t0 ad B wr σ) (Dx dA t0 ad B wr q) := by
  refine e_V (by decide) (Nat.le_of_ble_eq_true rfl) ?_
  intro p e s m below meth c ls A FX hr hlk hl hW
  have hx := FX.1; have hb := FX.2.1; have hown := FX.2.2.2.1; have hts := FX.2.2.2.2
  have hl : lv_has ls 4 [(0, .ref t0), (1, .int x1), (2, .int x2)] := hl
  rw [fD_packs] at hf
  refine lv_iload_n hx hb dX0_packs_0 rfl (lv_at hl 2 rfl) ?_
  refine kX0_J15_bitCount FX ⟨Nat.le_of_ble_eq_true rfl, Nat.le_of_ble_eq_true rfl⟩ ⟨Nat.zero_le _, Nat.zero_le _⟩ hl.1 (Nat.le_of_ble_eq_true rfl) hW hf dX0_packs_1 (fun r1 H locs hW hf => ?_)
  refine lv_aload_n hx hb dX0_packs_4 rfl (lv_at hl 0 rfl) ?_
  refine DgX0_0_16 FX hW dX0_packs_5 ?_
  refine lv_icmp_lt (tgt := 12) hx hb dX0_packs_8 (by decide) (fun c8 => ?_) (fun c8 => ?_)
  · have hf := ifp c8 hf
    refine lv_iload_n hx hb dX0_packs_12 rfl (lv_at hl 1 rfl) ?_
    refine lv_bipush (v := 8) hx hb dX0_packs_13 (by decide) ?_
    refine lv_icmp_ne (tgt := 42) hx hb dX0_packs_15 (by decide) (fun c15 => ?_) (fun c15 => ?_)
    · have hf := ifn c15 hf
      refine lv_aload_n hx hb dX0_packs_42 rfl (lv_at hl 0 rfl) ?_
      refine DgX0_0_13 FX hW dX0_packs_43 ?_
      refine lv_iload_n hx hb dX0_packs_46 rfl (lv_at hl 1 rfl) ?_
      refine lv_iconst (v := -1) hx hb dX0_packs_47 (by decide) ?_
      refine g_iast FX hW 3 Dp3 (L := Dx dA t0 ad B wr) (Dt3) hf dX0_packs_48 (fun s2 H locs hW hf => ?_)
      refine lv_aload_n hx hb dX0_packs_49 rfl (lv_at hl 0 rfl) ?_
      refine DgX0_0_5 FX hW dX0_packs_50 ?_
      refine lv_iload_n hx hb dX0_packs_53 rfl (lv_at hl 1 rfl) ?_
      refine kD_now_has FX ⟨Nat.le_of_ble_eq_true rfl, Nat.le_of_ble_eq_true rfl⟩ ⟨Nat.zero_le _, Nat.zero_le _⟩ hl.1 (Nat.le_of_ble_eq_true rfl) hW hf dX0_packs_54 (fun r3 H locs hW hf => ?_)
      refine lv_if_ne (tgt := 69) hx hb dX0_packs_57 (by decide) (fun c57 => ?_) (fun c57 => ?_)
      · have hf := ifn c57 hf
        refine lv_iconst (v := 0) hx hb dX0_packs_69 (by decide) ?_
        refine lv_istore_n (lv' := [(3, .int (0 : Int32)), (0, .ref t0), (1, .int x1), (2, .int x2)]) hx hb dX0_packs_70 rfl hl (by decide) rfl (fun ls hl => ?_)
        exact wD_packs_71 (hrc := hrc) FX hr hlk _ x1 x2 (0 : Int32) s2 _ _ _ (lv_sub hl [1, 2, 3, 0] rfl) hW hf
      · have hf := ifp c57 hf
        refine lv_aload_n hx hb dX0_packs_60 rfl (lv_at hl 0 rfl) ?_
        refine lv_iload_n hx hb dX0_packs_61 rfl (lv_at hl 1 rfl) ?_
        refine lv_iconst (v := 1) hx hb dX0_packs_62 (by decide) ?_
        refine lv_iadd hx hb dX0_packs_63 ?_
        refine lv_iload_n hx hb dX0_packs_64 rfl (lv_at hl 2 rfl) ?_
        refine kD_packsrc hrc FX ⟨by dsimp only [rD_packs]; omega, by dsimp only [rD_packs]; omega⟩ ⟨Nat.zero_le _, Nat.zero_le _⟩ hl.1 (Nat.le_of_ble_eq_true rfl) hW hf dX0_packs_65 (fun s4 H locs hW hf => ?_)
        obtain rfl := Option.some.inj hf
        exact g_vret FX hr hlk hW dX0_packs_68
    · have hf := ifp c15 hf
      refine lv_aload_n hx hb dX0_packs_18 rfl (lv_at hl 0 rfl) ?_
      refine lv_iload_n hx hb dX0_packs_19 rfl (lv_at hl 2 rfl) ?_
      refine kX0_J15_bitCount FX ⟨Nat.le_of_ble_eq_true rfl, Nat.le_of_ble_eq_true rfl⟩ ⟨Nat.zero_le _, Nat.zero_le _⟩ hl.1 (Nat.le_of_ble_eq_true rfl) hW hf dX0_packs_20 (fun r5 H locs hW hf => ?_)
      refine DsX0_0_16 FX hW hf dX0_packs_23 (fun s6 H locs hW hf => ?_)
      refine lv_aload_n hx hb dX0_packs_26 rfl (lv_at hl 0 rfl) ?_
      refine DgX0_0_13 FX hW dX0_packs_27 ?_
      refine lv_iconst (v := 0) hx hb dX0_packs_30 (by decide) ?_
      refine lv_aload_n hx hb dX0_packs_31 rfl (lv_at hl 0 rfl) ?_
      refine DgX0_0_12 FX hW dX0_packs_32 ?_
      refine lv_iconst (v := 0) hx hb dX0_packs_35 (by decide) ?_
      refine lv_bipush (v := 8) hx hb dX0_packs_36 (by decide) ?_
      refine g_copyi FX hl.1 hW 3 2 Dp3 Dp2 q1272 (by decide) (by decide) (by decide) (Nat.le_of_ble_eq_true rfl) (Nat.le_of_ble_eq_true rfl) ⟨Nat.le_of_ble_eq_true rfl, Nat.le_of_ble_eq_true rfl⟩ (Nat.le_of_ble_eq_true rfl) (L := Dx dA t0 ad B wr) Dc3_2 hf dX0_packs_38 (fun s7 H locs hW hf => ?_)
      obtain rfl := Option.some.inj hf
      exact g_vret FX hr hlk hW dX0_packs_41
  · have hf := ifn c8 hf
    obtain rfl := Option.some.inj hf
    exact g_vret FX hr hlk hW dX0_packs_11
def pkF (dA : Nat → Nat) (B : Bk) : Nat → Int32 → Int32 → Dst → Option Dst
  | 0, _, _, _ => none
  | d + 1, x1, x2, σ => fD_packs (pkF dA B d) dA B x1 x2 σ
theorem mD_pkF {t0 : Nat} {ad : Nat → Nat} {B : Bk} {wr : va_W} : ∀ (d : Nat) (x1 x2 : Int32) (σ q : Dst), pkF dA B d x1 x2 σ = some q → CtV l yX0_packs cX0_packs 4 none (rD_packs d) D dA [.ref t0, .int x1, .int x2] (Dx dA t0 ad B wr σ) (Dx dA t0 ad B wr q) := by
  intro d
  induction d with
  | zero => intro x1 x2 σ q hf; cases (show (none : Option Dst) = some q from hf)
  | succ d ih => intro x1 x2 σ q hf; exact mD_packs (hrc := ih) hf
def fD_pk (dA : Nat → Nat) (B : Bk) (x1 x2 : Int32) (σ : Dst) : Option Dst := pkF dA B 9 x1 x2 σ
abbrev rD_pk : Room := rD_packs 9
theorem mD_pk {t0 : Nat} {ad : Nat → Nat} {B : Bk} {wr : va_W} {x1 x2 : Int32} {σ q : Dst} (hf : fD_pk dA B x1 x2 σ = some q) : CtV l yX0_packs cX0_packs 4 none rD_pk D dA [.ref t0, .int x1, .int x2] (Dx dA t0 ad B wr σ) (Dx dA t0 ad B wr q) := mD_pkF 9 x1 x2 σ q hf

set_option maxHeartbeats 4000000 in
set_option maxRecDepth 100000 in
theorem kD_packs {t0 : Nat} {ad : Nat → Nat} {B : Bk} {wr : va_W} {α : Type} {q : α} {k : Dst → Option α} {x1 : Int32} {x2 : Int32} {σ : Dst} (FX : CallFix p m c cc nL s args lw_all RX0) (hR : rD_pk.frames + 1 ≤ R.frames ∧ 8 + (4 + 11) + rD_pk.locals ≤ R.locals) (hcs : cells ≤ R.cells ∧ slots ≤ R.slots) (hl : ls.size = nL) (hrm : (rest.map fun v => v.category).sum ≤ 8) (hW : Wd D dA A s (Dx dA t0 ad B wr σ) H locs) (hf : (fD_pk dA B x1 x2 σ).bind k = some q) (hdg : decode cc pc = .ok (.invokevirtual 268, 3)) (kk : ∀ (σ1 : Dst) (H1 : Heap) (locs1 : List Loc), Wd D dA A s (Dx dA t0 ad B wr σ1) H1 locs1 → k σ1 = some q → W p l e R s m args below meth c H1 locs1 cells slots Q (F0 m (pc + 3) ls (rest))) : W p l e R s m args below meth c H locs cells slots Q (F0 m pc ls (.int x2 :: .int x1 :: .ref t0 :: rest)) := by
  obtain ⟨r1, h1, hf⟩ := bnd hf
  have hW2 := hW
  refine w_Vv (C := RX0) (As := [.int x1, .int x2]) (rest := rest) (n := 2) (wr := []) FX (mD_pk h1) (cwV 2 FX.2.2.2.2 (lw_V q1364 q1366 qs42 q123 q1367) rfl rfl rfl (by decide +kernel) hR) (va_recv hW2.2.2.2.1 hW2.1 (ci := 0) (q0 := 0) rfl rfl) rfl hl rfl hrm ⟨Nat.le_trans (Nat.le_of_eq (Nat.add_zero cells)) hcs.1, Nat.le_trans (Nat.le_of_eq (Nat.add_zero slots)) hcs.2⟩ hdg hW2.nil ?_
  exact fun H1 locs1 hW1 => kk _ H1 locs1 (hW1.nil') hf
/-! TrunkLitters.pack()I: kind W -/
def fD_pack_65 (dA : Nat → Nat) (B : Bk) (y1 : Int32) (σ : Dst) : Option (Int32 × Dst) := stp (xF σ 15 y1) fun s1 => (if (tF s1 16) ≤ (4 : Int32) then some ((tF s1 16), s1) else some ((-1 : Int32), s1))
def fD_pack_7 (dA : Nat → Nat) (B : Bk) : Nat → Int32 → Dst → Option (Int32 × Dst)
  | 0, _, _ => none
  | n + 1, x1, σ => (fD_rooms dA B σ).bind fun r1 => (if r1 ≤ x1 then (fD_pk dA B (0 : Int32) (0 : Int32) σ).bind fun s2 => (if (tF s2 16) ≤ (4 : Int32) then fD_pack_65 dA B (8 : Int32) s2 else fD_pack_65 dA B (0 : Int32) s2) else lget (bA B 6) (bI B 5) (bR B) x1 fun a3 => pck (bP B) a3 6 (pgi (bP B) a3 6 1 fun v4 => ast 4 x1 (stp (xA σ 14 x1 v4) fun s5 => fD_pack_7 dA B n (x1 + (1 : Int32)) s5)))
def fD_pack (dA : Nat → Nat) (B : Bk) (σ : Dst) : Option (Int32 × Dst) := stp (xF σ 16 (5 : Int32)) fun s1 => fD_pack_7 dA B FU (0 : Int32) s1
abbrev rD_pack : Room := { frames := 20, cells := 0, slots := 0, locals := 583 }
set_option maxHeartbeats 4000000 in
set_option maxRecDepth 100000 in
theorem wD_pack_65 {t0 : Nat} {ad : Nat → Nat} {B : Bk} {wr : va_W} {q : (Int32 × Dst)} (FX : CallFix p m c cX0_pack 2 s args lw_all RX0) (hr : meth.sig.returnType = (some .int)) (hlk : meth.locks = false) : ∀ (y1 : Int32) (σ : Dst) (H : Heap) (locs : List Loc) (ls : Array Slot), lv_has ls 2 [(0, .ref t0)] → Wd D dA A s (Dx dA t0 ad B wr σ) H locs → fD_pack_65 dA B y1 σ = some q → W p l e rD_pack s m args below meth c H locs 0 0 (QI D dA A below args s 0 0 q.1 (Dx dA t0 ad B wr q.2)) (F0 m 65 ls [.int y1, .ref t0]) := by
  have hx := FX.1; have hb := FX.2.1; have hown := FX.2.2.2.1; have hts := FX.2.2.2.2
  intro y1 σ H locs ls hl hW hf
  rw [fD_pack_65] at hf
  refine DsX0_0_15 FX hW hf dX0_pack_65 (fun s1 H locs hW hf => ?_)
  refine lv_aload_n hx hb dX0_pack_68 rfl (lv_at hl 0 rfl) ?_
  refine DgX0_0_16 FX hW dX0_pack_69 ?_
  refine lv_iconst (v := 4) hx hb dX0_pack_72 (by decide) ?_
  refine lv_icmp_le (tgt := 80) hx hb dX0_pack_73 (by decide) (fun c73 => ?_) (fun c73 => ?_)
  · have hf := ifp c73 hf
    refine lv_aload_n hx hb dX0_pack_80 rfl (lv_at hl 0 rfl) ?_
    refine DgX0_0_16 FX hW dX0_pack_81 ?_
    obtain rfl := Option.some.inj hf
    exact g_iret FX hr hlk hW rfl dX0_pack_84
  · have hf := ifn c73 hf
    refine lv_iconst (v := -1) hx hb dX0_pack_76 (by decide) ?_
    refine lv_goto (tgt := 84) hx hb dX0_pack_77 (by decide) ?_
    obtain rfl := Option.some.inj hf
    exact g_iret FX hr hlk hW rfl dX0_pack_84
set_option maxHeartbeats 4000000 in
set_option maxRecDepth 100000 in
theorem wD_pack_7 {t0 : Nat} {ad : Nat → Nat} {B : Bk} {wr : va_W} {q : (Int32 × Dst)} (FX : CallFix p m c cX0_pack 2 s args lw_all RX0) (hr : meth.sig.returnType = (some .int)) (hlk : meth.locks = false) : ∀ n : Nat, ∀ (x1 : Int32) (σ : Dst) (H : Heap) (locs : List Loc) (ls : Array Slot), lv_has ls 2 [(0, .ref t0), (1, .int x1)] → Wd D dA A s (Dx dA t0 ad B wr σ) H locs → fD_pack_7 dA B n x1 σ = some q → W p l e rD_pack s m args below meth c H locs 0 0 (QI D dA A below args s 0 0 q.1 (Dx dA t0 ad B wr q.2)) (F0 m 7 ls []) := by
  have hx := FX.1; have hb := FX.2.1; have hown := FX.2.2.2.1; have hts := FX.2.2.2.2
  intro n
  induction n with
  | zero =>
    intro x1 σ H locs ls hl hW hf
    cases (show (none : Option (Int32 × Dst)) = some q from hf)
  | succ n ih =>
    intro x1 σ H locs ls hl hW hf
    rw [fD_pack_7] at hf
    refine lv_iload_n hx hb dX0_pack_7 rfl (lv_at hl 1 rfl) ?_
    refine lv_aload_n hx hb dX0_pack_8 rfl (lv_at hl 0 rfl) ?_
    refine kD_rooms FX ⟨Nat.le_of_ble_eq_true rfl, Nat.le_of_ble_eq_true rfl⟩ ⟨Nat.zero_le _, Nat.zero_le _⟩ hl.1 (Nat.le_of_ble_eq_true rfl) hW hf dX0_pack_9 (fun r1 H locs hW hf => ?_)
    refine lv_icmp_ge (tgt := 44) hx hb dX0_pack_12 (by decide) (fun c12 => ?_) (fun c12 => ?_)
    · have hf := ifp c12 hf
      refine lv_aload_n hx hb dX0_pack_44 rfl (lv_at hl 0 rfl) ?_
      refine lv_iconst (v := 0) hx hb dX0_pack_45 (by decide) ?_
      refine lv_iconst (v := 0) hx hb dX0_pack_46 (by decide) ?_
      refine kD_packs FX ⟨Nat.le_of_ble_eq_true rfl, Nat.le_of_ble_eq_true rfl⟩ ⟨Nat.zero_le _, Nat.zero_le _⟩ hl.1 (Nat.le_of_ble_eq_true rfl) hW hf dX0_pack_47 (fun s2 H locs hW hf => ?_)
      refine lv_aload_n hx hb dX0_pack_50 rfl (lv_at hl 0 rfl) ?_
      refine lv_aload_n hx hb dX0_pack_51 rfl (lv_at hl 0 rfl) ?_
      refine DgX0_0_16 FX hW dX0_pack_52 ?_
      refine lv_iconst (v := 4) hx hb dX0_pack_55 (by decide) ?_
      refine lv_icmp_le (tgt := 63) hx hb dX0_pack_56 (by decide) (fun c56 => ?_) (fun c56 => ?_)
      · have hf := ifp c56 hf
        refine lv_bipush (v := 8) hx hb dX0_pack_63 (by decide) ?_
        exact wD_pack_65 FX hr hlk (8 : Int32) s2 _ _ _ (lv_sub hl [0] rfl) hW hf
      · have hf := ifn c56 hf
        refine lv_iconst (v := 0) hx hb dX0_pack_59 (by decide) ?_
        refine lv_goto (tgt := 65) hx hb dX0_pack_60 (by decide) ?_
        exact wD_pack_65 FX hr hlk (0 : Int32) s2 _ _ _ (lv_sub hl [0] rfl) hW hf
    · have hf := ifn c12 hf
      refine lv_aload_n hx hb dX0_pack_15 rfl (lv_at hl 0 rfl) ?_
      refine DgX0_0_14 FX hW dX0_pack_16 ?_
      refine lv_iload_n hx hb dX0_pack_19 rfl (lv_at hl 1 rfl) ?_
      refine lv_aload_n hx hb dX0_pack_20 rfl (lv_at hl 0 rfl) ?_
      refine DgX0_0_4 FX hW dX0_pack_21 ?_
      refine DgX0_45_0 FX hW dX0_pack_24 ?_
      refine lv_iload_n hx hb dX0_pack_27 rfl (lv_at hl 1 rfl) ?_
      refine DgetX0_47 FX ⟨Nat.le_of_ble_eq_true rfl, Nat.le_of_ble_eq_true rfl⟩ ⟨Nat.zero_le _, Nat.zero_le _⟩ hl.1 (Nat.le_of_ble_eq_true rfl) hW hf dX0_pack_28 (fun a3 H locs hW hf => ?_)
      refine DcstX0_X7 FX hW hf dX0_pack_31 (fun hf => ?_)
      refine DpgX0_X7_1 FX hW hf dX0_pack_34 (fun v4 hf => ?_)
      refine g_iast FX hW 4 Dp4 (L := Dx dA t0 ad B wr) (Dt4) hf dX0_pack_37 (fun s5 H locs hW hf => ?_)
      refine lv_iinc (v := (x1 + (1 : Int32))) (lv' := [(1, .int (x1 + (1 : Int32))), (0, .ref t0)]) hx hb dX0_pack_38 hl (k := 1) rfl rfl (by decide) rfl (fun ls hl => ?_)
      refine lv_goto (tgt := 7) hx hb dX0_pack_41 (by decide) ?_
      exact ih (x1 + (1 : Int32)) s5 _ _ _ (lv_sub hl [1, 0] rfl) hW hf
set_option maxHeartbeats 4000000 in
set_option maxRecDepth 100000 in
theorem mD_pack {t0 : Nat} {ad : Nat → Nat} {B : Bk} {wr : va_W}  {σ : Dst} {q : (Int32 × Dst)} (hf : fD_pack dA B σ = some q) : CtI l yX0_pack cX0_pack 2 (some .int) rD_pack D dA [.ref t0] (Dx dA t0 ad B wr σ) q.1 (Dx dA t0 ad B wr q.2) := by
  refine e_I (by decide) (Nat.le_of_ble_eq_true rfl) ?_
  intro p e s m below meth c ls A FX hr hlk hl hW
  have hx := FX.1; have hb := FX.2.1; have hown := FX.2.2.2.1; have hts := FX.2.2.2.2
  have hl : lv_has ls 2 [(0, .ref t0)] := hl
  rw [fD_pack] at hf
  refine lv_aload_n hx hb dX0_pack_0 rfl (lv_at hl 0 rfl) ?_
  refine lv_iconst (v := 5) hx hb dX0_pack_1 (by decide) ?_
  refine DsX0_0_16 FX hW hf dX0_pack_2 (fun s1 H locs hW hf => ?_)
  refine lv_iconst (v := 0) hx hb dX0_pack_5 (by decide) ?_
  refine lv_istore_n (lv' := [(1, .int (0 : Int32)), (0, .ref t0)]) hx hb dX0_pack_6 rfl hl (by decide) rfl (fun ls hl => ?_)
  exact wD_pack_7 FX hr hlk _ (0 : Int32) s1 _ _ _ (lv_sub hl [1, 0] rfl) hW hf
end PK
