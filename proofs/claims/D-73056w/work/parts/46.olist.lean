/-! java/lang/String.isLatin1()Z: kind O -/
abbrev rJ7_isLatin1 : Room := { frames := 0, cells := 0, slots := 0, locals := 0 }
def fJ7_isLatin1 (dA : Nat → Nat) (z : Nat) (t7 : Nat) (w : va_W) : Option ((Int32) × va_W × Nat × Nat) := (if (1 : Int32) = 0 then gck 0 0 rJ7_isLatin1.cells rJ7_isLatin1.slots (some ((0 : Int32), w, 0, 0)) else pgi w t7 15 1 fun v1 => (if v1 = 0 then gck 0 0 rJ7_isLatin1.cells rJ7_isLatin1.slots (some ((1 : Int32), w, 0, 0)) else gck 0 0 rJ7_isLatin1.cells rJ7_isLatin1.slots (some ((0 : Int32), w, 0, 0))))
set_option maxHeartbeats 4000000 in
set_option maxRecDepth 100000 in
theorem mJ7_isLatin1 {l : Launch} {D : va_G} {dA : Nat → ClassId} {z : Nat}  {t7 : Nat} {w : va_W} {q : ((Int32) × va_W × Nat × Nat)} (hf : fJ7_isLatin1 dA z t7 w = some q) : CtO l yJ7_isLatin1 cJ7_isLatin1 1 (some .boolean) rJ7_isLatin1 D dA [.ref t7] w z (.inl (some (.int q.1))) q.2.1 q.2.2.1 q.2.2.2 := by
  refine e_O (by decide) (Nat.le_of_ble_eq_true rfl) ?_
  intro p e s m below meth c9 ls A FX hr hlk hnm hout hl hW
  have hx := FX.1; have hb := FX.2.1; have hown := FX.2.2.2.1; have hts := FX.2.2.2.2
  have hl : lv_has ls 1 [(0, .ref t7)] := hl
  rw [fJ7_isLatin1] at hf
  refine va_gets hx hb hW.1.2.2.2.2.2.2.2.2.2.2.1 hW.1.2.2.1 FX.2.2.2.1 (FX.2.2.2.2 _ q682) (fun _ h => h) dJ7_isLatin1_0 ?_
  refine lv_if_eq (tgt := 17) hx hb dJ7_isLatin1_3 (by decide) (fun c3 => ?_) (fun c3 => ?_)
  · have hf := ifp c3 hf
    refine lv_iconst (v := 0) hx hb dJ7_isLatin1_17 (by decide) ?_
    obtain ⟨hg, hf⟩ := gck_some hf
    obtain rfl := Option.some.inj hf
    exact ro_z (v := (0 : Int32)) FX hr hlk hW hg rfl dJ7_isLatin1_18
  · have hf := ifn c3 hf
    refine lv_aload_n hx hb dJ7_isLatin1_6 rfl (lv_at hl 0 rfl) ?_
    refine og_i (C := RJ7) (T := TJ7) (N := 4) (ci := 15) FX hW in_J7 rfl 1 (by decide) q697 (fun _ h => h) hf dJ7_isLatin1_7 (fun v1 hf => ?_)
    refine lv_if_ne (tgt := 17) hx hb dJ7_isLatin1_10 (by decide) (fun c10 => ?_) (fun c10 => ?_)
    · have hf := ifn c10 hf
      refine lv_iconst (v := 0) hx hb dJ7_isLatin1_17 (by decide) ?_
      obtain ⟨hg, hf⟩ := gck_some hf
      obtain rfl := Option.some.inj hf
      exact ro_z (v := (0 : Int32)) FX hr hlk hW hg rfl dJ7_isLatin1_18
    · have hf := ifp c10 hf
      refine lv_iconst (v := 1) hx hb dJ7_isLatin1_13 (by decide) ?_
      refine lv_goto (tgt := 18) hx hb dJ7_isLatin1_14 (by decide) ?_
      obtain ⟨hg, hf⟩ := gck_some hf
      obtain rfl := Option.some.inj hf
      exact ro_z (v := (1 : Int32)) FX hr hlk hW hg rfl dJ7_isLatin1_18
/-! jdk/internal/util/ArraysSupport.signedHashCode(I[BII)I: kind O -/
abbrev rJ9_signedHashCode : Room := { frames := 0, cells := 0, slots := 0, locals := 0 }
def fJ9_signedHashCode_8 (dA : Nat → Nat) (z : Nat) : Nat → Int32 → Nat → Int32 → Int32 → va_W → Nat → Nat → Option ((Int32) × va_W × Nat × Nat)
  | 0, _, _, _, _, _, _, _ => none
  | n + 1, x0, x1, x4, x5, w, c, y => (if x4 ≤ x5 then gck c y rJ9_signedHashCode.cells rJ9_signedHashCode.slots (some (x0, w, c, y)) else hald w (dA 1) x1 x5 fun v1 => fJ9_signedHashCode_8 dA z n (((31 : Int32) * x0) + (v1 &&& (255 : Int32))) x1 x4 (x5 + (1 : Int32)) w c y)
def fJ9_signedHashCode (dA : Nat → Nat) (z : Nat) (h7 : Int32) (a7 : Nat) (f7 : Int32) (n7 : Int32) (w : va_W) : Option ((Int32) × va_W × Nat × Nat) := fJ9_signedHashCode_8 dA z FU h7 a7 (f7 + n7) f7 w 0 0
set_option maxHeartbeats 4000000 in
set_option maxRecDepth 100000 in
theorem wJ9_signedHashCode_8 {l : Launch} {D : va_G} {dA : Nat → ClassId} {z : Nat} {p : Program} {e : Env} {s : State} {m : MethodId} {args : Array Value} {below : List Frame} {meth : Method} {c9 : Code} {A : Nat → Prop} {q : ((Int32) × va_W × Nat × Nat)} (FX : CallFix p m c9 cJ9_signedHashCode 6 s args lw_all RJ9) (hr : meth.sig.returnType = (some .int)) (hlk : meth.locks = false) (hnm : meth.name = yJ9_signedHashCode.name) (hout : ∀ x ∈ c9.exceptionTable.toList, False) : ∀ n : Nat, ∀ (x0 : Int32) (x1 : Nat) (x4 : Int32) (x5 : Int32) (w : va_W) (c : Nat) (y : Nat) (H : Heap) (locs : List Loc) (ls : Array Slot), lv_has ls 6 [(0, .int x0), (1, .ref x1), (4, .int x4), (5, .int x5)] → Wo D dA A s w z c H locs → fJ9_signedHashCode_8 dA z n x0 x1 x4 x5 w c y = some q → W p l e rJ9_signedHashCode s m args below meth c9 H locs c y (QO D dA A below args s rJ9_signedHashCode.cells rJ9_signedHashCode.slots (.inl (some (.int q.1))) q.2.1 (z + q.2.2.1) q.2.2.2) (F0 m 8 ls []) := by
  have hx := FX.1; have hb := FX.2.1; have hown := FX.2.2.2.1; have hts := FX.2.2.2.2
  intro n
  induction n with
  | zero =>
    intro x0 x1 x4 x5 w c y H locs ls hl hW hf
    cases (show (none : Option ((Int32) × va_W × Nat × Nat)) = some q from hf)
  | succ n ih =>
    intro x0 x1 x4 x5 w c y H locs ls hl hW hf
    rw [fJ9_signedHashCode_8] at hf
    refine lv_iload hx hb dJ9_signedHashCode_8 (lv_at hl 3 rfl) ?_
    refine lv_iload hx hb dJ9_signedHashCode_10 (lv_at hl 2 rfl) ?_
    refine lv_icmp_ge (tgt := 35) hx hb dJ9_signedHashCode_12 (by decide) (fun c12 => ?_) (fun c12 => ?_)
    · have hf := ifp c12 hf
      refine lv_iload_n hx hb dJ9_signedHashCode_35 rfl (lv_at hl 0 rfl) ?_
      obtain ⟨hg, hf⟩ := gck_some hf
      obtain rfl := Option.some.inj hf
      exact ro_i FX hr hlk hW hg dJ9_signedHashCode_36
    · have hf := ifn c12 hf
      refine lv_bipush (v := 31) hx hb dJ9_signedHashCode_15 (by decide) ?_
      refine lv_iload_n hx hb dJ9_signedHashCode_17 rfl (lv_at hl 0 rfl) ?_
      refine lv_imul hx hb dJ9_signedHashCode_18 ?_
      refine lv_aload_n hx hb dJ9_signedHashCode_19 rfl (lv_at hl 1 rfl) ?_
      refine lv_iload hx hb dJ9_signedHashCode_20 (lv_at hl 3 rfl) ?_
      refine o_bald FX hW.1 hf dJ9_signedHashCode_22 (fun v1 hf => ?_)
      refine lv_sipush (v := 255) hx hb dJ9_signedHashCode_23 (by decide) ?_
      refine lv_iand hx hb dJ9_signedHashCode_26 ?_
      refine lv_iadd hx hb dJ9_signedHashCode_27 ?_
      refine lv_istore_n (lv' := [(0, .int (((31 : Int32) * x0) + (v1 &&& (255 : Int32)))), (1, .ref x1), (4, .int x4), (5, .int x5)]) hx hb dJ9_signedHashCode_28 rfl hl (by decide) rfl (fun ls hl => ?_)
      refine lv_iinc (v := (x5 + (1 : Int32))) (lv' := [(5, .int (x5 + (1 : Int32))), (0, .int (((31 : Int32) * x0) + (v1 &&& (255 : Int32)))), (1, .ref x1), (4, .int x4)]) hx hb dJ9_signedHashCode_29 hl (k := 3) rfl rfl (by decide) rfl (fun ls hl => ?_)
      refine lv_goto (tgt := 8) hx hb dJ9_signedHashCode_32 (by decide) ?_
      exact ih (((31 : Int32) * x0) + (v1 &&& (255 : Int32))) x1 x4 (x5 + (1 : Int32)) w c y _ _ _ (lv_sub hl [1, 2, 3, 0] rfl) hW hf
set_option maxHeartbeats 4000000 in
set_option maxRecDepth 100000 in
theorem mJ9_signedHashCode {l : Launch} {D : va_G} {dA : Nat → ClassId} {z : Nat}  {h7 : Int32} {a7 : Nat} {f7 : Int32} {n7 : Int32} {w : va_W} {q : ((Int32) × va_W × Nat × Nat)} (hf : fJ9_signedHashCode dA z h7 a7 f7 n7 w = some q) : CtO l yJ9_signedHashCode cJ9_signedHashCode 6 (some .int) rJ9_signedHashCode D dA [.int h7, .ref a7, .int f7, .int n7] w z (.inl (some (.int q.1))) q.2.1 q.2.2.1 q.2.2.2 := by
  refine e_O (by decide) (Nat.le_of_ble_eq_true rfl) ?_
  intro p e s m below meth c9 ls A FX hr hlk hnm hout hl hW
  have hx := FX.1; have hb := FX.2.1; have hown := FX.2.2.2.1; have hts := FX.2.2.2.2
  have hl : lv_has ls 6 [(0, .int h7), (1, .ref a7), (2, .int f7), (3, .int n7)] := hl
  rw [fJ9_signedHashCode] at hf
  refine lv_iload_n hx hb dJ9_signedHashCode_0 rfl (lv_at hl 2 rfl) ?_
  refine lv_iload_n hx hb dJ9_signedHashCode_1 rfl (lv_at hl 3 rfl) ?_
  refine lv_iadd hx hb dJ9_signedHashCode_2 ?_
  refine lv_istore (lv' := [(4, .int (f7 + n7)), (0, .int h7), (1, .ref a7), (2, .int f7), (3, .int n7)]) hx hb dJ9_signedHashCode_3 hl (by decide) rfl (fun ls hl => ?_)
  refine lv_iload_n hx hb dJ9_signedHashCode_5 rfl (lv_at hl 3 rfl) ?_
  refine lv_istore (lv' := [(5, .int f7), (4, .int (f7 + n7)), (0, .int h7), (1, .ref a7), (2, .int f7), (3, .int n7)]) hx hb dJ9_signedHashCode_6 hl (by decide) rfl (fun ls hl => ?_)
  exact wJ9_signedHashCode_8 FX hr hlk hnm hout _ h7 a7 (f7 + n7) f7 w 0 0 _ _ _ (lv_sub hl [2, 3, 1, 0] rfl) hW hf
/-! jdk/internal/util/ArraysSupport.vectorizedHashCode(Ljava/lang/Object;IIII)I: kind O -/
abbrev rJ9_vectorizedHashCode : Room := { frames := 1, cells := 0, slots := 0, locals := 25 }
def fJ9_vectorizedHashCode (dA : Nat → Nat) (z : Nat) (a7 : Nat) (f7 : Int32) (n7 : Int32) (h7 : Int32) (t7 : Int32) (w : va_W) : Option ((Int32) × va_W × Nat × Nat) := (if t7 = (4 : Int32) then hck w (dA 1) a7 (ocal rJ9_vectorizedHashCode.cells rJ9_vectorizedHashCode.slots 0 0 rJ9_signedHashCode.cells rJ9_signedHashCode.slots (fJ9_signedHashCode dA (z + 0) h7 a7 f7 n7 w) fun r1 w2 c3 y4 => gck c3 y4 rJ9_vectorizedHashCode.cells rJ9_vectorizedHashCode.slots (some (r1, w2, c3, y4))) else (if t7 = (5 : Int32) then none else (if t7 = (6 : Int32) then none else (if t7 = (7 : Int32) then none else (if t7 = (8 : Int32) then none else (if t7 = (9 : Int32) then none else (if t7 = (10 : Int32) then none else none)))))))
set_option maxHeartbeats 4000000 in
set_option maxRecDepth 100000 in
theorem mJ9_vectorizedHashCode {l : Launch} {D : va_G} {dA : Nat → ClassId} {z : Nat}  {a7 : Nat} {f7 : Int32} {n7 : Int32} {h7 : Int32} {t7 : Int32} {w : va_W} {q : ((Int32) × va_W × Nat × Nat)} (hf : fJ9_vectorizedHashCode dA z a7 f7 n7 h7 t7 w = some q) : CtO l yJ9_vectorizedHashCode cJ9_vectorizedHashCode 5 (some .int) rJ9_vectorizedHashCode D dA [.ref a7, .int f7, .int n7, .int h7, .int t7] w z (.inl (some (.int q.1))) q.2.1 q.2.2.1 q.2.2.2 := by
  refine e_O (by decide) (Nat.le_of_ble_eq_true rfl) ?_
  intro p e s m below meth c9 ls A FX hr hlk hnm hout hl hW
  have hx := FX.1; have hb := FX.2.1; have hown := FX.2.2.2.1; have hts := FX.2.2.2.2
  have hl : lv_has ls 5 [(0, .ref a7), (1, .int f7), (2, .int n7), (3, .int h7), (4, .int t7)] := hl
  rw [fJ9_vectorizedHashCode] at hf
  refine lv_iload hx hb dJ9_vectorizedHashCode_0 (lv_at hl 4 rfl) ?_
  by_cases c2_4 : t7 = (4 : Int32)
  · have hf := ifp c2_4 hf
    refine g_tabC (tgt := 44) FX (4 : Int32) c2_4 (by decide) (by decide) rfl (by decide) dJ9_vectorizedHashCode_2 ?_
    refine lv_iload_n hx hb dJ9_vectorizedHashCode_44 rfl (lv_at hl 3 rfl) ?_
    refine lv_aload_n hx hb dJ9_vectorizedHashCode_45 rfl (lv_at hl 0 rfl) ?_
    obtain ⟨hv9, hf⟩ := hck_some hf
    refine o_castB FX hW q762 hv9 dJ9_vectorizedHashCode_46 ?_
    refine lv_iload_n hx hb dJ9_vectorizedHashCode_49 rfl (lv_at hl 1 rfl) ?_
    refine lv_iload_n hx hb dJ9_vectorizedHashCode_50 rfl (lv_at hl 2 rfl) ?_
    refine oc_i hW hf (fun r0 h0 hg => o_S (As := [.int h7, .ref a7, .int f7, .int n7]) (rest := []) (n := 4) FX (mJ9_signedHashCode h0) (va_cwS 4 FX.2.2.2.2 (lw_S q763 q764 q138 q765) rfl rfl rfl (by decide +kernel) ⟨Nat.le_of_ble_eq_true rfl, Nat.le_of_ble_eq_true rfl⟩) rfl hl.1 rfl (Nat.le_of_ble_eq_true rfl) hg dJ9_vectorizedHashCode_51 hW) (fun r1 w2 c3 y4 H locs hW hf => ?_)
    refine lv_goto (tgt := 157) hx hb dJ9_vectorizedHashCode_54 (by decide) ?_
    obtain ⟨hg, hf⟩ := gck_some hf
    obtain rfl := Option.some.inj hf
    exact ro_i FX hr hlk hW hg dJ9_vectorizedHashCode_157
  have hf := ifn c2_4 hf
  by_cases c2_5 : t7 = (5 : Int32)
  · have hf := ifp c2_5 hf
    refine g_tabC (tgt := 57) FX (5 : Int32) c2_5 (by decide) (by decide) rfl (by decide) dJ9_vectorizedHashCode_2 ?_
    cases hf
  have hf := ifn c2_5 hf
  by_cases c2_6 : t7 = (6 : Int32)
  · have hf := ifp c2_6 hf
    refine g_tabC (tgt := 129) FX (6 : Int32) c2_6 (by decide) (by decide) rfl (by decide) dJ9_vectorizedHashCode_2 ?_
    cases hf
  have hf := ifn c2_6 hf
  by_cases c2_7 : t7 = (7 : Int32)
  · have hf := ifp c2_7 hf
    refine g_tabC (tgt := 129) FX (7 : Int32) c2_7 (by decide) (by decide) rfl (by decide) dJ9_vectorizedHashCode_2 ?_
    cases hf
  have hf := ifn c2_7 hf
  by_cases c2_8 : t7 = (8 : Int32)
  · have hf := ifp c2_8 hf
    refine g_tabC (tgt := 90) FX (8 : Int32) c2_8 (by decide) (by decide) rfl (by decide) dJ9_vectorizedHashCode_2 ?_
    cases hf
  have hf := ifn c2_8 hf
  by_cases c2_9 : t7 = (9 : Int32)
  · have hf := ifp c2_9 hf
    refine g_tabC (tgt := 103) FX (9 : Int32) c2_9 (by decide) (by decide) rfl (by decide) dJ9_vectorizedHashCode_2 ?_
    cases hf
  have hf := ifn c2_9 hf
  by_cases c2_10 : t7 = (10 : Int32)
  · have hf := ifp c2_10 hf
    refine g_tabC (tgt := 116) FX (10 : Int32) c2_10 (by decide) (by decide) rfl (by decide) dJ9_vectorizedHashCode_2 ?_
    cases hf
  have hf := ifn c2_10 hf
  have n2_4 := lv_neT (a := 4) c2_4 (by decide)
  have n2_5 := lv_neT (a := 5) c2_5 (by decide)
  have n2_6 := lv_neT (a := 6) c2_6 (by decide)
  have n2_7 := lv_neT (a := 7) c2_7 (by decide)
  have n2_8 := lv_neT (a := 8) c2_8 (by decide)
  have n2_9 := lv_neT (a := 9) c2_9 (by decide)
  have n2_10 := lv_neT (a := 10) c2_10 (by decide)
  refine lv_tableOut (tgt := 129) hx hb dJ9_vectorizedHashCode_2 (by omega) (by decide) ?_
  cases hf
/-! java/lang/StringLatin1.hashCode([B)I: kind O -/
abbrev rJ12_hashCode : Room := { frames := 2, cells := 0, slots := 0, locals := 49 }
def fJ12_hashCode (dA : Nat → Nat) (z : Nat) (a7 : Nat) (w : va_W) : Option ((Int32) × va_W × Nat × Nat) := hlen w (dA 1) a7 fun v1 => (if v1 = (0 : Int32) then gck 0 0 rJ12_hashCode.cells rJ12_hashCode.slots (some ((0 : Int32), w, 0, 0)) else (if v1 = (1 : Int32) then hald w (dA 1) a7 (0 : Int32) fun v2 => gck 0 0 rJ12_hashCode.cells rJ12_hashCode.slots (some ((v2 &&& (255 : Int32)), w, 0, 0)) else hlen w (dA 1) a7 fun v3 => ocal rJ12_hashCode.cells rJ12_hashCode.slots 0 0 rJ9_vectorizedHashCode.cells rJ9_vectorizedHashCode.slots (fJ9_vectorizedHashCode dA (z + 0) a7 (0 : Int32) v3 (0 : Int32) (4 : Int32) w) fun r4 w5 c6 y7 => gck c6 y7 rJ12_hashCode.cells rJ12_hashCode.slots (some (r4, w5, c6, y7))))
set_option maxHeartbeats 4000000 in
set_option maxRecDepth 100000 in
theorem mJ12_hashCode {l : Launch} {D : va_G} {dA : Nat → ClassId} {z : Nat}  {a7 : Nat} {w : va_W} {q : ((Int32) × va_W × Nat × Nat)} (hf : fJ12_hashCode dA z a7 w = some q) : CtO l yJ12_hashCode cJ12_hashCode 1 (some .int) rJ12_hashCode D dA [.ref a7] w z (.inl (some (.int q.1))) q.2.1 q.2.2.1 q.2.2.2 := by
  refine e_O (by decide) (Nat.le_of_ble_eq_true rfl) ?_
  intro p e s m below meth c9 ls A FX hr hlk hnm hout hl hW
  have hx := FX.1; have hb := FX.2.1; have hown := FX.2.2.2.1; have hts := FX.2.2.2.2
  have hl : lv_has ls 1 [(0, .ref a7)] := hl
  rw [fJ12_hashCode] at hf
  refine lv_aload_n hx hb dJ12_hashCode_0 rfl (lv_at hl 0 rfl) ?_
  refine o_len FX hW.1 1 rfl hf dJ12_hashCode_1 (fun v1 hf => ?_)
  by_cases c2_0 : v1 = (0 : Int32)
  · have hf := ifp c2_0 hf
    refine g_lookC (tgt := 28) FX (0 : Int32) c2_0 (by decide) rfl (by decide) dJ12_hashCode_2 ?_
    refine lv_iconst (v := 0) hx hb dJ12_hashCode_28 (by decide) ?_
    refine lv_goto (tgt := 51) hx hb dJ12_hashCode_29 (by decide) ?_
    obtain ⟨hg, hf⟩ := gck_some hf
    obtain rfl := Option.some.inj hf
    exact ro_i FX hr hlk hW hg dJ12_hashCode_51
  have hf := ifn c2_0 hf
  by_cases c2_1 : v1 = (1 : Int32)
  · have hf := ifp c2_1 hf
    refine g_lookC (tgt := 32) FX (1 : Int32) c2_1 (by decide) rfl (by decide) dJ12_hashCode_2 ?_
    refine lv_aload_n hx hb dJ12_hashCode_32 rfl (lv_at hl 0 rfl) ?_
    refine lv_iconst (v := 0) hx hb dJ12_hashCode_33 (by decide) ?_
    refine o_bald FX hW.1 hf dJ12_hashCode_34 (fun v2 hf => ?_)
    refine lv_sipush (v := 255) hx hb dJ12_hashCode_35 (by decide) ?_
    refine lv_iand hx hb dJ12_hashCode_38 ?_
    refine lv_goto (tgt := 51) hx hb dJ12_hashCode_39 (by decide) ?_
    obtain ⟨hg, hf⟩ := gck_some hf
    obtain rfl := Option.some.inj hf
    exact ro_i FX hr hlk hW hg dJ12_hashCode_51
  have hf := ifn c2_1 hf
  refine lv_lookup (tgt := 42) (off := 40) hx hb dJ12_hashCode_2 (by decide) ((lv_osw c2_0 (by decide)).trans ((lv_osw c2_1 (by decide)).trans rfl)) (by decide) ?_
  refine lv_aload_n hx hb dJ12_hashCode_42 rfl (lv_at hl 0 rfl) ?_
  refine lv_iconst (v := 0) hx hb dJ12_hashCode_43 (by decide) ?_
  refine lv_aload_n hx hb dJ12_hashCode_44 rfl (lv_at hl 0 rfl) ?_
  refine o_len FX hW.1 1 rfl hf dJ12_hashCode_45 (fun v3 hf => ?_)
  refine lv_iconst (v := 0) hx hb dJ12_hashCode_46 (by decide) ?_
  refine lv_iconst (v := 4) hx hb dJ12_hashCode_47 (by decide) ?_
  refine oc_i hW hf (fun r0 h0 hg => o_S (As := [.ref a7, .int (0 : Int32), .int v3, .int (0 : Int32), .int (4 : Int32)]) (rest := []) (n := 5) FX (mJ9_vectorizedHashCode h0) (va_cwS 5 FX.2.2.2.2 (lw_S q759 q760 q138 q761) rfl rfl rfl (by decide +kernel) ⟨Nat.le_of_ble_eq_true rfl, Nat.le_of_ble_eq_true rfl⟩) rfl hl.1 rfl (Nat.le_of_ble_eq_true rfl) hg dJ12_hashCode_48 hW) (fun r4 w5 c6 y7 H locs hW hf => ?_)
  obtain ⟨hg, hf⟩ := gck_some hf
  obtain rfl := Option.some.inj hf
  exact ro_i FX hr hlk hW hg dJ12_hashCode_51
/-! java/lang/String.hashCode()I: kind O -/
abbrev rJ7_hashCode : Room := { frames := 3, cells := 0, slots := 0, locals := 69 }
def fJ7_hashCode (dA : Nat → Nat) (z : Nat) (t7 : Nat) (w : va_W) : Option ((Int32) × va_W × Nat × Nat) := pgi w t7 15 2 fun v1 => (if v1 = 0 then pgi w t7 15 3 fun v2 => (if v2 = 0 then pck w t7 15 (ocal rJ7_hashCode.cells rJ7_hashCode.slots 0 0 rJ7_isLatin1.cells rJ7_isLatin1.slots (fJ7_isLatin1 dA (z + 0) t7 w) fun r3 w4 c5 y6 => (if r3 = 0 then none else pgR w4 t7 15 0 fun v7 => ocal rJ7_hashCode.cells rJ7_hashCode.slots c5 y6 rJ12_hashCode.cells rJ12_hashCode.slots (fJ12_hashCode dA (z + c5) v7 w4) fun r8 w9 c10 y11 => (if r8 = 0 then ppt w9 t7 15 3 (.int (1 : Int32)) fun w13 => gck c10 y11 rJ7_hashCode.cells rJ7_hashCode.slots (some (r8, w13, c10, y11)) else ppt w9 t7 15 2 (.int r8) fun w12 => gck c10 y11 rJ7_hashCode.cells rJ7_hashCode.slots (some (r8, w12, c10, y11))))) else gck 0 0 rJ7_hashCode.cells rJ7_hashCode.slots (some (v1, w, 0, 0))) else gck 0 0 rJ7_hashCode.cells rJ7_hashCode.slots (some (v1, w, 0, 0)))
set_option maxHeartbeats 4000000 in
set_option maxRecDepth 100000 in
theorem mJ7_hashCode {l : Launch} {D : va_G} {dA : Nat → ClassId} {z : Nat}  {t7 : Nat} {w : va_W} {q : ((Int32) × va_W × Nat × Nat)} (hf : fJ7_hashCode dA z t7 w = some q) : CtO l yJ7_hashCode cJ7_hashCode 2 (some .int) rJ7_hashCode D dA [.ref t7] w z (.inl (some (.int q.1))) q.2.1 q.2.2.1 q.2.2.2 := by
  refine e_O (by decide) (Nat.le_of_ble_eq_true rfl) ?_
  intro p e s m below meth c9 ls A FX hr hlk hnm hout hl hW
  have hx := FX.1; have hb := FX.2.1; have hown := FX.2.2.2.1; have hts := FX.2.2.2.2
  have hl : lv_has ls 2 [(0, .ref t7)] := hl
  rw [fJ7_hashCode] at hf
  refine lv_aload_n hx hb dJ7_hashCode_0 rfl (lv_at hl 0 rfl) ?_
  refine og_i (C := RJ7) (T := TJ7) (N := 4) (ci := 15) FX hW in_J7 rfl 2 (by decide) q698 (fun _ h => h) hf dJ7_hashCode_1 (fun v1 hf => ?_)
  refine lv_istore_n (lv' := [(1, .int v1), (0, .ref t7)]) hx hb dJ7_hashCode_4 rfl hl (by decide) rfl (fun ls hl => ?_)
  refine lv_iload_n hx hb dJ7_hashCode_5 rfl (lv_at hl 0 rfl) ?_
  refine lv_if_ne (tgt := 58) hx hb dJ7_hashCode_6 (by decide) (fun c6 => ?_) (fun c6 => ?_)
  · have hf := ifn c6 hf
    refine lv_iload_n hx hb dJ7_hashCode_58 rfl (lv_at hl 0 rfl) ?_
    obtain ⟨hg, hf⟩ := gck_some hf
    obtain rfl := Option.some.inj hf
    exact ro_i FX hr hlk hW hg dJ7_hashCode_59
  · have hf := ifp c6 hf
    refine lv_aload_n hx hb dJ7_hashCode_9 rfl (lv_at hl 1 rfl) ?_
    refine og_i (C := RJ7) (T := TJ7) (N := 4) (ci := 15) FX hW in_J7 rfl 3 (by decide) q699 (fun _ h => h) hf dJ7_hashCode_10 (fun v2 hf => ?_)
    refine lv_if_ne (tgt := 58) hx hb dJ7_hashCode_13 (by decide) (fun c13 => ?_) (fun c13 => ?_)
    · have hf := ifn c13 hf
      refine lv_iload_n hx hb dJ7_hashCode_58 rfl (lv_at hl 0 rfl) ?_
      obtain ⟨hg, hf⟩ := gck_some hf
      obtain rfl := Option.some.inj hf
      exact ro_i FX hr hlk hW hg dJ7_hashCode_59
    · have hf := ifp c13 hf
      refine lv_aload_n hx hb dJ7_hashCode_16 rfl (lv_at hl 1 rfl) ?_
      obtain ⟨hv9, hf⟩ := pck_some hf
      refine oc_i hW hf (fun r0 h0 hg => o_V (C := RJ7) (As := []) (rest := []) (n := 0) FX (mJ7_isLatin1 h0) (cwV 0 FX.2.2.2.2 (lw_V q752 q753 q754 q136 q755) rfl rfl rfl (by decide +kernel) ⟨Nat.le_of_ble_eq_true rfl, Nat.le_of_ble_eq_true rfl⟩) (o_recv hW rfl hv9) rfl hl.1 rfl (Nat.le_of_ble_eq_true rfl) hg dJ7_hashCode_17 hW) (fun r3 w4 c5 y6 H locs hW hf => ?_)
      refine lv_if_eq (tgt := 33) hx hb dJ7_hashCode_20 (by decide) (fun c20 => ?_) (fun c20 => ?_)
      · have hf := ifp c20 hf
        cases hf
      · have hf := ifn c20 hf
        refine lv_aload_n hx hb dJ7_hashCode_23 rfl (lv_at hl 1 rfl) ?_
        refine og_R (C := RJ7) (T := TJ7) (N := 4) (ci := 15) FX hW in_J7 rfl 0 (by decide) q696 (fun _ h => h) hf dJ7_hashCode_24 (fun v7 hf => ?_)
        refine oc_i hW hf (fun r0 h0 hg => o_S (As := [.ref v7]) (rest := []) (n := 1) FX (mJ12_hashCode h0) (va_cwS 1 FX.2.2.2.2 (lw_S q756 q757 q142 q758) rfl rfl rfl (by decide +kernel) ⟨Nat.le_of_ble_eq_true rfl, Nat.le_of_ble_eq_true rfl⟩) rfl hl.1 rfl (Nat.le_of_ble_eq_true rfl) hg dJ7_hashCode_27 hW) (fun r8 w9 c10 y11 H locs hW hf => ?_)
        refine lv_goto (tgt := 40) hx hb dJ7_hashCode_30 (by decide) ?_
        refine lv_istore_n (lv' := [(1, .int r8), (0, .ref t7)]) hx hb dJ7_hashCode_40 rfl hl (by decide) rfl (fun ls hl => ?_)
        refine lv_iload_n hx hb dJ7_hashCode_41 rfl (lv_at hl 0 rfl) ?_
        refine lv_if_ne (tgt := 53) hx hb dJ7_hashCode_42 (by decide) (fun c42 => ?_) (fun c42 => ?_)
        · have hf := ifn c42 hf
          refine lv_aload_n hx hb dJ7_hashCode_53 rfl (lv_at hl 1 rfl) ?_
          refine lv_iload_n hx hb dJ7_hashCode_54 rfl (lv_at hl 0 rfl) ?_
          refine op_put (C := RJ7) (T := TJ7) (N := 4) (ci := 15) (ty := .int) FX hW in_J7 tyJ7 tyJ7_ok nmJ7 rfl 2 (by decide) q698 (fun _ h => h) rfl (by decide +kernel) rfl rfl hf dJ7_hashCode_55 (fun w12 H locs hW hf => ?_)
          refine lv_iload_n hx hb dJ7_hashCode_58 rfl (lv_at hl 0 rfl) ?_
          obtain ⟨hg, hf⟩ := gck_some hf
          obtain rfl := Option.some.inj hf
          exact ro_i FX hr hlk hW hg dJ7_hashCode_59
        · have hf := ifp c42 hf
          refine lv_aload_n hx hb dJ7_hashCode_45 rfl (lv_at hl 1 rfl) ?_
          refine lv_iconst (v := 1) hx hb dJ7_hashCode_46 (by decide) ?_
          refine op_put (C := RJ7) (T := TJ7) (N := 4) (ci := 15) (ty := .boolean) FX hW in_J7 tyJ7 tyJ7_ok nmJ7 rfl 3 (by decide) q699 (fun _ h => h) rfl (by decide +kernel) rfl rfl hf dJ7_hashCode_47 (fun w13 H locs hW hf => ?_)
          refine lv_goto (tgt := 58) hx hb dJ7_hashCode_50 (by decide) ?_
          refine lv_iload_n hx hb dJ7_hashCode_58 rfl (lv_at hl 0 rfl) ?_
          obtain ⟨hg, hf⟩ := gck_some hf
          obtain rfl := Option.some.inj hf
          exact ro_i FX hr hlk hW hg dJ7_hashCode_59
/-! jdk/internal/util/ArraysSupport.newLength(III)I: kind O -/
abbrev rJ9_newLength : Room := { frames := 1, cells := 0, slots := 0, locals := 30 }
def fJ9_newLength (dA : Nat → Nat) (z : Nat) (a7 : Int32) (b7 : Int32) (c7 : Int32) (w : va_W) : Option ((Int32) × va_W × Nat × Nat) := gck 0 0 rJ9_newLength.cells rJ9_newLength.slots ((if (a7 + (if b7 < c7 then c7 else b7)) ≤ (0 : Int32) then none else (if (2147483639 : Int32) < (a7 + (if b7 < c7 then c7 else b7)) then none else gck 0 0 rJ9_newLength.cells rJ9_newLength.slots (some ((a7 + (if b7 < c7 then c7 else b7)), w, 0, 0)))))
set_option maxHeartbeats 4000000 in
set_option maxRecDepth 100000 in
theorem mJ9_newLength {l : Launch} {D : va_G} {dA : Nat → ClassId} {z : Nat}  {a7 : Int32} {b7 : Int32} {c7 : Int32} {w : va_W} {q : ((Int32) × va_W × Nat × Nat)} (hf : fJ9_newLength dA z a7 b7 c7 w = some q) : CtO l yJ9_newLength cJ9_newLength 4 (some .int) rJ9_newLength D dA [.int a7, .int b7, .int c7] w z (.inl (some (.int q.1))) q.2.1 q.2.2.1 q.2.2.2 := by
  refine e_O (by decide) (Nat.le_of_ble_eq_true rfl) ?_
  intro p e s m below meth c9 ls A FX hr hlk hnm hout hl hW
  have hx := FX.1; have hb := FX.2.1; have hown := FX.2.2.2.1; have hts := FX.2.2.2.2
  have hl : lv_has ls 4 [(0, .int a7), (1, .int b7), (2, .int c7)] := hl
  rw [fJ9_newLength] at hf
  refine lv_iload_n hx hb dJ9_newLength_0 rfl (lv_at hl 0 rfl) ?_
  refine lv_iload_n hx hb dJ9_newLength_1 rfl (lv_at hl 1 rfl) ?_
  refine lv_iload_n hx hb dJ9_newLength_2 rfl (lv_at hl 2 rfl) ?_
  obtain ⟨hg9, hf⟩ := gck_some hf
  refine va_mmax hx hb (FX.2.2.1.trans hl.1.symm) hown (hts _ q571) (hts _ q572) (hts _ q139) (hts _ q573) (Nat.le_of_ble_eq_true rfl) (Nat.le_of_ble_eq_true rfl) hg9.1 hg9.2 dJ9_newLength_3 ?_
  refine lv_iadd hx hb dJ9_newLength_6 ?_
  refine lv_istore_n (lv' := [(3, .int (a7 + (if b7 < c7 then c7 else b7))), (0, .int a7), (1, .int b7), (2, .int c7)]) hx hb dJ9_newLength_7 rfl hl (by decide) rfl (fun ls hl => ?_)
  refine lv_iconst (v := 0) hx hb dJ9_newLength_8 (by decide) ?_
  refine lv_iload_n hx hb dJ9_newLength_9 rfl (lv_at hl 0 rfl) ?_
  refine lv_icmp_ge (tgt := 21) hx hb dJ9_newLength_10 (by decide) (fun c10 => ?_) (fun c10 => ?_)
  · have hf := ifp c10 hf
    cases hf
  · have hf := ifn c10 hf
    refine lv_iload_n hx hb dJ9_newLength_13 rfl (lv_at hl 0 rfl) ?_
    refine lv_ldc (v := 2147483639) hx hb hown (hts _ q574) dJ9_newLength_14 ?_
    refine lv_icmp_gt (tgt := 21) hx hb dJ9_newLength_16 (by decide) (fun c16 => ?_) (fun c16 => ?_)
    · have hf := ifp c16 hf
      cases hf
    · have hf := ifn c16 hf
      refine lv_iload_n hx hb dJ9_newLength_19 rfl (lv_at hl 0 rfl) ?_
      obtain ⟨hg, hf⟩ := gck_some hf
      obtain rfl := Option.some.inj hf
      exact ro_i FX hr hlk hW hg dJ9_newLength_20
/-! java/util/Arrays.copyOf([Ljava/lang/Object;ILjava/lang/Class;)[Ljava/lang/Object;: kind O -/
abbrev rJ11_copyOf_3 : Room := { frames := 1, cells := 1, slots := 100, locals := 60 }
def fJ11_copyOf_3 (dA : Nat → Nat) (z : Nat) (a7 : Nat) (n7 : Int32) (k7 : Nat) (w : va_W) : Option ((Nat) × va_W × Nat × Nat) := (if k7 = (dA 99) then gsz n7 fun N => onew rJ11_copyOf_3.cells rJ11_copyOf_3.slots 0 0 N w (z + 0) (.inl (dA 4, N, .inr (.inr (.inr (.inr (fun _ => none)))))) fun w1 c2 y3 => hqlen w1 (dA 4) a7 fun v4 => gck c2 y3 rJ11_copyOf_3.cells rJ11_copyOf_3.slots (hcpq w1 (dA 4) a7 (z + 0) (z + c2) (if n7 < v4 then n7 else v4) fun w5 => gck c2 y3 rJ11_copyOf_3.cells rJ11_copyOf_3.slots (some ((z + 0), w5, c2, y3))) else none)
set_option maxHeartbeats 4000000 in
set_option maxRecDepth 100000 in
theorem mJ11_copyOf_3 {l : Launch} {D : va_G} {dA : Nat → ClassId} {z : Nat}  {a7 : Nat} {n7 : Int32} {k7 : Nat} {w : va_W} {q : ((Nat) × va_W × Nat × Nat)} (hf : fJ11_copyOf_3 dA z a7 n7 k7 w = some q) : CtO l yJ11_copyOf_3 cJ11_copyOf_3 4 (some (Jvm.ClassFile.FieldType.array (Jvm.ClassFile.FieldType.object "java/lang/Object"))) rJ11_copyOf_3 D dA [.ref a7, .int n7, .ref k7] w z (.inl (some (.ref q.1))) q.2.1 q.2.2.1 q.2.2.2 := by
  refine e_O (by decide) (Nat.le_of_ble_eq_true rfl) ?_
  intro p e s m below meth c9 ls A FX hr hlk hnm hout hl hW
  have hx := FX.1; have hb := FX.2.1; have hown := FX.2.2.2.1; have hts := FX.2.2.2.2
  have hl : lv_has ls 4 [(0, .ref a7), (1, .int n7), (2, .ref k7)] := hl
  rw [fJ11_copyOf_3] at hf
  refine lv_aload_n hx hb dJ11_copyOf_3_0 rfl (lv_at hl 2 rfl) ?_
  refine o_ldcC FX hW q983 dJ11_copyOf_3_1 ?_
  refine lv_acmp_ne (rx := some k7) (ry := some (dA 99)) (tgt := 13) hx hb dJ11_copyOf_3_3 (by decide) (fun c9a => ?_) (fun c9a => ?_)
  · have hf := ifn (fun e9 => c9a (congrArg some e9)) hf
    cases hf
  · have hf := ifp (Option.some.inj c9a) hf
    refine lv_iload_n hx hb dJ11_copyOf_3_6 rfl (lv_at hl 1 rfl) ?_
    refine on_newO FX hW q984 hf dJ11_copyOf_3_7 (fun w1 c2 y3 H hW hf => ?_)
    refine lv_goto (tgt := 24) hx hb dJ11_copyOf_3_10 (by decide) ?_
    refine lv_astore_n (lv' := [(3, .ref (z + 0)), (0, .ref a7), (1, .int n7), (2, .ref k7)]) hx hb dJ11_copyOf_3_24 rfl hl (by decide) rfl (fun ls hl => ?_)
    refine lv_aload_n hx hb dJ11_copyOf_3_25 rfl (lv_at hl 1 rfl) ?_
    refine lv_iconst (v := 0) hx hb dJ11_copyOf_3_26 (by decide) ?_
    refine lv_aload_n hx hb dJ11_copyOf_3_27 rfl (lv_at hl 0 rfl) ?_
    refine lv_iconst (v := 0) hx hb dJ11_copyOf_3_28 (by decide) ?_
    refine lv_aload_n hx hb dJ11_copyOf_3_29 rfl (lv_at hl 1 rfl) ?_
    refine o_qlen FX hW hf dJ11_copyOf_3_30 (fun v4 hf => ?_)
    refine lv_iload_n hx hb dJ11_copyOf_3_31 rfl (lv_at hl 2 rfl) ?_
    obtain ⟨hg9, hf⟩ := gck_some hf
    refine va_mmin hx hb (FX.2.2.1.trans hl.1.symm) hown (hts _ q589) (hts _ q590) (hts _ q139) (hts _ q591) (Nat.le_of_ble_eq_true rfl) (Nat.le_of_ble_eq_true rfl) hg9.1 hg9.2 dJ11_copyOf_3_32 ?_
    refine o_cpq FX hW q592 hl.1 hf ⟨(Nat.le_of_ble_eq_true rfl), by decide +kernel⟩ (Nat.le_of_ble_eq_true rfl) dJ11_copyOf_3_35 (fun w5 H locs hW hf => ?_)
    refine lv_aload_n hx hb dJ11_copyOf_3_38 rfl (lv_at hl 0 rfl) ?_
    obtain ⟨hg, hf⟩ := gck_some hf
    obtain rfl := Option.some.inj hf
    exact ro_a (v := some (z + 0)) FX hr (Or.inr ⟨_, rfl⟩) hlk hW hg dJ11_copyOf_3_39
/-! java/util/Arrays.copyOf([Ljava/lang/Object;I)[Ljava/lang/Object;: kind O -/
abbrev rJ11_copyOf_2 : Room := { frames := 2, cells := 1, slots := 100, locals := 83 }
def fJ11_copyOf_2 (dA : Nat → Nat) (z : Nat) (a7 : Nat) (n7 : Int32) (w : va_W) : Option ((Nat) × va_W × Nat × Nat) := hqk w (dA 4) a7 (ocal rJ11_copyOf_2.cells rJ11_copyOf_2.slots 0 0 rJ11_copyOf_3.cells rJ11_copyOf_3.slots (fJ11_copyOf_3 dA (z + 0) a7 n7 (dA 99) w) fun r1 w2 c3 y4 => gck c3 y4 rJ11_copyOf_2.cells rJ11_copyOf_2.slots (some (r1, w2, c3, y4)))
set_option maxHeartbeats 4000000 in
set_option maxRecDepth 100000 in
theorem mJ11_copyOf_2 {l : Launch} {D : va_G} {dA : Nat → ClassId} {z : Nat}  {a7 : Nat} {n7 : Int32} {w : va_W} {q : ((Nat) × va_W × Nat × Nat)} (hf : fJ11_copyOf_2 dA z a7 n7 w = some q) : CtO l yJ11_copyOf_2 cJ11_copyOf_2 2 (some (Jvm.ClassFile.FieldType.array (Jvm.ClassFile.FieldType.object "java/lang/Object"))) rJ11_copyOf_2 D dA [.ref a7, .int n7] w z (.inl (some (.ref q.1))) q.2.1 q.2.2.1 q.2.2.2 := by
  refine e_O (by decide) (Nat.le_of_ble_eq_true rfl) ?_
  intro p e s m below meth c9 ls A FX hr hlk hnm hout hl hW
  have hx := FX.1; have hb := FX.2.1; have hown := FX.2.2.2.1; have hts := FX.2.2.2.2
  have hl : lv_has ls 2 [(0, .ref a7), (1, .int n7)] := hl
  rw [fJ11_copyOf_2] at hf
  refine lv_aload_n hx hb dJ11_copyOf_2_0 rfl (lv_at hl 0 rfl) ?_
  refine lv_iload_n hx hb dJ11_copyOf_2_1 rfl (lv_at hl 1 rfl) ?_
  refine lv_aload_n hx hb dJ11_copyOf_2_2 rfl (lv_at hl 0 rfl) ?_
  refine o_getC FX hW q954 q955 hl.1 hf ⟨(Nat.le_of_ble_eq_true rfl), (Nat.le_of_ble_eq_true rfl)⟩ (Nat.le_of_ble_eq_true rfl) dJ11_copyOf_2_3 (fun hf => ?_)
  refine oc_R hW hf (fun r0 h0 hg => o_S (As := [.ref a7, .int n7, .ref (dA 99)]) (rest := []) (n := 3) FX (mJ11_copyOf_3 h0) (va_cwS 3 FX.2.2.2.2 (lw_S q980 q981 q140 q982) rfl rfl rfl (by decide +kernel) ⟨Nat.le_of_ble_eq_true rfl, Nat.le_of_ble_eq_true rfl⟩) rfl hl.1 rfl (Nat.le_of_ble_eq_true rfl) hg dJ11_copyOf_2_6 hW) (fun r1 w2 c3 y4 H locs hW hf => ?_)
  obtain ⟨hg, hf⟩ := gck_some hf
  obtain rfl := Option.some.inj hf
  exact ro_a (v := some r1) FX hr (Or.inr ⟨_, rfl⟩) hlk hW hg dJ11_copyOf_2_9
/-! java/util/ArrayList.grow(I)[Ljava/lang/Object;: kind O -/
abbrev rJ2_grow_2 : Room := { frames := 3, cells := 1, slots := 100, locals := 104 }
def fJ2_grow_2 (dA : Nat → Nat) (z : Nat) (t7 : Nat) (n7 : Int32) (w : va_W) : Option ((Nat) × va_W × Nat × Nat) := pgR w t7 13 1 fun v1 => hqlen w (dA 4) v1 fun v2 => (if 0 < v2 then ocal rJ2_grow_2.cells rJ2_grow_2.slots 0 0 rJ9_newLength.cells rJ9_newLength.slots (fJ9_newLength dA (z + 0) v2 (n7 - v2) (v2 >>> ((1 : Int32) &&& 31)) w) fun r3 w4 c5 y6 => pgR w4 t7 13 1 fun v7 => ocal rJ2_grow_2.cells rJ2_grow_2.slots c5 y6 rJ11_copyOf_2.cells rJ11_copyOf_2.slots (fJ11_copyOf_2 dA (z + c5) v7 r3 w4) fun r8 w9 c10 y11 => ppt w9 t7 13 1 (.ref r8) fun w12 => gck c10 y11 rJ2_grow_2.cells rJ2_grow_2.slots (some (r8, w12, c10, y11)) else none)
set_option maxHeartbeats 4000000 in
set_option maxRecDepth 100000 in
theorem mJ2_grow_2 {l : Launch} {D : va_G} {dA : Nat → ClassId} {z : Nat}  {t7 : Nat} {n7 : Int32} {w : va_W} {q : ((Nat) × va_W × Nat × Nat)} (hf : fJ2_grow_2 dA z t7 n7 w = some q) : CtO l yJ2_grow_2 cJ2_grow_2 4 (some (Jvm.ClassFile.FieldType.array (Jvm.ClassFile.FieldType.object "java/lang/Object"))) rJ2_grow_2 D dA [.ref t7, .int n7] w z (.inl (some (.ref q.1))) q.2.1 q.2.2.1 q.2.2.2 := by
  refine e_O (by decide) (Nat.le_of_ble_eq_true rfl) ?_
  intro p e s m below meth c9 ls A FX hr hlk hnm hout hl hW
  have hx := FX.1; have hb := FX.2.1; have hown := FX.2.2.2.1; have hts := FX.2.2.2.2
  have hl : lv_has ls 4 [(0, .ref t7), (1, .int n7)] := hl
  rw [fJ2_grow_2] at hf
  refine lv_aload_n hx hb dJ2_grow_2_0 rfl (lv_at hl 0 rfl) ?_
  refine og_R (C := RJ2) (T := TJ2) (N := 3) (ci := 13) FX hW in_J2 rfl 1 (by decide) q186 (fun _ h => h) hf dJ2_grow_2_1 (fun v1 hf => ?_)
  refine o_qlen FX hW hf dJ2_grow_2_4 (fun v2 hf => ?_)
  refine lv_istore_n (lv' := [(2, .int v2), (0, .ref t7), (1, .int n7)]) hx hb dJ2_grow_2_5 rfl hl (by decide) rfl (fun ls hl => ?_)
  refine lv_iload_n hx hb dJ2_grow_2_6 rfl (lv_at hl 0 rfl) ?_
  refine lv_if_gt (tgt := 20) hx hb dJ2_grow_2_7 (by decide) (fun c7 => ?_) (fun c7 => ?_)
  · have hf := ifp c7 hf
    refine lv_iload_n hx hb dJ2_grow_2_20 rfl (lv_at hl 0 rfl) ?_
    refine lv_iload_n hx hb dJ2_grow_2_21 rfl (lv_at hl 2 rfl) ?_
    refine lv_iload_n hx hb dJ2_grow_2_22 rfl (lv_at hl 0 rfl) ?_
    refine lv_isub hx hb dJ2_grow_2_23 ?_
    refine lv_iload_n hx hb dJ2_grow_2_24 rfl (lv_at hl 0 rfl) ?_
    refine lv_iconst (v := 1) hx hb dJ2_grow_2_25 (by decide) ?_
    refine lv_ishr hx hb dJ2_grow_2_26 ?_
    refine oc_i hW hf (fun r0 h0 hg => o_S (As := [.int v2, .int (n7 - v2), .int (v2 >>> ((1 : Int32) &&& 31))]) (rest := []) (n := 3) FX (mJ9_newLength h0) (va_cwS 3 FX.2.2.2.2 (lw_S q950 q569 q138 q570) rfl rfl rfl (by decide +kernel) ⟨Nat.le_of_ble_eq_true rfl, Nat.le_of_ble_eq_true rfl⟩) rfl hl.1 rfl (Nat.le_of_ble_eq_true rfl) hg dJ2_grow_2_27 hW) (fun r3 w4 c5 y6 H locs hW hf => ?_)
    refine lv_istore_n (lv' := [(3, .int r3), (2, .int v2), (0, .ref t7), (1, .int n7)]) hx hb dJ2_grow_2_30 rfl hl (by decide) rfl (fun ls hl => ?_)
    refine lv_aload_n hx hb dJ2_grow_2_31 rfl (lv_at hl 2 rfl) ?_
    refine lv_aload_n hx hb dJ2_grow_2_32 rfl (lv_at hl 2 rfl) ?_
    refine og_R (C := RJ2) (T := TJ2) (N := 3) (ci := 13) FX hW in_J2 rfl 1 (by decide) q186 (fun _ h => h) hf dJ2_grow_2_33 (fun v7 hf => ?_)
    refine lv_iload_n hx hb dJ2_grow_2_36 rfl (lv_at hl 0 rfl) ?_
    refine oc_R hW hf (fun r0 h0 hg => o_S (As := [.ref v7, .int r3]) (rest := [.ref t7]) (n := 2) FX (mJ11_copyOf_2 h0) (va_cwS 2 FX.2.2.2.2 (lw_S q951 q952 q140 q953) rfl rfl rfl (by decide +kernel) ⟨Nat.le_of_ble_eq_true rfl, Nat.le_of_ble_eq_true rfl⟩) rfl hl.1 rfl (Nat.le_of_ble_eq_true rfl) hg dJ2_grow_2_37 hW) (fun r8 w9 c10 y11 H locs hW hf => ?_)
    refine lv_dup_x1 hx hb dJ2_grow_2_40 rfl rfl ?_
    refine op_put (C := RJ2) (T := TJ2) (N := 3) (ci := 13) (ty := (.array (.object "java/lang/Object"))) FX hW in_J2 tyJ2 tyJ2_ok nmJ2 rfl 1 (by decide) q186 (fun _ h => h) rfl (by decide +kernel) rfl rfl hf dJ2_grow_2_41 (fun w12 H locs hW hf => ?_)
    obtain ⟨hg, hf⟩ := gck_some hf
    obtain rfl := Option.some.inj hf
    exact ro_a (v := some r8) FX hr (Or.inr ⟨_, rfl⟩) hlk hW hg dJ2_grow_2_44
  · have hf := ifn c7 hf
    cases hf
/-! java/util/ArrayList.grow()[Ljava/lang/Object;: kind O -/
abbrev rJ2_grow : Room := { frames := 4, cells := 1, slots := 100, locals := 127 }
def fJ2_grow (dA : Nat → Nat) (z : Nat) (t7 : Nat) (w : va_W) : Option ((Nat) × va_W × Nat × Nat) := pgi w t7 13 2 fun v1 => pck w t7 13 (ocal rJ2_grow.cells rJ2_grow.slots 0 0 rJ2_grow_2.cells rJ2_grow_2.slots (fJ2_grow_2 dA (z + 0) t7 (v1 + (1 : Int32)) w) fun r2 w3 c4 y5 => gck c4 y5 rJ2_grow.cells rJ2_grow.slots (some (r2, w3, c4, y5)))
set_option maxHeartbeats 4000000 in
set_option maxRecDepth 100000 in
theorem mJ2_grow {l : Launch} {D : va_G} {dA : Nat → ClassId} {z : Nat}  {t7 : Nat} {w : va_W} {q : ((Nat) × va_W × Nat × Nat)} (hf : fJ2_grow dA z t7 w = some q) : CtO l yJ2_grow cJ2_grow 1 (some (Jvm.ClassFile.FieldType.array (Jvm.ClassFile.FieldType.object "java/lang/Object"))) rJ2_grow D dA [.ref t7] w z (.inl (some (.ref q.1))) q.2.1 q.2.2.1 q.2.2.2 := by
  refine e_O (by decide) (Nat.le_of_ble_eq_true rfl) ?_
  intro p e s m below meth c9 ls A FX hr hlk hnm hout hl hW
  have hx := FX.1; have hb := FX.2.1; have hown := FX.2.2.2.1; have hts := FX.2.2.2.2
  have hl : lv_has ls 1 [(0, .ref t7)] := hl
  rw [fJ2_grow] at hf
  refine lv_aload_n hx hb dJ2_grow_0 rfl (lv_at hl 0 rfl) ?_
  refine lv_aload_n hx hb dJ2_grow_1 rfl (lv_at hl 0 rfl) ?_
  refine og_i (C := RJ2) (T := TJ2) (N := 3) (ci := 13) FX hW in_J2 rfl 2 (by decide) q187 (fun _ h => h) hf dJ2_grow_2 (fun v1 hf => ?_)
  refine lv_iconst (v := 1) hx hb dJ2_grow_5 (by decide) ?_
  refine lv_iadd hx hb dJ2_grow_6 ?_
  obtain ⟨hv9, hf⟩ := pck_some hf
  refine oc_R hW hf (fun r0 h0 hg => o_V (C := RJ2) (As := [.int (v1 + (1 : Int32))]) (rest := []) (n := 1) FX (mJ2_grow_2 h0) (cwV 1 FX.2.2.2.2 (lw_V q944 q946 qs18 q127 q947) rfl rfl rfl (by decide +kernel) ⟨Nat.le_of_ble_eq_true rfl, Nat.le_of_ble_eq_true rfl⟩) (o_recv hW rfl hv9) rfl hl.1 rfl (Nat.le_of_ble_eq_true rfl) hg dJ2_grow_7 hW) (fun r2 w3 c4 y5 H locs hW hf => ?_)
  obtain ⟨hg, hf⟩ := gck_some hf
  obtain rfl := Option.some.inj hf
  exact ro_a (v := some r2) FX hr (Or.inr ⟨_, rfl⟩) hlk hW hg dJ2_grow_10
/-! java/util/ArrayList.add(Ljava/lang/Object;[Ljava/lang/Object;I)V: kind O -/
abbrev rJ2_add_2r : Room := { frames := 5, cells := 1, slots := 100, locals := 147 }
def fJ2_add_2r_11 (dA : Nat → Nat) (z : Nat) (x0 : Nat) (x1 : Nat) (x2 : Nat) (x3 : Int32) (w : va_W) (c : Nat) (y : Nat) : Option ((Unit) × va_W × Nat × Nat) := hqst w (dA 4) x2 x3 x1 6 fun w1 => ppt w1 x0 13 2 (.int (x3 + (1 : Int32))) fun w2 => gck c y rJ2_add_2r.cells rJ2_add_2r.slots (some ((), w2, c, y))
def fJ2_add_2r (dA : Nat → Nat) (z : Nat) (t7 : Nat) (x7 : Nat) (a7 : Nat) (n7 : Int32) (w : va_W) : Option ((Unit) × va_W × Nat × Nat) := hqlen w (dA 4) a7 fun v1 => (if n7 = v1 then pck w t7 13 (ocal rJ2_add_2r.cells rJ2_add_2r.slots 0 0 rJ2_grow.cells rJ2_grow.slots (fJ2_grow dA (z + 0) t7 w) fun r2 w3 c4 y5 => fJ2_add_2r_11 dA z t7 x7 r2 n7 w3 c4 y5) else fJ2_add_2r_11 dA z t7 x7 a7 n7 w 0 0)
set_option maxHeartbeats 4000000 in
set_option maxRecDepth 100000 in
theorem wJ2_add_2r_11 {l : Launch} {D : va_G} {dA : Nat → ClassId} {z : Nat} {p : Program} {e : Env} {s : State} {m : MethodId} {args : Array Value} {below : List Frame} {meth : Method} {c9 : Code} {A : Nat → Prop} {q : ((Unit) × va_W × Nat × Nat)} (FX : CallFix p m c9 cJ2_add_2 4 s args lw_all RJ2) (hr : meth.sig.returnType = none) (hlk : meth.locks = false) (hnm : meth.name = yJ2_add_2.name) (hout : ∀ x ∈ c9.exceptionTable.toList, False) : ∀ (x0 : Nat) (x1 : Nat) (x2 : Nat) (x3 : Int32) (w : va_W) (c : Nat) (y : Nat) (H : Heap) (locs : List Loc) (ls : Array Slot), lv_has ls 4 [(0, .ref x0), (1, .ref x1), (2, .ref x2), (3, .int x3)] → Wo D dA A s w z c H locs → fJ2_add_2r_11 dA z x0 x1 x2 x3 w c y = some q → W p l e rJ2_add_2r s m args below meth c9 H locs c y (QO D dA A below args s rJ2_add_2r.cells rJ2_add_2r.slots (.inl none) q.2.1 (z + q.2.2.1) q.2.2.2) (F0 m 11 ls []) := by
  have hx := FX.1; have hb := FX.2.1; have hown := FX.2.2.2.1; have hts := FX.2.2.2.2
  intro x0 x1 x2 x3 w c y H locs ls hl hW hf
  rw [fJ2_add_2r_11] at hf
  refine lv_aload_n hx hb dJ2_add_2_11 rfl (lv_at hl 2 rfl) ?_
  refine lv_iload_n hx hb dJ2_add_2_12 rfl (lv_at hl 3 rfl) ?_
  refine lv_aload_n hx hb dJ2_add_2_13 rfl (lv_at hl 1 rfl) ?_
  refine op_aast (ci := 6) FX hW rfl (hW.gx.1 _ (List.mem_of_getElem? (i := 14) rfl)) hf dJ2_add_2_14 (fun w1 H locs hW hf => ?_)
  refine lv_aload_n hx hb dJ2_add_2_15 rfl (lv_at hl 0 rfl) ?_
  refine lv_iload_n hx hb dJ2_add_2_16 rfl (lv_at hl 3 rfl) ?_
  refine lv_iconst (v := 1) hx hb dJ2_add_2_17 (by decide) ?_
  refine lv_iadd hx hb dJ2_add_2_18 ?_
  refine op_put (C := RJ2) (T := TJ2) (N := 3) (ci := 13) (ty := .int) FX hW in_J2 tyJ2 tyJ2_ok nmJ2 rfl 2 (by decide) q187 (fun _ h => h) rfl (by decide +kernel) rfl rfl hf dJ2_add_2_19 (fun w2 H locs hW hf => ?_)
  obtain ⟨hg, hf⟩ := gck_some hf
  obtain rfl := Option.some.inj hf
  exact ro_v FX hr hlk hW hg dJ2_add_2_22
set_option maxHeartbeats 4000000 in
set_option maxRecDepth 100000 in
theorem mJ2_add_2r {l : Launch} {D : va_G} {dA : Nat → ClassId} {z : Nat}  {t7 : Nat} {x7 : Nat} {a7 : Nat} {n7 : Int32} {w : va_W} {q : ((Unit) × va_W × Nat × Nat)} (hf : fJ2_add_2r dA z t7 x7 a7 n7 w = some q) : CtO l yJ2_add_2 cJ2_add_2 4 none rJ2_add_2r D dA [.ref t7, .ref x7, .ref a7, .int n7] w z (.inl none) q.2.1 q.2.2.1 q.2.2.2 := by
  refine e_O (by decide) (Nat.le_of_ble_eq_true rfl) ?_
  intro p e s m below meth c9 ls A FX hr hlk hnm hout hl hW
  have hx := FX.1; have hb := FX.2.1; have hown := FX.2.2.2.1; have hts := FX.2.2.2.2
  have hl : lv_has ls 4 [(0, .ref t7), (1, .ref x7), (2, .ref a7), (3, .int n7)] := hl
  rw [fJ2_add_2r] at hf
  refine lv_iload_n hx hb dJ2_add_2_0 rfl (lv_at hl 3 rfl) ?_
  refine lv_aload_n hx hb dJ2_add_2_1 rfl (lv_at hl 2 rfl) ?_
  refine o_qlen FX hW hf dJ2_add_2_2 (fun v1 hf => ?_)
  refine lv_icmp_ne (tgt := 11) hx hb dJ2_add_2_3 (by decide) (fun c3 => ?_) (fun c3 => ?_)
  · have hf := ifn c3 hf
    exact wJ2_add_2r_11 FX hr hlk hnm hout t7 x7 a7 n7 w 0 0 _ _ _ (lv_sub hl [0, 1, 2, 3] rfl) hW hf
  · have hf := ifp c3 hf
    refine lv_aload_n hx hb dJ2_add_2_6 rfl (lv_at hl 0 rfl) ?_
    obtain ⟨hv9, hf⟩ := pck_some hf
    refine oc_R hW hf (fun r0 h0 hg => o_V (C := RJ2) (As := []) (rest := []) (n := 0) FX (mJ2_grow h0) (cwV 0 FX.2.2.2.2 (lw_V q940 q942 qs17 q127 q943) rfl rfl rfl (by decide +kernel) ⟨Nat.le_of_ble_eq_true rfl, Nat.le_of_ble_eq_true rfl⟩) (o_recv hW rfl hv9) rfl hl.1 rfl (Nat.le_of_ble_eq_true rfl) hg dJ2_add_2_7 hW) (fun r2 w3 c4 y5 H locs hW hf => ?_)
    refine lv_astore_n (lv' := [(2, .ref r2), (0, .ref t7), (1, .ref x7), (3, .int n7)]) hx hb dJ2_add_2_10 rfl hl (by decide) rfl (fun ls hl => ?_)
    exact wJ2_add_2r_11 FX hr hlk hnm hout t7 x7 r2 n7 w3 c4 y5 _ _ _ (lv_sub hl [1, 2, 0, 3] rfl) hW hf
/-! java/util/ArrayList.add(Ljava/lang/Object;)Z: kind O -/
abbrev rJ2_addr : Room := { frames := 6, cells := 1, slots := 100, locals := 170 }
def fJ2_addr (dA : Nat → Nat) (z : Nat) (t7 : Nat) (x7 : Nat) (w : va_W) : Option ((Int32) × va_W × Nat × Nat) := pgi w t7 13 0 fun v1 => ppt w t7 13 0 (.int (v1 + (1 : Int32))) fun w2 => pgR w2 t7 13 1 fun v3 => pgi w2 t7 13 2 fun v4 => pck w2 t7 13 (ocal rJ2_addr.cells rJ2_addr.slots 0 0 rJ2_add_2r.cells rJ2_add_2r.slots (fJ2_add_2r dA (z + 0) t7 x7 v3 v4 w2) fun r5 w6 c7 y8 => gck c7 y8 rJ2_addr.cells rJ2_addr.slots (some ((1 : Int32), w6, c7, y8)))
set_option maxHeartbeats 4000000 in
set_option maxRecDepth 100000 in
theorem mJ2_addr {l : Launch} {D : va_G} {dA : Nat → ClassId} {z : Nat}  {t7 : Nat} {x7 : Nat} {w : va_W} {q : ((Int32) × va_W × Nat × Nat)} (hf : fJ2_addr dA z t7 x7 w = some q) : CtO l yJ2_add cJ2_add 2 (some .boolean) rJ2_addr D dA [.ref t7, .ref x7] w z (.inl (some (.int q.1))) q.2.1 q.2.2.1 q.2.2.2 := by
  refine e_O (by decide) (Nat.le_of_ble_eq_true rfl) ?_
  intro p e s m below meth c9 ls A FX hr hlk hnm hout hl hW
  have hx := FX.1; have hb := FX.2.1; have hown := FX.2.2.2.1; have hts := FX.2.2.2.2
  have hl : lv_has ls 2 [(0, .ref t7), (1, .ref x7)] := hl
  rw [fJ2_addr] at hf
  refine lv_aload_n hx hb dJ2_add_0 rfl (lv_at hl 0 rfl) ?_
  refine lv_dup hx hb dJ2_add_1 rfl ?_
  refine og_i (C := RJ2) (T := TJ2) (N := 3) (ci := 13) FX hW in_J2 rfl 0 (by decide) q189 (fun x h => u_same (FX.2.2.2.2 _ q190) x h) hf dJ2_add_2 (fun v1 hf => ?_)
  refine lv_iconst (v := 1) hx hb dJ2_add_5 (by decide) ?_
  refine lv_iadd hx hb dJ2_add_6 ?_
  refine op_put (C := RJ2) (T := TJ2) (N := 3) (ci := 13) (ty := .int) FX hW in_J2 tyJ2 tyJ2_ok nmJ2 rfl 0 (by decide) q189 (fun x h => u_same (FX.2.2.2.2 _ q190) x h) rfl (by decide +kernel) rfl rfl hf dJ2_add_7 (fun w2 H locs hW hf => ?_)
  refine lv_aload_n hx hb dJ2_add_10 rfl (lv_at hl 0 rfl) ?_
  refine lv_aload_n hx hb dJ2_add_11 rfl (lv_at hl 1 rfl) ?_
  refine lv_aload_n hx hb dJ2_add_12 rfl (lv_at hl 0 rfl) ?_
  refine og_R (C := RJ2) (T := TJ2) (N := 3) (ci := 13) FX hW in_J2 rfl 1 (by decide) q186 (fun _ h => h) hf dJ2_add_13 (fun v3 hf => ?_)
  refine lv_aload_n hx hb dJ2_add_16 rfl (lv_at hl 0 rfl) ?_
  refine og_i (C := RJ2) (T := TJ2) (N := 3) (ci := 13) FX hW in_J2 rfl 2 (by decide) q187 (fun _ h => h) hf dJ2_add_17 (fun v4 hf => ?_)
  obtain ⟨hv9, hf⟩ := pck_some hf
  refine oc_v hW hf (fun r0 h0 hg => o_V (C := RJ2) (As := [.ref x7, .ref v3, .int v4]) (rest := []) (n := 3) FX (mJ2_add_2r h0) (cwV 3 FX.2.2.2.2 (lw_V q936 q938 qs16 q127 q939) rfl rfl rfl (by decide +kernel) ⟨Nat.le_of_ble_eq_true rfl, Nat.le_of_ble_eq_true rfl⟩) (o_recv hW rfl hv9) rfl hl.1 rfl (Nat.le_of_ble_eq_true rfl) hg dJ2_add_20 hW) (fun w6 c7 y8 H locs hW hf => ?_)
  refine lv_iconst (v := 1) hx hb dJ2_add_23 (by decide) ?_
  obtain ⟨hg, hf⟩ := gck_some hf
  obtain rfl := Option.some.inj hf
  exact ro_z (v := (1 : Int32)) FX hr hlk hW hg rfl dJ2_add_24
/-! java/util/ArrayList.add(Ljava/lang/Object;[Ljava/lang/Object;I)V: kind O -/
abbrev rJ2_add_2t : Room := { frames := 5, cells := 1, slots := 100, locals := 147 }
def fJ2_add_2t_11 (dA : Nat → Nat) (z : Nat) (x0 : Nat) (x1 : Nat) (x2 : Nat) (x3 : Int32) (w : va_W) (c : Nat) (y : Nat) : Option ((Unit) × va_W × Nat × Nat) := hqst w (dA 4) x2 x3 x1 8 fun w1 => ppt w1 x0 13 2 (.int (x3 + (1 : Int32))) fun w2 => gck c y rJ2_add_2t.cells rJ2_add_2t.slots (some ((), w2, c, y))
def fJ2_add_2t (dA : Nat → Nat) (z : Nat) (t7 : Nat) (x7 : Nat) (a7 : Nat) (n7 : Int32) (w : va_W) : Option ((Unit) × va_W × Nat × Nat) := hqlen w (dA 4) a7 fun v1 => (if n7 = v1 then pck w t7 13 (ocal rJ2_add_2t.cells rJ2_add_2t.slots 0 0 rJ2_grow.cells rJ2_grow.slots (fJ2_grow dA (z + 0) t7 w) fun r2 w3 c4 y5 => fJ2_add_2t_11 dA z t7 x7 r2 n7 w3 c4 y5) else fJ2_add_2t_11 dA z t7 x7 a7 n7 w 0 0)
set_option maxHeartbeats 4000000 in
set_option maxRecDepth 100000 in
theorem wJ2_add_2t_11 {l : Launch} {D : va_G} {dA : Nat → ClassId} {z : Nat} {p : Program} {e : Env} {s : State} {m : MethodId} {args : Array Value} {below : List Frame} {meth : Method} {c9 : Code} {A : Nat → Prop} {q : ((Unit) × va_W × Nat × Nat)} (FX : CallFix p m c9 cJ2_add_2 4 s args lw_all RJ2) (hr : meth.sig.returnType = none) (hlk : meth.locks = false) (hnm : meth.name = yJ2_add_2.name) (hout : ∀ x ∈ c9.exceptionTable.toList, False) : ∀ (x0 : Nat) (x1 : Nat) (x2 : Nat) (x3 : Int32) (w : va_W) (c : Nat) (y : Nat) (H : Heap) (locs : List Loc) (ls : Array Slot), lv_has ls 4 [(0, .ref x0), (1, .ref x1), (2, .ref x2), (3, .int x3)] → Wo D dA A s w z c H locs → fJ2_add_2t_11 dA z x0 x1 x2 x3 w c y = some q → W p l e rJ2_add_2t s m args below meth c9 H locs c y (QO D dA A below args s rJ2_add_2t.cells rJ2_add_2t.slots (.inl none) q.2.1 (z + q.2.2.1) q.2.2.2) (F0 m 11 ls []) := by
  have hx := FX.1; have hb := FX.2.1; have hown := FX.2.2.2.1; have hts := FX.2.2.2.2
  intro x0 x1 x2 x3 w c y H locs ls hl hW hf
  rw [fJ2_add_2t_11] at hf
  refine lv_aload_n hx hb dJ2_add_2_11 rfl (lv_at hl 2 rfl) ?_
  refine lv_iload_n hx hb dJ2_add_2_12 rfl (lv_at hl 3 rfl) ?_
  refine lv_aload_n hx hb dJ2_add_2_13 rfl (lv_at hl 1 rfl) ?_
  refine op_aast (ci := 8) FX hW rfl (hW.gx.1 _ (List.mem_of_getElem? (i := 15) rfl)) hf dJ2_add_2_14 (fun w1 H locs hW hf => ?_)
  refine lv_aload_n hx hb dJ2_add_2_15 rfl (lv_at hl 0 rfl) ?_
  refine lv_iload_n hx hb dJ2_add_2_16 rfl (lv_at hl 3 rfl) ?_
  refine lv_iconst (v := 1) hx hb dJ2_add_2_17 (by decide) ?_
  refine lv_iadd hx hb dJ2_add_2_18 ?_
  refine op_put (C := RJ2) (T := TJ2) (N := 3) (ci := 13) (ty := .int) FX hW in_J2 tyJ2 tyJ2_ok nmJ2 rfl 2 (by decide) q187 (fun _ h => h) rfl (by decide +kernel) rfl rfl hf dJ2_add_2_19 (fun w2 H locs hW hf => ?_)
  obtain ⟨hg, hf⟩ := gck_some hf
  obtain rfl := Option.some.inj hf
  exact ro_v FX hr hlk hW hg dJ2_add_2_22
set_option maxHeartbeats 4000000 in
set_option maxRecDepth 100000 in
theorem mJ2_add_2t {l : Launch} {D : va_G} {dA : Nat → ClassId} {z : Nat}  {t7 : Nat} {x7 : Nat} {a7 : Nat} {n7 : Int32} {w : va_W} {q : ((Unit) × va_W × Nat × Nat)} (hf : fJ2_add_2t dA z t7 x7 a7 n7 w = some q) : CtO l yJ2_add_2 cJ2_add_2 4 none rJ2_add_2t D dA [.ref t7, .ref x7, .ref a7, .int n7] w z (.inl none) q.2.1 q.2.2.1 q.2.2.2 := by
  refine e_O (by decide) (Nat.le_of_ble_eq_true rfl) ?_
  intro p e s m below meth c9 ls A FX hr hlk hnm hout hl hW
  have hx := FX.1; have hb := FX.2.1; have hown := FX.2.2.2.1; have hts := FX.2.2.2.2
  have hl : lv_has ls 4 [(0, .ref t7), (1, .ref x7), (2, .ref a7), (3, .int n7)] := hl
  rw [fJ2_add_2t] at hf
  refine lv_iload_n hx hb dJ2_add_2_0 rfl (lv_at hl 3 rfl) ?_
  refine lv_aload_n hx hb dJ2_add_2_1 rfl (lv_at hl 2 rfl) ?_
  refine o_qlen FX hW hf dJ2_add_2_2 (fun v1 hf => ?_)
  refine lv_icmp_ne (tgt := 11) hx hb dJ2_add_2_3 (by decide) (fun c3 => ?_) (fun c3 => ?_)
  · have hf := ifn c3 hf
    exact wJ2_add_2t_11 FX hr hlk hnm hout t7 x7 a7 n7 w 0 0 _ _ _ (lv_sub hl [0, 1, 2, 3] rfl) hW hf
  · have hf := ifp c3 hf
    refine lv_aload_n hx hb dJ2_add_2_6 rfl (lv_at hl 0 rfl) ?_
    obtain ⟨hv9, hf⟩ := pck_some hf
    refine oc_R hW hf (fun r0 h0 hg => o_V (C := RJ2) (As := []) (rest := []) (n := 0) FX (mJ2_grow h0) (cwV 0 FX.2.2.2.2 (lw_V q940 q942 qs17 q127 q943) rfl rfl rfl (by decide +kernel) ⟨Nat.le_of_ble_eq_true rfl, Nat.le_of_ble_eq_true rfl⟩) (o_recv hW rfl hv9) rfl hl.1 rfl (Nat.le_of_ble_eq_true rfl) hg dJ2_add_2_7 hW) (fun r2 w3 c4 y5 H locs hW hf => ?_)
    refine lv_astore_n (lv' := [(2, .ref r2), (0, .ref t7), (1, .ref x7), (3, .int n7)]) hx hb dJ2_add_2_10 rfl hl (by decide) rfl (fun ls hl => ?_)
    exact wJ2_add_2t_11 FX hr hlk hnm hout t7 x7 r2 n7 w3 c4 y5 _ _ _ (lv_sub hl [1, 2, 0, 3] rfl) hW hf
/-! java/util/ArrayList.add(Ljava/lang/Object;)Z: kind O -/
abbrev rJ2_addt : Room := { frames := 6, cells := 1, slots := 100, locals := 170 }
def fJ2_addt (dA : Nat → Nat) (z : Nat) (t7 : Nat) (x7 : Nat) (w : va_W) : Option ((Int32) × va_W × Nat × Nat) := pgi w t7 13 0 fun v1 => ppt w t7 13 0 (.int (v1 + (1 : Int32))) fun w2 => pgR w2 t7 13 1 fun v3 => pgi w2 t7 13 2 fun v4 => pck w2 t7 13 (ocal rJ2_addt.cells rJ2_addt.slots 0 0 rJ2_add_2t.cells rJ2_add_2t.slots (fJ2_add_2t dA (z + 0) t7 x7 v3 v4 w2) fun r5 w6 c7 y8 => gck c7 y8 rJ2_addt.cells rJ2_addt.slots (some ((1 : Int32), w6, c7, y8)))
set_option maxHeartbeats 4000000 in
set_option maxRecDepth 100000 in
theorem mJ2_addt {l : Launch} {D : va_G} {dA : Nat → ClassId} {z : Nat}  {t7 : Nat} {x7 : Nat} {w : va_W} {q : ((Int32) × va_W × Nat × Nat)} (hf : fJ2_addt dA z t7 x7 w = some q) : CtO l yJ2_add cJ2_add 2 (some .boolean) rJ2_addt D dA [.ref t7, .ref x7] w z (.inl (some (.int q.1))) q.2.1 q.2.2.1 q.2.2.2 := by
  refine e_O (by decide) (Nat.le_of_ble_eq_true rfl) ?_
  intro p e s m below meth c9 ls A FX hr hlk hnm hout hl hW
  have hx := FX.1; have hb := FX.2.1; have hown := FX.2.2.2.1; have hts := FX.2.2.2.2
  have hl : lv_has ls 2 [(0, .ref t7), (1, .ref x7)] := hl
  rw [fJ2_addt] at hf
  refine lv_aload_n hx hb dJ2_add_0 rfl (lv_at hl 0 rfl) ?_
  refine lv_dup hx hb dJ2_add_1 rfl ?_
  refine og_i (C := RJ2) (T := TJ2) (N := 3) (ci := 13) FX hW in_J2 rfl 0 (by decide) q189 (fun x h => u_same (FX.2.2.2.2 _ q190) x h) hf dJ2_add_2 (fun v1 hf => ?_)
  refine lv_iconst (v := 1) hx hb dJ2_add_5 (by decide) ?_
  refine lv_iadd hx hb dJ2_add_6 ?_
  refine op_put (C := RJ2) (T := TJ2) (N := 3) (ci := 13) (ty := .int) FX hW in_J2 tyJ2 tyJ2_ok nmJ2 rfl 0 (by decide) q189 (fun x h => u_same (FX.2.2.2.2 _ q190) x h) rfl (by decide +kernel) rfl rfl hf dJ2_add_7 (fun w2 H locs hW hf => ?_)
  refine lv_aload_n hx hb dJ2_add_10 rfl (lv_at hl 0 rfl) ?_
  refine lv_aload_n hx hb dJ2_add_11 rfl (lv_at hl 1 rfl) ?_
  refine lv_aload_n hx hb dJ2_add_12 rfl (lv_at hl 0 rfl) ?_
  refine og_R (C := RJ2) (T := TJ2) (N := 3) (ci := 13) FX hW in_J2 rfl 1 (by decide) q186 (fun _ h => h) hf dJ2_add_13 (fun v3 hf => ?_)
  refine lv_aload_n hx hb dJ2_add_16 rfl (lv_at hl 0 rfl) ?_
  refine og_i (C := RJ2) (T := TJ2) (N := 3) (ci := 13) FX hW in_J2 rfl 2 (by decide) q187 (fun _ h => h) hf dJ2_add_17 (fun v4 hf => ?_)
  obtain ⟨hv9, hf⟩ := pck_some hf
  refine oc_v hW hf (fun r0 h0 hg => o_V (C := RJ2) (As := [.ref x7, .ref v3, .int v4]) (rest := []) (n := 3) FX (mJ2_add_2t h0) (cwV 3 FX.2.2.2.2 (lw_V q936 q938 qs16 q127 q939) rfl rfl rfl (by decide +kernel) ⟨Nat.le_of_ble_eq_true rfl, Nat.le_of_ble_eq_true rfl⟩) (o_recv hW rfl hv9) rfl hl.1 rfl (Nat.le_of_ble_eq_true rfl) hg dJ2_add_20 hW) (fun w6 c7 y8 H locs hW hf => ?_)
  refine lv_iconst (v := 1) hx hb dJ2_add_23 (by decide) ?_
  obtain ⟨hg, hf⟩ := gck_some hf
  obtain rfl := Option.some.inj hf
  exact ro_z (v := (1 : Int32)) FX hr hlk hW hg rfl dJ2_add_24
/-! java/util/ArrayList.add(Ljava/lang/Object;[Ljava/lang/Object;I)V: kind O -/
abbrev rJ2_add_2l : Room := { frames := 5, cells := 1, slots := 100, locals := 147 }
def fJ2_add_2l_11 (dA : Nat → Nat) (z : Nat) (x0 : Nat) (x1 : Nat) (x2 : Nat) (x3 : Int32) (w : va_W) (c : Nat) (y : Nat) : Option ((Unit) × va_W × Nat × Nat) := hqst w (dA 4) x2 x3 x1 12 fun w1 => ppt w1 x0 13 2 (.int (x3 + (1 : Int32))) fun w2 => gck c y rJ2_add_2l.cells rJ2_add_2l.slots (some ((), w2, c, y))
def fJ2_add_2l (dA : Nat → Nat) (z : Nat) (t7 : Nat) (x7 : Nat) (a7 : Nat) (n7 : Int32) (w : va_W) : Option ((Unit) × va_W × Nat × Nat) := hqlen w (dA 4) a7 fun v1 => (if n7 = v1 then pck w t7 13 (ocal rJ2_add_2l.cells rJ2_add_2l.slots 0 0 rJ2_grow.cells rJ2_grow.slots (fJ2_grow dA (z + 0) t7 w) fun r2 w3 c4 y5 => fJ2_add_2l_11 dA z t7 x7 r2 n7 w3 c4 y5) else fJ2_add_2l_11 dA z t7 x7 a7 n7 w 0 0)
set_option maxHeartbeats 4000000 in
set_option maxRecDepth 100000 in
theorem wJ2_add_2l_11 {l : Launch} {D : va_G} {dA : Nat → ClassId} {z : Nat} {p : Program} {e : Env} {s : State} {m : MethodId} {args : Array Value} {below : List Frame} {meth : Method} {c9 : Code} {A : Nat → Prop} {q : ((Unit) × va_W × Nat × Nat)} (FX : CallFix p m c9 cJ2_add_2 4 s args lw_all RJ2) (hr : meth.sig.returnType = none) (hlk : meth.locks = false) (hnm : meth.name = yJ2_add_2.name) (hout : ∀ x ∈ c9.exceptionTable.toList, False) : ∀ (x0 : Nat) (x1 : Nat) (x2 : Nat) (x3 : Int32) (w : va_W) (c : Nat) (y : Nat) (H : Heap) (locs : List Loc) (ls : Array Slot), lv_has ls 4 [(0, .ref x0), (1, .ref x1), (2, .ref x2), (3, .int x3)] → Wo D dA A s w z c H locs → fJ2_add_2l_11 dA z x0 x1 x2 x3 w c y = some q → W p l e rJ2_add_2l s m args below meth c9 H locs c y (QO D dA A below args s rJ2_add_2l.cells rJ2_add_2l.slots (.inl none) q.2.1 (z + q.2.2.1) q.2.2.2) (F0 m 11 ls []) := by
  have hx := FX.1; have hb := FX.2.1; have hown := FX.2.2.2.1; have hts := FX.2.2.2.2
  intro x0 x1 x2 x3 w c y H locs ls hl hW hf
  rw [fJ2_add_2l_11] at hf
  refine lv_aload_n hx hb dJ2_add_2_11 rfl (lv_at hl 2 rfl) ?_
  refine lv_iload_n hx hb dJ2_add_2_12 rfl (lv_at hl 3 rfl) ?_
  refine lv_aload_n hx hb dJ2_add_2_13 rfl (lv_at hl 1 rfl) ?_
  refine op_aast (ci := 12) FX hW rfl (hW.gx.1 _ (List.mem_of_getElem? (i := 16) rfl)) hf dJ2_add_2_14 (fun w1 H locs hW hf => ?_)
  refine lv_aload_n hx hb dJ2_add_2_15 rfl (lv_at hl 0 rfl) ?_
  refine lv_iload_n hx hb dJ2_add_2_16 rfl (lv_at hl 3 rfl) ?_
  refine lv_iconst (v := 1) hx hb dJ2_add_2_17 (by decide) ?_
  refine lv_iadd hx hb dJ2_add_2_18 ?_
  refine op_put (C := RJ2) (T := TJ2) (N := 3) (ci := 13) (ty := .int) FX hW in_J2 tyJ2 tyJ2_ok nmJ2 rfl 2 (by decide) q187 (fun _ h => h) rfl (by decide +kernel) rfl rfl hf dJ2_add_2_19 (fun w2 H locs hW hf => ?_)
  obtain ⟨hg, hf⟩ := gck_some hf
  obtain rfl := Option.some.inj hf
  exact ro_v FX hr hlk hW hg dJ2_add_2_22
set_option maxHeartbeats 4000000 in
set_option maxRecDepth 100000 in
theorem mJ2_add_2l {l : Launch} {D : va_G} {dA : Nat → ClassId} {z : Nat}  {t7 : Nat} {x7 : Nat} {a7 : Nat} {n7 : Int32} {w : va_W} {q : ((Unit) × va_W × Nat × Nat)} (hf : fJ2_add_2l dA z t7 x7 a7 n7 w = some q) : CtO l yJ2_add_2 cJ2_add_2 4 none rJ2_add_2l D dA [.ref t7, .ref x7, .ref a7, .int n7] w z (.inl none) q.2.1 q.2.2.1 q.2.2.2 := by
  refine e_O (by decide) (Nat.le_of_ble_eq_true rfl) ?_
  intro p e s m below meth c9 ls A FX hr hlk hnm hout hl hW
  have hx := FX.1; have hb := FX.2.1; have hown := FX.2.2.2.1; have hts := FX.2.2.2.2
  have hl : lv_has ls 4 [(0, .ref t7), (1, .ref x7), (2, .ref a7), (3, .int n7)] := hl
  rw [fJ2_add_2l] at hf
  refine lv_iload_n hx hb dJ2_add_2_0 rfl (lv_at hl 3 rfl) ?_
  refine lv_aload_n hx hb dJ2_add_2_1 rfl (lv_at hl 2 rfl) ?_
  refine o_qlen FX hW hf dJ2_add_2_2 (fun v1 hf => ?_)
  refine lv_icmp_ne (tgt := 11) hx hb dJ2_add_2_3 (by decide) (fun c3 => ?_) (fun c3 => ?_)
  · have hf := ifn c3 hf
    exact wJ2_add_2l_11 FX hr hlk hnm hout t7 x7 a7 n7 w 0 0 _ _ _ (lv_sub hl [0, 1, 2, 3] rfl) hW hf
  · have hf := ifp c3 hf
    refine lv_aload_n hx hb dJ2_add_2_6 rfl (lv_at hl 0 rfl) ?_
    obtain ⟨hv9, hf⟩ := pck_some hf
    refine oc_R hW hf (fun r0 h0 hg => o_V (C := RJ2) (As := []) (rest := []) (n := 0) FX (mJ2_grow h0) (cwV 0 FX.2.2.2.2 (lw_V q940 q942 qs17 q127 q943) rfl rfl rfl (by decide +kernel) ⟨Nat.le_of_ble_eq_true rfl, Nat.le_of_ble_eq_true rfl⟩) (o_recv hW rfl hv9) rfl hl.1 rfl (Nat.le_of_ble_eq_true rfl) hg dJ2_add_2_7 hW) (fun r2 w3 c4 y5 H locs hW hf => ?_)
    refine lv_astore_n (lv' := [(2, .ref r2), (0, .ref t7), (1, .ref x7), (3, .int n7)]) hx hb dJ2_add_2_10 rfl hl (by decide) rfl (fun ls hl => ?_)
    exact wJ2_add_2l_11 FX hr hlk hnm hout t7 x7 r2 n7 w3 c4 y5 _ _ _ (lv_sub hl [1, 2, 0, 3] rfl) hW hf
/-! java/util/ArrayList.add(Ljava/lang/Object;)Z: kind O -/
abbrev rJ2_addl : Room := { frames := 6, cells := 1, slots := 100, locals := 170 }
def fJ2_addl (dA : Nat → Nat) (z : Nat) (t7 : Nat) (x7 : Nat) (w : va_W) : Option ((Int32) × va_W × Nat × Nat) := pgi w t7 13 0 fun v1 => ppt w t7 13 0 (.int (v1 + (1 : Int32))) fun w2 => pgR w2 t7 13 1 fun v3 => pgi w2 t7 13 2 fun v4 => pck w2 t7 13 (ocal rJ2_addl.cells rJ2_addl.slots 0 0 rJ2_add_2l.cells rJ2_add_2l.slots (fJ2_add_2l dA (z + 0) t7 x7 v3 v4 w2) fun r5 w6 c7 y8 => gck c7 y8 rJ2_addl.cells rJ2_addl.slots (some ((1 : Int32), w6, c7, y8)))
set_option maxHeartbeats 4000000 in
set_option maxRecDepth 100000 in
theorem mJ2_addl {l : Launch} {D : va_G} {dA : Nat → ClassId} {z : Nat}  {t7 : Nat} {x7 : Nat} {w : va_W} {q : ((Int32) × va_W × Nat × Nat)} (hf : fJ2_addl dA z t7 x7 w = some q) : CtO l yJ2_add cJ2_add 2 (some .boolean) rJ2_addl D dA [.ref t7, .ref x7] w z (.inl (some (.int q.1))) q.2.1 q.2.2.1 q.2.2.2 := by
  refine e_O (by decide) (Nat.le_of_ble_eq_true rfl) ?_
  intro p e s m below meth c9 ls A FX hr hlk hnm hout hl hW
  have hx := FX.1; have hb := FX.2.1; have hown := FX.2.2.2.1; have hts := FX.2.2.2.2
  have hl : lv_has ls 2 [(0, .ref t7), (1, .ref x7)] := hl
  rw [fJ2_addl] at hf
  refine lv_aload_n hx hb dJ2_add_0 rfl (lv_at hl 0 rfl) ?_
  refine lv_dup hx hb dJ2_add_1 rfl ?_
  refine og_i (C := RJ2) (T := TJ2) (N := 3) (ci := 13) FX hW in_J2 rfl 0 (by decide) q189 (fun x h => u_same (FX.2.2.2.2 _ q190) x h) hf dJ2_add_2 (fun v1 hf => ?_)
  refine lv_iconst (v := 1) hx hb dJ2_add_5 (by decide) ?_
  refine lv_iadd hx hb dJ2_add_6 ?_
  refine op_put (C := RJ2) (T := TJ2) (N := 3) (ci := 13) (ty := .int) FX hW in_J2 tyJ2 tyJ2_ok nmJ2 rfl 0 (by decide) q189 (fun x h => u_same (FX.2.2.2.2 _ q190) x h) rfl (by decide +kernel) rfl rfl hf dJ2_add_7 (fun w2 H locs hW hf => ?_)
  refine lv_aload_n hx hb dJ2_add_10 rfl (lv_at hl 0 rfl) ?_
  refine lv_aload_n hx hb dJ2_add_11 rfl (lv_at hl 1 rfl) ?_
  refine lv_aload_n hx hb dJ2_add_12 rfl (lv_at hl 0 rfl) ?_
  refine og_R (C := RJ2) (T := TJ2) (N := 3) (ci := 13) FX hW in_J2 rfl 1 (by decide) q186 (fun _ h => h) hf dJ2_add_13 (fun v3 hf => ?_)
  refine lv_aload_n hx hb dJ2_add_16 rfl (lv_at hl 0 rfl) ?_
  refine og_i (C := RJ2) (T := TJ2) (N := 3) (ci := 13) FX hW in_J2 rfl 2 (by decide) q187 (fun _ h => h) hf dJ2_add_17 (fun v4 hf => ?_)
  obtain ⟨hv9, hf⟩ := pck_some hf
  refine oc_v hW hf (fun r0 h0 hg => o_V (C := RJ2) (As := [.ref x7, .ref v3, .int v4]) (rest := []) (n := 3) FX (mJ2_add_2l h0) (cwV 3 FX.2.2.2.2 (lw_V q936 q938 qs16 q127 q939) rfl rfl rfl (by decide +kernel) ⟨Nat.le_of_ble_eq_true rfl, Nat.le_of_ble_eq_true rfl⟩) (o_recv hW rfl hv9) rfl hl.1 rfl (Nat.le_of_ble_eq_true rfl) hg dJ2_add_20 hW) (fun w6 c7 y8 H locs hW hf => ?_)
  refine lv_iconst (v := 1) hx hb dJ2_add_23 (by decide) ?_
  obtain ⟨hg, hf⟩ := gck_some hf
  obtain rfl := Option.some.inj hf
  exact ro_z (v := (1 : Int32)) FX hr hlk hW hg rfl dJ2_add_24
/-! java/util/ArrayList.clear()V: kind O -/
abbrev rJ2_clear : Room := { frames := 0, cells := 0, slots := 0, locals := 0 }
def fJ2_clear_27 (dA : Nat → Nat) (z : Nat) : Nat → Nat → Int32 → Int32 → va_W → Nat → Nat → Option ((Unit) × va_W × Nat × Nat)
  | 0, _, _, _, _, _, _ => none
  | n + 1, x1, x2, x3, w, c, y => (if x2 ≤ x3 then gck c y rJ2_clear.cells rJ2_clear.slots (some ((), w, c, y)) else oz c (hqnl w (dA 4) x1 x3 fun w1 => fJ2_clear_27 dA z n x1 x2 (x3 + (1 : Int32)) w1 c y))
def fJ2_clear (dA : Nat → Nat) (z : Nat) (t7 : Nat) (w : va_W) : Option ((Unit) × va_W × Nat × Nat) := pgi w t7 13 0 fun v1 => ppt w t7 13 0 (.int (v1 + (1 : Int32))) fun w2 => pgR w2 t7 13 1 fun v3 => pgi w2 t7 13 2 fun v4 => ppt w2 t7 13 2 (.int (0 : Int32)) fun w5 => fJ2_clear_27 dA z FU v3 v4 (0 : Int32) w5 0 0
set_option maxHeartbeats 4000000 in
set_option maxRecDepth 100000 in
theorem wJ2_clear_27 {l : Launch} {D : va_G} {dA : Nat → ClassId} {z : Nat} {p : Program} {e : Env} {s : State} {m : MethodId} {args : Array Value} {below : List Frame} {meth : Method} {c9 : Code} {A : Nat → Prop} {q : ((Unit) × va_W × Nat × Nat)} (FX : CallFix p m c9 cJ2_clear 4 s args lw_all RJ2) (hr : meth.sig.returnType = none) (hlk : meth.locks = false) (hnm : meth.name = yJ2_clear.name) (hout : ∀ x ∈ c9.exceptionTable.toList, False) : ∀ n : Nat, ∀ (x1 : Nat) (x2 : Int32) (x3 : Int32) (w : va_W) (c : Nat) (y : Nat) (H : Heap) (locs : List Loc) (ls : Array Slot), lv_has ls 4 [(1, .ref x1), (2, .int x2), (3, .int x3)] → Wo D dA A s w z c H locs → fJ2_clear_27 dA z n x1 x2 x3 w c y = some q → W p l e rJ2_clear s m args below meth c9 H locs c y (QO D dA A below args s rJ2_clear.cells rJ2_clear.slots (.inl none) q.2.1 (z + q.2.2.1) q.2.2.2) (F0 m 27 ls []) := by
  have hx := FX.1; have hb := FX.2.1; have hown := FX.2.2.2.1; have hts := FX.2.2.2.2
  intro n
  induction n with
  | zero =>
    intro x1 x2 x3 w c y H locs ls hl hW hf
    cases (show (none : Option ((Unit) × va_W × Nat × Nat)) = some q from hf)
  | succ n ih =>
    intro x1 x2 x3 w c y H locs ls hl hW hf
    rw [fJ2_clear_27] at hf
    refine lv_iload_n hx hb dJ2_clear_27 rfl (lv_at hl 2 rfl) ?_
    refine lv_iload_n hx hb dJ2_clear_28 rfl (lv_at hl 1 rfl) ?_
    refine lv_icmp_ge (tgt := 42) hx hb dJ2_clear_29 (by decide) (fun c29 => ?_) (fun c29 => ?_)
    · have hf := ifp c29 hf
      obtain ⟨hg, hf⟩ := gck_some hf
      obtain rfl := Option.some.inj hf
      exact ro_v FX hr hlk hW hg dJ2_clear_42
    · have hf := ifn c29 hf
      refine lv_aload_n hx hb dJ2_clear_32 rfl (lv_at hl 0 rfl) ?_
      refine lv_iload_n hx hb dJ2_clear_33 rfl (lv_at hl 2 rfl) ?_
      refine lv_null hx hb dJ2_clear_34 ?_
      refine op_anul FX hW hf dJ2_clear_35 (fun w1 H locs hW hf => ?_)
      refine lv_iinc (v := (x3 + (1 : Int32))) (lv' := [(3, .int (x3 + (1 : Int32))), (1, .ref x1), (2, .int x2)]) hx hb dJ2_clear_36 hl (k := 2) rfl rfl (by decide) rfl (fun ls hl => ?_)
      refine lv_goto (tgt := 27) hx hb dJ2_clear_39 (by decide) ?_
      exact ih x1 x2 (x3 + (1 : Int32)) w1 c y _ _ _ (lv_sub hl [1, 2, 0] rfl) hW hf
set_option maxHeartbeats 4000000 in
set_option maxRecDepth 100000 in
theorem mJ2_clear {l : Launch} {D : va_G} {dA : Nat → ClassId} {z : Nat}  {t7 : Nat} {w : va_W} {q : ((Unit) × va_W × Nat × Nat)} (hf : fJ2_clear dA z t7 w = some q) : CtO l yJ2_clear cJ2_clear 4 none rJ2_clear D dA [.ref t7] w z (.inl none) q.2.1 q.2.2.1 q.2.2.2 := by
  refine e_O (by decide) (Nat.le_of_ble_eq_true rfl) ?_
  intro p e s m below meth c9 ls A FX hr hlk hnm hout hl hW
  have hx := FX.1; have hb := FX.2.1; have hown := FX.2.2.2.1; have hts := FX.2.2.2.2
  have hl : lv_has ls 4 [(0, .ref t7)] := hl
  rw [fJ2_clear] at hf
  refine lv_aload_n hx hb dJ2_clear_0 rfl (lv_at hl 0 rfl) ?_
  refine lv_dup hx hb dJ2_clear_1 rfl ?_
  refine og_i (C := RJ2) (T := TJ2) (N := 3) (ci := 13) FX hW in_J2 rfl 0 (by decide) q189 (fun x h => u_same (FX.2.2.2.2 _ q190) x h) hf dJ2_clear_2 (fun v1 hf => ?_)
  refine lv_iconst (v := 1) hx hb dJ2_clear_5 (by decide) ?_
  refine lv_iadd hx hb dJ2_clear_6 ?_
  refine op_put (C := RJ2) (T := TJ2) (N := 3) (ci := 13) (ty := .int) FX hW in_J2 tyJ2 tyJ2_ok nmJ2 rfl 0 (by decide) q189 (fun x h => u_same (FX.2.2.2.2 _ q190) x h) rfl (by decide +kernel) rfl rfl hf dJ2_clear_7 (fun w2 H locs hW hf => ?_)
  refine lv_aload_n hx hb dJ2_clear_10 rfl (lv_at hl 0 rfl) ?_
  refine og_R (C := RJ2) (T := TJ2) (N := 3) (ci := 13) FX hW in_J2 rfl 1 (by decide) q186 (fun _ h => h) hf dJ2_clear_11 (fun v3 hf => ?_)
  refine lv_astore_n (lv' := [(1, .ref v3), (0, .ref t7)]) hx hb dJ2_clear_14 rfl hl (by decide) rfl (fun ls hl => ?_)
  refine lv_aload_n hx hb dJ2_clear_15 rfl (lv_at hl 1 rfl) ?_
  refine og_i (C := RJ2) (T := TJ2) (N := 3) (ci := 13) FX hW in_J2 rfl 2 (by decide) q187 (fun _ h => h) hf dJ2_clear_16 (fun v4 hf => ?_)
  refine lv_istore_n (lv' := [(2, .int v4), (1, .ref v3), (0, .ref t7)]) hx hb dJ2_clear_19 rfl hl (by decide) rfl (fun ls hl => ?_)
  refine lv_aload_n hx hb dJ2_clear_20 rfl (lv_at hl 2 rfl) ?_
  refine lv_iconst (v := 0) hx hb dJ2_clear_21 (by decide) ?_
  refine lv_dup_x1 hx hb dJ2_clear_22 rfl rfl ?_
  refine op_put (C := RJ2) (T := TJ2) (N := 3) (ci := 13) (ty := .int) FX hW in_J2 tyJ2 tyJ2_ok nmJ2 rfl 2 (by decide) q187 (fun _ h => h) rfl (by decide +kernel) rfl rfl hf dJ2_clear_23 (fun w5 H locs hW hf => ?_)
  refine lv_istore_n (lv' := [(3, .int (0 : Int32)), (2, .int v4), (1, .ref v3), (0, .ref t7)]) hx hb dJ2_clear_26 rfl hl (by decide) rfl (fun ls hl => ?_)
  exact wJ2_clear_27 FX hr hlk hnm hout _ v3 v4 (0 : Int32) w5 0 0 _ _ _ (lv_sub hl [2, 1, 0] rfl) hW hf
