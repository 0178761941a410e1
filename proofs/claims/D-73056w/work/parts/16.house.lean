/-! House: its cells, its state -/
abbrev Hst : Type := (Nat → Int32) × (Nat → Nat → Int32)
def hF (σ : Hst) (k : Nat) : Int32 := σ.1 k
def hA (σ : Hst) (k : Nat) : Nat → Int32 := σ.2 k
def uF (σ : Hst) (k : Nat) (v : Int32) : Hst := (va_up σ.1 k v, σ.2)
def uA (σ : Hst) (k : Nat) (i v : Int32) : Hst := (σ.1, va_up σ.2 k (upd (σ.2 k) i.toNatClampNeg v))
def Hx (dA : Nat → ClassId) (a : Nat) (b : Nat → Nat) (wr : va_W) (σ : Hst) : va_W := [(a, .inr (3, [.ref (b 0), .ref (b 1), .ref (b 2), .ref (b 3), .ref (b 4), .ref (b 5), .ref (b 6), .ref (b 7), .int (hF σ 8), .int (hF σ 9), .int (hF σ 10), .int (hF σ 11), .int (hF σ 12), .int (hF σ 13)])), ((b 0), .inl (dA 0, 8, .inl (hA σ 0))), ((b 1), .inl (dA 0, 8, .inl (hA σ 1))), ((b 2), .inl (dA 0, 8, .inl (hA σ 2))), ((b 3), .inl (dA 0, 8, .inl (hA σ 3))), ((b 4), .inl (dA 0, 8, .inl (hA σ 4))), ((b 5), .inl (dA 0, 8, .inl (hA σ 5))), ((b 6), .inl (dA 0, 8, .inl (hA σ 6))), ((b 7), .inl (dA 0, 8, .inl (hA σ 7)))] ++ (wr)
section HS
variable {p : Program} {l : Launch} {e : Env} {R : Room} {s : State} {m : MethodId} {args : Array Value} {below : List Frame} {meth : Method} {c : Code} {H : Heap} {locs : List Loc} {cells slots : Nat} {Q : State → Prop}
variable {cc : ByteArray} {pc nL : Nat} {ls : Array Slot} {rest : List Value} {D : va_G} {dA : Nat → ClassId} {A : Nat → Prop}
theorem HgX3_0_8 {a : Nat} {b : Nat → Nat} {wr : va_W} {σ : Hst} (FX : CallFix p m c cc nL s args lw_all RX3) (hW : Wd D dA A s (Hx dA a b wr σ) H locs) (hdg : decode cc pc = .ok (.getfield 52, 3)) (kk : W p l e R s m args below meth c H locs cells slots Q (F0 m (pc + 3) ls (.int (hF σ 8) :: rest))) : W p l e R s m args below meth c H locs cells slots Q (F0 m pc ls (.ref a :: rest)) :=
  g_get FX hW (C := RX3) (T := TX3) (N := 14) (ci := 3) in_X3 0 rfl rfl 8 (by decide) q287 (fun _ h => h) rfl hdg kk

/-! TrunkLitters$House.has(I)Z: kind R -/
def fX3_has (x1 : Int32) (σ : Hst) : Option Int32 := (if (((hF σ 8) >>> (x1 &&& 31)) &&& (1 : Int32)) = (1 : Int32) then some (1 : Int32) else some (0 : Int32))
abbrev rX3_has : Room := { frames := 0, cells := 0, slots := 0, locals := 0 }
set_option maxHeartbeats 4000000 in
set_option maxRecDepth 100000 in
theorem mX3_has {a : Nat} {b : Nat → Nat} {wr : va_W}  {x1 : Int32} {σ : Hst} {q : Int32} (hf : fX3_has x1 σ = some q) : CtI l yX3_has cX3_has 2 (some .boolean) rX3_has D dA [.ref a, .int x1] (Hx dA a b wr σ) q (Hx dA a b wr σ) := by
  refine e_I (by decide) (Nat.le_of_ble_eq_true rfl) ?_
  intro p e s m below meth c ls A FX hr hlk hl hW
  have hx := FX.1; have hb := FX.2.1; have hown := FX.2.2.2.1; have hts := FX.2.2.2.2
  have hl : lv_has ls 2 [(0, .ref a), (1, .int x1)] := hl
  rw [fX3_has] at hf
  refine lv_aload_n hx hb dX3_has_0 rfl (lv_at hl 0 rfl) ?_
  refine HgX3_0_8 FX hW dX3_has_1 ?_
  refine lv_iload_n hx hb dX3_has_4 rfl (lv_at hl 1 rfl) ?_
  refine lv_ishr hx hb dX3_has_5 ?_
  refine lv_iconst (v := 1) hx hb dX3_has_6 (by decide) ?_
  refine lv_iand hx hb dX3_has_7 ?_
  refine lv_iconst (v := 1) hx hb dX3_has_8 (by decide) ?_
  refine lv_icmp_ne (tgt := 16) hx hb dX3_has_9 (by decide) (fun c9 => ?_) (fun c9 => ?_)
  · have hf := ifn c9 hf
    refine lv_iconst (v := 0) hx hb dX3_has_16 (by decide) ?_
    exact g_zret FX hr hlk hW rfl (Option.some.inj hf) dX3_has_17
  · have hf := ifp c9 hf
    refine lv_iconst (v := 1) hx hb dX3_has_12 (by decide) ?_
    refine lv_goto (tgt := 17) hx hb dX3_has_13 (by decide) ?_
    exact g_zret FX hr hlk hW rfl (Option.some.inj hf) dX3_has_17
theorem HgX3_0_0 {a : Nat} {b : Nat → Nat} {wr : va_W} {σ : Hst} (FX : CallFix p m c cc nL s args lw_all RX3) (hW : Wd D dA A s (Hx dA a b wr σ) H locs) (hdg : decode cc pc = .ok (.getfield 9, 3)) (kk : W p l e R s m args below meth c H locs cells slots Q (F0 m (pc + 3) ls (.ref (b 0) :: rest))) : W p l e R s m args below meth c H locs cells slots Q (F0 m pc ls (.ref a :: rest)) :=
  g_get FX hW (C := RX3) (T := TX3) (N := 14) (ci := 3) in_X3 0 rfl rfl 0 (by decide) q271 (fun _ h => h) rfl hdg kk
theorem Hp1 {a : Nat} {b : Nat → Nat} {wr : va_W} {σ : Hst} : (Hx dA a b wr σ)[1]? = some ((b 0), .inl (dA 0, 8, .inl (hA σ 0))) := rfl
theorem Ht1 {a : Nat} {b : Nat → Nat} {wr : va_W} {σ : Hst} {i v : Int32} : (Hx dA a b wr σ).set 1 ((b 0), .inl (dA 0, 8, .inl (upd (hA σ 0) i.toNatClampNeg v))) = Hx dA a b wr (uA σ 0 i v) := rfl
theorem HgX3_0_1 {a : Nat} {b : Nat → Nat} {wr : va_W} {σ : Hst} (FX : CallFix p m c cc nL s args lw_all RX3) (hW : Wd D dA A s (Hx dA a b wr σ) H locs) (hdg : decode cc pc = .ok (.getfield 15, 3)) (kk : W p l e R s m args below meth c H locs cells slots Q (F0 m (pc + 3) ls (.ref (b 1) :: rest))) : W p l e R s m args below meth c H locs cells slots Q (F0 m pc ls (.ref a :: rest)) :=
  g_get FX hW (C := RX3) (T := TX3) (N := 14) (ci := 3) in_X3 0 rfl rfl 1 (by decide) q273 (fun _ h => h) rfl hdg kk
theorem Hp2 {a : Nat} {b : Nat → Nat} {wr : va_W} {σ : Hst} : (Hx dA a b wr σ)[2]? = some ((b 1), .inl (dA 0, 8, .inl (hA σ 1))) := rfl
theorem Ht2 {a : Nat} {b : Nat → Nat} {wr : va_W} {σ : Hst} {i v : Int32} : (Hx dA a b wr σ).set 2 ((b 1), .inl (dA 0, 8, .inl (upd (hA σ 1) i.toNatClampNeg v))) = Hx dA a b wr (uA σ 1 i v) := rfl
theorem HgX3_0_2 {a : Nat} {b : Nat → Nat} {wr : va_W} {σ : Hst} (FX : CallFix p m c cc nL s args lw_all RX3) (hW : Wd D dA A s (Hx dA a b wr σ) H locs) (hdg : decode cc pc = .ok (.getfield 18, 3)) (kk : W p l e R s m args below meth c H locs cells slots Q (F0 m (pc + 3) ls (.ref (b 2) :: rest))) : W p l e R s m args below meth c H locs cells slots Q (F0 m pc ls (.ref a :: rest)) :=
  g_get FX hW (C := RX3) (T := TX3) (N := 14) (ci := 3) in_X3 0 rfl rfl 2 (by decide) q275 (fun _ h => h) rfl hdg kk
theorem Hp3 {a : Nat} {b : Nat → Nat} {wr : va_W} {σ : Hst} : (Hx dA a b wr σ)[3]? = some ((b 2), .inl (dA 0, 8, .inl (hA σ 2))) := rfl
theorem Ht3 {a : Nat} {b : Nat → Nat} {wr : va_W} {σ : Hst} {i v : Int32} : (Hx dA a b wr σ).set 3 ((b 2), .inl (dA 0, 8, .inl (upd (hA σ 2) i.toNatClampNeg v))) = Hx dA a b wr (uA σ 2 i v) := rfl
theorem HgX3_0_3 {a : Nat} {b : Nat → Nat} {wr : va_W} {σ : Hst} (FX : CallFix p m c cc nL s args lw_all RX3) (hW : Wd D dA A s (Hx dA a b wr σ) H locs) (hdg : decode cc pc = .ok (.getfield 21, 3)) (kk : W p l e R s m args below meth c H locs cells slots Q (F0 m (pc + 3) ls (.ref (b 3) :: rest))) : W p l e R s m args below meth c H locs cells slots Q (F0 m pc ls (.ref a :: rest)) :=
  g_get FX hW (C := RX3) (T := TX3) (N := 14) (ci := 3) in_X3 0 rfl rfl 3 (by decide) q277 (fun _ h => h) rfl hdg kk
theorem Hp4 {a : Nat} {b : Nat → Nat} {wr : va_W} {σ : Hst} : (Hx dA a b wr σ)[4]? = some ((b 3), .inl (dA 0, 8, .inl (hA σ 3))) := rfl
theorem Ht4 {a : Nat} {b : Nat → Nat} {wr : va_W} {σ : Hst} {i v : Int32} : (Hx dA a b wr σ).set 4 ((b 3), .inl (dA 0, 8, .inl (upd (hA σ 3) i.toNatClampNeg v))) = Hx dA a b wr (uA σ 3 i v) := rfl
theorem HgX3_0_4 {a : Nat} {b : Nat → Nat} {wr : va_W} {σ : Hst} (FX : CallFix p m c cc nL s args lw_all RX3) (hW : Wd D dA A s (Hx dA a b wr σ) H locs) (hdg : decode cc pc = .ok (.getfield 24, 3)) (kk : W p l e R s m args below meth c H locs cells slots Q (F0 m (pc + 3) ls (.ref (b 4) :: rest))) : W p l e R s m args below meth c H locs cells slots Q (F0 m pc ls (.ref a :: rest)) :=
  g_get FX hW (C := RX3) (T := TX3) (N := 14) (ci := 3) in_X3 0 rfl rfl 4 (by decide) q279 (fun _ h => h) rfl hdg kk
theorem Hp5 {a : Nat} {b : Nat → Nat} {wr : va_W} {σ : Hst} : (Hx dA a b wr σ)[5]? = some ((b 4), .inl (dA 0, 8, .inl (hA σ 4))) := rfl
theorem Ht5 {a : Nat} {b : Nat → Nat} {wr : va_W} {σ : Hst} {i v : Int32} : (Hx dA a b wr σ).set 5 ((b 4), .inl (dA 0, 8, .inl (upd (hA σ 4) i.toNatClampNeg v))) = Hx dA a b wr (uA σ 4 i v) := rfl
theorem HgX3_0_5 {a : Nat} {b : Nat → Nat} {wr : va_W} {σ : Hst} (FX : CallFix p m c cc nL s args lw_all RX3) (hW : Wd D dA A s (Hx dA a b wr σ) H locs) (hdg : decode cc pc = .ok (.getfield 27, 3)) (kk : W p l e R s m args below meth c H locs cells slots Q (F0 m (pc + 3) ls (.ref (b 5) :: rest))) : W p l e R s m args below meth c H locs cells slots Q (F0 m pc ls (.ref a :: rest)) :=
  g_get FX hW (C := RX3) (T := TX3) (N := 14) (ci := 3) in_X3 0 rfl rfl 5 (by decide) q281 (fun _ h => h) rfl hdg kk
theorem Hp6 {a : Nat} {b : Nat → Nat} {wr : va_W} {σ : Hst} : (Hx dA a b wr σ)[6]? = some ((b 5), .inl (dA 0, 8, .inl (hA σ 5))) := rfl
theorem Ht6 {a : Nat} {b : Nat → Nat} {wr : va_W} {σ : Hst} {i v : Int32} : (Hx dA a b wr σ).set 6 ((b 5), .inl (dA 0, 8, .inl (upd (hA σ 5) i.toNatClampNeg v))) = Hx dA a b wr (uA σ 5 i v) := rfl
theorem HgX3_0_6 {a : Nat} {b : Nat → Nat} {wr : va_W} {σ : Hst} (FX : CallFix p m c cc nL s args lw_all RX3) (hW : Wd D dA A s (Hx dA a b wr σ) H locs) (hdg : decode cc pc = .ok (.getfield 30, 3)) (kk : W p l e R s m args below meth c H locs cells slots Q (F0 m (pc + 3) ls (.ref (b 6) :: rest))) : W p l e R s m args below meth c H locs cells slots Q (F0 m pc ls (.ref a :: rest)) :=
  g_get FX hW (C := RX3) (T := TX3) (N := 14) (ci := 3) in_X3 0 rfl rfl 6 (by decide) q283 (fun _ h => h) rfl hdg kk
theorem Hp7 {a : Nat} {b : Nat → Nat} {wr : va_W} {σ : Hst} : (Hx dA a b wr σ)[7]? = some ((b 6), .inl (dA 0, 8, .inl (hA σ 6))) := rfl
theorem Ht7 {a : Nat} {b : Nat → Nat} {wr : va_W} {σ : Hst} {i v : Int32} : (Hx dA a b wr σ).set 7 ((b 6), .inl (dA 0, 8, .inl (upd (hA σ 6) i.toNatClampNeg v))) = Hx dA a b wr (uA σ 6 i v) := rfl

/-! TrunkLitters$House.clear(I)V: kind W -/
def fX3_clear (x1 : Int32) (σ : Hst) : Option Hst := ast 8 x1 (stp (uA σ 0 x1 (0 : Int32)) fun s1 => ast 8 x1 (stp (uA s1 1 x1 (-1 : Int32)) fun s2 => ast 8 x1 (stp (uA s2 2 x1 (0 : Int32)) fun s3 => ast 8 x1 (stp (uA s3 3 x1 (0 : Int32)) fun s4 => ast 8 x1 (stp (uA s4 4 x1 (0 : Int32)) fun s5 => ast 8 x1 (stp (uA s5 5 x1 (-1 : Int32)) fun s6 => ast 8 x1 (stp (uA s6 6 x1 (-1 : Int32)) fun s7 => some s7)))))))
abbrev rX3_clear : Room := { frames := 0, cells := 0, slots := 0, locals := 0 }
set_option maxHeartbeats 4000000 in
set_option maxRecDepth 100000 in
theorem mX3_clear {a : Nat} {b : Nat → Nat} {wr : va_W}  {x1 : Int32} {σ : Hst} {q : Hst} (hf : fX3_clear x1 σ = some q) : CtV l yX3_clear cX3_clear 2 none rX3_clear D dA [.ref a, .int x1] (Hx dA a b wr σ) (Hx dA a b wr q) := by
  refine e_V (by decide) (Nat.le_of_ble_eq_true rfl) ?_
  intro p e s m below meth c ls A FX hr hlk hl hW
  have hx := FX.1; have hb := FX.2.1; have hown := FX.2.2.2.1; have hts := FX.2.2.2.2
  have hl : lv_has ls 2 [(0, .ref a), (1, .int x1)] := hl
  rw [fX3_clear] at hf
  refine lv_aload_n hx hb dX3_clear_0 rfl (lv_at hl 0 rfl) ?_
  refine HgX3_0_0 FX hW dX3_clear_1 ?_
  refine lv_iload_n hx hb dX3_clear_4 rfl (lv_at hl 1 rfl) ?_
  refine lv_iconst (v := 0) hx hb dX3_clear_5 (by decide) ?_
  refine g_iast FX hW 1 Hp1 (L := Hx dA a b wr) (Ht1) hf dX3_clear_6 (fun s1 H locs hW hf => ?_)
  refine lv_aload_n hx hb dX3_clear_7 rfl (lv_at hl 0 rfl) ?_
  refine HgX3_0_1 FX hW dX3_clear_8 ?_
  refine lv_iload_n hx hb dX3_clear_11 rfl (lv_at hl 1 rfl) ?_
  refine lv_iconst (v := -1) hx hb dX3_clear_12 (by decide) ?_
  refine g_iast FX hW 2 Hp2 (L := Hx dA a b wr) (Ht2) hf dX3_clear_13 (fun s2 H locs hW hf => ?_)
  refine lv_aload_n hx hb dX3_clear_14 rfl (lv_at hl 0 rfl) ?_
  refine HgX3_0_2 FX hW dX3_clear_15 ?_
  refine lv_iload_n hx hb dX3_clear_18 rfl (lv_at hl 1 rfl) ?_
  refine lv_iconst (v := 0) hx hb dX3_clear_19 (by decide) ?_
  refine g_iast FX hW 3 Hp3 (L := Hx dA a b wr) (Ht3) hf dX3_clear_20 (fun s3 H locs hW hf => ?_)
  refine lv_aload_n hx hb dX3_clear_21 rfl (lv_at hl 0 rfl) ?_
  refine HgX3_0_3 FX hW dX3_clear_22 ?_
  refine lv_iload_n hx hb dX3_clear_25 rfl (lv_at hl 1 rfl) ?_
  refine lv_iconst (v := 0) hx hb dX3_clear_26 (by decide) ?_
  refine g_iast FX hW 4 Hp4 (L := Hx dA a b wr) (Ht4) hf dX3_clear_27 (fun s4 H locs hW hf => ?_)
  refine lv_aload_n hx hb dX3_clear_28 rfl (lv_at hl 0 rfl) ?_
  refine HgX3_0_4 FX hW dX3_clear_29 ?_
  refine lv_iload_n hx hb dX3_clear_32 rfl (lv_at hl 1 rfl) ?_
  refine lv_iconst (v := 0) hx hb dX3_clear_33 (by decide) ?_
  refine g_iast FX hW 5 Hp5 (L := Hx dA a b wr) (Ht5) hf dX3_clear_34 (fun s5 H locs hW hf => ?_)
  refine lv_aload_n hx hb dX3_clear_35 rfl (lv_at hl 0 rfl) ?_
  refine HgX3_0_5 FX hW dX3_clear_36 ?_
  refine lv_iload_n hx hb dX3_clear_39 rfl (lv_at hl 1 rfl) ?_
  refine lv_iconst (v := -1) hx hb dX3_clear_40 (by decide) ?_
  refine g_iast FX hW 6 Hp6 (L := Hx dA a b wr) (Ht6) hf dX3_clear_41 (fun s6 H locs hW hf => ?_)
  refine lv_aload_n hx hb dX3_clear_42 rfl (lv_at hl 0 rfl) ?_
  refine HgX3_0_6 FX hW dX3_clear_43 ?_
  refine lv_iload_n hx hb dX3_clear_46 rfl (lv_at hl 1 rfl) ?_
  refine lv_iconst (v := -1) hx hb dX3_clear_47 (by decide) ?_
  refine g_iast FX hW 7 Hp7 (L := Hx dA a b wr) (Ht7) hf dX3_clear_48 (fun s7 H locs hW hf => ?_)
  obtain rfl := Option.some.inj hf
  exact g_vret FX hr hlk hW dX3_clear_49
theorem HsX3_0_8 {a : Nat} {b : Nat → Nat} {wr : va_W} {σ : Hst} {α : Type} {q : α} {v : Int32} {k : Hst → Option α} (FX : CallFix p m c cc nL s args lw_all RX3) (hW : Wd D dA A s (Hx dA a b wr σ) H locs) (hf : stp (uF σ 8 v) k = some q) (hdg : decode cc pc = .ok (.putfield 52, 3)) (kk : ∀ (σ1 : Hst) (H1 : Heap) (locs1 : List Loc), Wd D dA A s (Hx dA a b wr σ1) H1 locs1 → k σ1 = some q → W p l e R s m args below meth c H1 locs1 cells slots Q (F0 m (pc + 3) ls rest)) : W p l e R s m args below meth c H locs cells slots Q (F0 m pc ls (.int v :: .ref a :: rest)) :=
  g_put FX hW (C := RX3) (T := TX3) (N := 14) (ci := 3) (ty := .int) in_X3 tyX3 tyX3_ok nmX3 0 rfl rfl 8 (by decide) q287 (fun _ h => h) rfl (by decide +kernel) rfl rfl (Nat.le_of_ble_eq_true rfl) (ws' := Hx dA a b wr (uF σ 8 v)) rfl hdg (fun H1 locs1 hW1 => kk _ H1 locs1 hW1 hf)
set_option maxHeartbeats 4000000 in
set_option maxRecDepth 100000 in
theorem kHX3_clear {a : Nat} {b : Nat → Nat} {wr : va_W} {α : Type} {q : α} {k : Hst → Option α} {x1 : Int32} {σ : Hst} (FX : CallFix p m c cc nL s args lw_all RX3) (hR : rX3_clear.frames + 1 ≤ R.frames ∧ 8 + (2 + 11) + rX3_clear.locals ≤ R.locals) (hcs : cells ≤ R.cells ∧ slots ≤ R.slots) (hl : ls.size = nL) (hrm : (rest.map fun v => v.category).sum ≤ 8) (hW : Wd D dA A s (Hx dA a b wr σ) H locs) (hf : (fX3_clear x1 σ).bind k = some q) (hdg : decode cc pc = .ok (.invokevirtual 59, 3)) (kk : ∀ (σ1 : Hst) (H1 : Heap) (locs1 : List Loc), Wd D dA A s (Hx dA a b wr σ1) H1 locs1 → k σ1 = some q → W p l e R s m args below meth c H1 locs1 cells slots Q (F0 m (pc + 3) ls (rest))) : W p l e R s m args below meth c H locs cells slots Q (F0 m pc ls (.int x1 :: .ref a :: rest)) := by
  obtain ⟨r1, h1, hf⟩ := bnd hf
  have hW2 := hW
  refine w_Vv (C := RX3) (As := [.int x1]) (rest := rest) (n := 1) (wr := []) FX (mX3_clear h1) (cwV 1 FX.2.2.2.2 (lw_V q340 q342 qs0 q129 q343) rfl rfl rfl (by decide +kernel) hR) (va_recv hW.2.2.2.1 hW.1 (ci := 3) (q0 := 0) rfl rfl) rfl hl rfl hrm ⟨Nat.le_trans (Nat.le_of_eq (Nat.add_zero cells)) hcs.1, Nat.le_trans (Nat.le_of_eq (Nat.add_zero slots)) hcs.2⟩ hdg hW2.nil ?_
  exact fun H1 locs1 hW1 => kk _ H1 locs1 (hW1.nil') hf
/-! TrunkLitters$House.leaves(I)V: kind W -/
def fX3_leaves_78 (k21 : Int32 → Int32 → Hst → Option Hst) (x1 : Int32) (x2 : Int32) (y1 : Int32) (y2 : Int32) (σ : Hst) : Option Hst := ast 8 y1 (stp (uA σ 6 y1 y2) fun s1 => k21 x1 (x2 + (1 : Int32)) s1)
def fX3_leaves_52 (k21 : Int32 → Int32 → Hst → Option Hst) (x1 : Int32) (x2 : Int32) (y1 : Int32) (y2 : Int32) (σ : Hst) : Option Hst := ast 8 y1 (stp (uA σ 5 y1 y2) fun s1 => ald 8 (hA s1 6) x2 fun v2 => (if v2 = x1 then fX3_leaves_78 k21 x1 x2 x2 (-1 : Int32) s1 else ald 8 (hA s1 6) x2 fun v3 => fX3_leaves_78 k21 x1 x2 x2 v3 s1))
def fX3_leaves_21 : Nat → Int32 → Int32 → Hst → Option Hst
  | 0, _, _, _ => none
  | n + 1, x1, x2, σ => (if (8 : Int32) ≤ x2 then some σ else ald 8 (hA σ 5) x2 fun v1 => (if v1 = x1 then fX3_leaves_52 (fX3_leaves_21 n) x1 x2 x2 (-1 : Int32) σ else ald 8 (hA σ 5) x2 fun v2 => fX3_leaves_52 (fX3_leaves_21 n) x1 x2 x2 v2 σ))
def fX3_leaves (x1 : Int32) (σ : Hst) : Option Hst := stp (uF σ 8 ((hF σ 8) &&& (((1 : Int32) <<< (x1 &&& 31)) ^^^ (-1 : Int32)))) fun s1 => (fX3_clear x1 s1).bind fun s2 => fX3_leaves_21 FU x1 (0 : Int32) s2
abbrev rX3_leaves : Room := { frames := 1, cells := 0, slots := 0, locals := 21 }
set_option maxHeartbeats 4000000 in
set_option maxRecDepth 100000 in
theorem wX3_leaves_78 {a : Nat} {b : Nat → Nat} {wr : va_W} {q : Hst} (FX : CallFix p m c cX3_leaves 3 s args lw_all RX3) (hr : meth.sig.returnType = none) (hlk : meth.locks = false) {k21 : Int32 → Int32 → Hst → Option Hst} (hk21 : ∀ (x1 : Int32) (x2 : Int32) (σ : Hst) (H : Heap) (locs : List Loc) (ls : Array Slot), lv_has ls 3 [(0, .ref a), (1, .int x1), (2, .int x2)] → Wd D dA A s (Hx dA a b wr σ) H locs → k21 x1 x2 σ = some q → W p l e rX3_leaves s m args below meth c H locs 0 0 (QV D dA A below args s 0 0 (Hx dA a b wr q)) (F0 m 21 ls [])) : ∀ (x1 : Int32) (x2 : Int32) (y1 : Int32) (y2 : Int32) (σ : Hst) (H : Heap) (locs : List Loc) (ls : Array Slot), lv_has ls 3 [(0, .ref a), (1, .int x1), (2, .int x2)] → Wd D dA A s (Hx dA a b wr σ) H locs → fX3_leaves_78 k21 x1 x2 y1 y2 σ = some q → W p l e rX3_leaves s m args below meth c H locs 0 0 (QV D dA A below args s 0 0 (Hx dA a b wr q)) (F0 m 78 ls [.int y2, .int y1, .ref (b 6)]) := by
  have hx := FX.1; have hb := FX.2.1; have hown := FX.2.2.2.1; have hts := FX.2.2.2.2
  intro x1 x2 y1 y2 σ H locs ls hl hW hf
  rw [fX3_leaves_78] at hf
  refine g_iast FX hW 7 Hp7 (L := Hx dA a b wr) (Ht7) hf dX3_leaves_78 (fun s1 H locs hW hf => ?_)
  refine lv_iinc (v := (x2 + (1 : Int32))) (lv' := [(2, .int (x2 + (1 : Int32))), (0, .ref a), (1, .int x1)]) hx hb dX3_leaves_79 hl (k := 2) rfl rfl (by decide) rfl (fun ls hl => ?_)
  refine lv_goto (tgt := 21) hx hb dX3_leaves_82 (by decide) ?_
  exact hk21 x1 (x2 + (1 : Int32)) s1 _ _ _ (lv_sub hl [1, 2, 0] rfl) hW hf
set_option maxHeartbeats 4000000 in
set_option maxRecDepth 100000 in
theorem wX3_leaves_52 {a : Nat} {b : Nat → Nat} {wr : va_W} {q : Hst} (FX : CallFix p m c cX3_leaves 3 s args lw_all RX3) (hr : meth.sig.returnType = none) (hlk : meth.locks = false) {k21 : Int32 → Int32 → Hst → Option Hst} (hk21 : ∀ (x1 : Int32) (x2 : Int32) (σ : Hst) (H : Heap) (locs : List Loc) (ls : Array Slot), lv_has ls 3 [(0, .ref a), (1, .int x1), (2, .int x2)] → Wd D dA A s (Hx dA a b wr σ) H locs → k21 x1 x2 σ = some q → W p l e rX3_leaves s m args below meth c H locs 0 0 (QV D dA A below args s 0 0 (Hx dA a b wr q)) (F0 m 21 ls [])) : ∀ (x1 : Int32) (x2 : Int32) (y1 : Int32) (y2 : Int32) (σ : Hst) (H : Heap) (locs : List Loc) (ls : Array Slot), lv_has ls 3 [(0, .ref a), (1, .int x1), (2, .int x2)] → Wd D dA A s (Hx dA a b wr σ) H locs → fX3_leaves_52 k21 x1 x2 y1 y2 σ = some q → W p l e rX3_leaves s m args below meth c H locs 0 0 (QV D dA A below args s 0 0 (Hx dA a b wr q)) (F0 m 52 ls [.int y2, .int y1, .ref (b 5)]) := by
  have hx := FX.1; have hb := FX.2.1; have hown := FX.2.2.2.1; have hts := FX.2.2.2.2
  intro x1 x2 y1 y2 σ H locs ls hl hW hf
  rw [fX3_leaves_52] at hf
  refine g_iast FX hW 6 Hp6 (L := Hx dA a b wr) (Ht6) hf dX3_leaves_52 (fun s1 H locs hW hf => ?_)
  refine lv_aload_n hx hb dX3_leaves_53 rfl (lv_at hl 0 rfl) ?_
  refine HgX3_0_6 FX hW dX3_leaves_54 ?_
  refine lv_iload_n hx hb dX3_leaves_57 rfl (lv_at hl 2 rfl) ?_
  refine lv_aload_n hx hb dX3_leaves_58 rfl (lv_at hl 0 rfl) ?_
  refine HgX3_0_6 FX hW dX3_leaves_59 ?_
  refine lv_iload_n hx hb dX3_leaves_62 rfl (lv_at hl 2 rfl) ?_
  refine g_iald FX hW 7 Hp7 hf dX3_leaves_63 (fun v2 hf => ?_)
  refine lv_iload_n hx hb dX3_leaves_64 rfl (lv_at hl 1 rfl) ?_
  refine lv_icmp_ne (tgt := 72) hx hb dX3_leaves_65 (by decide) (fun c65 => ?_) (fun c65 => ?_)
  · have hf := ifn c65 hf
    refine lv_aload_n hx hb dX3_leaves_72 rfl (lv_at hl 0 rfl) ?_
    refine HgX3_0_6 FX hW dX3_leaves_73 ?_
    refine lv_iload_n hx hb dX3_leaves_76 rfl (lv_at hl 2 rfl) ?_
    refine g_iald FX hW 7 Hp7 hf dX3_leaves_77 (fun v3 hf => ?_)
    exact wX3_leaves_78 FX hr hlk hk21 x1 x2 x2 v3 s1 _ _ _ (lv_sub hl [0, 1, 2] rfl) hW hf
  · have hf := ifp c65 hf
    refine lv_iconst (v := -1) hx hb dX3_leaves_68 (by decide) ?_
    refine lv_goto (tgt := 78) hx hb dX3_leaves_69 (by decide) ?_
    exact wX3_leaves_78 FX hr hlk hk21 x1 x2 x2 (-1 : Int32) s1 _ _ _ (lv_sub hl [0, 1, 2] rfl) hW hf
set_option maxHeartbeats 4000000 in
set_option maxRecDepth 100000 in
theorem wX3_leaves_21 {a : Nat} {b : Nat → Nat} {wr : va_W} {q : Hst} (FX : CallFix p m c cX3_leaves 3 s args lw_all RX3) (hr : meth.sig.returnType = none) (hlk : meth.locks = false) : ∀ n : Nat, ∀ (x1 : Int32) (x2 : Int32) (σ : Hst) (H : Heap) (locs : List Loc) (ls : Array Slot), lv_has ls 3 [(0, .ref a), (1, .int x1), (2, .int x2)] → Wd D dA A s (Hx dA a b wr σ) H locs → fX3_leaves_21 n x1 x2 σ = some q → W p l e rX3_leaves s m args below meth c H locs 0 0 (QV D dA A below args s 0 0 (Hx dA a b wr q)) (F0 m 21 ls []) := by
  have hx := FX.1; have hb := FX.2.1; have hown := FX.2.2.2.1; have hts := FX.2.2.2.2
  intro n
  induction n with
  | zero =>
    intro x1 x2 σ H locs ls hl hW hf
    cases (show (none : Option Hst) = some q from hf)
  | succ n ih =>
    intro x1 x2 σ H locs ls hl hW hf
    rw [fX3_leaves_21] at hf
    refine lv_iload_n hx hb dX3_leaves_21 rfl (lv_at hl 2 rfl) ?_
    refine lv_bipush (v := 8) hx hb dX3_leaves_22 (by decide) ?_
    refine lv_icmp_ge (tgt := 85) hx hb dX3_leaves_24 (by decide) (fun c24 => ?_) (fun c24 => ?_)
    · have hf := ifp c24 hf
      obtain rfl := Option.some.inj hf
      exact g_vret FX hr hlk hW dX3_leaves_85
    · have hf := ifn c24 hf
      refine lv_aload_n hx hb dX3_leaves_27 rfl (lv_at hl 0 rfl) ?_
      refine HgX3_0_5 FX hW dX3_leaves_28 ?_
      refine lv_iload_n hx hb dX3_leaves_31 rfl (lv_at hl 2 rfl) ?_
      refine lv_aload_n hx hb dX3_leaves_32 rfl (lv_at hl 0 rfl) ?_
      refine HgX3_0_5 FX hW dX3_leaves_33 ?_
      refine lv_iload_n hx hb dX3_leaves_36 rfl (lv_at hl 2 rfl) ?_
      refine g_iald FX hW 6 Hp6 hf dX3_leaves_37 (fun v1 hf => ?_)
      refine lv_iload_n hx hb dX3_leaves_38 rfl (lv_at hl 1 rfl) ?_
      refine lv_icmp_ne (tgt := 46) hx hb dX3_leaves_39 (by decide) (fun c39 => ?_) (fun c39 => ?_)
      · have hf := ifn c39 hf
        refine lv_aload_n hx hb dX3_leaves_46 rfl (lv_at hl 0 rfl) ?_
        refine HgX3_0_5 FX hW dX3_leaves_47 ?_
        refine lv_iload_n hx hb dX3_leaves_50 rfl (lv_at hl 2 rfl) ?_
        refine g_iald FX hW 6 Hp6 hf dX3_leaves_51 (fun v2 hf => ?_)
        exact wX3_leaves_52 FX hr hlk (ih) x1 x2 x2 v2 σ _ _ _ (lv_sub hl [0, 1, 2] rfl) hW hf
      · have hf := ifp c39 hf
        refine lv_iconst (v := -1) hx hb dX3_leaves_42 (by decide) ?_
        refine lv_goto (tgt := 52) hx hb dX3_leaves_43 (by decide) ?_
        exact wX3_leaves_52 FX hr hlk (ih) x1 x2 x2 (-1 : Int32) σ _ _ _ (lv_sub hl [0, 1, 2] rfl) hW hf
set_option maxHeartbeats 4000000 in
set_option maxRecDepth 100000 in
theorem mX3_leaves {a : Nat} {b : Nat → Nat} {wr : va_W}  {x1 : Int32} {σ : Hst} {q : Hst} (hf : fX3_leaves x1 σ = some q) : CtV l yX3_leaves cX3_leaves 3 none rX3_leaves D dA [.ref a, .int x1] (Hx dA a b wr σ) (Hx dA a b wr q) := by
  refine e_V (by decide) (Nat.le_of_ble_eq_true rfl) ?_
  intro p e s m below meth c ls A FX hr hlk hl hW
  have hx := FX.1; have hb := FX.2.1; have hown := FX.2.2.2.1; have hts := FX.2.2.2.2
  have hl : lv_has ls 3 [(0, .ref a), (1, .int x1)] := hl
  rw [fX3_leaves] at hf
  refine lv_aload_n hx hb dX3_leaves_0 rfl (lv_at hl 0 rfl) ?_
  refine lv_dup hx hb dX3_leaves_1 rfl ?_
  refine HgX3_0_8 FX hW dX3_leaves_2 ?_
  refine lv_iconst (v := 1) hx hb dX3_leaves_5 (by decide) ?_
  refine lv_iload_n hx hb dX3_leaves_6 rfl (lv_at hl 1 rfl) ?_
  refine lv_ishl hx hb dX3_leaves_7 ?_
  refine lv_iconst (v := -1) hx hb dX3_leaves_8 (by decide) ?_
  refine lv_ixor hx hb dX3_leaves_9 ?_
  refine lv_iand hx hb dX3_leaves_10 ?_
  refine HsX3_0_8 FX hW hf dX3_leaves_11 (fun s1 H locs hW hf => ?_)
  refine lv_aload_n hx hb dX3_leaves_14 rfl (lv_at hl 0 rfl) ?_
  refine lv_iload_n hx hb dX3_leaves_15 rfl (lv_at hl 1 rfl) ?_
  refine kHX3_clear FX ⟨Nat.le_of_ble_eq_true rfl, Nat.le_of_ble_eq_true rfl⟩ ⟨Nat.zero_le _, Nat.zero_le _⟩ hl.1 (Nat.le_of_ble_eq_true rfl) hW hf dX3_leaves_16 (fun s2 H locs hW hf => ?_)
  refine lv_iconst (v := 0) hx hb dX3_leaves_19 (by decide) ?_
  refine lv_istore_n (lv' := [(2, .int (0 : Int32)), (0, .ref a), (1, .int x1)]) hx hb dX3_leaves_20 rfl hl (by decide) rfl (fun ls hl => ?_)
  exact wX3_leaves_21 FX hr hlk _ x1 (0 : Int32) s2 _ _ _ (lv_sub hl [1, 2, 0] rfl) hW hf

set_option maxHeartbeats 4000000 in
set_option maxRecDepth 100000 in
theorem kHX3_has {a : Nat} {b : Nat → Nat} {wr : va_W} {α : Type} {q : α} {k : Int32 → Option α} {x1 : Int32} {σ : Hst} (FX : CallFix p m c cc nL s args lw_all RX3) (hR : rX3_has.frames + 1 ≤ R.frames ∧ 8 + (2 + 11) + rX3_has.locals ≤ R.locals) (hcs : cells ≤ R.cells ∧ slots ≤ R.slots) (hl : ls.size = nL) (hrm : (rest.map fun v => v.category).sum ≤ 8) (hW : Wd D dA A s (Hx dA a b wr σ) H locs) (hf : (fX3_has x1 σ).bind k = some q) (hdg : decode cc pc = .ok (.invokevirtual 55, 3)) (kk : ∀ (r : Int32) (H1 : Heap) (locs1 : List Loc), Wd D dA A s (Hx dA a b wr σ) H1 locs1 → k r = some q → W p l e R s m args below meth c H1 locs1 cells slots Q (F0 m (pc + 3) ls (.int r :: rest))) : W p l e R s m args below meth c H locs cells slots Q (F0 m pc ls (.int x1 :: .ref a :: rest)) := by
  obtain ⟨r1, h1, hf⟩ := bnd hf
  have hW2 := hW
  refine w_Vi (C := RX3) (As := [.int x1]) (rest := rest) (n := 1) (wr := []) FX (mX3_has h1) (cwV 1 FX.2.2.2.2 (lw_V q336 q337 q338 q129 q339) rfl rfl rfl (by decide +kernel) hR) (va_recv hW.2.2.2.1 hW.1 (ci := 3) (q0 := 0) rfl rfl) rfl hl rfl hrm ⟨Nat.le_trans (Nat.le_of_eq (Nat.add_zero cells)) hcs.1, Nat.le_trans (Nat.le_of_eq (Nat.add_zero slots)) hcs.2⟩ hdg hW2.nil ?_
  exact fun H1 locs1 hW1 => kk r1 H1 locs1 (hW1.nil') hf
/-! TrunkLitters$House.in(I)I: kind R -/
def fX3_in_35 (σ : Hst) (k4 : Int32 → Int32 → Int32 → Option Int32) (x1 : Int32) (x3 : Int32) (y0 : Int32) : Option Int32 := k4 x1 (y0 ||| (0 : Int32)) (x3 + (1 : Int32))
def fX3_in_4 (σ : Hst) : Nat → Int32 → Int32 → Int32 → Option Int32
  | 0, _, _, _ => none
  | n + 1, x1, x2, x3 => (if (8 : Int32) ≤ x3 then some x2 else (fX3_has x3 σ).bind fun r1 => (if r1 = 0 then fX3_in_35 σ (fX3_in_4 σ n) x1 x3 x2 else ald 8 (hA σ 1) x3 fun v2 => (if v2 = x1 then fX3_in_4 σ n x1 (x2 ||| ((1 : Int32) <<< (x3 &&& 31))) (x3 + (1 : Int32)) else fX3_in_35 σ (fX3_in_4 σ n) x1 x3 x2)))
def fX3_in (x1 : Int32) (σ : Hst) : Option Int32 := fX3_in_4 σ FU x1 (0 : Int32) (0 : Int32)
abbrev rX3_in : Room := { frames := 1, cells := 0, slots := 0, locals := 21 }
set_option maxHeartbeats 4000000 in
set_option maxRecDepth 100000 in
theorem wX3_in_35 {a : Nat} {b : Nat → Nat} {wr : va_W} {q : Int32} {σ : Hst} (FX : CallFix p m c cX3_in 4 s args lw_all RX3) (hr : meth.sig.returnType = (some .int)) (hlk : meth.locks = false) {k4 : Int32 → Int32 → Int32 → Option Int32} (hk4 : ∀ (x1 : Int32) (x2 : Int32) (x3 : Int32) (H : Heap) (locs : List Loc) (ls : Array Slot), lv_has ls 4 [(0, .ref a), (1, .int x1), (2, .int x2), (3, .int x3)] → Wd D dA A s (Hx dA a b wr σ) H locs → k4 x1 x2 x3 = some q → W p l e rX3_in s m args below meth c H locs 0 0 (QI D dA A below args s 0 0 q (Hx dA a b wr σ)) (F0 m 4 ls [])) : ∀ (x1 : Int32) (x3 : Int32) (y0 : Int32) (H : Heap) (locs : List Loc) (ls : Array Slot), lv_has ls 4 [(0, .ref a), (1, .int x1), (3, .int x3)] → Wd D dA A s (Hx dA a b wr σ) H locs → fX3_in_35 σ k4 x1 x3 y0 = some q → W p l e rX3_in s m args below meth c H locs 0 0 (QI D dA A below args s 0 0 q (Hx dA a b wr σ)) (F0 m 35 ls [.int y0]) := by
  have hx := FX.1; have hb := FX.2.1; have hown := FX.2.2.2.1; have hts := FX.2.2.2.2
  intro x1 x3 y0 H locs ls hl hW hf
  rw [fX3_in_35] at hf
  refine lv_iconst (v := 0) hx hb dX3_in_35 (by decide) ?_
  refine lv_ior hx hb dX3_in_36 ?_
  refine lv_istore_n (lv' := [(2, .int (y0 ||| (0 : Int32))), (0, .ref a), (1, .int x1), (3, .int x3)]) hx hb dX3_in_37 rfl hl (by decide) rfl (fun ls hl => ?_)
  refine lv_iinc (v := (x3 + (1 : Int32))) (lv' := [(3, .int (x3 + (1 : Int32))), (2, .int (y0 ||| (0 : Int32))), (0, .ref a), (1, .int x1)]) hx hb dX3_in_38 hl (k := 3) rfl rfl (by decide) rfl (fun ls hl => ?_)
  refine lv_goto (tgt := 4) hx hb dX3_in_41 (by decide) ?_
  exact hk4 x1 (y0 ||| (0 : Int32)) (x3 + (1 : Int32)) _ _ _ (lv_sub hl [2, 3, 1, 0] rfl) hW hf
set_option maxHeartbeats 4000000 in
set_option maxRecDepth 100000 in
theorem wX3_in_4 {a : Nat} {b : Nat → Nat} {wr : va_W} {q : Int32} {σ : Hst} (FX : CallFix p m c cX3_in 4 s args lw_all RX3) (hr : meth.sig.returnType = (some .int)) (hlk : meth.locks = false) : ∀ n : Nat, ∀ (x1 : Int32) (x2 : Int32) (x3 : Int32) (H : Heap) (locs : List Loc) (ls : Array Slot), lv_has ls 4 [(0, .ref a), (1, .int x1), (2, .int x2), (3, .int x3)] → Wd D dA A s (Hx dA a b wr σ) H locs → fX3_in_4 σ n x1 x2 x3 = some q → W p l e rX3_in s m args below meth c H locs 0 0 (QI D dA A below args s 0 0 q (Hx dA a b wr σ)) (F0 m 4 ls []) := by
  have hx := FX.1; have hb := FX.2.1; have hown := FX.2.2.2.1; have hts := FX.2.2.2.2
  intro n
  induction n with
  | zero =>
    intro x1 x2 x3 H locs ls hl hW hf
    cases (show (none : Option Int32) = some q from hf)
  | succ n ih =>
    intro x1 x2 x3 H locs ls hl hW hf
    rw [fX3_in_4] at hf
    refine lv_iload_n hx hb dX3_in_4 rfl (lv_at hl 3 rfl) ?_
    refine lv_bipush (v := 8) hx hb dX3_in_5 (by decide) ?_
    refine lv_icmp_ge (tgt := 44) hx hb dX3_in_7 (by decide) (fun c7 => ?_) (fun c7 => ?_)
    · have hf := ifp c7 hf
      refine lv_iload_n hx hb dX3_in_44 rfl (lv_at hl 2 rfl) ?_
      exact g_iret FX hr hlk hW (Option.some.inj hf) dX3_in_45
    · have hf := ifn c7 hf
      refine lv_iload_n hx hb dX3_in_10 rfl (lv_at hl 2 rfl) ?_
      refine lv_aload_n hx hb dX3_in_11 rfl (lv_at hl 0 rfl) ?_
      refine lv_iload_n hx hb dX3_in_12 rfl (lv_at hl 3 rfl) ?_
      refine kHX3_has FX ⟨Nat.le_of_ble_eq_true rfl, Nat.le_of_ble_eq_true rfl⟩ ⟨Nat.zero_le _, Nat.zero_le _⟩ hl.1 (Nat.le_of_ble_eq_true rfl) hW hf dX3_in_13 (fun r1 H locs hW hf => ?_)
      refine lv_if_eq (tgt := 35) hx hb dX3_in_16 (by decide) (fun c16 => ?_) (fun c16 => ?_)
      · have hf := ifp c16 hf
        exact wX3_in_35 FX hr hlk (ih) x1 x3 x2 _ _ _ (lv_sub hl [0, 1, 3] rfl) hW hf
      · have hf := ifn c16 hf
        refine lv_aload_n hx hb dX3_in_19 rfl (lv_at hl 0 rfl) ?_
        refine HgX3_0_1 FX hW dX3_in_20 ?_
        refine lv_iload_n hx hb dX3_in_23 rfl (lv_at hl 3 rfl) ?_
        refine g_iald FX hW 2 Hp2 hf dX3_in_24 (fun v2 hf => ?_)
        refine lv_iload_n hx hb dX3_in_25 rfl (lv_at hl 1 rfl) ?_
        refine lv_icmp_ne (tgt := 35) hx hb dX3_in_26 (by decide) (fun c26 => ?_) (fun c26 => ?_)
        · have hf := ifn c26 hf
          exact wX3_in_35 FX hr hlk (ih) x1 x3 x2 _ _ _ (lv_sub hl [0, 1, 3] rfl) hW hf
        · have hf := ifp c26 hf
          refine lv_iconst (v := 1) hx hb dX3_in_29 (by decide) ?_
          refine lv_iload_n hx hb dX3_in_30 rfl (lv_at hl 3 rfl) ?_
          refine lv_ishl hx hb dX3_in_31 ?_
          refine lv_goto (tgt := 36) hx hb dX3_in_32 (by decide) ?_
          refine lv_ior hx hb dX3_in_36 ?_
          refine lv_istore_n (lv' := [(2, .int (x2 ||| ((1 : Int32) <<< (x3 &&& 31)))), (0, .ref a), (1, .int x1), (3, .int x3)]) hx hb dX3_in_37 rfl hl (by decide) rfl (fun ls hl => ?_)
          refine lv_iinc (v := (x3 + (1 : Int32))) (lv' := [(3, .int (x3 + (1 : Int32))), (2, .int (x2 ||| ((1 : Int32) <<< (x3 &&& 31)))), (0, .ref a), (1, .int x1)]) hx hb dX3_in_38 hl (k := 3) rfl rfl (by decide) rfl (fun ls hl => ?_)
          refine lv_goto (tgt := 4) hx hb dX3_in_41 (by decide) ?_
          exact ih x1 (x2 ||| ((1 : Int32) <<< (x3 &&& 31))) (x3 + (1 : Int32)) _ _ _ (lv_sub hl [2, 3, 1, 0] rfl) hW hf
set_option maxHeartbeats 4000000 in
set_option maxRecDepth 100000 in
theorem mX3_in {a : Nat} {b : Nat → Nat} {wr : va_W}  {x1 : Int32} {σ : Hst} {q : Int32} (hf : fX3_in x1 σ = some q) : CtI l yX3_in cX3_in 4 (some .int) rX3_in D dA [.ref a, .int x1] (Hx dA a b wr σ) q (Hx dA a b wr σ) := by
  refine e_I (by decide) (Nat.le_of_ble_eq_true rfl) ?_
  intro p e s m below meth c ls A FX hr hlk hl hW
  have hx := FX.1; have hb := FX.2.1; have hown := FX.2.2.2.1; have hts := FX.2.2.2.2
  have hl : lv_has ls 4 [(0, .ref a), (1, .int x1)] := hl
  rw [fX3_in] at hf
  refine lv_iconst (v := 0) hx hb dX3_in_0 (by decide) ?_
  refine lv_istore_n (lv' := [(2, .int (0 : Int32)), (0, .ref a), (1, .int x1)]) hx hb dX3_in_1 rfl hl (by decide) rfl (fun ls hl => ?_)
  refine lv_iconst (v := 0) hx hb dX3_in_2 (by decide) ?_
  refine lv_istore_n (lv' := [(3, .int (0 : Int32)), (2, .int (0 : Int32)), (0, .ref a), (1, .int x1)]) hx hb dX3_in_3 rfl hl (by decide) rfl (fun ls hl => ?_)
  exact wX3_in_4 FX hr hlk _ x1 (0 : Int32) (0 : Int32) _ _ _ (lv_sub hl [2, 3, 1, 0] rfl) hW hf


/-! TrunkLitters$House.bulkOf(I)I: kind R -/
def fX3_bulkOf_4 (σ : Hst) : Nat → Int32 → Int32 → Int32 → Option Int32
  | 0, _, _, _ => none
  | n + 1, x1, x2, x3 => (if (8 : Int32) ≤ x3 then some x2 else (if ((x1 >>> (x3 &&& 31)) &&& (1 : Int32)) = (1 : Int32) then ald 8 (hA σ 0) x3 fun v1 => fX3_bulkOf_4 σ n x1 (x2 + v1) (x3 + (1 : Int32)) else fX3_bulkOf_4 σ n x1 (x2 + (0 : Int32)) (x3 + (1 : Int32))))
def fX3_bulkOf (x1 : Int32) (σ : Hst) : Option Int32 := fX3_bulkOf_4 σ FU x1 (0 : Int32) (0 : Int32)
abbrev rX3_bulkOf : Room := { frames := 0, cells := 0, slots := 0, locals := 0 }
set_option maxHeartbeats 4000000 in
set_option maxRecDepth 100000 in
theorem wX3_bulkOf_4 {a : Nat} {b : Nat → Nat} {wr : va_W} {q : Int32} {σ : Hst} (FX : CallFix p m c cX3_bulkOf 4 s args lw_all RX3) (hr : meth.sig.returnType = (some .int)) (hlk : meth.locks = false) : ∀ n : Nat, ∀ (x1 : Int32) (x2 : Int32) (x3 : Int32) (H : Heap) (locs : List Loc) (ls : Array Slot), lv_has ls 4 [(0, .ref a), (1, .int x1), (2, .int x2), (3, .int x3)] → Wd D dA A s (Hx dA a b wr σ) H locs → fX3_bulkOf_4 σ n x1 x2 x3 = some q → W p l e rX3_bulkOf s m args below meth c H locs 0 0 (QI D dA A below args s 0 0 q (Hx dA a b wr σ)) (F0 m 4 ls []) := by
  have hx := FX.1; have hb := FX.2.1; have hown := FX.2.2.2.1; have hts := FX.2.2.2.2
  intro n
  induction n with
  | zero =>
    intro x1 x2 x3 H locs ls hl hW hf
    cases (show (none : Option Int32) = some q from hf)
  | succ n ih =>
    intro x1 x2 x3 H locs ls hl hW hf
    rw [fX3_bulkOf_4] at hf
    refine lv_iload_n hx hb dX3_bulkOf_4 rfl (lv_at hl 3 rfl) ?_
    refine lv_bipush (v := 8) hx hb dX3_bulkOf_5 (by decide) ?_
    refine lv_icmp_ge (tgt := 38) hx hb dX3_bulkOf_7 (by decide) (fun c7 => ?_) (fun c7 => ?_)
    · have hf := ifp c7 hf
      refine lv_iload_n hx hb dX3_bulkOf_38 rfl (lv_at hl 2 rfl) ?_
      exact g_iret FX hr hlk hW (Option.some.inj hf) dX3_bulkOf_39
    · have hf := ifn c7 hf
      refine lv_iload_n hx hb dX3_bulkOf_10 rfl (lv_at hl 2 rfl) ?_
      refine lv_iload_n hx hb dX3_bulkOf_11 rfl (lv_at hl 1 rfl) ?_
      refine lv_iload_n hx hb dX3_bulkOf_12 rfl (lv_at hl 3 rfl) ?_
      refine lv_ishr hx hb dX3_bulkOf_13 ?_
      refine lv_iconst (v := 1) hx hb dX3_bulkOf_14 (by decide) ?_
      refine lv_iand hx hb dX3_bulkOf_15 ?_
      refine lv_iconst (v := 1) hx hb dX3_bulkOf_16 (by decide) ?_
      refine lv_icmp_ne (tgt := 29) hx hb dX3_bulkOf_17 (by decide) (fun c17 => ?_) (fun c17 => ?_)
      · have hf := ifn c17 hf
        refine lv_iconst (v := 0) hx hb dX3_bulkOf_29 (by decide) ?_
        refine lv_iadd hx hb dX3_bulkOf_30 ?_
        refine lv_istore_n (lv' := [(2, .int (x2 + (0 : Int32))), (0, .ref a), (1, .int x1), (3, .int x3)]) hx hb dX3_bulkOf_31 rfl hl (by decide) rfl (fun ls hl => ?_)
        refine lv_iinc (v := (x3 + (1 : Int32))) (lv' := [(3, .int (x3 + (1 : Int32))), (2, .int (x2 + (0 : Int32))), (0, .ref a), (1, .int x1)]) hx hb dX3_bulkOf_32 hl (k := 3) rfl rfl (by decide) rfl (fun ls hl => ?_)
        refine lv_goto (tgt := 4) hx hb dX3_bulkOf_35 (by decide) ?_
        exact ih x1 (x2 + (0 : Int32)) (x3 + (1 : Int32)) _ _ _ (lv_sub hl [2, 3, 1, 0] rfl) hW hf
      · have hf := ifp c17 hf
        refine lv_aload_n hx hb dX3_bulkOf_20 rfl (lv_at hl 0 rfl) ?_
        refine HgX3_0_0 FX hW dX3_bulkOf_21 ?_
        refine lv_iload_n hx hb dX3_bulkOf_24 rfl (lv_at hl 3 rfl) ?_
        refine g_iald FX hW 1 Hp1 hf dX3_bulkOf_25 (fun v1 hf => ?_)
        refine lv_goto (tgt := 30) hx hb dX3_bulkOf_26 (by decide) ?_
        refine lv_iadd hx hb dX3_bulkOf_30 ?_
        refine lv_istore_n (lv' := [(2, .int (x2 + v1)), (0, .ref a), (1, .int x1), (3, .int x3)]) hx hb dX3_bulkOf_31 rfl hl (by decide) rfl (fun ls hl => ?_)
        refine lv_iinc (v := (x3 + (1 : Int32))) (lv' := [(3, .int (x3 + (1 : Int32))), (2, .int (x2 + v1)), (0, .ref a), (1, .int x1)]) hx hb dX3_bulkOf_32 hl (k := 3) rfl rfl (by decide) rfl (fun ls hl => ?_)
        refine lv_goto (tgt := 4) hx hb dX3_bulkOf_35 (by decide) ?_
        exact ih x1 (x2 + v1) (x3 + (1 : Int32)) _ _ _ (lv_sub hl [2, 3, 1, 0] rfl) hW hf
set_option maxHeartbeats 4000000 in
set_option maxRecDepth 100000 in
theorem mX3_bulkOf {a : Nat} {b : Nat → Nat} {wr : va_W}  {x1 : Int32} {σ : Hst} {q : Int32} (hf : fX3_bulkOf x1 σ = some q) : CtI l yX3_bulkOf cX3_bulkOf 4 (some .int) rX3_bulkOf D dA [.ref a, .int x1] (Hx dA a b wr σ) q (Hx dA a b wr σ) := by
  refine e_I (by decide) (Nat.le_of_ble_eq_true rfl) ?_
  intro p e s m below meth c ls A FX hr hlk hl hW
  have hx := FX.1; have hb := FX.2.1; have hown := FX.2.2.2.1; have hts := FX.2.2.2.2
  have hl : lv_has ls 4 [(0, .ref a), (1, .int x1)] := hl
  rw [fX3_bulkOf] at hf
  refine lv_iconst (v := 0) hx hb dX3_bulkOf_0 (by decide) ?_
  refine lv_istore_n (lv' := [(2, .int (0 : Int32)), (0, .ref a), (1, .int x1)]) hx hb dX3_bulkOf_1 rfl hl (by decide) rfl (fun ls hl => ?_)
  refine lv_iconst (v := 0) hx hb dX3_bulkOf_2 (by decide) ?_
  refine lv_istore_n (lv' := [(3, .int (0 : Int32)), (2, .int (0 : Int32)), (0, .ref a), (1, .int x1)]) hx hb dX3_bulkOf_3 rfl hl (by decide) rfl (fun ls hl => ?_)
  exact wX3_bulkOf_4 FX hr hlk _ x1 (0 : Int32) (0 : Int32) _ _ _ (lv_sub hl [2, 3, 1, 0] rfl) hW hf


/-! TrunkLitters$House.greatest(II)I: kind R -/
def fX3_greatest_58 (σ : Hst) (k5 : Int32 → Int32 → Int32 → Int32 → Option Int32) (x1 : Int32) (x2 : Int32) (x4 : Int32) : Option Int32 := k5 x1 x2 x4 (x4 + (1 : Int32))
def fX3_greatest_5 (σ : Hst) : Nat → Int32 → Int32 → Int32 → Int32 → Option Int32
  | 0, _, _, _, _ => none
  | n + 1, x1, x2, x3, x4 => (if (8 : Int32) ≤ x4 then some x3 else (if ((x1 >>> (x4 &&& 31)) &&& (1 : Int32)) = (1 : Int32) then (if x4 = x2 then fX3_greatest_5 σ n x1 x2 x3 (x4 + (1 : Int32)) else ald 8 (hA σ 4) x4 fun v1 => (if v1 = 0 then (if x3 < 0 then fX3_greatest_58 σ (fX3_greatest_5 σ n) x1 x2 x4 else ald 8 (hA σ 0) x4 fun v2 => ald 8 (hA σ 0) x3 fun v3 => (if v2 ≤ v3 then fX3_greatest_5 σ n x1 x2 x3 (x4 + (1 : Int32)) else fX3_greatest_58 σ (fX3_greatest_5 σ n) x1 x2 x4)) else fX3_greatest_5 σ n x1 x2 x3 (x4 + (1 : Int32)))) else fX3_greatest_5 σ n x1 x2 x3 (x4 + (1 : Int32))))
def fX3_greatest (x1 : Int32) (x2 : Int32) (σ : Hst) : Option Int32 := fX3_greatest_5 σ FU x1 x2 (-1 : Int32) (0 : Int32)
abbrev rX3_greatest : Room := { frames := 0, cells := 0, slots := 0, locals := 0 }
set_option maxHeartbeats 4000000 in
set_option maxRecDepth 100000 in
theorem wX3_greatest_58 {a : Nat} {b : Nat → Nat} {wr : va_W} {q : Int32} {σ : Hst} (FX : CallFix p m c cX3_greatest 5 s args lw_all RX3) (hr : meth.sig.returnType = (some .int)) (hlk : meth.locks = false) {k5 : Int32 → Int32 → Int32 → Int32 → Option Int32} (hk5 : ∀ (x1 : Int32) (x2 : Int32) (x3 : Int32) (x4 : Int32) (H : Heap) (locs : List Loc) (ls : Array Slot), lv_has ls 5 [(0, .ref a), (1, .int x1), (2, .int x2), (3, .int x3), (4, .int x4)] → Wd D dA A s (Hx dA a b wr σ) H locs → k5 x1 x2 x3 x4 = some q → W p l e rX3_greatest s m args below meth c H locs 0 0 (QI D dA A below args s 0 0 q (Hx dA a b wr σ)) (F0 m 5 ls [])) : ∀ (x1 : Int32) (x2 : Int32) (x4 : Int32) (H : Heap) (locs : List Loc) (ls : Array Slot), lv_has ls 5 [(0, .ref a), (1, .int x1), (2, .int x2), (4, .int x4)] → Wd D dA A s (Hx dA a b wr σ) H locs → fX3_greatest_58 σ k5 x1 x2 x4 = some q → W p l e rX3_greatest s m args below meth c H locs 0 0 (QI D dA A below args s 0 0 q (Hx dA a b wr σ)) (F0 m 58 ls []) := by
  have hx := FX.1; have hb := FX.2.1; have hown := FX.2.2.2.1; have hts := FX.2.2.2.2
  intro x1 x2 x4 H locs ls hl hW hf
  rw [fX3_greatest_58] at hf
  refine lv_iload hx hb dX3_greatest_58 (lv_at hl 3 rfl) ?_
  refine lv_istore_n (lv' := [(3, .int x4), (0, .ref a), (1, .int x1), (2, .int x2), (4, .int x4)]) hx hb dX3_greatest_60 rfl hl (by decide) rfl (fun ls hl => ?_)
  refine lv_iinc (v := (x4 + (1 : Int32))) (lv' := [(4, .int (x4 + (1 : Int32))), (3, .int x4), (0, .ref a), (1, .int x1), (2, .int x2)]) hx hb dX3_greatest_61 hl (k := 4) rfl rfl (by decide) rfl (fun ls hl => ?_)
  refine lv_goto (tgt := 5) hx hb dX3_greatest_64 (by decide) ?_
  exact hk5 x1 x2 x4 (x4 + (1 : Int32)) _ _ _ (lv_sub hl [2, 3, 4, 1, 0] rfl) hW hf
set_option maxHeartbeats 4000000 in
set_option maxRecDepth 100000 in
theorem wX3_greatest_5 {a : Nat} {b : Nat → Nat} {wr : va_W} {q : Int32} {σ : Hst} (FX : CallFix p m c cX3_greatest 5 s args lw_all RX3) (hr : meth.sig.returnType = (some .int)) (hlk : meth.locks = false) : ∀ n : Nat, ∀ (x1 : Int32) (x2 : Int32) (x3 : Int32) (x4 : Int32) (H : Heap) (locs : List Loc) (ls : Array Slot), lv_has ls 5 [(0, .ref a), (1, .int x1), (2, .int x2), (3, .int x3), (4, .int x4)] → Wd D dA A s (Hx dA a b wr σ) H locs → fX3_greatest_5 σ n x1 x2 x3 x4 = some q → W p l e rX3_greatest s m args below meth c H locs 0 0 (QI D dA A below args s 0 0 q (Hx dA a b wr σ)) (F0 m 5 ls []) := by
  have hx := FX.1; have hb := FX.2.1; have hown := FX.2.2.2.1; have hts := FX.2.2.2.2
  intro n
  induction n with
  | zero =>
    intro x1 x2 x3 x4 H locs ls hl hW hf
    cases (show (none : Option Int32) = some q from hf)
  | succ n ih =>
    intro x1 x2 x3 x4 H locs ls hl hW hf
    rw [fX3_greatest_5] at hf
    refine lv_iload hx hb dX3_greatest_5 (lv_at hl 4 rfl) ?_
    refine lv_bipush (v := 8) hx hb dX3_greatest_7 (by decide) ?_
    refine lv_icmp_ge (tgt := 67) hx hb dX3_greatest_9 (by decide) (fun c9 => ?_) (fun c9 => ?_)
    · have hf := ifp c9 hf
      refine lv_iload_n hx hb dX3_greatest_67 rfl (lv_at hl 3 rfl) ?_
      exact g_iret FX hr hlk hW (Option.some.inj hf) dX3_greatest_68
    · have hf := ifn c9 hf
      refine lv_iload_n hx hb dX3_greatest_12 rfl (lv_at hl 1 rfl) ?_
      refine lv_iload hx hb dX3_greatest_13 (lv_at hl 4 rfl) ?_
      refine lv_ishr hx hb dX3_greatest_15 ?_
      refine lv_iconst (v := 1) hx hb dX3_greatest_16 (by decide) ?_
      refine lv_iand hx hb dX3_greatest_17 ?_
      refine lv_iconst (v := 1) hx hb dX3_greatest_18 (by decide) ?_
      refine lv_icmp_ne (tgt := 61) hx hb dX3_greatest_19 (by decide) (fun c19 => ?_) (fun c19 => ?_)
      · have hf := ifn c19 hf
        refine lv_iinc (v := (x4 + (1 : Int32))) (lv' := [(4, .int (x4 + (1 : Int32))), (0, .ref a), (1, .int x1), (2, .int x2), (3, .int x3)]) hx hb dX3_greatest_61 hl (k := 4) rfl rfl (by decide) rfl (fun ls hl => ?_)
        refine lv_goto (tgt := 5) hx hb dX3_greatest_64 (by decide) ?_
        exact ih x1 x2 x3 (x4 + (1 : Int32)) _ _ _ (lv_sub hl [1, 2, 3, 4, 0] rfl) hW hf
      · have hf := ifp c19 hf
        refine lv_iload hx hb dX3_greatest_22 (lv_at hl 4 rfl) ?_
        refine lv_iload_n hx hb dX3_greatest_24 rfl (lv_at hl 2 rfl) ?_
        refine lv_icmp_eq (tgt := 61) hx hb dX3_greatest_25 (by decide) (fun c25 => ?_) (fun c25 => ?_)
        · have hf := ifp c25 hf
          refine lv_iinc (v := (x4 + (1 : Int32))) (lv' := [(4, .int (x4 + (1 : Int32))), (0, .ref a), (1, .int x1), (2, .int x2), (3, .int x3)]) hx hb dX3_greatest_61 hl (k := 4) rfl rfl (by decide) rfl (fun ls hl => ?_)
          refine lv_goto (tgt := 5) hx hb dX3_greatest_64 (by decide) ?_
          exact ih x1 x2 x3 (x4 + (1 : Int32)) _ _ _ (lv_sub hl [1, 2, 3, 4, 0] rfl) hW hf
        · have hf := ifn c25 hf
          refine lv_aload_n hx hb dX3_greatest_28 rfl (lv_at hl 0 rfl) ?_
          refine HgX3_0_4 FX hW dX3_greatest_29 ?_
          refine lv_iload hx hb dX3_greatest_32 (lv_at hl 4 rfl) ?_
          refine g_iald FX hW 5 Hp5 hf dX3_greatest_34 (fun v1 hf => ?_)
          refine lv_if_ne (tgt := 61) hx hb dX3_greatest_35 (by decide) (fun c35 => ?_) (fun c35 => ?_)
          · have hf := ifn c35 hf
            refine lv_iinc (v := (x4 + (1 : Int32))) (lv' := [(4, .int (x4 + (1 : Int32))), (0, .ref a), (1, .int x1), (2, .int x2), (3, .int x3)]) hx hb dX3_greatest_61 hl (k := 4) rfl rfl (by decide) rfl (fun ls hl => ?_)
            refine lv_goto (tgt := 5) hx hb dX3_greatest_64 (by decide) ?_
            exact ih x1 x2 x3 (x4 + (1 : Int32)) _ _ _ (lv_sub hl [1, 2, 3, 4, 0] rfl) hW hf
          · have hf := ifp c35 hf
            refine lv_iload_n hx hb dX3_greatest_38 rfl (lv_at hl 3 rfl) ?_
            refine lv_if_lt (tgt := 58) hx hb dX3_greatest_39 (by decide) (fun c39 => ?_) (fun c39 => ?_)
            · have hf := ifp c39 hf
              exact wX3_greatest_58 FX hr hlk (ih) x1 x2 x4 _ _ _ (lv_sub hl [0, 1, 2, 4] rfl) hW hf
            · have hf := ifn c39 hf
              refine lv_aload_n hx hb dX3_greatest_42 rfl (lv_at hl 0 rfl) ?_
              refine HgX3_0_0 FX hW dX3_greatest_43 ?_
              refine lv_iload hx hb dX3_greatest_46 (lv_at hl 4 rfl) ?_
              refine g_iald FX hW 1 Hp1 hf dX3_greatest_48 (fun v2 hf => ?_)
              refine lv_aload_n hx hb dX3_greatest_49 rfl (lv_at hl 0 rfl) ?_
              refine HgX3_0_0 FX hW dX3_greatest_50 ?_
              refine lv_iload_n hx hb dX3_greatest_53 rfl (lv_at hl 3 rfl) ?_
              refine g_iald FX hW 1 Hp1 hf dX3_greatest_54 (fun v3 hf => ?_)
              refine lv_icmp_le (tgt := 61) hx hb dX3_greatest_55 (by decide) (fun c55 => ?_) (fun c55 => ?_)
              · have hf := ifp c55 hf
                refine lv_iinc (v := (x4 + (1 : Int32))) (lv' := [(4, .int (x4 + (1 : Int32))), (0, .ref a), (1, .int x1), (2, .int x2), (3, .int x3)]) hx hb dX3_greatest_61 hl (k := 4) rfl rfl (by decide) rfl (fun ls hl => ?_)
                refine lv_goto (tgt := 5) hx hb dX3_greatest_64 (by decide) ?_
                exact ih x1 x2 x3 (x4 + (1 : Int32)) _ _ _ (lv_sub hl [1, 2, 3, 4, 0] rfl) hW hf
              · have hf := ifn c55 hf
                exact wX3_greatest_58 FX hr hlk (ih) x1 x2 x4 _ _ _ (lv_sub hl [0, 1, 2, 4] rfl) hW hf
set_option maxHeartbeats 4000000 in
set_option maxRecDepth 100000 in
theorem mX3_greatest {a : Nat} {b : Nat → Nat} {wr : va_W}  {x1 : Int32} {x2 : Int32} {σ : Hst} {q : Int32} (hf : fX3_greatest x1 x2 σ = some q) : CtI l yX3_greatest cX3_greatest 5 (some .int) rX3_greatest D dA [.ref a, .int x1, .int x2] (Hx dA a b wr σ) q (Hx dA a b wr σ) := by
  refine e_I (by decide) (Nat.le_of_ble_eq_true rfl) ?_
  intro p e s m below meth c ls A FX hr hlk hl hW
  have hx := FX.1; have hb := FX.2.1; have hown := FX.2.2.2.1; have hts := FX.2.2.2.2
  have hl : lv_has ls 5 [(0, .ref a), (1, .int x1), (2, .int x2)] := hl
  rw [fX3_greatest] at hf
  refine lv_iconst (v := -1) hx hb dX3_greatest_0 (by decide) ?_
  refine lv_istore_n (lv' := [(3, .int (-1 : Int32)), (0, .ref a), (1, .int x1), (2, .int x2)]) hx hb dX3_greatest_1 rfl hl (by decide) rfl (fun ls hl => ?_)
  refine lv_iconst (v := 0) hx hb dX3_greatest_2 (by decide) ?_
  refine lv_istore (lv' := [(4, .int (0 : Int32)), (3, .int (-1 : Int32)), (0, .ref a), (1, .int x1), (2, .int x2)]) hx hb dX3_greatest_3 hl (by decide) rfl (fun ls hl => ?_)
  exact wX3_greatest_5 FX hr hlk _ x1 x2 (-1 : Int32) (0 : Int32) _ _ _ (lv_sub hl [2, 3, 4, 1, 0] rfl) hW hf

set_option maxHeartbeats 4000000 in
set_option maxRecDepth 100000 in
theorem kHX3_in {a : Nat} {b : Nat → Nat} {wr : va_W} {α : Type} {q : α} {k : Int32 → Option α} {x1 : Int32} {σ : Hst} (FX : CallFix p m c cc nL s args lw_all RX3) (hR : rX3_in.frames + 1 ≤ R.frames ∧ 8 + (4 + 11) + rX3_in.locals ≤ R.locals) (hcs : cells ≤ R.cells ∧ slots ≤ R.slots) (hl : ls.size = nL) (hrm : (rest.map fun v => v.category).sum ≤ 8) (hW : Wd D dA A s (Hx dA a b wr σ) H locs) (hf : (fX3_in x1 σ).bind k = some q) (hdg : decode cc pc = .ok (.invokevirtual 105, 3)) (kk : ∀ (r : Int32) (H1 : Heap) (locs1 : List Loc), Wd D dA A s (Hx dA a b wr σ) H1 locs1 → k r = some q → W p l e R s m args below meth c H1 locs1 cells slots Q (F0 m (pc + 3) ls (.int r :: rest))) : W p l e R s m args below meth c H locs cells slots Q (F0 m pc ls (.int x1 :: .ref a :: rest)) := by
  obtain ⟨r1, h1, hf⟩ := bnd hf
  have hW2 := hW
  refine w_Vi (C := RX3) (As := [.int x1]) (rest := rest) (n := 1) (wr := []) FX (mX3_in h1) (cwV 1 FX.2.2.2.2 (lw_V q1139 q1140 q1141 q129 q1142) rfl rfl rfl (by decide +kernel) hR) (va_recv hW.2.2.2.1 hW.1 (ci := 3) (q0 := 0) rfl rfl) rfl hl rfl hrm ⟨Nat.le_trans (Nat.le_of_eq (Nat.add_zero cells)) hcs.1, Nat.le_trans (Nat.le_of_eq (Nat.add_zero slots)) hcs.2⟩ hdg hW2.nil ?_
  exact fun H1 locs1 hW1 => kk r1 H1 locs1 (hW1.nil') hf
set_option maxHeartbeats 4000000 in
set_option maxRecDepth 100000 in
theorem kHX3_greatest {a : Nat} {b : Nat → Nat} {wr : va_W} {α : Type} {q : α} {k : Int32 → Option α} {x1 : Int32} {x2 : Int32} {σ : Hst} (FX : CallFix p m c cc nL s args lw_all RX3) (hR : rX3_greatest.frames + 1 ≤ R.frames ∧ 8 + (5 + 11) + rX3_greatest.locals ≤ R.locals) (hcs : cells ≤ R.cells ∧ slots ≤ R.slots) (hl : ls.size = nL) (hrm : (rest.map fun v => v.category).sum ≤ 8) (hW : Wd D dA A s (Hx dA a b wr σ) H locs) (hf : (fX3_greatest x1 x2 σ).bind k = some q) (hdg : decode cc pc = .ok (.invokevirtual 151, 3)) (kk : ∀ (r : Int32) (H1 : Heap) (locs1 : List Loc), Wd D dA A s (Hx dA a b wr σ) H1 locs1 → k r = some q → W p l e R s m args below meth c H1 locs1 cells slots Q (F0 m (pc + 3) ls (.int r :: rest))) : W p l e R s m args below meth c H locs cells slots Q (F0 m pc ls (.int x2 :: .int x1 :: .ref a :: rest)) := by
  obtain ⟨r1, h1, hf⟩ := bnd hf
  have hW2 := hW
  refine w_Vi (C := RX3) (As := [.int x1, .int x2]) (rest := rest) (n := 2) (wr := []) FX (mX3_greatest h1) (cwV 2 FX.2.2.2.2 (lw_V q1241 q1243 qs35 q129 q1244) rfl rfl rfl (by decide +kernel) hR) (va_recv hW.2.2.2.1 hW.1 (ci := 3) (q0 := 0) rfl rfl) rfl hl rfl hrm ⟨Nat.le_trans (Nat.le_of_eq (Nat.add_zero cells)) hcs.1, Nat.le_trans (Nat.le_of_eq (Nat.add_zero slots)) hcs.2⟩ hdg hW2.nil ?_
  exact fun H1 locs1 hW1 => kk r1 H1 locs1 (hW1.nil') hf
/-! TrunkLitters$House.coupleOf(I)I: kind R -/
def fX3_coupleOf (x1 : Int32) (σ : Hst) : Option Int32 := (fX3_in x1 σ).bind fun r1 => (fX3_greatest r1 (-1 : Int32) σ).bind fun r2 => (if 0 ≤ r2 then (fX3_greatest r1 r2 σ).bind fun r3 => (if 0 ≤ r3 then some (((8 : Int32) * r2) + r3) else some (-1 : Int32)) else some (-1 : Int32))
abbrev rX3_coupleOf : Room := { frames := 2, cells := 0, slots := 0, locals := 44 }
set_option maxHeartbeats 4000000 in
set_option maxRecDepth 100000 in
theorem mX3_coupleOf {a : Nat} {b : Nat → Nat} {wr : va_W}  {x1 : Int32} {σ : Hst} {q : Int32} (hf : fX3_coupleOf x1 σ = some q) : CtI l yX3_coupleOf cX3_coupleOf 5 (some .int) rX3_coupleOf D dA [.ref a, .int x1] (Hx dA a b wr σ) q (Hx dA a b wr σ) := by
  refine e_I (by decide) (Nat.le_of_ble_eq_true rfl) ?_
  intro p e s m below meth c ls A FX hr hlk hl hW
  have hx := FX.1; have hb := FX.2.1; have hown := FX.2.2.2.1; have hts := FX.2.2.2.2
  have hl : lv_has ls 5 [(0, .ref a), (1, .int x1)] := hl
  rw [fX3_coupleOf] at hf
  refine lv_aload_n hx hb dX3_coupleOf_0 rfl (lv_at hl 0 rfl) ?_
  refine lv_iload_n hx hb dX3_coupleOf_1 rfl (lv_at hl 1 rfl) ?_
  refine kHX3_in FX ⟨Nat.le_of_ble_eq_true rfl, Nat.le_of_ble_eq_true rfl⟩ ⟨Nat.zero_le _, Nat.zero_le _⟩ hl.1 (Nat.le_of_ble_eq_true rfl) hW hf dX3_coupleOf_2 (fun r1 H locs hW hf => ?_)
  refine lv_istore_n (lv' := [(2, .int r1), (0, .ref a), (1, .int x1)]) hx hb dX3_coupleOf_5 rfl hl (by decide) rfl (fun ls hl => ?_)
  refine lv_aload_n hx hb dX3_coupleOf_6 rfl (lv_at hl 1 rfl) ?_
  refine lv_iload_n hx hb dX3_coupleOf_7 rfl (lv_at hl 0 rfl) ?_
  refine lv_iconst (v := -1) hx hb dX3_coupleOf_8 (by decide) ?_
  refine kHX3_greatest FX ⟨Nat.le_of_ble_eq_true rfl, Nat.le_of_ble_eq_true rfl⟩ ⟨Nat.zero_le _, Nat.zero_le _⟩ hl.1 (Nat.le_of_ble_eq_true rfl) hW hf dX3_coupleOf_9 (fun r2 H locs hW hf => ?_)
  refine lv_istore_n (lv' := [(3, .int r2), (2, .int r1), (0, .ref a), (1, .int x1)]) hx hb dX3_coupleOf_12 rfl hl (by decide) rfl (fun ls hl => ?_)
  refine lv_iload_n hx hb dX3_coupleOf_13 rfl (lv_at hl 0 rfl) ?_
  refine lv_if_ge (tgt := 19) hx hb dX3_coupleOf_14 (by decide) (fun c14 => ?_) (fun c14 => ?_)
  · have hf := ifp c14 hf
    refine lv_aload_n hx hb dX3_coupleOf_19 rfl (lv_at hl 2 rfl) ?_
    refine lv_iload_n hx hb dX3_coupleOf_20 rfl (lv_at hl 1 rfl) ?_
    refine lv_iload_n hx hb dX3_coupleOf_21 rfl (lv_at hl 0 rfl) ?_
    refine kHX3_greatest FX ⟨Nat.le_of_ble_eq_true rfl, Nat.le_of_ble_eq_true rfl⟩ ⟨Nat.zero_le _, Nat.zero_le _⟩ hl.1 (Nat.le_of_ble_eq_true rfl) hW hf dX3_coupleOf_22 (fun r3 H locs hW hf => ?_)
    refine lv_istore (lv' := [(4, .int r3), (3, .int r2), (2, .int r1), (0, .ref a), (1, .int x1)]) hx hb dX3_coupleOf_25 hl (by decide) rfl (fun ls hl => ?_)
    refine lv_iload hx hb dX3_coupleOf_27 (lv_at hl 0 rfl) ?_
    refine lv_if_ge (tgt := 36) hx hb dX3_coupleOf_29 (by decide) (fun c29 => ?_) (fun c29 => ?_)
    · have hf := ifp c29 hf
      refine lv_bipush (v := 8) hx hb dX3_coupleOf_36 (by decide) ?_
      refine lv_iload_n hx hb dX3_coupleOf_38 rfl (lv_at hl 1 rfl) ?_
      refine lv_imul hx hb dX3_coupleOf_39 ?_
      refine lv_iload hx hb dX3_coupleOf_40 (lv_at hl 0 rfl) ?_
      refine lv_iadd hx hb dX3_coupleOf_42 ?_
      exact g_iret FX hr hlk hW (Option.some.inj hf) dX3_coupleOf_43
    · have hf := ifn c29 hf
      refine lv_iconst (v := -1) hx hb dX3_coupleOf_32 (by decide) ?_
      refine lv_goto (tgt := 43) hx hb dX3_coupleOf_33 (by decide) ?_
      exact g_iret FX hr hlk hW (Option.some.inj hf) dX3_coupleOf_43
  · have hf := ifn c14 hf
    refine lv_iconst (v := -1) hx hb dX3_coupleOf_17 (by decide) ?_
    exact g_iret FX hr hlk hW (Option.some.inj hf) dX3_coupleOf_18


/-! TrunkLitters$House.youngBulk(I)I: kind R -/
def fX3_youngBulk (x1 : Int32) (σ : Hst) : Option Int32 := ald 8 (hA σ 0) (x1 / (8 : Int32)) fun v1 => ald 8 (hA σ 0) (x1 - x1 / (8 : Int32) * (8 : Int32)) fun v2 => some (if (1 : Int32) < ((v1 + v2) / (4 : Int32)) then ((v1 + v2) / (4 : Int32)) else (1 : Int32))
abbrev rX3_youngBulk : Room := { frames := 1, cells := 0, slots := 0, locals := 21 }
set_option maxHeartbeats 4000000 in
set_option maxRecDepth 100000 in
theorem mX3_youngBulk {a : Nat} {b : Nat → Nat} {wr : va_W}  {x1 : Int32} {σ : Hst} {q : Int32} (hf : fX3_youngBulk x1 σ = some q) : CtI l yX3_youngBulk cX3_youngBulk 2 (some .int) rX3_youngBulk D dA [.ref a, .int x1] (Hx dA a b wr σ) q (Hx dA a b wr σ) := by
  refine e_I (by decide) (Nat.le_of_ble_eq_true rfl) ?_
  intro p e s m below meth c ls A FX hr hlk hl hW
  have hx := FX.1; have hb := FX.2.1; have hown := FX.2.2.2.1; have hts := FX.2.2.2.2
  have hl : lv_has ls 2 [(0, .ref a), (1, .int x1)] := hl
  rw [fX3_youngBulk] at hf
  refine lv_iconst (v := 1) hx hb dX3_youngBulk_0 (by decide) ?_
  refine lv_aload_n hx hb dX3_youngBulk_1 rfl (lv_at hl 0 rfl) ?_
  refine HgX3_0_0 FX hW dX3_youngBulk_2 ?_
  refine lv_iload_n hx hb dX3_youngBulk_5 rfl (lv_at hl 1 rfl) ?_
  refine lv_bipush (v := 8) hx hb dX3_youngBulk_6 (by decide) ?_
  refine lv_idiv hx hb dX3_youngBulk_8 (by decide) ?_
  refine g_iald FX hW 1 Hp1 hf dX3_youngBulk_9 (fun v1 hf => ?_)
  refine lv_aload_n hx hb dX3_youngBulk_10 rfl (lv_at hl 0 rfl) ?_
  refine HgX3_0_0 FX hW dX3_youngBulk_11 ?_
  refine lv_iload_n hx hb dX3_youngBulk_14 rfl (lv_at hl 1 rfl) ?_
  refine lv_bipush (v := 8) hx hb dX3_youngBulk_15 (by decide) ?_
  refine lv_irem hx hb dX3_youngBulk_17 (by decide) ?_
  refine g_iald FX hW 1 Hp1 hf dX3_youngBulk_18 (fun v2 hf => ?_)
  refine lv_iadd hx hb dX3_youngBulk_19 ?_
  refine lv_iconst (v := 4) hx hb dX3_youngBulk_20 (by decide) ?_
  refine lv_idiv hx hb dX3_youngBulk_21 (by decide) ?_
  refine va_mmax hx hb (FX.2.2.1.trans hl.1.symm) hown (hts _ q1263) (hts _ q572) (hts _ q139) (hts _ q573) (Nat.le_of_ble_eq_true rfl) (Nat.le_of_ble_eq_true rfl) (Nat.zero_le _) (Nat.zero_le _) dX3_youngBulk_22 ?_
  exact g_iret FX hr hlk hW (Option.some.inj hf) dX3_youngBulk_25


/-! TrunkLitters$House.freePlace()I: kind R -/
def fX3_freePlace_22 (σ : Hst) (x1 : Int32) : Option Int32 := (if (8 : Int32) ≤ x1 then some (-1 : Int32) else some x1)
def fX3_freePlace_2 (σ : Hst) : Nat → Int32 → Option Int32
  | 0, _ => none
  | n + 1, x1 => (if (8 : Int32) ≤ x1 then fX3_freePlace_22 σ x1 else (fX3_has x1 σ).bind fun r1 => (if r1 = 0 then fX3_freePlace_22 σ x1 else fX3_freePlace_2 σ n (x1 + (1 : Int32))))
def fX3_freePlace (σ : Hst) : Option Int32 := fX3_freePlace_2 σ FU (0 : Int32)
abbrev rX3_freePlace : Room := { frames := 1, cells := 0, slots := 0, locals := 21 }
set_option maxHeartbeats 4000000 in
set_option maxRecDepth 100000 in
theorem wX3_freePlace_22 {a : Nat} {b : Nat → Nat} {wr : va_W} {q : Int32} {σ : Hst} (FX : CallFix p m c cX3_freePlace 2 s args lw_all RX3) (hr : meth.sig.returnType = (some .int)) (hlk : meth.locks = false) : ∀ (x1 : Int32) (H : Heap) (locs : List Loc) (ls : Array Slot), lv_has ls 2 [(1, .int x1)] → Wd D dA A s (Hx dA a b wr σ) H locs → fX3_freePlace_22 σ x1 = some q → W p l e rX3_freePlace s m args below meth c H locs 0 0 (QI D dA A below args s 0 0 q (Hx dA a b wr σ)) (F0 m 22 ls []) := by
  have hx := FX.1; have hb := FX.2.1; have hown := FX.2.2.2.1; have hts := FX.2.2.2.2
  intro x1 H locs ls hl hW hf
  rw [fX3_freePlace_22] at hf
  refine lv_iload_n hx hb dX3_freePlace_22 rfl (lv_at hl 0 rfl) ?_
  refine lv_bipush (v := 8) hx hb dX3_freePlace_23 (by decide) ?_
  refine lv_icmp_ge (tgt := 32) hx hb dX3_freePlace_25 (by decide) (fun c25 => ?_) (fun c25 => ?_)
  · have hf := ifp c25 hf
    refine lv_iconst (v := -1) hx hb dX3_freePlace_32 (by decide) ?_
    exact g_iret FX hr hlk hW (Option.some.inj hf) dX3_freePlace_33
  · have hf := ifn c25 hf
    refine lv_iload_n hx hb dX3_freePlace_28 rfl (lv_at hl 0 rfl) ?_
    refine lv_goto (tgt := 33) hx hb dX3_freePlace_29 (by decide) ?_
    exact g_iret FX hr hlk hW (Option.some.inj hf) dX3_freePlace_33
set_option maxHeartbeats 4000000 in
set_option maxRecDepth 100000 in
theorem wX3_freePlace_2 {a : Nat} {b : Nat → Nat} {wr : va_W} {q : Int32} {σ : Hst} (FX : CallFix p m c cX3_freePlace 2 s args lw_all RX3) (hr : meth.sig.returnType = (some .int)) (hlk : meth.locks = false) : ∀ n : Nat, ∀ (x1 : Int32) (H : Heap) (locs : List Loc) (ls : Array Slot), lv_has ls 2 [(0, .ref a), (1, .int x1)] → Wd D dA A s (Hx dA a b wr σ) H locs → fX3_freePlace_2 σ n x1 = some q → W p l e rX3_freePlace s m args below meth c H locs 0 0 (QI D dA A below args s 0 0 q (Hx dA a b wr σ)) (F0 m 2 ls []) := by
  have hx := FX.1; have hb := FX.2.1; have hown := FX.2.2.2.1; have hts := FX.2.2.2.2
  intro n
  induction n with
  | zero =>
    intro x1 H locs ls hl hW hf
    cases (show (none : Option Int32) = some q from hf)
  | succ n ih =>
    intro x1 H locs ls hl hW hf
    rw [fX3_freePlace_2] at hf
    refine lv_iload_n hx hb dX3_freePlace_2 rfl (lv_at hl 1 rfl) ?_
    refine lv_bipush (v := 8) hx hb dX3_freePlace_3 (by decide) ?_
    refine lv_icmp_ge (tgt := 22) hx hb dX3_freePlace_5 (by decide) (fun c5 => ?_) (fun c5 => ?_)
    · have hf := ifp c5 hf
      exact wX3_freePlace_22 FX hr hlk x1 _ _ _ (lv_sub hl [1] rfl) hW hf
    · have hf := ifn c5 hf
      refine lv_aload_n hx hb dX3_freePlace_8 rfl (lv_at hl 0 rfl) ?_
      refine lv_iload_n hx hb dX3_freePlace_9 rfl (lv_at hl 1 rfl) ?_
      refine kHX3_has FX ⟨Nat.le_of_ble_eq_true rfl, Nat.le_of_ble_eq_true rfl⟩ ⟨Nat.zero_le _, Nat.zero_le _⟩ hl.1 (Nat.le_of_ble_eq_true rfl) hW hf dX3_freePlace_10 (fun r1 H locs hW hf => ?_)
      refine lv_if_eq (tgt := 22) hx hb dX3_freePlace_13 (by decide) (fun c13 => ?_) (fun c13 => ?_)
      · have hf := ifp c13 hf
        exact wX3_freePlace_22 FX hr hlk x1 _ _ _ (lv_sub hl [1] rfl) hW hf
      · have hf := ifn c13 hf
        refine lv_iinc (v := (x1 + (1 : Int32))) (lv' := [(1, .int (x1 + (1 : Int32))), (0, .ref a)]) hx hb dX3_freePlace_16 hl (k := 1) rfl rfl (by decide) rfl (fun ls hl => ?_)
        refine lv_goto (tgt := 2) hx hb dX3_freePlace_19 (by decide) ?_
        exact ih (x1 + (1 : Int32)) _ _ _ (lv_sub hl [1, 0] rfl) hW hf
set_option maxHeartbeats 4000000 in
set_option maxRecDepth 100000 in
theorem mX3_freePlace {a : Nat} {b : Nat → Nat} {wr : va_W}  {σ : Hst} {q : Int32} (hf : fX3_freePlace σ = some q) : CtI l yX3_freePlace cX3_freePlace 2 (some .int) rX3_freePlace D dA [.ref a] (Hx dA a b wr σ) q (Hx dA a b wr σ) := by
  refine e_I (by decide) (Nat.le_of_ble_eq_true rfl) ?_
  intro p e s m below meth c ls A FX hr hlk hl hW
  have hx := FX.1; have hb := FX.2.1; have hown := FX.2.2.2.1; have hts := FX.2.2.2.2
  have hl : lv_has ls 2 [(0, .ref a)] := hl
  rw [fX3_freePlace] at hf
  refine lv_iconst (v := 0) hx hb dX3_freePlace_0 (by decide) ?_
  refine lv_istore_n (lv' := [(1, .int (0 : Int32)), (0, .ref a)]) hx hb dX3_freePlace_1 rfl hl (by decide) rfl (fun ls hl => ?_)
  exact wX3_freePlace_2 FX hr hlk _ (0 : Int32) _ _ _ (lv_sub hl [1, 0] rfl) hW hf
theorem HgX3_0_7 {a : Nat} {b : Nat → Nat} {wr : va_W} {σ : Hst} (FX : CallFix p m c cc nL s args lw_all RX3) (hW : Wd D dA A s (Hx dA a b wr σ) H locs) (hdg : decode cc pc = .ok (.getfield 33, 3)) (kk : W p l e R s m args below meth c H locs cells slots Q (F0 m (pc + 3) ls (.ref (b 7) :: rest))) : W p l e R s m args below meth c H locs cells slots Q (F0 m pc ls (.ref a :: rest)) :=
  g_get FX hW (C := RX3) (T := TX3) (N := 14) (ci := 3) in_X3 0 rfl rfl 7 (by decide) q285 (fun _ h => h) rfl hdg kk
theorem HgX3_0_12 {a : Nat} {b : Nat → Nat} {wr : va_W} {σ : Hst} (FX : CallFix p m c cc nL s args lw_all RX3) (hW : Wd D dA A s (Hx dA a b wr σ) H locs) (hdg : decode cc pc = .ok (.getfield 77, 3)) (kk : W p l e R s m args below meth c H locs cells slots Q (F0 m (pc + 3) ls (.int (hF σ 12) :: rest))) : W p l e R s m args below meth c H locs cells slots Q (F0 m pc ls (.ref a :: rest)) :=
  g_get FX hW (C := RX3) (T := TX3) (N := 14) (ci := 3) in_X3 0 rfl rfl 12 (by decide) q295 (fun _ h => h) rfl hdg kk
theorem Hp8 {a : Nat} {b : Nat → Nat} {wr : va_W} {σ : Hst} : (Hx dA a b wr σ)[8]? = some ((b 7), .inl (dA 0, 8, .inl (hA σ 7))) := rfl
theorem Ht8 {a : Nat} {b : Nat → Nat} {wr : va_W} {σ : Hst} {i v : Int32} : (Hx dA a b wr σ).set 8 ((b 7), .inl (dA 0, 8, .inl (upd (hA σ 7) i.toNatClampNeg v))) = Hx dA a b wr (uA σ 7 i v) := rfl
theorem HsX3_0_12 {a : Nat} {b : Nat → Nat} {wr : va_W} {σ : Hst} {α : Type} {q : α} {v : Int32} {k : Hst → Option α} (FX : CallFix p m c cc nL s args lw_all RX3) (hW : Wd D dA A s (Hx dA a b wr σ) H locs) (hf : stp (uF σ 12 v) k = some q) (hdg : decode cc pc = .ok (.putfield 77, 3)) (kk : ∀ (σ1 : Hst) (H1 : Heap) (locs1 : List Loc), Wd D dA A s (Hx dA a b wr σ1) H1 locs1 → k σ1 = some q → W p l e R s m args below meth c H1 locs1 cells slots Q (F0 m (pc + 3) ls rest)) : W p l e R s m args below meth c H locs cells slots Q (F0 m pc ls (.int v :: .ref a :: rest)) :=
  g_put FX hW (C := RX3) (T := TX3) (N := 14) (ci := 3) (ty := .int) in_X3 tyX3 tyX3_ok nmX3 0 rfl rfl 12 (by decide) q295 (fun _ h => h) rfl (by decide +kernel) rfl rfl (Nat.le_of_ble_eq_true rfl) (ws' := Hx dA a b wr (uF σ 12 v)) rfl hdg (fun H1 locs1 hW1 => kk _ H1 locs1 hW1 hf)
theorem HgX3_0_11 {a : Nat} {b : Nat → Nat} {wr : va_W} {σ : Hst} (FX : CallFix p m c cc nL s args lw_all RX3) (hW : Wd D dA A s (Hx dA a b wr σ) H locs) (hdg : decode cc pc = .ok (.getfield 90, 3)) (kk : W p l e R s m args below meth c H locs cells slots Q (F0 m (pc + 3) ls (.int (hF σ 11) :: rest))) : W p l e R s m args below meth c H locs cells slots Q (F0 m pc ls (.ref a :: rest)) :=
  g_get FX hW (C := RX3) (T := TX3) (N := 14) (ci := 3) in_X3 0 rfl rfl 11 (by decide) q293 (fun _ h => h) rfl hdg kk
theorem HsX3_0_11 {a : Nat} {b : Nat → Nat} {wr : va_W} {σ : Hst} {α : Type} {q : α} {v : Int32} {k : Hst → Option α} (FX : CallFix p m c cc nL s args lw_all RX3) (hW : Wd D dA A s (Hx dA a b wr σ) H locs) (hf : stp (uF σ 11 v) k = some q) (hdg : decode cc pc = .ok (.putfield 90, 3)) (kk : ∀ (σ1 : Hst) (H1 : Heap) (locs1 : List Loc), Wd D dA A s (Hx dA a b wr σ1) H1 locs1 → k σ1 = some q → W p l e R s m args below meth c H1 locs1 cells slots Q (F0 m (pc + 3) ls rest)) : W p l e R s m args below meth c H locs cells slots Q (F0 m pc ls (.int v :: .ref a :: rest)) :=
  g_put FX hW (C := RX3) (T := TX3) (N := 14) (ci := 3) (ty := .int) in_X3 tyX3 tyX3_ok nmX3 0 rfl rfl 11 (by decide) q293 (fun _ h => h) rfl (by decide +kernel) rfl rfl (Nat.le_of_ble_eq_true rfl) (ws' := Hx dA a b wr (uF σ 11 v)) rfl hdg (fun H1 locs1 hW1 => kk _ H1 locs1 hW1 hf)
set_option maxHeartbeats 4000000 in
set_option maxRecDepth 100000 in
theorem kHX3_coupleOf {a : Nat} {b : Nat → Nat} {wr : va_W} {α : Type} {q : α} {k : Int32 → Option α} {x1 : Int32} {σ : Hst} (FX : CallFix p m c cc nL s args lw_all RX3) (hR : rX3_coupleOf.frames + 1 ≤ R.frames ∧ 8 + (5 + 11) + rX3_coupleOf.locals ≤ R.locals) (hcs : cells ≤ R.cells ∧ slots ≤ R.slots) (hl : ls.size = nL) (hrm : (rest.map fun v => v.category).sum ≤ 8) (hW : Wd D dA A s (Hx dA a b wr σ) H locs) (hf : (fX3_coupleOf x1 σ).bind k = some q) (hdg : decode cc pc = .ok (.invokevirtual 159, 3)) (kk : ∀ (r : Int32) (H1 : Heap) (locs1 : List Loc), Wd D dA A s (Hx dA a b wr σ) H1 locs1 → k r = some q → W p l e R s m args below meth c H1 locs1 cells slots Q (F0 m (pc + 3) ls (.int r :: rest))) : W p l e R s m args below meth c H locs cells slots Q (F0 m pc ls (.int x1 :: .ref a :: rest)) := by
  obtain ⟨r1, h1, hf⟩ := bnd hf
  have hW2 := hW
  refine w_Vi (C := RX3) (As := [.int x1]) (rest := rest) (n := 1) (wr := []) FX (mX3_coupleOf h1) (cwV 1 FX.2.2.2.2 (lw_V q1253 q1238 q1239 q129 q1240) rfl rfl rfl (by decide +kernel) hR) (va_recv hW.2.2.2.1 hW.1 (ci := 3) (q0 := 0) rfl rfl) rfl hl rfl hrm ⟨Nat.le_trans (Nat.le_of_eq (Nat.add_zero cells)) hcs.1, Nat.le_trans (Nat.le_of_eq (Nat.add_zero slots)) hcs.2⟩ hdg hW2.nil ?_
  exact fun H1 locs1 hW1 => kk r1 H1 locs1 (hW1.nil') hf
set_option maxHeartbeats 4000000 in
set_option maxRecDepth 100000 in
theorem kHX3_freePlace {a : Nat} {b : Nat → Nat} {wr : va_W} {α : Type} {q : α} {k : Int32 → Option α} {σ : Hst} (FX : CallFix p m c cc nL s args lw_all RX3) (hR : rX3_freePlace.frames + 1 ≤ R.frames ∧ 8 + (2 + 11) + rX3_freePlace.locals ≤ R.locals) (hcs : cells ≤ R.cells ∧ slots ≤ R.slots) (hl : ls.size = nL) (hrm : (rest.map fun v => v.category).sum ≤ 8) (hW : Wd D dA A s (Hx dA a b wr σ) H locs) (hf : (fX3_freePlace σ).bind k = some q) (hdg : decode cc pc = .ok (.invokevirtual 162, 3)) (kk : ∀ (r : Int32) (H1 : Heap) (locs1 : List Loc), Wd D dA A s (Hx dA a b wr σ) H1 locs1 → k r = some q → W p l e R s m args below meth c H1 locs1 cells slots Q (F0 m (pc + 3) ls (.int r :: rest))) : W p l e R s m args below meth c H locs cells slots Q (F0 m pc ls (.ref a :: rest)) := by
  obtain ⟨r1, h1, hf⟩ := bnd hf
  have hW2 := hW
  refine w_Vi (C := RX3) (As := []) (rest := rest) (n := 0) (wr := []) FX (mX3_freePlace h1) (cwV 0 FX.2.2.2.2 (lw_V q1254 q1256 qs36 q129 q1257) rfl rfl rfl (by decide +kernel) hR) (va_recv hW.2.2.2.1 hW.1 (ci := 3) (q0 := 0) rfl rfl) rfl hl rfl hrm ⟨Nat.le_trans (Nat.le_of_eq (Nat.add_zero cells)) hcs.1, Nat.le_trans (Nat.le_of_eq (Nat.add_zero slots)) hcs.2⟩ hdg hW2.nil ?_
  exact fun H1 locs1 hW1 => kk r1 H1 locs1 (hW1.nil') hf
set_option maxHeartbeats 4000000 in
set_option maxRecDepth 100000 in
theorem kHX3_youngBulk {a : Nat} {b : Nat → Nat} {wr : va_W} {α : Type} {q : α} {k : Int32 → Option α} {x1 : Int32} {σ : Hst} (FX : CallFix p m c cc nL s args lw_all RX3) (hR : rX3_youngBulk.frames + 1 ≤ R.frames ∧ 8 + (2 + 11) + rX3_youngBulk.locals ≤ R.locals) (hcs : cells ≤ R.cells ∧ slots ≤ R.slots) (hl : ls.size = nL) (hrm : (rest.map fun v => v.category).sum ≤ 8) (hW : Wd D dA A s (Hx dA a b wr σ) H locs) (hf : (fX3_youngBulk x1 σ).bind k = some q) (hdg : decode cc pc = .ok (.invokevirtual 169, 3)) (kk : ∀ (r : Int32) (H1 : Heap) (locs1 : List Loc), Wd D dA A s (Hx dA a b wr σ) H1 locs1 → k r = some q → W p l e R s m args below meth c H1 locs1 cells slots Q (F0 m (pc + 3) ls (.int r :: rest))) : W p l e R s m args below meth c H locs cells slots Q (F0 m pc ls (.int x1 :: .ref a :: rest)) := by
  obtain ⟨r1, h1, hf⟩ := bnd hf
  have hW2 := hW
  refine w_Vi (C := RX3) (As := [.int x1]) (rest := rest) (n := 1) (wr := []) FX (mX3_youngBulk h1) (cwV 1 FX.2.2.2.2 (lw_V q1259 q1260 q1261 q129 q1262) rfl rfl rfl (by decide +kernel) hR) (va_recv hW.2.2.2.1 hW.1 (ci := 3) (q0 := 0) rfl rfl) rfl hl rfl hrm ⟨Nat.le_trans (Nat.le_of_eq (Nat.add_zero cells)) hcs.1, Nat.le_trans (Nat.le_of_eq (Nat.add_zero slots)) hcs.2⟩ hdg hW2.nil ?_
  exact fun H1 locs1 hW1 => kk r1 H1 locs1 (hW1.nil') hf
/-! TrunkLitters$House.bringForth(I)I: kind W -/
def fX3_bringForth_122 (k68 : Int32 → Int32 → Int32 → Int32 → Hst → Option (Int32 × Hst)) (x3 : Int32) (x4 : Int32) (x5 : Int32) (x6 : Int32) (y1 : Int32) (y2 : Int32) (y3 : Int32) (σ : Hst) : Option (Int32 × Hst) := ast 8 y1 (stp (uA σ 2 y1 (y2 ||| y3)) fun s1 => k68 x3 x4 x5 (x6 + (1 : Int32)) s1)
def fX3_bringForth_68 : Nat → Int32 → Int32 → Int32 → Int32 → Hst → Option (Int32 × Hst)
  | 0, _, _, _, _, _ => none
  | n + 1, x3, x4, x5, x6, σ => (if (6 : Int32) ≤ x6 then ast 8 x3 (stp (uA σ 5 x3 x4) fun s1 => ast 8 x3 (stp (uA s1 6 x3 x5) fun s2 => ast 8 x3 (stp (uA s2 7 x3 (hF s2 12)) fun s3 => stp (uF s3 12 ((hF s3 12) + (1 : Int32))) fun s4 => stp (uF s4 8 ((hF s4 8) ||| ((1 : Int32) <<< (x3 &&& 31)))) fun s5 => some (((1 : Int32) <<< (x3 &&& 31)), s5)))) else ald 8 (hA σ 2) x3 fun v6 => (if (((hF σ 11) >>> (x6 &&& 31)) &&& (1 : Int32)) = (1 : Int32) then ald 8 (hA σ 2) x4 fun v8 => fX3_bringForth_122 (fX3_bringForth_68 n) x3 x4 x5 x6 x3 v6 (v8 &&& ((1 : Int32) <<< (x6 &&& 31))) σ else ald 8 (hA σ 2) x5 fun v7 => fX3_bringForth_122 (fX3_bringForth_68 n) x3 x4 x5 x6 x3 v6 (v7 &&& ((1 : Int32) <<< (x6 &&& 31))) σ))
def fX3_bringForth (x1 : Int32) (σ : Hst) : Option (Int32 × Hst) := (fX3_coupleOf x1 σ).bind fun r1 => (fX3_freePlace σ).bind fun r2 => stp (uF σ 11 ((((hF σ 11) * (137 : Int32)) + (71 : Int32)) - (((hF σ 11) * (137 : Int32)) + (71 : Int32)) / (1000 : Int32) * (1000 : Int32))) fun s3 => (fX3_clear r2 s3).bind fun s4 => (fX3_youngBulk r1 s4).bind fun r5 => ast 8 r2 (stp (uA s4 0 r2 r5) fun s6 => ast 8 r2 (stp (uA s6 1 r2 x1) fun s7 => fX3_bringForth_68 FU r2 (r1 / (8 : Int32)) (r1 - r1 / (8 : Int32) * (8 : Int32)) (0 : Int32) s7))
abbrev rX3_bringForth : Room := { frames := 3, cells := 0, slots := 0, locals := 68 }
set_option maxHeartbeats 4000000 in
set_option maxRecDepth 100000 in
theorem wX3_bringForth_122 {a : Nat} {b : Nat → Nat} {wr : va_W} {q : (Int32 × Hst)} (FX : CallFix p m c cX3_bringForth 7 s args lw_all RX3) (hr : meth.sig.returnType = (some .int)) (hlk : meth.locks = false) {k68 : Int32 → Int32 → Int32 → Int32 → Hst → Option (Int32 × Hst)} (hk68 : ∀ (x3 : Int32) (x4 : Int32) (x5 : Int32) (x6 : Int32) (σ : Hst) (H : Heap) (locs : List Loc) (ls : Array Slot), lv_has ls 7 [(0, .ref a), (3, .int x3), (4, .int x4), (5, .int x5), (6, .int x6)] → Wd D dA A s (Hx dA a b wr σ) H locs → k68 x3 x4 x5 x6 σ = some q → W p l e rX3_bringForth s m args below meth c H locs 0 0 (QI D dA A below args s 0 0 q.1 (Hx dA a b wr q.2)) (F0 m 68 ls [])) : ∀ (x3 : Int32) (x4 : Int32) (x5 : Int32) (x6 : Int32) (y1 : Int32) (y2 : Int32) (y3 : Int32) (σ : Hst) (H : Heap) (locs : List Loc) (ls : Array Slot), lv_has ls 7 [(0, .ref a), (3, .int x3), (4, .int x4), (5, .int x5), (6, .int x6)] → Wd D dA A s (Hx dA a b wr σ) H locs → fX3_bringForth_122 k68 x3 x4 x5 x6 y1 y2 y3 σ = some q → W p l e rX3_bringForth s m args below meth c H locs 0 0 (QI D dA A below args s 0 0 q.1 (Hx dA a b wr q.2)) (F0 m 122 ls [.int y3, .int y2, .int y1, .ref (b 2)]) := by
  have hx := FX.1; have hb := FX.2.1; have hown := FX.2.2.2.1; have hts := FX.2.2.2.2
  intro x3 x4 x5 x6 y1 y2 y3 σ H locs ls hl hW hf
  rw [fX3_bringForth_122] at hf
  refine lv_ior hx hb dX3_bringForth_122 ?_
  refine g_iast FX hW 3 Hp3 (L := Hx dA a b wr) (Ht3) hf dX3_bringForth_123 (fun s1 H locs hW hf => ?_)
  refine lv_iinc (v := (x6 + (1 : Int32))) (lv' := [(6, .int (x6 + (1 : Int32))), (0, .ref a), (3, .int x3), (4, .int x4), (5, .int x5)]) hx hb dX3_bringForth_124 hl (k := 4) rfl rfl (by decide) rfl (fun ls hl => ?_)
  refine lv_goto (tgt := 68) hx hb dX3_bringForth_127 (by decide) ?_
  exact hk68 x3 x4 x5 (x6 + (1 : Int32)) s1 _ _ _ (lv_sub hl [1, 2, 3, 4, 0] rfl) hW hf
set_option maxHeartbeats 4000000 in
set_option maxRecDepth 100000 in
theorem wX3_bringForth_68 {a : Nat} {b : Nat → Nat} {wr : va_W} {q : (Int32 × Hst)} (FX : CallFix p m c cX3_bringForth 7 s args lw_all RX3) (hr : meth.sig.returnType = (some .int)) (hlk : meth.locks = false) : ∀ n : Nat, ∀ (x3 : Int32) (x4 : Int32) (x5 : Int32) (x6 : Int32) (σ : Hst) (H : Heap) (locs : List Loc) (ls : Array Slot), lv_has ls 7 [(0, .ref a), (3, .int x3), (4, .int x4), (5, .int x5), (6, .int x6)] → Wd D dA A s (Hx dA a b wr σ) H locs → fX3_bringForth_68 n x3 x4 x5 x6 σ = some q → W p l e rX3_bringForth s m args below meth c H locs 0 0 (QI D dA A below args s 0 0 q.1 (Hx dA a b wr q.2)) (F0 m 68 ls []) := by
  have hx := FX.1; have hb := FX.2.1; have hown := FX.2.2.2.1; have hts := FX.2.2.2.2
  intro n
  induction n with
  | zero =>
    intro x3 x4 x5 x6 σ H locs ls hl hW hf
    cases (show (none : Option (Int32 × Hst)) = some q from hf)
  | succ n ih =>
    intro x3 x4 x5 x6 σ H locs ls hl hW hf
    rw [fX3_bringForth_68] at hf
    refine lv_iload hx hb dX3_bringForth_68 (lv_at hl 4 rfl) ?_
    refine lv_bipush (v := 6) hx hb dX3_bringForth_70 (by decide) ?_
    refine lv_icmp_ge (tgt := 130) hx hb dX3_bringForth_72 (by decide) (fun c72 => ?_) (fun c72 => ?_)
    · have hf := ifp c72 hf
      refine lv_aload_n hx hb dX3_bringForth_130 rfl (lv_at hl 0 rfl) ?_
      refine HgX3_0_5 FX hW dX3_bringForth_131 ?_
      refine lv_iload_n hx hb dX3_bringForth_134 rfl (lv_at hl 1 rfl) ?_
      refine lv_iload hx hb dX3_bringForth_135 (lv_at hl 2 rfl) ?_
      refine g_iast FX hW 6 Hp6 (L := Hx dA a b wr) (Ht6) hf dX3_bringForth_137 (fun s1 H locs hW hf => ?_)
      refine lv_aload_n hx hb dX3_bringForth_138 rfl (lv_at hl 0 rfl) ?_
      refine HgX3_0_6 FX hW dX3_bringForth_139 ?_
      refine lv_iload_n hx hb dX3_bringForth_142 rfl (lv_at hl 1 rfl) ?_
      refine lv_iload hx hb dX3_bringForth_143 (lv_at hl 3 rfl) ?_
      refine g_iast FX hW 7 Hp7 (L := Hx dA a b wr) (Ht7) hf dX3_bringForth_145 (fun s2 H locs hW hf => ?_)
      refine lv_aload_n hx hb dX3_bringForth_146 rfl (lv_at hl 0 rfl) ?_
      refine HgX3_0_7 FX hW dX3_bringForth_147 ?_
      refine lv_iload_n hx hb dX3_bringForth_150 rfl (lv_at hl 1 rfl) ?_
      refine lv_aload_n hx hb dX3_bringForth_151 rfl (lv_at hl 0 rfl) ?_
      refine HgX3_0_12 FX hW dX3_bringForth_152 ?_
      refine g_iast FX hW 8 Hp8 (L := Hx dA a b wr) (Ht8) hf dX3_bringForth_155 (fun s3 H locs hW hf => ?_)
      refine lv_aload_n hx hb dX3_bringForth_156 rfl (lv_at hl 0 rfl) ?_
      refine lv_dup hx hb dX3_bringForth_157 rfl ?_
      refine HgX3_0_12 FX hW dX3_bringForth_158 ?_
      refine lv_iconst (v := 1) hx hb dX3_bringForth_161 (by decide) ?_
      refine lv_iadd hx hb dX3_bringForth_162 ?_
      refine HsX3_0_12 FX hW hf dX3_bringForth_163 (fun s4 H locs hW hf => ?_)
      refine lv_aload_n hx hb dX3_bringForth_166 rfl (lv_at hl 0 rfl) ?_
      refine lv_dup hx hb dX3_bringForth_167 rfl ?_
      refine HgX3_0_8 FX hW dX3_bringForth_168 ?_
      refine lv_iconst (v := 1) hx hb dX3_bringForth_171 (by decide) ?_
      refine lv_iload_n hx hb dX3_bringForth_172 rfl (lv_at hl 1 rfl) ?_
      refine lv_ishl hx hb dX3_bringForth_173 ?_
      refine lv_ior hx hb dX3_bringForth_174 ?_
      refine HsX3_0_8 FX hW hf dX3_bringForth_175 (fun s5 H locs hW hf => ?_)
      refine lv_iconst (v := 1) hx hb dX3_bringForth_178 (by decide) ?_
      refine lv_iload_n hx hb dX3_bringForth_179 rfl (lv_at hl 1 rfl) ?_
      refine lv_ishl hx hb dX3_bringForth_180 ?_
      obtain rfl := Option.some.inj hf
      exact g_iret FX hr hlk hW rfl dX3_bringForth_181
    · have hf := ifn c72 hf
      refine lv_aload_n hx hb dX3_bringForth_75 rfl (lv_at hl 0 rfl) ?_
      refine HgX3_0_2 FX hW dX3_bringForth_76 ?_
      refine lv_iload_n hx hb dX3_bringForth_79 rfl (lv_at hl 1 rfl) ?_
      refine lv_dup2_11 hx hb dX3_bringForth_80 rfl rfl ?_
      refine g_iald FX hW 3 Hp3 hf dX3_bringForth_81 (fun v6 hf => ?_)
      refine lv_aload_n hx hb dX3_bringForth_82 rfl (lv_at hl 0 rfl) ?_
      refine HgX3_0_11 FX hW dX3_bringForth_83 ?_
      refine lv_iload hx hb dX3_bringForth_86 (lv_at hl 4 rfl) ?_
      refine lv_ishr hx hb dX3_bringForth_88 ?_
      refine lv_iconst (v := 1) hx hb dX3_bringForth_89 (by decide) ?_
      refine lv_iand hx hb dX3_bringForth_90 ?_
      refine lv_iconst (v := 1) hx hb dX3_bringForth_91 (by decide) ?_
      refine lv_icmp_ne (tgt := 110) hx hb dX3_bringForth_92 (by decide) (fun c92 => ?_) (fun c92 => ?_)
      · have hf := ifn c92 hf
        refine lv_aload_n hx hb dX3_bringForth_110 rfl (lv_at hl 0 rfl) ?_
        refine HgX3_0_2 FX hW dX3_bringForth_111 ?_
        refine lv_iload hx hb dX3_bringForth_114 (lv_at hl 3 rfl) ?_
        refine g_iald FX hW 3 Hp3 hf dX3_bringForth_116 (fun v7 hf => ?_)
        refine lv_iconst (v := 1) hx hb dX3_bringForth_117 (by decide) ?_
        refine lv_iload hx hb dX3_bringForth_118 (lv_at hl 4 rfl) ?_
        refine lv_ishl hx hb dX3_bringForth_120 ?_
        refine lv_iand hx hb dX3_bringForth_121 ?_
        exact wX3_bringForth_122 FX hr hlk (ih) x3 x4 x5 x6 x3 v6 (v7 &&& ((1 : Int32) <<< (x6 &&& 31))) σ _ _ _ (lv_sub hl [0, 1, 2, 3, 4] rfl) hW hf
      · have hf := ifp c92 hf
        refine lv_aload_n hx hb dX3_bringForth_95 rfl (lv_at hl 0 rfl) ?_
        refine HgX3_0_2 FX hW dX3_bringForth_96 ?_
        refine lv_iload hx hb dX3_bringForth_99 (lv_at hl 2 rfl) ?_
        refine g_iald FX hW 3 Hp3 hf dX3_bringForth_101 (fun v8 hf => ?_)
        refine lv_iconst (v := 1) hx hb dX3_bringForth_102 (by decide) ?_
        refine lv_iload hx hb dX3_bringForth_103 (lv_at hl 4 rfl) ?_
        refine lv_ishl hx hb dX3_bringForth_105 ?_
        refine lv_iand hx hb dX3_bringForth_106 ?_
        refine lv_goto (tgt := 122) hx hb dX3_bringForth_107 (by decide) ?_
        exact wX3_bringForth_122 FX hr hlk (ih) x3 x4 x5 x6 x3 v6 (v8 &&& ((1 : Int32) <<< (x6 &&& 31))) σ _ _ _ (lv_sub hl [0, 1, 2, 3, 4] rfl) hW hf
set_option maxHeartbeats 4000000 in
set_option maxRecDepth 100000 in
theorem mX3_bringForth {a : Nat} {b : Nat → Nat} {wr : va_W}  {x1 : Int32} {σ : Hst} {q : (Int32 × Hst)} (hf : fX3_bringForth x1 σ = some q) : CtI l yX3_bringForth cX3_bringForth 7 (some .int) rX3_bringForth D dA [.ref a, .int x1] (Hx dA a b wr σ) q.1 (Hx dA a b wr q.2) := by
  refine e_I (by decide) (Nat.le_of_ble_eq_true rfl) ?_
  intro p e s m below meth c ls A FX hr hlk hl hW
  have hx := FX.1; have hb := FX.2.1; have hown := FX.2.2.2.1; have hts := FX.2.2.2.2
  have hl : lv_has ls 7 [(0, .ref a), (1, .int x1)] := hl
  rw [fX3_bringForth] at hf
  refine lv_aload_n hx hb dX3_bringForth_0 rfl (lv_at hl 0 rfl) ?_
  refine lv_iload_n hx hb dX3_bringForth_1 rfl (lv_at hl 1 rfl) ?_
  refine kHX3_coupleOf FX ⟨Nat.le_of_ble_eq_true rfl, Nat.le_of_ble_eq_true rfl⟩ ⟨Nat.zero_le _, Nat.zero_le _⟩ hl.1 (Nat.le_of_ble_eq_true rfl) hW hf dX3_bringForth_2 (fun r1 H locs hW hf => ?_)
  refine lv_istore_n (lv' := [(2, .int r1), (0, .ref a), (1, .int x1)]) hx hb dX3_bringForth_5 rfl hl (by decide) rfl (fun ls hl => ?_)
  refine lv_aload_n hx hb dX3_bringForth_6 rfl (lv_at hl 1 rfl) ?_
  refine kHX3_freePlace FX ⟨Nat.le_of_ble_eq_true rfl, Nat.le_of_ble_eq_true rfl⟩ ⟨Nat.zero_le _, Nat.zero_le _⟩ hl.1 (Nat.le_of_ble_eq_true rfl) hW hf dX3_bringForth_7 (fun r2 H locs hW hf => ?_)
  refine lv_istore_n (lv' := [(3, .int r2), (2, .int r1), (0, .ref a), (1, .int x1)]) hx hb dX3_bringForth_10 rfl hl (by decide) rfl (fun ls hl => ?_)
  refine lv_iload_n hx hb dX3_bringForth_11 rfl (lv_at hl 1 rfl) ?_
  refine lv_bipush (v := 8) hx hb dX3_bringForth_12 (by decide) ?_
  refine lv_idiv hx hb dX3_bringForth_14 (by decide) ?_
  refine lv_istore (lv' := [(4, .int (r1 / (8 : Int32))), (3, .int r2), (2, .int r1), (0, .ref a), (1, .int x1)]) hx hb dX3_bringForth_15 hl (by decide) rfl (fun ls hl => ?_)
  refine lv_iload_n hx hb dX3_bringForth_17 rfl (lv_at hl 2 rfl) ?_
  refine lv_bipush (v := 8) hx hb dX3_bringForth_18 (by decide) ?_
  refine lv_irem hx hb dX3_bringForth_20 (by decide) ?_
  refine lv_istore (lv' := [(5, .int (r1 - r1 / (8 : Int32) * (8 : Int32))), (4, .int (r1 / (8 : Int32))), (3, .int r2), (2, .int r1), (0, .ref a), (1, .int x1)]) hx hb dX3_bringForth_21 hl (by decide) rfl (fun ls hl => ?_)
  refine lv_aload_n hx hb dX3_bringForth_23 rfl (lv_at hl 4 rfl) ?_
  refine lv_aload_n hx hb dX3_bringForth_24 rfl (lv_at hl 4 rfl) ?_
  refine HgX3_0_11 FX hW dX3_bringForth_25 ?_
  refine lv_sipush (v := 137) hx hb dX3_bringForth_28 (by decide) ?_
  refine lv_imul hx hb dX3_bringForth_31 ?_
  refine lv_bipush (v := 71) hx hb dX3_bringForth_32 (by decide) ?_
  refine lv_iadd hx hb dX3_bringForth_34 ?_
  refine lv_sipush (v := 1000) hx hb dX3_bringForth_35 (by decide) ?_
  refine lv_irem hx hb dX3_bringForth_38 (by decide) ?_
  refine HsX3_0_11 FX hW hf dX3_bringForth_39 (fun s3 H locs hW hf => ?_)
  refine lv_aload_n hx hb dX3_bringForth_42 rfl (lv_at hl 4 rfl) ?_
  refine lv_iload_n hx hb dX3_bringForth_43 rfl (lv_at hl 2 rfl) ?_
  refine kHX3_clear FX ⟨Nat.le_of_ble_eq_true rfl, Nat.le_of_ble_eq_true rfl⟩ ⟨Nat.zero_le _, Nat.zero_le _⟩ hl.1 (Nat.le_of_ble_eq_true rfl) hW hf dX3_bringForth_44 (fun s4 H locs hW hf => ?_)
  refine lv_aload_n hx hb dX3_bringForth_47 rfl (lv_at hl 4 rfl) ?_
  refine HgX3_0_0 FX hW dX3_bringForth_48 ?_
  refine lv_iload_n hx hb dX3_bringForth_51 rfl (lv_at hl 2 rfl) ?_
  refine lv_aload_n hx hb dX3_bringForth_52 rfl (lv_at hl 4 rfl) ?_
  refine lv_iload_n hx hb dX3_bringForth_53 rfl (lv_at hl 3 rfl) ?_
  refine kHX3_youngBulk FX ⟨Nat.le_of_ble_eq_true rfl, Nat.le_of_ble_eq_true rfl⟩ ⟨Nat.zero_le _, Nat.zero_le _⟩ hl.1 (Nat.le_of_ble_eq_true rfl) hW hf dX3_bringForth_54 (fun r5 H locs hW hf => ?_)
  refine g_iast FX hW 1 Hp1 (L := Hx dA a b wr) (Ht1) hf dX3_bringForth_57 (fun s6 H locs hW hf => ?_)
  refine lv_aload_n hx hb dX3_bringForth_58 rfl (lv_at hl 4 rfl) ?_
  refine HgX3_0_1 FX hW dX3_bringForth_59 ?_
  refine lv_iload_n hx hb dX3_bringForth_62 rfl (lv_at hl 2 rfl) ?_
  refine lv_iload_n hx hb dX3_bringForth_63 rfl (lv_at hl 5 rfl) ?_
  refine g_iast FX hW 2 Hp2 (L := Hx dA a b wr) (Ht2) hf dX3_bringForth_64 (fun s7 H locs hW hf => ?_)
  refine lv_iconst (v := 0) hx hb dX3_bringForth_65 (by decide) ?_
  refine lv_istore (lv' := [(6, .int (0 : Int32)), (5, .int (r1 - r1 / (8 : Int32) * (8 : Int32))), (4, .int (r1 / (8 : Int32))), (3, .int r2), (2, .int r1), (0, .ref a), (1, .int x1)]) hx hb dX3_bringForth_66 hl (by decide) rfl (fun ls hl => ?_)
  exact wX3_bringForth_68 FX hr hlk _ r2 (r1 / (8 : Int32)) (r1 - r1 / (8 : Int32) * (8 : Int32)) (0 : Int32) s7 _ _ _ (lv_sub hl [5, 3, 2, 1, 0] rfl) hW hf
end HS
