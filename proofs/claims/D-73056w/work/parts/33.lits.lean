/-! TEXTS: a String of the world, or one that is written in the program -/
/-- the cell at a: the world's, or a written text's (its first two fields), or its bytes -/
def litc (dA : Nat → Nat) (a : Nat) : Option va_E := match (List.range 19).find? (fun i => dA (200 + i) == a) with
  | some i => some (.inr (15, [.ref (dA (300 + i)), .int 0]))
  | none => match (List.range 19).find? (fun i => dA (300 + i) == a) with
    | some i => some (.inl (dA 1, strN.getD i 0, .inl (fun j => (strB.getD i []).getD j 0)))
    | none => none
def vlk (dA : Nat → Nat) (ws : va_W) (a : Nat) : Option va_E := match hlk ws a with
  | some x => some x
  | none => litc dA a
theorem litc_o {dA : Nat → Nat} {a c : Nat} {fs : List Value} (h : litc dA a = some (.inr (c, fs))) : ∃ i, i < 19 ∧ a = dA (200 + i) ∧ c = 15 ∧ fs = [.ref (dA (300 + i)), .int 0] := by
  unfold litc at h
  split at h
  · rename_i i hi
    have h1 := List.find?_some hi
    have h2 := List.mem_of_find?_eq_some hi
    cases h
    exact ⟨i, List.mem_range.mp h2, (by simpa using h1 : _ = _).symm, rfl, rfl⟩
  · split at h
    · cases h
    · cases h
theorem litc_a {dA : Nat → Nat} {a : Nat} {x : ClassId × vp_A} (h : litc dA a = some (.inl x)) : ∃ i, i < 19 ∧ a = dA (300 + i) ∧ x = (dA 1, strN.getD i 0, .inl (fun j => (strB.getD i []).getD j 0)) := by
  unfold litc at h
  split at h
  · cases h
  · split at h
    · rename_i i hi
      have h1 := List.find?_some hi
      have h2 := List.mem_of_find?_eq_some hi
      cases h
      exact ⟨i, List.mem_range.mp h2, (by simpa using h1 : _ = _).symm, rfl⟩
    · cases h
theorem vlk_cases {dA : Nat → Nat} {ws : va_W} {a : Nat} {x : va_E} (h : vlk dA ws a = some x) : hlk ws a = some x ∨ litc dA a = some x := by
  unfold vlk at h
  split at h
  · rename_i z hz
    cases h
    exact Or.inl hz
  · exact Or.inr h
section LITS
variable {p : Program} {l : Launch} {e : Env} {R : Room} {s : State} {m : MethodId} {args : Array Value} {below : List Frame} {meth : Method} {c : Code} {H : Heap} {locs : List Loc} {cells slots : Nat} {Q : State → Prop}
variable {cc : ByteArray} {pc nL : Nat} {ls : Array Slot} {rest : List Value} {D : va_G} {dA : Nat → ClassId} {A : Nat → Prop} {ws w1 : va_W} {g : Gs} {own : String} {α : Type} {q : α} {a : Nat}
theorem Wd.strs (hW : Wd D dA A s ws H locs) : vk_S 19 strN strB (fun i => dA (200 + i)) (fun i => dA (300 + i)) A s s.heap := hW.2.2.2.2.2.2.2.2.2.2.2.2.1
/-- a String's cell is of the class String -/
theorem v_recv (hW : Wd D dA A s ws H locs) {fs : List Value} (h : vlk dA ws a = some (.inr (15, fs))) : ∃ cell : Cell, H[a]? = some cell ∧ cell.vm.isStatics = false ∧ s.vm.findClass "java/lang/String" = some cell.cls := by
  rcases vlk_cases h with h | h
  · obtain ⟨k, hk⟩ := hlk_get h
    exact va_recv hW.2.2.2.1 hW.1 (ci := 15) (q := (RJ7, TJ7, 4)) rfl hk
  · obtain ⟨i, hi, rfl, -, -⟩ := litc_o h
    exact vk_recv (adK := fun i => dA (200 + i)) hW.strs hi hW.2.2.1
/-- a text's bytes, its coder -/
theorem v_get0 (FX : CallFix p m c cc nL s args lw_all own) (hW : Wd D dA A s ws H locs) {index : Nat} (hlink : Cond.fieldLink own index "java/lang/String" "value" "[B" ∈ lw_all) {fs : List Value} {v : Value} (h : vlk dA ws a = some (.inr (15, fs))) (hv : fs[0]? = some v) (hdg : decode cc pc = .ok (.getfield index, 3))
    (kk : W p l e R s m args below meth c H locs cells slots Q (F0 m (pc + 3) ls (v :: rest))) : W p l e R s m args below meth c H locs cells slots Q (F0 m pc ls (.ref a :: rest)) := by
  rcases vlk_cases h with h | h
  · obtain ⟨k, hk⟩ := hlk_get h
    exact g_get FX hW (C := RJ7) (T := TJ7) (N := 4) (ci := 15) in_J7 k hk rfl 0 (by decide) hlink (fun _ h => h) hv hdg kk
  · obtain ⟨i, hi, rfl, -, rfl⟩ := litc_o h
    cases hv
    exact vk_getf FX.1 FX.2.1 (hW.strs.1 i hi).2.2.1 hW.2.2.1 FX.2.2.2.1 (FX.2.2.2.2 _ hlink) (fun _ h => h) hdg kk
theorem v_get1 (FX : CallFix p m c cc nL s args lw_all own) (hW : Wd D dA A s ws H locs) {index : Nat} (hlink : Cond.fieldLink own index "java/lang/String" "coder" "B" ∈ lw_all) {fs : List Value} {v : Value} (h : vlk dA ws a = some (.inr (15, fs))) (hv : fs[1]? = some v) (hdg : decode cc pc = .ok (.getfield index, 3))
    (kk : W p l e R s m args below meth c H locs cells slots Q (F0 m (pc + 3) ls (v :: rest))) : W p l e R s m args below meth c H locs cells slots Q (F0 m pc ls (.ref a :: rest)) := by
  rcases vlk_cases h with h | h
  · obtain ⟨k, hk⟩ := hlk_get h
    exact g_get FX hW (C := RJ7) (T := TJ7) (N := 4) (ci := 15) in_J7 k hk rfl 1 (by decide) hlink (fun _ h => h) hv hdg kk
  · obtain ⟨i, hi, rfl, -, rfl⟩ := litc_o h
    cases hv
    exact vk_getf FX.1 FX.2.1 (hW.strs.1 i hi).2.1 hW.2.2.1 FX.2.2.2.1 (FX.2.2.2.2 _ hlink) (fun _ h => h) hdg kk
theorem v_bald (FX : CallFix p m c cc nL s args lw_all own) (hW : Wd D dA A s ws H locs) {n : Nat} {f : Nat → Int32} (h : vlk dA ws a = some (.inl (dA 1, n, .inl f))) {i : Int32} (hin : vp_in i n) (hdg : decode cc pc = .ok (.baload, 1))
    (kk : W p l e R s m args below meth c H locs cells slots Q (F0 m (pc + 1) ls (.int (f i.toNatClampNeg) :: rest))) : W p l e R s m args below meth c H locs cells slots Q (F0 m pc ls (.int i :: .ref a :: rest)) := by
  rcases vlk_cases h with h | h
  · obtain ⟨k, hk⟩ := hlk_get h
    exact va_bald FX.1 FX.2.1 hW.2.2.2.1 hW.1 k 1 hk rfl hin hdg kk
  · obtain ⟨j, hj, rfl, hx⟩ := litc_a h
    cases hx
    exact va_tb FX.1 FX.2.1 (hW.strs.1 j hj).2.2.2 hW.2.2.1 hin rfl hdg kk
theorem v_len (FX : CallFix p m c cc nL s args lw_all own) (hW : Wd D dA A s ws H locs) {n : Nat} {f : Nat → Int32} (h : vlk dA ws a = some (.inl (dA 1, n, .inl f))) (hdg : decode cc pc = .ok (.arraylength, 1))
    (kk : W p l e R s m args below meth c H locs cells slots Q (F0 m (pc + 1) ls (.int (Int32.ofNat n) :: rest))) : W p l e R s m args below meth c H locs cells slots Q (F0 m pc ls (.ref a :: rest)) := by
  rcases vlk_cases h with h | h
  · obtain ⟨k, hk⟩ := hlk_get h
    exact va_alen FX.1 FX.2.1 hW.2.2.2.1 hW.1 k 1 hk rfl rfl hdg kk
  · obtain ⟨j, hj, rfl, hx⟩ := litc_a h
    cases hx
    exact va_tlen FX.1 FX.2.1 (hW.strs.1 j hj).2.2.2 hW.2.2.1 rfl hdg kk
end LITS
