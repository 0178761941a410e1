/-! THE ACTS' HOUSES: forty that were, three boxes: a pool of 43 houses, the array of those that were (by addresses) -/
abbrev Pst : Type := Dst × (Nat → Option Nat) × (Nat → Hst)
def hpool (dA : Nat → ClassId) (ha : Nat → Nat) (hb : Nat → Nat → Nat) (hw : Nat → Hst) : va_W := (List.range 43).flatMap fun i => Dsh dA (ha i) (hb i) (hw i)
def hrest (dA : Nat → ClassId) (ha : Nat → Nat) (hb : Nat → Nat → Nat) (hw : Nat → Hst) (j : Nat) : va_W := ((List.range 43).filter (fun i => !(i == j))).flatMap fun i => Dsh dA (ha i) (hb i) (hw i)
def bxF (ha : Nat → Nat) : Nat → Option Nat := fun j => some (ha (40 + j))
def Wc (dA : Nat → ClassId) (ad ha : Nat → Nat) (hb : Nat → Nat → Nat) (wr : va_W) (ρ : (Nat → Option Nat) × (Nat → Hst)) : va_W := [(ad 9, .inl (dA 5, 40, .inr (.inr (.inr (.inr ρ.1))))), (ad 24, .inl (dA 5, 3, .inr (.inr (.inr (.inr (bxF ha))))))] ++ (hpool dA ha hb ρ.2 ++ wr)
def Px (dA : Nat → ClassId) (t0 : Nat) (ad : Nat → Nat) (B : Bk) (ha : Nat → Nat) (hb : Nat → Nat → Nat) (wr : va_W) (σ : Pst) : va_W := Dx dA t0 ad B (Wc dA ad ha hb wr σ.2) σ.1
/-- which of the pool's houses lies at x -/
def hid (ha : Nat → Nat) (x : Nat) : Option Nat := (List.range 43).find? (fun i => ha i == x)
def hpk {α : Type} (ha : Nat → Nat) (x : Nat) (k : Nat → Option α) : Option α := match hid ha x with
  | some i => k i
  | none => none
def qald {α : Type} (n : Nat) (f : Nat → Option Nat) (i : Int32) (k : Nat → Option α) : Option α := ald n f i fun o => nn o k
/-- all that were are of the pool -/
def wok (ha : Nat → Nat) (f : Nat → Option Nat) : Bool := (List.range 40).all fun j => match f j with
  | some x => (hid ha x).isSome
  | none => true
def wck {α : Type} (ha : Nat → Nat) (f : Nat → Option Nat) (k : Option α) : Option α := if wok ha f = true then k else none
theorem hid_some {ha : Nat → Nat} {x i : Nat} (h : hid ha x = some i) : i < 43 ∧ ha i = x := by
  have h1 := List.find?_some h
  have h2 := List.mem_of_find?_eq_some h
  exact ⟨List.mem_range.mp h2, by simpa using h1⟩
theorem hpk_some {α : Type} {q : α} {ha : Nat → Nat} {x : Nat} {k : Nat → Option α} (h : hpk ha x k = some q) : ∃ i, i < 43 ∧ x = ha i ∧ hid ha x = some i ∧ k i = some q := by
  unfold hpk at h
  split at h
  · rename_i i hi
    exact ⟨i, (hid_some hi).1, (hid_some hi).2.symm, hi, h⟩
  · cases h
theorem flat_split {β γ : Type} (f : Nat → List γ) (j : Nat) : ∀ (l : List Nat), l.Nodup → j ∈ l → (l.flatMap f).Perm (f j ++ (l.filter (fun i => !(i == j))).flatMap f) := by
  intro l
  induction l with
  | nil => intro _ h; cases h
  | cons a l ih =>
    intro hn hj
    rw [List.nodup_cons] at hn
    by_cases e : a = j
    · subst e
      have h1 : l.filter (fun i => !(i == a)) = l := by
        rw [List.filter_eq_self]
        intro i hi
        have : i ≠ a := fun z => hn.1 (z ▸ hi)
        simp [this]
      simp only [List.flatMap_cons, List.filter_cons, beq_self_eq_true, Bool.not_true, Bool.false_eq_true, if_false, h1]
      exact List.Perm.refl _
    · have hj' : j ∈ l := by
        rcases List.mem_cons.mp hj with z | z
        · exact absurd z.symm e
        · exact z
      have h2 : (!(a == j)) = true := by simp [e]
      simp only [List.flatMap_cons, List.filter_cons, h2, if_true]
      refine (List.Perm.append_left (f a) (ih hn.2 hj')).trans ?_
      exact List.perm_append_comm_assoc _ _ _
theorem hpool_split (dA : Nat → ClassId) (ha : Nat → Nat) (hb : Nat → Nat → Nat) (hw : Nat → Hst) {j : Nat} (hj : j < 43) : (hpool dA ha hb hw).Perm (Dsh dA (ha j) (hb j) (hw j) ++ hrest dA ha hb hw j) :=
  flat_split (β := Nat) (fun i => Dsh dA (ha i) (hb i) (hw i)) j (List.range 43) List.nodup_range (List.mem_range.mpr hj)
theorem hrest_up (dA : Nat → ClassId) (ha : Nat → Nat) (hb : Nat → Nat → Nat) (hw : Nat → Hst) (j : Nat) (h : Hst) : hrest dA ha hb (va_up hw j h) j = hrest dA ha hb hw j := by
  unfold hrest
  rw [List.flatMap_def, List.flatMap_def]
  congr 1
  apply List.map_congr_left
  intro i hi
  have h1 : i ≠ j := by
    have := (List.mem_filter.mp hi).2
    simpa using this
  rw [va_up_ne _ _ h1]
section POOL
variable {p : Program} {l : Launch} {e : Env} {R : Room} {s : State} {m : MethodId} {args : Array Value} {below : List Frame} {meth : Method} {c : Code} {H : Heap} {locs : List Loc} {cells slots : Nat} {Q : State → Prop}
variable {cc : ByteArray} {pc nL : Nat} {ls : Array Slot} {rest : List Value} {D : va_G} {dA : Nat → ClassId} {A : Nat → Prop} {own : String} {α : Type} {q : α}
variable {t0 : Nat} {ad : Nat → Nat} {B : Bk} {ha : Nat → Nat} {hb : Nat → Nat → Nat} {wr : va_W} {σ : Pst}
theorem Px_eq : Px dA t0 ad B ha hb wr σ = Dsx dA t0 ad B σ.1 ++ (Dsh dA (ad 5) (adN ad) (tN σ.1) ++ (Dsh dA (ad 7) (adT ad) (tT σ.1) ++ (Dsh dA (ad 6) (adS ad) (tS σ.1) ++ (Dsk dA B (tU σ.1) ++ (bP B ++ Wc dA ad ha hb wr σ.2))))) := rfl
theorem Px_at {k : Nat} {z : Nat × va_E} (h : (Wc dA ad ha hb wr σ.2)[k]? = some z) : ∃ j : Nat, (Px dA t0 ad B ha hb wr σ)[j]? = some z := by
  rw [Px_eq]
  have h1 : z ∈ Wc dA ad ha hb wr σ.2 := List.mem_of_getElem? h
  refine List.getElem?_of_mem ?_
  simp only [List.mem_append]
  exact Or.inr (Or.inr (Or.inr (Or.inr (Or.inr (Or.inr h1)))))
theorem hpool_mem {hw : Nat → Hst} {i : Nat} (hi : i < 43) : (ha i, (.inr (3, [.ref (hb i 0), .ref (hb i 1), .ref (hb i 2), .ref (hb i 3), .ref (hb i 4), .ref (hb i 5), .ref (hb i 6), .ref (hb i 7), .int (hF (hw i) 8), .int (hF (hw i) 9), .int (hF (hw i) 10), .int (hF (hw i) 11), .int (hF (hw i) 12), .int (hF (hw i) 13)]) : va_E)) ∈ hpool dA ha hb hw := by
  unfold hpool
  rw [List.mem_flatMap]
  exact ⟨i, List.mem_range.mpr hi, List.mem_cons_self⟩
theorem Px_house {i : Nat} (hi : i < 43) : ∃ (j : Nat) (fs : List Value), (Px dA t0 ad B ha hb wr σ)[j]? = some (ha i, .inr (3, fs)) := by
  obtain ⟨k, hk⟩ := List.getElem?_of_mem (show _ ∈ Wc dA ad ha hb wr σ.2 from List.mem_append_right _ (List.mem_append_left wr (hpool_mem (dA := dA) (ha := ha) (hb := hb) (hw := σ.2.2) hi)))
  obtain ⟨j, hj⟩ := Px_at (t0 := t0) (B := B) hk
  exact ⟨j, _, hj⟩
/-- one of those that were, one of the boxes -/
theorem Pwere {i : Int32} {k : Nat → Option α} (FX : CallFix p m c cc nL s args lw_all own) (hW : Wd D dA A s (Px dA t0 ad B ha hb wr σ) H locs) (hf : qald 40 σ.2.1 i k = some q) (hdg : decode cc pc = .ok (.aaload, 1)) (kk : ∀ x : Nat, k x = some q → W p l e R s m args below meth c H locs cells slots Q (F0 m (pc + 1) ls (.ref x :: rest))) : W p l e R s m args below meth c H locs cells slots Q (F0 m pc ls (.int i :: .ref (ad 9) :: rest)) := by
  obtain ⟨h1, h2⟩ := ald_some hf
  obtain ⟨x, h3, hf⟩ := nn_some h2
  obtain ⟨j, hj⟩ := Px_at (t0 := t0) (B := B) (dA := dA) (ad := ad) (ha := ha) (hb := hb) (wr := wr) (σ := σ) (k := 0) rfl
  refine va_aldq (C := "TrunkLitters$House") FX.1 FX.2.1 hW.2.2.2.1 hW.1 j 5 hj rfl h1 hdg ?_
  rw [h3]
  exact kk x hf
theorem Pbox {i : Int32} {k : Nat → Option α} (FX : CallFix p m c cc nL s args lw_all own) (hW : Wd D dA A s (Px dA t0 ad B ha hb wr σ) H locs) (hf : qald 3 (bxF ha) i k = some q) (hdg : decode cc pc = .ok (.aaload, 1)) (kk : ∀ x : Nat, k x = some q → W p l e R s m args below meth c H locs cells slots Q (F0 m (pc + 1) ls (.ref x :: rest))) : W p l e R s m args below meth c H locs cells slots Q (F0 m pc ls (.int i :: .ref (ad 24) :: rest)) := by
  obtain ⟨h1, h2⟩ := ald_some hf
  obtain ⟨x, h3, hf⟩ := nn_some h2
  obtain ⟨j, hj⟩ := Px_at (t0 := t0) (B := B) (dA := dA) (ad := ad) (ha := ha) (hb := hb) (wr := wr) (σ := σ) (k := 1) rfl
  refine va_aldq (C := "TrunkLitters$House") FX.1 FX.2.1 hW.2.2.2.1 hW.1 j 5 hj rfl h1 hdg ?_
  rw [h3]
  exact kk x hf
/-- the array of those that were is written: at any place k of the world where it lies -/
theorem Px_set {f : Nat → Option Nat} {j : Nat} {z : va_E} (hD : va_D A (Px dA t0 ad B ha hb wr σ)) (hj : (Px dA t0 ad B ha hb wr σ)[j]? = some (ad 9, z)) : (Px dA t0 ad B ha hb wr σ).set j (ad 9, .inl (dA 5, 40, .inr (.inr (.inr (.inr f))))) = Px dA t0 ad B ha hb wr (σ.1, f, σ.2.2) := by
  have h0 : ∃ n, (Px dA t0 ad B ha hb wr σ)[n + 0]? = some (ad 9, .inl (dA 5, 40, .inr (.inr (.inr (.inr σ.2.1))))) ∧ (Px dA t0 ad B ha hb wr σ).set (n + 0) (ad 9, .inl (dA 5, 40, .inr (.inr (.inr (.inr f))))) = Px dA t0 ad B ha hb wr (σ.1, f, σ.2.2) := by
    refine ⟨(Dsx dA t0 ad B σ.1 ++ (Dsh dA (ad 5) (adN ad) (tN σ.1) ++ (Dsh dA (ad 7) (adT ad) (tT σ.1) ++ (Dsh dA (ad 6) (adS ad) (tS σ.1) ++ (Dsk dA B (tU σ.1) ++ bP B))))).length, ?_, ?_⟩
    · rw [Px_eq]
      rw [show ∀ a b c d e f g : va_W, a ++ (b ++ (c ++ (d ++ (e ++ (f ++ g))))) = (a ++ (b ++ (c ++ (d ++ (e ++ f))))) ++ g from fun a b c d e f g => by simp [List.append_assoc]]
      rw [List.getElem?_append_right (Nat.le_add_right _ _), Nat.add_sub_cancel_left]
      rfl
    · rw [Px_eq, Px_eq]
      rw [show ∀ a b c d e f g : va_W, a ++ (b ++ (c ++ (d ++ (e ++ (f ++ g))))) = (a ++ (b ++ (c ++ (d ++ (e ++ f))))) ++ g from fun a b c d e f g => by simp [List.append_assoc]]
      rw [show ∀ a b c d e f g : va_W, a ++ (b ++ (c ++ (d ++ (e ++ (f ++ g))))) = (a ++ (b ++ (c ++ (d ++ (e ++ f))))) ++ g from fun a b c d e f g => by simp [List.append_assoc]]
      rw [List.set_append_right _ _ (Nat.le_add_right _ _), Nat.add_sub_cancel_left]
      rfl
  obtain ⟨n, h1, h2⟩ := h0
  have := hD.1 j (n + 0) _ _ hj h1 rfl
  rw [this]
  exact h2
theorem Px_at9 : ∃ j : Nat, (Px dA t0 ad B ha hb wr σ)[j]? = some (ad 9, .inl (dA 5, 40, .inr (.inr (.inr (.inr σ.2.1))))) := Px_at (k := 0) rfl
theorem Past {x : Nat} {i : Int32} {k : Pst → Option α} (FX : CallFix p m c cc nL s args lw_all own) (hW : Wd D dA A s (Px dA t0 ad B ha hb wr σ) H locs) (hf : hpk ha x (fun _ => ast 40 i (stp (σ.1, va_up σ.2.1 i.toNatClampNeg (some x), σ.2.2) k)) = some q) (hdg : decode cc pc = .ok (.aastore, 1)) (kk : ∀ (σ1 : Pst) (H1 : Heap) (locs1 : List Loc), Wd D dA A s (Px dA t0 ad B ha hb wr σ1) H1 locs1 → k σ1 = some q → W p l e R s m args below meth c H1 locs1 cells slots Q (F0 m (pc + 1) ls rest)) : W p l e R s m args below meth c H locs cells slots Q (F0 m pc ls (.ref x :: .int i :: .ref (ad 9) :: rest)) := by
  obtain ⟨n, hn, hx, -, hf⟩ := hpk_some hf
  obtain ⟨h1, hf⟩ := ast_some hf
  obtain ⟨j, hj⟩ := Px_at9 (dA := dA) (t0 := t0) (ad := ad) (B := B) (ha := ha) (hb := hb) (wr := wr) (σ := σ)
  obtain ⟨j2, fs, hj2⟩ := Px_house (dA := dA) (t0 := t0) (ad := ad) (B := B) (ha := ha) (hb := hb) (wr := wr) (σ := σ) hn
  obtain ⟨hP, hD, hS, hK, hA⟩ := hW
  refine va_astq (r := (RX3, TX3, 14)) FX.1 FX.2.1 hK hP hD hS j 5 j2 3 hj rfl (by rw [hx]; exact hj2) rfl h1 hdg (fun H1 locs1 e1 e2 e3 => ?_)
  rw [Px_set hD hj] at e1 e2
  exact kk _ H1 locs1 ⟨e1, e2, e3, hK, hA⟩ hf
theorem Pcopy {k : Pst → Option α} {index : Nat} (FX : CallFix p m c cc nL s args lw_all own) (hl : ls.size = nL) (hW : Wd D dA A s (Px dA t0 ad B ha hb wr σ) H locs) (hlink : Cond.methodLink own index arraycopyName ∈ lw_all) (hR : 1 ≤ R.frames ∧ 26 ≤ R.locals) (hrm : (rest.map fun v => v.category).sum ≤ 8) (hf : wck ha σ.2.1 (stp (σ.1, va_cpy σ.2.1 σ.2.1 1 0 39, σ.2.2) k) = some q) (hdg : decode cc pc = .ok (.invokestatic index, 3)) (kk : ∀ (σ1 : Pst) (H1 : Heap) (locs1 : List Loc), Wd D dA A s (Px dA t0 ad B ha hb wr σ1) H1 locs1 → k σ1 = some q → W p l e R s m args below meth c H1 locs1 cells slots Q (F0 m (pc + 3) ls rest)) : W p l e R s m args below meth c H locs cells slots Q (F0 m pc ls (.int 39 :: .int 0 :: .ref (ad 9) :: .int 1 :: .ref (ad 9) :: rest)) := by
  unfold wck at hf
  by_cases hc : wok ha σ.2.1 = true
  · rw [if_pos hc] at hf
    obtain ⟨j, hj⟩ := Px_at9 (dA := dA) (t0 := t0) (ad := ad) (B := B) (ha := ha) (hb := hb) (wr := wr) (σ := σ)
    have hW0 := hW
    obtain ⟨hP, hD, hS, hK, hA⟩ := hW
    refine va_copyq (C := "TrunkLitters$House") (E0 := "TrunkLitters$House") (E1 := "TrunkLitters$House") FX.1 FX.2.1 (FX.2.2.1.trans hl.symm) FX.2.2.2.1 (FX.2.2.2.2 _ hlink) (FX.2.2.2.2 _ q594) (FX.2.2.2.2 _ q593) (FX.2.2.2.2 _ q141) hK hP hD hS j j 5 5 hj hj rfl rfl (sp := 1) (dp := 0) (n := 39) (by decide) (by decide) (by decide) (by decide) (by decide) (fun i hi y hy => ?_) (fun comp c0 h1 h2 => ?_) hR.1 (Nat.le_trans (Nat.add_le_add_right hrm _) hR.2) hdg (fun H1 locs1 e1 e2 e3 => ?_)
    · have h1 : (1 : Int32).toNatClampNeg + i < 40 := by
        have : i < (39 : Int32).toNatClampNeg := hi
        have e1 : (39 : Int32).toNatClampNeg = 39 := by decide
        have e2 : (1 : Int32).toNatClampNeg = 1 := by decide
        omega
      have h2 := List.all_eq_true.mp hc _ (List.mem_range.mpr h1)
      rw [hy] at h2
      obtain ⟨n, hn⟩ := Option.isSome_iff_exists.mp h2
      obtain ⟨h3, h4⟩ := hid_some hn
      obtain ⟨j2, fs, hj2⟩ := Px_house (dA := dA) (t0 := t0) (ad := ad) (B := B) (ha := ha) (hb := hb) (wr := wr) (σ := σ) h3
      rw [h4] at hj2
      exact va_recv hK hP (ci := 3) rfl hj2
    · cases h1.symm.trans h2
      exact Vm.assignable_self s.vm comp
    · rw [Px_set hD hj] at e1 e2
      exact kk _ H1 locs1 ⟨e1, e2, e3, hK, hA⟩ hf
  · rw [if_neg hc] at hf; cases hf
end POOL
