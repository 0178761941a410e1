/-! THE FREE HEAP: cells by their addresses, the heap's size kept exactly; what is made lies at the heap's end -/
abbrev Gs : Type := va_W × Nat × Nat × Nat
def Wz (D : va_G) (dA : Nat → ClassId) (A : Nat → Prop) (s : State) (g : Gs) (H : Heap) (locs : List Loc) : Prop := Wd D dA A s g.1 H locs ∧ H.size = g.2.1
def hup (ws : va_W) (a : Nat) (x : va_E) : va_W := ws.map fun q => if q.1 = a then (a, x) else q
theorem hup_set {A : Nat → Prop} {ws : va_W} {a k : Nat} {x0 x : va_E} (hD : va_D A ws) (hk : ws[k]? = some (a, x0)) : ws.set k (a, x) = hup ws a x := by
  apply List.ext_getElem?
  intro j
  unfold hup
  rw [List.getElem?_map, List.getElem?_set]
  by_cases hj : k = j
  · subst hj
    rw [if_pos rfl, hk, if_pos (List.getElem?_eq_some_iff.mp hk).1]
    simp
  · rw [if_neg hj]
    cases hz : ws[j]? with
    | none => rfl
    | some z =>
      have : z.1 ≠ a := fun e => hj (hD.1 k j _ z hk hz e.symm)
      simp [this]
theorem hlk_of {A : Nat → Prop} {ws : va_W} {a k : Nat} {x : va_E} (hD : va_D A ws) (hk : ws[k]? = some (a, x)) : hlk ws a = some x := by
  unfold hlk
  have hm : (a, x) ∈ ws := List.mem_of_getElem? hk
  cases hf : ws.find? (fun q => q.1 == a) with
  | none =>
    have := List.find?_eq_none.mp hf _ hm
    simp at this
  | some z =>
    have h1 := List.find?_some hf
    have h2 := List.mem_of_find?_eq_some hf
    obtain ⟨j, hj⟩ := List.getElem?_of_mem h2
    have h3 : z.1 = a := by simpa using h1
    have := hD.1 k j _ z hk hj h3.symm
    rw [← this, hk] at hj
    cases hj
    rfl
section GH
variable {p : Program} {l : Launch} {e : Env} {R : Room} {s : State} {m : MethodId} {args : Array Value} {below : List Frame} {meth : Method} {c : Code} {H : Heap} {locs : List Loc} {cells slots : Nat} {Q : State → Prop}
variable {cc : ByteArray} {pc nL : Nat} {ls : Array Slot} {rest : List Value} {D : va_G} {dA : Nat → ClassId} {A : Nat → Prop} {g : Gs} {own : String} {α : Type} {q : α} {a : Nat}
theorem z_put (FX : CallFix p m c cc nL s args lw_all own) (hW : Wz D dA A s g H locs) {ref C : String} {T : u_T} {N ci index : Nat} (hin : ∀ w ∈ u_ws C T N, w ∈ lw_all) (ty0 : Nat → FieldType) (hty : ∀ k, k < N → parseFieldDescriptor (T k).2.2.1 = some (ty0 k)) (hnm : ∀ a, a < N → ∀ b, b < N → a ≠ b → (T a).2.1 ≠ (T b).2.1) {fs : List Value} (he : hlk g.1 a = some (.inr (ci, fs))) (hc : vwCl[ci]? = some (C, T, N)) (k : Nat) (hk : k < N) (hlink : Cond.fieldLink own index ref (T k).2.1 (T k).2.2.1 ∈ lw_all) (hsame : ∀ x, s.fieldFound? (T k).1 (T k).2.1 (T k).2.2.1 = some x → s.fieldFound? ref (T k).2.1 (T k).2.2.1 = some x) (hfin : (T k).2.2.2 = false) {ty : FieldType} {v : Value} (hd : parseFieldDescriptor (T k).2.2.1 = some ty) (hn : narrow ty v = v) (hfit : fits ty v = true) (hl : k < fs.length)
    (hdg : decode cc pc = .ok (.putfield index, 3)) (kk : ∀ (H1 : Heap) (locs1 : List Loc), Wz D dA A s (hup g.1 a (.inr (ci, fs.set k v)), g.2) H1 locs1 → W p l e R s m args below meth c H1 locs1 cells slots Q (F0 m (pc + 3) ls rest)) : W p l e R s m args below meth c H locs cells slots Q (F0 m pc ls (v :: .ref a :: rest)) := by
  obtain ⟨⟨hP, hD, hS0, hK, hA⟩, hz⟩ := hW
  obtain ⟨q0, hq0⟩ := hlk_get he
  have hap := va_apart (own := own) FX.2.2.2.2 hin ty0 hty hnm hK hc
  obtain ⟨r, h1, cell, q1, q2, q3, q4⟩ := hP q0 _ hq0
  have hr : r = (C, T, N) := Option.some.inj (h1.symm.trans hc)
  subst hr
  obtain ⟨hS, hfc, kC, hkC, hkind⟩ := hK.1 ci _ hc
  obtain ⟨cf, kf, fi, f, hi, hsl⟩ := hS k hk
  have hlay := FX.2.2.2.2 _ (hin _ (u_in_lay hk))
  unfold u_lay at hlay
  rw [if_neg (by rw [hfin]; decide)] at hlay
  have hst := (u_facts hfc hkC (u_lays FX.2.2.2.2 hin hk) hi).1
  have h6 := u_store hfc hkC hkind hlay hi hd hn hfit
  refine W.putK FX.1 FX.2.1 (f := f) ⟨FX.2.2.2.1, FX.2.2.2.2 _ hlink, ⟨_, _, _, hsame _ hi⟩, hst⟩ (by rw [q2]; exact h6) q1 q3 (by rw [hsl]; exact k2_hasslot (q4 k hk)) rfl rfl hdg fun H' e1 e2 e3 => ?_
  rw [hsl] at e1 ⊢
  have g1 := hP.set hD hq0 (show va_at D vwCl (a, .inr (ci, fs.set k v)) H' from ⟨_, hc, t_OB.to (V := updV (vp_V fs) k v) ⟨_, e1, q2, q3, t_set q4 hap hk v⟩ (fun j _ => vp_updV_set hl v j)⟩) e3
  have g2 := hD.set (e := .inr (ci, fs.set k v)) hq0
  have g3 := hS0.put (k := D.2 ci k) e2 e3 (hD.2 q0 _ hq0)
  rw [hup_set hD hq0] at g1 g2
  exact kk H' _ ⟨⟨g1, g2, g3, hK, hA⟩, e2.trans hz⟩
theorem z_putF (FX : CallFix p m c cc nL s args lw_all own) (hW : Wz D dA A s g H locs) {ref C : String} {T : u_T} {N ci index : Nat} (hin : ∀ w ∈ u_ws C T N, w ∈ lw_all) (ty0 : Nat → FieldType) (hty : ∀ k, k < N → parseFieldDescriptor (T k).2.2.1 = some (ty0 k)) (hnm : ∀ a, a < N → ∀ b, b < N → a ≠ b → (T a).2.1 ≠ (T b).2.1) {fs : List Value} (he : hlk g.1 a = some (.inr (ci, fs))) (hc : vwCl[ci]? = some (C, T, N)) (k : Nat) (hk : k < N) (hlink : Cond.fieldLink own index ref (T k).2.1 (T k).2.2.1 ∈ lw_all) (hsame : ∀ x, s.fieldFound? (T k).1 (T k).2.1 (T k).2.2.1 = some x → s.fieldFound? ref (T k).2.1 (T k).2.2.1 = some x) (hfin : (T k).2.2.2 = true) (hin2 : meth.name = "<init>") (hdecl : (T k).1 = own) {ty : FieldType} {v : Value} (hd : parseFieldDescriptor (T k).2.2.1 = some ty) (hn : narrow ty v = v) (hfit : fits ty v = true) (hl : k < fs.length)
    (hdg : decode cc pc = .ok (.putfield index, 3)) (kk : ∀ (H1 : Heap) (locs1 : List Loc), Wz D dA A s (hup g.1 a (.inr (ci, fs.set k v)), g.2) H1 locs1 → W p l e R s m args below meth c H1 locs1 cells slots Q (F0 m (pc + 3) ls rest)) : W p l e R s m args below meth c H locs cells slots Q (F0 m pc ls (v :: .ref a :: rest)) := by
  obtain ⟨⟨hP, hD, hS0, hK, hA⟩, hz⟩ := hW
  obtain ⟨q0, hq0⟩ := hlk_get he
  have hap := va_apart (own := own) FX.2.2.2.2 hin ty0 hty hnm hK hc
  obtain ⟨r, h1, cell, q1, q2, q3, q4⟩ := hP q0 _ hq0
  have hr : r = (C, T, N) := Option.some.inj (h1.symm.trans hc)
  subst hr
  obtain ⟨hS, hfc, kC, hkC, hkind⟩ := hK.1 ci _ hc
  obtain ⟨cf, kf, fi, f, hi, hsl⟩ := hS k hk
  have hlay := FX.2.2.2.2 _ (hin _ (u_in_lay hk))
  unfold u_lay at hlay
  rw [if_pos hfin] at hlay
  have hst := (u_facts hfc hkC (u_lays FX.2.2.2.2 hin hk) hi).1
  have hcf : m.cls = cf := by
    obtain ⟨_, _, c', _, _, _, -, -, hf', -, -, -, hown2, -⟩ := Cond.laysFinal_spec hlay
    have e1 : c' = cf := by have := hi.symm.trans hf'; simp at this; exact this.1.symm
    rw [hdecl] at hown2
    rw [← e1]; exact Option.some.inj (FX.2.2.2.1.symm.trans hown2)
  have h6 := u_fits hfc hkC hkind (Or.inr hlay) hi hd hn hfit
  refine W.putFinK FX.1 FX.2.1 FX.2.2.2.1 (FX.2.2.2.2 _ hlink) (hsame _ hi) hst hcf hin2 (by rw [q2]; exact h6) q1 q3 (by rw [hsl]; exact k2_hasslot (q4 k hk)) rfl rfl hdg fun H' e1 e2 e3 => ?_
  rw [hsl] at e1 ⊢
  have g1 := hP.set hD hq0 (show va_at D vwCl (a, .inr (ci, fs.set k v)) H' from ⟨_, hc, t_OB.to (V := updV (vp_V fs) k v) ⟨_, e1, q2, q3, t_set q4 hap hk v⟩ (fun j _ => vp_updV_set hl v j)⟩) e3
  have g2 := hD.set (e := .inr (ci, fs.set k v)) hq0
  have g3 := hS0.put (k := D.2 ci k) e2 e3 (hD.2 q0 _ hq0)
  rw [hup_set hD hq0] at g1 g2
  exact kk H' _ ⟨⟨g1, g2, g3, hK, hA⟩, e2.trans hz⟩
theorem z_bast (FX : CallFix p m c cc nL s args lw_all own) (hW : Wz D dA A s g H locs) {n : Nat} {f : Nat → Int32} (he : hlk g.1 a = some (.inl (dA 1, n, .inl f))) {i x : Int32} (hin : vp_in i n) (hdg : decode cc pc = .ok (.bastore, 1))
    (kk : ∀ (H1 : Heap) (locs1 : List Loc), Wz D dA A s (hup g.1 a (.inl (dA 1, n, .inl (upd f i.toNatClampNeg (vp_nar .byte x)))), g.2) H1 locs1 → W p l e R s m args below meth c H1 locs1 cells slots Q (F0 m (pc + 1) ls rest)) : W p l e R s m args below meth c H locs cells slots Q (F0 m pc ls (.int x :: .int i :: .ref a :: rest)) := by
  obtain ⟨⟨hP, hD, hS, hK, hA⟩, hz⟩ := hW
  obtain ⟨q0, ha⟩ := hlk_get he
  refine W.bast FX.1 FX.2.1 (hP q0 _ ha) ((hK.2 1 _ rfl).1 n (fun j => .int (f j))) (fun q => by cases q) (by show ¬ (i < 0 ∨ (arrV _ _ _).slots.size ≤ _); rw [arrV_size]; exact hin) rfl rfl hdg fun H1 e z oq => ?_
  have g1 := hP.set (e := .inl (dA 1, n, .inl (upd f i.toNatClampNeg (vp_nar .byte x)))) hD ha (by
    show H1[a]? = some (vp_cell _ _)
    rw [e]
    rw [vp_cell_i, vp_cell_i, arrV_store]
    congr 2
    funext q
    by_cases hq : q = i.toNatClampNeg
    · subst hq
      simp [updV, upd, vp_nar]
      try rfl
    · simp [updV, upd, hq]) oq
  have g2 := hD.set (e := .inl (dA 1, n, .inl (upd f i.toNatClampNeg (vp_nar .byte x)))) ha
  have g3 := hS.put (k := i.toNatClampNeg) z oq (hD.2 q0 _ ha)
  rw [hup_set hD ha] at g1 g2
  exact kk H1 _ ⟨⟨g1, g2, g3, hK, hA⟩, z.trans hz⟩
theorem z_iast (FX : CallFix p m c cc nL s args lw_all own) (hW : Wz D dA A s g H locs) {n : Nat} {f : Nat → Int32} (he : hlk g.1 a = some (.inl (dA 0, n, .inl f))) {i x : Int32} (hin : vp_in i n) (hdg : decode cc pc = .ok (.iastore, 1))
    (kk : ∀ (H1 : Heap) (locs1 : List Loc), Wz D dA A s (hup g.1 a (.inl (dA 0, n, .inl (upd f i.toNatClampNeg x))), g.2) H1 locs1 → W p l e R s m args below meth c H1 locs1 cells slots Q (F0 m (pc + 1) ls rest)) : W p l e R s m args below meth c H locs cells slots Q (F0 m pc ls (.int x :: .int i :: .ref a :: rest)) := by
  obtain ⟨⟨hP, hD, hS, hK, hA⟩, hz⟩ := hW
  obtain ⟨q0, ha⟩ := hlk_get he
  refine W.iast FX.1 FX.2.1 (hP q0 _ ha) ((hK.2 0 _ rfl).1 n (fun j => .int (f j))) (fun q => by cases q) (by show ¬ (i < 0 ∨ (arrV _ _ _).slots.size ≤ _); rw [arrV_size]; exact hin) rfl rfl hdg fun H1 e z oq => ?_
  have g1 := hP.set (e := .inl (dA 0, n, .inl (upd f i.toNatClampNeg x))) hD ha (by
    show H1[a]? = some (vp_cell _ _)
    rw [e]
    rw [vp_cell_i, vp_cell_i, arrV_store]
    congr 2
    funext q
    by_cases hq : q = i.toNatClampNeg
    · subst hq
      simp [updV, upd]
    · simp [updV, upd, hq]) oq
  have g2 := hD.set (e := .inl (dA 0, n, .inl (upd f i.toNatClampNeg x))) ha
  have g3 := hS.put (k := i.toNatClampNeg) z oq (hD.2 q0 _ ha)
  rw [hup_set hD ha] at g1 g2
  exact kk H1 _ ⟨⟨g1, g2, g3, hK, hA⟩, z.trans hz⟩
theorem z_new (FX : CallFix p m c cc nL s args lw_all own) (hW : Wz D dA A s g H locs) {C : String} {T : u_T} {N ci index : Nat} (hin : ∀ w ∈ u_ws C T N, w ∈ lw_all) (ty : Nat → FieldType) (hty : ∀ k, k < N → parseFieldDescriptor (T k).2.2.1 = some (ty k)) (hcl : Cond.classLink own index C ∈ lw_all) (hinst : Cond.instantiable C N ∈ lw_all) (hini : Cond.initialized C ∈ lw_all) (hc : vwCl[ci]? = some (C, T, N)) {fs : List Value} (hfs : ∀ j, j < N → defaultValue (ty j) = vp_V fs j) (hcells : cells + 1 ≤ R.cells) (hslots : slots + N ≤ R.slots) (hdg : decode cc pc = .ok (.new index, 3))
    (kk : ∀ (H1 : Heap), Wz D dA A s (g.1 ++ [(g.2.1, .inr (ci, fs))], g.2.1 + 1, g.2.2) H1 locs → W p l e R s m args below meth c H1 locs (cells + 1) (slots + N) Q (F0 m (pc + 3) ls (.ref g.2.1 :: rest))) : W p l e R s m args below meth c H locs cells slots Q (F0 m pc ls rest) := by
  obtain ⟨⟨hP, hD, hS, hK, hA⟩, hz⟩ := hW
  have hKn := hK.1 ci _ hc
  refine W.newcK FX.1 FX.2.1 FX.2.2.2.1 (FX.2.2.2.2 _ hcl) (FX.2.2.2.2 _ hinst) (FX.2.2.2.2 _ hini) rfl hdg hcells hslots hKn.2.1 rfl fun H1 kC hkC e1 z1 o1 => ?_
  have hk : ∀ (k : Nat) (x : Nat × va_E), g.1[k]? = some x → H1[x.1]? = H[x.1]? := fun k x hx => o1 x.1 ((hP k x hx).lt)
  rw [hz] at e1 z1
  rw [hz]
  refine kk H1 ⟨⟨(hP.kept hk).app (fun k x hx => ?_), hD.push hP hz.symm (hA.1 _ (hz ▸ hS.1)), ⟨Nat.le_trans hS.1 (by omega), fun x h1 h2 => (o1 x (Nat.lt_of_lt_of_le h1 hS.1)).trans (hS.2.1 x h1 h2), hS.2.2⟩, hK, hA⟩, z1⟩
  have hz9 : k < 1 := (List.getElem?_eq_some_iff.mp hx).1
  rw [show k = 0 by omega] at hx
  cases hx
  exact ⟨_, hc, (u_born ty FX.2.2.2.2 hin hKn hkC e1 hty).to hfs⟩
end GH
