/-! the free heap: arrays made, read and written; fields read; calls and ends -/
section GH2
variable {p : Program} {l : Launch} {e : Env} {R : Room} {s : State} {m : MethodId} {args : Array Value} {below : List Frame} {meth : Method} {c : Code} {H : Heap} {locs : List Loc} {cells slots : Nat} {Q : State → Prop}
variable {cc : ByteArray} {pc nL : Nat} {ls : Array Slot} {rest : List Value} {D : va_G} {dA : Nat → ClassId} {A : Nat → Prop} {g : Gs} {own : String} {α : Type} {q : α} {a : Nat}
theorem z_pushA {H1 : Heap} {cA : ClassId} {N : Nat} {a0 : vp_A} {d : Value} (hW : Wz D dA A s g H locs) (ha : vp_cell cA a0 = arrV cA N (fun _ => d)) (e1 : H1[g.2.1]? = some (arrV cA N (fun _ => d))) (z1 : H1.size = g.2.1 + 1) (o1 : ∀ q, q < g.2.1 → H1[q]? = H[q]?) : Wz D dA A s (g.1 ++ [(g.2.1, .inl (cA, a0))], g.2.1 + 1, g.2.2) H1 locs := by
  obtain ⟨⟨hP, hD, hS, hK, hA⟩, hz⟩ := hW
  have hk : ∀ (k : Nat) (x : Nat × va_E), g.1[k]? = some x → H1[x.1]? = H[x.1]? := fun k x hx => o1 x.1 (hz ▸ (hP k x hx).lt)
  refine ⟨⟨(hP.kept hk).app (fun k x hx => ?_), hD.push hP hz.symm (hA.1 _ (hz ▸ hS.1)), ⟨Nat.le_trans hS.1 (by omega), fun x h1 h2 => (o1 x (hz ▸ Nat.lt_of_lt_of_le h1 hS.1)).trans (hS.2.1 x h1 h2), hS.2.2⟩, hK, hA⟩, z1⟩
  have hz9 : k < 1 := (List.getElem?_eq_some_iff.mp hx).1
  rw [show k = 0 by omega] at hx
  cases hx
  show H1[g.2.1]? = some (vp_cell _ _)
  rw [ha]
  exact e1
theorem z_newb (FX : CallFix p m c cc nL s args lw_all own) (hW : Wz D dA A s g H locs) {n : Int32} (hn : ¬ n < 0) (hbytes : n.toNatClampNeg ≤ 536870912) (hcells : cells + 1 ≤ R.cells) (hslots : slots + n.toNatClampNeg ≤ R.slots) (hdg : decode cc pc = .ok (.newarray .byte, 2))
    (kk : ∀ (H1 : Heap), Wz D dA A s (g.1 ++ [(g.2.1, .inl (dA 1, n.toNatClampNeg, .inl (fun _ => 0)))], g.2.1 + 1, g.2.2) H1 locs → W p l e R s m args below meth c H1 locs (cells + 1) (slots + n.toNatClampNeg) Q (F0 m (pc + 2) ls (.ref g.2.1 :: rest))) : W p l e R s m args below meth c H locs cells slots Q (F0 m pc ls (.int n :: rest)) := by
  refine va_newaK (atype := .byte) FX.1 FX.2.1 (FX.2.2.2.2 _ q198) rfl hdg rfl hn rfl (by simpa [componentBytes, newarray.typeOf] using hbytes) hcells hslots hW.2 fun H1 cA e1 z1 o1 hAr hNm => ?_
  have hcA : cA = dA 1 := Option.some.inj (hNm.symm.trans (hW.1.2.2.2.1.2 1 _ rfl).2)
  subst hcA
  exact kk H1 (z_pushA hW rfl e1 z1 o1)
theorem z_newi (FX : CallFix p m c cc nL s args lw_all own) (hW : Wz D dA A s g H locs) {n : Int32} (hn : ¬ n < 0) (hbytes : n.toNatClampNeg * 4 ≤ 536870912) (hcells : cells + 1 ≤ R.cells) (hslots : slots + n.toNatClampNeg ≤ R.slots) (hdg : decode cc pc = .ok (.newarray .int, 2))
    (kk : ∀ (H1 : Heap), Wz D dA A s (g.1 ++ [(g.2.1, .inl (dA 0, n.toNatClampNeg, .inl (fun _ => 0)))], g.2.1 + 1, g.2.2) H1 locs → W p l e R s m args below meth c H1 locs (cells + 1) (slots + n.toNatClampNeg) Q (F0 m (pc + 2) ls (.ref g.2.1 :: rest))) : W p l e R s m args below meth c H locs cells slots Q (F0 m pc ls (.int n :: rest)) := by
  refine va_newaK (atype := .int) FX.1 FX.2.1 (FX.2.2.2.2 _ q327) rfl hdg rfl hn rfl (by simpa [componentBytes, newarray.typeOf] using hbytes) hcells hslots hW.2 fun H1 cA e1 z1 o1 hAr hNm => ?_
  have hcA : cA = dA 0 := Option.some.inj (hNm.symm.trans (hW.1.2.2.2.1.2 0 _ rfl).2)
  subst hcA
  exact kk H1 (z_pushA hW rfl e1 z1 o1)
theorem z_newO (FX : CallFix p m c cc nL s args lw_all own) (hW : Wz D dA A s g H locs) {index : Nat} (hcl : Cond.classLink own index "java/lang/Object" ∈ lw_all) {n : Int32} (hn : ¬ n < 0) (hbytes : n.toNatClampNeg * 4 ≤ 536870912) (hcells : cells + 1 ≤ R.cells) (hslots : slots + n.toNatClampNeg ≤ R.slots) (hdg : decode cc pc = .ok (.anewarray index, 3))
    (kk : ∀ (H1 : Heap), Wz D dA A s (g.1 ++ [(g.2.1, .inl (dA 4, n.toNatClampNeg, .inr (.inr (.inr (.inr (fun _ => none))))))], g.2.1 + 1, g.2.2) H1 locs → W p l e R s m args below meth c H1 locs (cells + 1) (slots + n.toNatClampNeg) Q (F0 m (pc + 3) ls (.ref g.2.1 :: rest))) : W p l e R s m args below meth c H locs cells slots Q (F0 m pc ls (.int n :: rest)) := by
  refine W.anew FX.1 FX.2.1 FX.2.2.2.1 (FX.2.2.2.2 _ hcl) (va_AO.use hW.1.2.2.2.2.2.2.1) rfl hdg rfl hn hbytes hcells hslots fun cA kA comp f1 f2 f3 f4 => ?_
  obtain ⟨kA2, comp2, g1, g2, g3, g4⟩ := (hW.1.2.2.2.1.2 4 _ rfl).2
  have hcA : cA = dA 4 := Option.some.inj (f1.symm.trans g4)
  subst hcA
  rw [hW.2]
  generalize hH1 : H.push ({ cls := dA 4, slots := Array.replicate n.toNatClampNeg .null, vm := .none } : Cell) = H1
  have z1 : H1.size = g.2.1 + 1 := by rw [← hH1, Array.size_push, hW.2]
  have e1 : H1[g.2.1]? = some (arrV (dA 4) n.toNatClampNeg (fun _ => .null)) := by rw [← hW.2, ← hH1, Array.getElem?_push_size, ← arrV_new]
  have o1 : ∀ q : Nat, q < g.2.1 → H1[q]? = H[q]? := fun q hq => by rw [← hH1, Array.getElem?_push, if_neg (by rw [hW.2]; exact Nat.ne_of_lt hq)]
  exact kk H1 (z_pushA hW rfl e1 z1 o1)
/-- Object[] written with an object of a class that is known -/
theorem z_aast (FX : CallFix p m c cc nL s args lw_all own) (hW : Wz D dA A s g H locs) {n v ci : Nat} {r : vw_C} {vs : List Value} {f : Nat → Option Nat} (he : hlk g.1 a = some (.inl (dA 4, n, .inr (.inr (.inr (.inr f)))))) (hv : hlk g.1 v = some (.inr (ci, vs))) (hc : vwCl[ci]? = some r) (hca : va_Nw (.castable r.1 "java/lang/Object") s) {i : Int32} (hin : vp_in i n) (hdg : decode cc pc = .ok (.aastore, 1))
    (kk : ∀ (H1 : Heap) (locs1 : List Loc), Wz D dA A s (hup g.1 a (.inl (dA 4, n, .inr (.inr (.inr (.inr (va_up f i.toNatClampNeg (some v))))))), g.2) H1 locs1 → W p l e R s m args below meth c H1 locs1 cells slots Q (F0 m (pc + 1) ls rest)) : W p l e R s m args below meth c H locs cells slots Q (F0 m pc ls (.ref v :: .int i :: .ref a :: rest)) := by
  obtain ⟨⟨hP, hD, hS, hK, hA⟩, hz⟩ := hW
  obtain ⟨q0, ha⟩ := hlk_get he
  obtain ⟨qk, hv⟩ := hlk_get hv
  have hlt : i.toNatClampNeg < n := Nat.not_le.mp fun q => hin (Or.inr q)
  have h0 : ¬ i < 0 := fun q => hin (Or.inl q)
  obtain ⟨r', hr', cellV, g1, g2, g3, -⟩ := hP qk _ hv
  have hcls := (hK.1 ci r hc).2
  obtain ⟨kA, comp, k1, k2, k3, -⟩ := (hK.2 4 _ rfl).2
  obtain ⟨kE, hkE, -⟩ := Vm.findClass_spec k3
  obtain ⟨c0, t1, f1, f2, f3⟩ := Cond.castable_spec (va_Nw.use (A := args) rfl hca)
  cases hcls.1.symm.trans f1
  cases k3.symm.trans f2
  obtain ⟨kC, hkC, -⟩ := hcls.2
  refine W.aast FX.1 FX.2.1 (hP q0 _ ha) (fun q h => by cases h) (fun h => by cases h) k1 k2 rfl hkE ⟨h0, by show _ < (arrV _ _ _).slots.size; rw [arrV_size]; exact hlt⟩ g1 (fun q h => by rw [g3] at h; cases h) (by rw [g2]; exact hkC) (by rw [g2]; exact f3) rfl rfl hdg fun H1 e z oq => ?_
  have w1 := hP.set (e := .inl (dA 4, n, .inr (.inr (.inr (.inr (va_up f i.toNatClampNeg (some v))))))) hD ha (by
    show H1[a]? = some (vp_cell _ _)
    rw [e]
    rw [vp_cell_q, vp_cell_q, arrV_store]
    congr 2
    funext q
    by_cases hq : q = i.toNatClampNeg
    · subst hq
      simp [updV, va_up, va_rf]
    · simp [updV, va_up, hq]) oq
  have w2 := hD.set (e := .inl (dA 4, n, .inr (.inr (.inr (.inr (va_up f i.toNatClampNeg (some v))))))) ha
  have w3 := hS.put (k := i.toNatClampNeg) z oq (hD.2 q0 _ ha)
  rw [hup_set hD ha] at w1 w2
  exact kk H1 _ ⟨⟨w1, w2, w3, hK, hA⟩, z.trans hz⟩
end GH2
