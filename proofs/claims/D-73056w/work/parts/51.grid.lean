/-! kind O: grids (two dimensions) -/
def grd (dA : Nat → Nat) (a : Nat) : va_W := [(a, .inl (dA 6, 4, .inr (.inr (.inr (.inr (fun i => some (a + 1 + i))))))), (a + 1, .inl (dA 0, 4, .inl (fun _ => 0))), (a + 2, .inl (dA 0, 4, .inl (fun _ => 0))), (a + 3, .inl (dA 0, 4, .inl (fun _ => 0))), (a + 4, .inl (dA 0, 4, .inl (fun _ => 0)))]
def ogrd {α : Type} (C Y c y : Nat) (dA : Nat → Nat) (w : va_W) (a : Nat) (K : va_W → Nat → Nat → Option α) : Option α := gck (c + 5) (y + 20) C Y (K (w ++ grd dA a) (c + 5) (y + 20))
theorem grd_at {dA : Nat → Nat} {a i : Nat} {x : Nat × va_E} (h : (grd dA a)[i]? = some x) : x.1 = a + i ∧ i < 5 := by
  have hi : i < 5 := (List.getElem?_eq_some_iff.mp h).1
  refine ⟨?_, hi⟩
  match i, hi with
  | 0, _ => cases h; rfl
  | 1, _ => cases h; rfl
  | 2, _ => cases h; rfl
  | 3, _ => cases h; rfl
  | 4, _ => cases h; rfl
theorem inner_eq {cA : ClassId} : Jvm.Free.Multi.innerC cA 4 (.int 0) = vp_cell cA (4, .inl (fun _ => 0)) := by
  rw [vp_cell_i]
  exact arrV_new cA 4 (.int 0)
theorem arrV_cg {cA : ClassId} {N : Nat} {f g : Nat → Value} (h : ∀ j, j < N → f j = g j) : arrV cA N f = arrV cA N g := by
  unfold arrV
  congr 2
  funext j
  exact h j.1 j.2
theorem outer_eq {cA : ClassId} {h0 : Nat} : Jvm.Free.Multi.outerC cA 4 h0 4 = vp_cell cA (4, .inr (.inr (.inr (.inr (fun i => some (h0 + 1 + i)))))) := by
  rw [vp_cell_q]
  simp only [Jvm.Free.Multi.outerC]
  rw [arrV_new, arrV_store, arrV_store, arrV_store, arrV_store]
  apply arrV_cg
  intro j hj
  match j, hj with
  | 0, _ => rfl
  | 1, _ => rfl
  | 2, _ => rfl
  | 3, _ => rfl
section GRID
variable {p : Program} {l : Launch} {e : Env} {R : Room} {s : State} {m : MethodId} {args : Array Value} {below : List Frame} {meth : Method} {c : Code} {H : Heap} {locs : List Loc} {Q : State → Prop}
variable {cc : ByteArray} {pc nL : Nat} {ls : Array Slot} {rest : List Value} {D : va_G} {dA : Nat → ClassId} {A : Nat → Prop} {w : va_W} {z c0 y0 : Nat} {own : String} {α : Type} {q : α}
theorem on_grid (FX : CallFix p m c cc nL s args lw_all own) (hW : Wo D dA A s w z c0 H locs) {index : Nat} (hcl : Cond.classLink own index "[[I" ∈ lw_all) {K : va_W → Nat → Nat → Option α} (hf : ogrd R.cells R.slots c0 y0 dA w (z + c0) K = some q) (hdg : decode cc pc = .ok (.multianewarray index 2, 4))
    (kk : ∀ (w1 : va_W) (c1 y1 : Nat) (H1 : Heap), Wo D dA A s w1 z c1 H1 locs → K w1 c1 y1 = some q → W p l e R s m args below meth c H1 locs c1 y1 Q (F0 m (pc + 4) ls (.ref (z + c0) :: rest))) : W p l e R s m args below meth c H locs c0 y0 Q (F0 m pc ls (.int 4 :: .int 4 :: rest)) := by
  obtain ⟨h1, hf⟩ := gck_some hf
  intro T hT X
  have e4 : (4 : Int32).toNatClampNeg = 4 := by decide
  have en : "[" ++ (FieldType.array .int).toString = "[[I" := by decide +kernel
  have en0 : (FieldType.array .int).toString = "[" ++ FieldType.int.toString := by decide +kernel
  have hAO : (Cond.arrayOver (.array .int)).before args s = true := hW.gx.2.2.2.2.2.2.2.2.2.2.2.2
  obtain ⟨vm₁, cA, comp, hWm, hfA, hfC, hO, hI, X1, step⟩ := X.multianewarray2F (ty := .int) FX.1 FX.2.2.2.1 (by rw [en]; exact FX.2.2.2.2 _ hcl) hAO (FX.2.2.2.2 _ q327) (g := F0 m pc ls (.int 4 :: .int 4 :: rest)) rfl (by rw [FX.2.1]; exact hdg) rfl (by decide) (by decide) (by decide) (by decide) (by decide) rfl rfl (by rw [e4]; exact h1.1) (by rw [e4]; exact h1.2)
  rw [e4] at X1
  have hcA : cA = dA 6 := Option.some.inj (hfA.symm.trans (hW.1.2.2.2.1.2 6 _ rfl).2)
  have hcC : comp = dA 0 := Option.some.inj (hfC.symm.trans (by rw [en0]; exact (hW.1.2.2.2.1.2 0 _ rfl).2))
  subst hcA
  subst hcC
  have hsz : T.heap.size = z + c0 := by rw [hT]; exact hW.2.2
  have hTH : (T.setVm vm₁).heap = T.heap := rfl
  obtain ⟨f1, f2, -, -⟩ := Jvm.Free.Multi.fill_facts (T.setVm vm₁) (dA 6) (dA 0) 4 4 (.int 0) 4
  have f3 := fun j hj => Jvm.Free.Multi.fill_inner (T.setVm vm₁) (dA 6) (dA 0) 4 4 (.int 0) 4 j hj
  have f4 := fun (a : Nat) (ha : a < (T.setVm vm₁).heap.size) => Jvm.Free.Multi.fill_old (T.setVm vm₁) (dA 6) (dA 0) 4 4 (.int 0) (a := a) ha 4
  rw [hTH] at f1 f2 f3 f4
  rw [hsz] at f1 f2 f3 f4
  generalize hH1 : (Jvm.Free.Multi.fill (T.setVm vm₁) (dA 6) (dA 0) 4 4 (.int 0) 4).heap = H1 at f1 f2 f3 f4
  have o1 : ∀ a : Nat, a < z + c0 → H1[a]? = H[a]? := fun a ha => by rw [f4 a ha, hT]
  have hW1 : Wo D dA A s (w ++ grd dA (z + c0)) z (c0 + 5) H1 locs := by
    obtain ⟨⟨hP, hD, hS, hK, hA⟩, hz1, hz⟩ := hW
    have hk : ∀ (k : Nat) (x : Nat × va_E), w[k]? = some x → H1[x.1]? = H[x.1]? := fun k x hx => o1 x.1 (hz ▸ (hP k x hx).lt)
    refine ⟨⟨(hP.kept hk).app (fun k x hx => ?_), va_D.app hD ⟨fun i j x y hi hj hxy => ?_, fun k x hx => ?_⟩ (fun i j x y hi hj hxy => ?_), ⟨?_, fun x g1 g2 => (o1 x (by omega)).trans (hS.2.1 x g1 g2), hS.2.2⟩, hK, hA⟩, hz1, by rw [f1]; omega⟩
    · have hi := (grd_at hx).2
      match k, hi with
      | 0, _ => cases hx; exact f2.trans (congrArg some outer_eq)
      | 1, _ => cases hx; exact (f3 0 (by omega)).trans (congrArg some inner_eq)
      | 2, _ => cases hx; exact (f3 1 (by omega)).trans (congrArg some inner_eq)
      | 3, _ => cases hx; exact (f3 2 (by omega)).trans (congrArg some inner_eq)
      | 4, _ => cases hx; exact (f3 3 (by omega)).trans (congrArg some inner_eq)
    · have g1 := (grd_at hi).1
      have g2 := (grd_at hj).1
      omega
    · have g1 := (grd_at hx).1
      exact hA.1 _ (by have := hS.1; omega)
    · have g1 := (grd_at hj).1
      have g2 := (hP i x hi).lt
      omega
    · have := hS.1
      omega
  obtain ⟨t, b1, b2⟩ := kk _ _ _ H1 hW1 hf _ hH1 X1
  refine ⟨t, step t ?_, b2⟩
  rw [e4, hsz]
  exact b1
end GRID
