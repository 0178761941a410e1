/-! functions and rows of kind O: cells are made, methods may throw -/
def onew {α : Type} (C Y c y N : Nat) (w : va_W) (a : Nat) (x : va_E) (K : va_W → Nat → Nat → Option α) : Option α := gck (c + 1) (y + N) C Y (K (w ++ [(a, x)]) (c + 1) (y + N))
def ocal {α ρ : Type} (C Y c y mc ms : Nat) (x : Option (ρ × va_W × Nat × Nat)) (K : ρ → va_W → Nat → Nat → Option α) : Option α := gck (c + mc) (y + ms) C Y (x.bind fun q => K q.1 q.2.1 (c + q.2.2.1) (y + q.2.2.2))
/-- thrown: out of here -/
def othr {α : Type} {ρ : Type} (x : ρ ⊕ Nat) (K : ρ → Option α) (X : Nat → Option α) : Option α := match x with
  | .inl r => K r
  | .inr q => X q
/-- an int that its type keeps -/
def nrw {α : Type} (t : FieldType) (v : Int32) (K : Option α) : Option α := if narrow t (.int v) = .int v ∧ fits t (.int v) = true then K else none
theorem nrw_some {α : Type} {t : FieldType} {v : Int32} {K : Option α} {q : α} (h : nrw t v K = some q) : narrow t (.int v) = .int v ∧ fits t (.int v) = true ∧ K = some q := by
  unfold nrw at h
  by_cases hc : narrow t (.int v) = .int v ∧ fits t (.int v) = true
  · rw [if_pos hc] at h; exact ⟨hc.1, hc.2, h⟩
  · rw [if_neg hc] at h; cases h
theorem ocal_some {α ρ : Type} {C Y c y mc ms : Nat} {x : Option (ρ × va_W × Nat × Nat)} {K : ρ → va_W → Nat → Nat → Option α} {q : α} (h : ocal C Y c y mc ms x K = some q) : (c + mc ≤ C ∧ y + ms ≤ Y) ∧ ∃ r, x = some r ∧ K r.1 r.2.1 (c + r.2.2.1) (y + r.2.2.2) = some q := by
  obtain ⟨h1, h2⟩ := gck_some h
  obtain ⟨r, e1, e2⟩ := bnd h2
  exact ⟨h1, r, e1, e2⟩
section OOPS
variable {p : Program} {l : Launch} {e : Env} {R : Room} {s : State} {m : MethodId} {args : Array Value} {below : List Frame} {meth : Method} {c : Code} {H : Heap} {locs : List Loc} {Q : State → Prop}
variable {cc : ByteArray} {pc nL : Nat} {ls : Array Slot} {rest st0 : List Value} {D : va_G} {dA : Nat → ClassId} {A : Nat → Prop} {w : va_W} {z c0 y0 mc ms a : Nat} {own : String} {av : Array Value} {α : Type} {q : α}
theorem oc_i {x : Option (Int32 × va_W × Nat × Nat)} {K : Int32 → va_W → Nat → Nat → Option α} (hW : Wo D dA A s w z c0 H locs) (hf : ocal R.cells R.slots c0 y0 mc ms x K = some q)
    (hr : ∀ r, x = some r → c0 + mc ≤ R.cells ∧ y0 + ms ≤ R.slots → vy_Run p l e R s m args below meth c H locs c0 y0 mc ms (F0 m pc ls st0) rest (Qo D dA (va_A w (z + c0)) r.2.1 (z + c0 + r.2.2.1) r.2.2.2 (.inl (some (.int r.1))) av) (Xo D dA (va_A w (z + c0)) r.2.1 (z + c0 + r.2.2.1) r.2.2.2 (.inl (some (.int r.1)))) (va_A w (z + c0)))
    (kk : ∀ (r : Int32) (w1 : va_W) (c1 y1 : Nat) (H1 : Heap) (locs1 : List Loc), Wo D dA A s w1 z c1 H1 locs1 → K r w1 c1 y1 = some q → W p l e R s m args below meth c H1 locs1 c1 y1 Q (F0 m (pc + 3) ls (.int r :: rest))) : W p l e R s m args below meth c H locs c0 y0 Q (F0 m pc ls st0) := by
  obtain ⟨h1, r, hx, hf⟩ := ocal_some hf
  exact oc_ret hW (hr r hx h1) (fun H1 locs1 hW1 => kk _ _ _ _ H1 locs1 hW1 hf)
theorem oc_v {x : Option (Unit × va_W × Nat × Nat)} {K : Unit → va_W → Nat → Nat → Option α} (hW : Wo D dA A s w z c0 H locs) (hf : ocal R.cells R.slots c0 y0 mc ms x K = some q)
    (hr : ∀ r, x = some r → c0 + mc ≤ R.cells ∧ y0 + ms ≤ R.slots → vy_Run p l e R s m args below meth c H locs c0 y0 mc ms (F0 m pc ls st0) rest (Qo D dA (va_A w (z + c0)) r.2.1 (z + c0 + r.2.2.1) r.2.2.2 (.inl none) av) (Xo D dA (va_A w (z + c0)) r.2.1 (z + c0 + r.2.2.1) r.2.2.2 (.inl none)) (va_A w (z + c0)))
    (kk : ∀ (w1 : va_W) (c1 y1 : Nat) (H1 : Heap) (locs1 : List Loc), Wo D dA A s w1 z c1 H1 locs1 → K () w1 c1 y1 = some q → W p l e R s m args below meth c H1 locs1 c1 y1 Q (F0 m (pc + 3) ls rest)) : W p l e R s m args below meth c H locs c0 y0 Q (F0 m pc ls st0) := by
  obtain ⟨h1, r, hx, hf⟩ := ocal_some hf
  exact oc_ret hW (hr r hx h1) (fun H1 locs1 hW1 => kk _ _ _ H1 locs1 hW1 hf)
theorem oc_R {x : Option (Nat × va_W × Nat × Nat)} {K : Nat → va_W → Nat → Nat → Option α} (hW : Wo D dA A s w z c0 H locs) (hf : ocal R.cells R.slots c0 y0 mc ms x K = some q)
    (hr : ∀ r, x = some r → c0 + mc ≤ R.cells ∧ y0 + ms ≤ R.slots → vy_Run p l e R s m args below meth c H locs c0 y0 mc ms (F0 m pc ls st0) rest (Qo D dA (va_A w (z + c0)) r.2.1 (z + c0 + r.2.2.1) r.2.2.2 (.inl (some (.ref r.1))) av) (Xo D dA (va_A w (z + c0)) r.2.1 (z + c0 + r.2.2.1) r.2.2.2 (.inl (some (.ref r.1)))) (va_A w (z + c0)))
    (kk : ∀ (r : Nat) (w1 : va_W) (c1 y1 : Nat) (H1 : Heap) (locs1 : List Loc), Wo D dA A s w1 z c1 H1 locs1 → K r w1 c1 y1 = some q → W p l e R s m args below meth c H1 locs1 c1 y1 Q (F0 m (pc + 3) ls (.ref r :: rest))) : W p l e R s m args below meth c H locs c0 y0 Q (F0 m pc ls st0) := by
  obtain ⟨h1, r, hx, hf⟩ := ocal_some hf
  exact oc_ret hW (hr r hx h1) (fun H1 locs1 hW1 => kk _ _ _ _ H1 locs1 hW1 hf)
theorem oc_Q {x : Option (Option Nat × va_W × Nat × Nat)} {K : Option Nat → va_W → Nat → Nat → Option α} (hW : Wo D dA A s w z c0 H locs) (hf : ocal R.cells R.slots c0 y0 mc ms x K = some q)
    (hr : ∀ r, x = some r → c0 + mc ≤ R.cells ∧ y0 + ms ≤ R.slots → vy_Run p l e R s m args below meth c H locs c0 y0 mc ms (F0 m pc ls st0) rest (Qo D dA (va_A w (z + c0)) r.2.1 (z + c0 + r.2.2.1) r.2.2.2 (.inl (some (va_rf r.1))) av) (Xo D dA (va_A w (z + c0)) r.2.1 (z + c0 + r.2.2.1) r.2.2.2 (.inl (some (va_rf r.1)))) (va_A w (z + c0)))
    (kk : ∀ (r : Option Nat) (w1 : va_W) (c1 y1 : Nat) (H1 : Heap) (locs1 : List Loc), Wo D dA A s w1 z c1 H1 locs1 → K r w1 c1 y1 = some q → W p l e R s m args below meth c H1 locs1 c1 y1 Q (F0 m (pc + 3) ls (va_rf r :: rest))) : W p l e R s m args below meth c H locs c0 y0 Q (F0 m pc ls st0) := by
  obtain ⟨h1, r, hx, hf⟩ := ocal_some hf
  exact oc_ret hW (hr r hx h1) (fun H1 locs1 hW1 => kk _ _ _ _ H1 locs1 hW1 hf)
/-- a call that may throw: v says what its answer is -/
theorem oc_X {ρ : Type} (ov : ρ → Option Value) {x : Option ((ρ ⊕ Nat) × va_W × Nat × Nat)} {K : ρ ⊕ Nat → va_W → Nat → Nat → Option α} (hW : Wo D dA A s w z c0 H locs) (hf : ocal R.cells R.slots c0 y0 mc ms x K = some q)
    (hr : ∀ r, x = some r → c0 + mc ≤ R.cells ∧ y0 + ms ≤ R.slots → vy_Run p l e R s m args below meth c H locs c0 y0 mc ms (F0 m pc ls st0) rest (Qo D dA (va_A w (z + c0)) r.2.1 (z + c0 + r.2.2.1) r.2.2.2 (r.1.map ov id) av) (Xo D dA (va_A w (z + c0)) r.2.1 (z + c0 + r.2.2.1) r.2.2.2 (r.1.map ov id)) (va_A w (z + c0)))
    (kx : ∀ (t : Nat) (w1 : va_W) (c1 y1 : Nat) (H1 : Heap) (locs1 : List Loc) (ce : Cell), Wo D dA A s w1 z c1 H1 locs1 → H1[t]? = some ce → ce.vm = .none → s.vm.findClass "TrunkLitters$Wrong" = some ce.cls → K (.inr t) w1 c1 y1 = some q → vy_W p l e R s m args below meth c H1 locs1 c1 y1 Q (F0 m pc ls rest) t)
    (kk : ∀ (r : ρ) (w1 : va_W) (c1 y1 : Nat) (H1 : Heap) (locs1 : List Loc), Wo D dA A s w1 z c1 H1 locs1 → K (.inl r) w1 c1 y1 = some q → W p l e R s m args below meth c H1 locs1 c1 y1 Q (F0 m (pc + 3) ls ((ov r).toList ++ rest))) : W p l e R s m args below meth c H locs c0 y0 Q (F0 m pc ls st0) := by
  obtain ⟨h1, ⟨r, w1, c1, y1⟩, hx, hf⟩ := ocal_some hf
  have hr1 := hr _ hx h1
  cases r with
  | inl r => exact oc_ret (v := ov r) hW hr1 (fun H1 locs1 hW1 => kk _ _ _ _ H1 locs1 hW1 hf)
  | inr t => exact oc_thr (q9 := t) hW hr1 (fun H1 locs1 ce hW1 e1 e2 e3 => kx _ _ _ _ H1 locs1 ce hW1 e1 e2 e3 hf)
theorem on_new (FX : CallFix p m c cc nL s args lw_all own) (hW : Wo D dA A s w z c0 H locs) {C : String} {T : u_T} {N ci index : Nat} (hin : ∀ w ∈ u_ws C T N, w ∈ lw_all) (ty : Nat → FieldType) (hty : ∀ k, k < N → parseFieldDescriptor (T k).2.2.1 = some (ty k)) (hcl : Cond.classLink own index C ∈ lw_all) (hinst : Cond.instantiable C N ∈ lw_all) (hini : Cond.initialized C ∈ lw_all) (hc : vwCl[ci]? = some (C, T, N)) {fs : List Value} (hfs : ∀ j, j < N → defaultValue (ty j) = vp_V fs j) {K : va_W → Nat → Nat → Option α} (hf : onew R.cells R.slots c0 y0 N w (z + c0) (.inr (ci, fs)) K = some q) (hdg : decode cc pc = .ok (.new index, 3))
    (kk : ∀ (w1 : va_W) (c1 y1 : Nat) (H1 : Heap), Wo D dA A s w1 z c1 H1 locs → K w1 c1 y1 = some q → W p l e R s m args below meth c H1 locs c1 y1 Q (F0 m (pc + 3) ls (.ref (z + c0) :: rest))) : W p l e R s m args below meth c H locs c0 y0 Q (F0 m pc ls rest) := by
  obtain ⟨h1, hf⟩ := gck_some hf
  exact z_new FX (hW.toZ (y0 := y0)) hin ty hty hcl hinst hini hc hfs h1.1 h1.2 hdg (fun H1 hW1 => kk _ _ _ H1 ⟨hW1.1, hW.2.1, by rw [hW1.2, Nat.add_assoc]⟩ hf)
theorem on_newb (FX : CallFix p m c cc nL s args lw_all own) (hW : Wo D dA A s w z c0 H locs) {n : Int32} {K : va_W → Nat → Nat → Option α} (hf : gsz n (fun N => onew R.cells R.slots c0 y0 N w (z + c0) (.inl (dA 1, N, .inl (fun _ => 0))) K) = some q) (hdg : decode cc pc = .ok (.newarray .byte, 2))
    (kk : ∀ (w1 : va_W) (c1 y1 : Nat) (H1 : Heap), Wo D dA A s w1 z c1 H1 locs → K w1 c1 y1 = some q → W p l e R s m args below meth c H1 locs c1 y1 Q (F0 m (pc + 2) ls (.ref (z + c0) :: rest))) : W p l e R s m args below meth c H locs c0 y0 Q (F0 m pc ls (.int n :: rest)) := by
  obtain ⟨g1, g2, hf⟩ := gsz_some hf
  obtain ⟨h1, hf⟩ := gck_some hf
  exact z_newb FX (hW.toZ (y0 := y0)) g1 (by omega) h1.1 h1.2 hdg (fun H1 hW1 => kk _ _ _ H1 ⟨hW1.1, hW.2.1, by rw [hW1.2, Nat.add_assoc]⟩ hf)
theorem on_newi (FX : CallFix p m c cc nL s args lw_all own) (hW : Wo D dA A s w z c0 H locs) {n : Int32} {K : va_W → Nat → Nat → Option α} (hf : gsz n (fun N => onew R.cells R.slots c0 y0 N w (z + c0) (.inl (dA 0, N, .inl (fun _ => 0))) K) = some q) (hdg : decode cc pc = .ok (.newarray .int, 2))
    (kk : ∀ (w1 : va_W) (c1 y1 : Nat) (H1 : Heap), Wo D dA A s w1 z c1 H1 locs → K w1 c1 y1 = some q → W p l e R s m args below meth c H1 locs c1 y1 Q (F0 m (pc + 2) ls (.ref (z + c0) :: rest))) : W p l e R s m args below meth c H locs c0 y0 Q (F0 m pc ls (.int n :: rest)) := by
  obtain ⟨g1, g2, hf⟩ := gsz_some hf
  obtain ⟨h1, hf⟩ := gck_some hf
  exact z_newi FX (hW.toZ (y0 := y0)) g1 (by omega) h1.1 h1.2 hdg (fun H1 hW1 => kk _ _ _ H1 ⟨hW1.1, hW.2.1, by rw [hW1.2, Nat.add_assoc]⟩ hf)
end OOPS
