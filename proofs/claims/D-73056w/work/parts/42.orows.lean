/-! kind O: further rows: texts, constants, casts, arrays of objects, copies, clones, calls of nest mates and of private methods -/
/-- the cell at a is an array of ints, bytes .. of the class t -/
def hck {α : Type} (ws : va_W) (t a : Nat) (K : Option α) : Option α := match hlk ws a with
  | some (.inl (cA, _, .inl _)) => if cA = t then K else none
  | _ => none
theorem hck_some {α : Type} {q : α} {ws : va_W} {t a : Nat} {K : Option α} (h : hck ws t a K = some q) : (∃ (n : Nat) (f : Nat → Int32), hlk ws a = some (.inl (t, n, .inl f))) ∧ K = some q := by
  unfold hck at h
  split at h
  · rename_i cA n f he
    by_cases hc : cA = t
    · rw [if_pos hc] at h
      exact ⟨⟨n, f, by rw [he, hc]⟩, h⟩
    · rw [if_neg hc] at h; cases h
  · cases h
/-- the cell at a is an array of objects of the class t -/
def hqk {α : Type} (ws : va_W) (t a : Nat) (K : Option α) : Option α := match hlk ws a with
  | some (.inl (cA, _, .inr (.inr (.inr (.inr _))))) => if cA = t then K else none
  | _ => none
theorem hqk_some {α : Type} {q : α} {ws : va_W} {t a : Nat} {K : Option α} (h : hqk ws t a K = some q) : (∃ (n : Nat) (f : Nat → Option Nat), hlk ws a = some (.inl (t, n, .inr (.inr (.inr (.inr f)))))) ∧ K = some q := by
  unfold hqk at h
  split at h
  · rename_i cA n f he
    by_cases hc : cA = t
    · rw [if_pos hc] at h
      exact ⟨⟨n, f, by rw [he, hc]⟩, h⟩
    · rw [if_neg hc] at h; cases h
  · cases h
def hqlen {α : Type} (ws : va_W) (t a : Nat) (K : Int32 → Option α) : Option α := match hlk ws a with
  | some (.inl (cA, n, .inr (.inr (.inr (.inr _))))) => if cA = t then K (Int32.ofNat n) else none
  | _ => none
theorem hqlen_some {α : Type} {q : α} {ws : va_W} {t a : Nat} {K : Int32 → Option α} (h : hqlen ws t a K = some q) : ∃ (n : Nat) (f : Nat → Option Nat), hlk ws a = some (.inl (t, n, .inr (.inr (.inr (.inr f))))) ∧ K (Int32.ofNat n) = some q := by
  unfold hqlen at h
  split at h
  · rename_i cA n f he
    by_cases hc : cA = t
    · rw [if_pos hc] at h
      exact ⟨n, f, by rw [he, hc], h⟩
    · rw [if_neg hc] at h; cases h
  · cases h
/-- an array of objects: a place is emptied -/
def hqnl {α : Type} (ws : va_W) (t a : Nat) (i : Int32) (K : va_W → Option α) : Option α := match hlk ws a with
  | some (.inl (cA, n, .inr (.inr (.inr (.inr f))))) => if cA = t then ast n i (K (hup ws a (.inl (t, n, .inr (.inr (.inr (.inr (va_up f i.toNatClampNeg none)))))))) else none
  | _ => none
theorem hqnl_some {α : Type} {q : α} {ws : va_W} {t a : Nat} {i : Int32} {K : va_W → Option α} (h : hqnl ws t a i K = some q) : ∃ (n : Nat) (f : Nat → Option Nat), hlk ws a = some (.inl (t, n, .inr (.inr (.inr (.inr f))))) ∧ vp_in i n ∧ K (hup ws a (.inl (t, n, .inr (.inr (.inr (.inr (va_up f i.toNatClampNeg none))))))) = some q := by
  unfold hqnl at h
  split at h
  · rename_i cA n f he
    by_cases hc : cA = t
    · rw [if_pos hc] at h
      obtain ⟨h1, h2⟩ := ast_some h
      exact ⟨n, f, by rw [he, hc], h1, h2⟩
    · rw [if_neg hc] at h; cases h
  · cases h
def bfit (n : Nat) (f : Nat → Int32) : Bool := (List.range n).all (fun i => fits .byte (.int (f i)))
theorem bfit_at {n : Nat} {f : Nat → Int32} (h : bfit n f = true) {i : Nat} (hi : i < n) : fits .byte (.int (f i)) = true := List.all_eq_true.mp h i (List.mem_range.mpr hi)
/-- bytes copied to an array that was made just now -/
def hcpb {α : Type} (ws : va_W) (t a0 a lim : Nat) (sp n : Int32) (K : va_W → Option α) : Option α := match hlk ws a0, hlk ws a with
  | some (.inl (t0, n0, .inl f)), some (.inl (t1, n1, .inl g)) => if (t0 = t ∧ t1 = t ∧ a + 1 = lim) ∧ (¬ sp < 0 ∧ ¬ n < 0 ∧ sp.toNatClampNeg + n.toNatClampNeg ≤ n0 ∧ n.toNatClampNeg ≤ n1) ∧ bfit n.toNatClampNeg (fun i => f (sp.toNatClampNeg + i)) = true then K (hup ws a (.inl (t, n1, .inl (va_cpy f g sp.toNatClampNeg 0 n.toNatClampNeg)))) else none
  | _, _ => none
theorem hcpb_some {α : Type} {q : α} {ws : va_W} {t a0 a lim : Nat} {sp n : Int32} {K : va_W → Option α} (h : hcpb ws t a0 a lim sp n K = some q) : ∃ (n0 n1 : Nat) (f g : Nat → Int32), hlk ws a0 = some (.inl (t, n0, .inl f)) ∧ hlk ws a = some (.inl (t, n1, .inl g)) ∧ a + 1 = lim ∧ (¬ sp < 0 ∧ ¬ n < 0 ∧ sp.toNatClampNeg + n.toNatClampNeg ≤ n0 ∧ n.toNatClampNeg ≤ n1) ∧ bfit n.toNatClampNeg (fun i => f (sp.toNatClampNeg + i)) = true ∧ K (hup ws a (.inl (t, n1, .inl (va_cpy f g sp.toNatClampNeg 0 n.toNatClampNeg)))) = some q := by
  unfold hcpb at h
  split at h
  · rename_i t0 n0 f t1 n1 g he1 he2
    by_cases hc : (t0 = t ∧ t1 = t ∧ a + 1 = lim) ∧ (¬ sp < 0 ∧ ¬ n < 0 ∧ sp.toNatClampNeg + n.toNatClampNeg ≤ n0 ∧ n.toNatClampNeg ≤ n1) ∧ bfit n.toNatClampNeg (fun i => f (sp.toNatClampNeg + i)) = true
    · rw [if_pos hc] at h
      obtain ⟨⟨rfl, rfl, h3⟩, h4, h5⟩ := hc
      exact ⟨n0, n1, f, g, he1, he2, h3, h4, h5, h⟩
    · rw [if_neg hc] at h; cases h
  · cases h
/-- what lists hold: a Room, a Trunk, a Tale -/
def okc (ws : va_W) (y : Nat) : Bool := match hlk ws y with
  | some (.inr (c, _)) => c == 6 || c == 8 || c == 12
  | _ => false
theorem okc_some {ws : va_W} {y : Nat} (h : okc ws y = true) : ∃ (c : Nat) (fs : List Value), hlk ws y = some (.inr (c, fs)) ∧ (c = 6 ∨ c = 8 ∨ c = 12) := by
  unfold okc at h
  split at h
  · rename_i c fs he
    refine ⟨c, fs, he, ?_⟩
    simpa [or_assoc] using h
  · cases h
def okq (ws : va_W) (n : Nat) (f : Nat → Option Nat) : Bool := (List.range n).all (fun i => match f i with
  | none => true
  | some y => okc ws y)
theorem okq_at {ws : va_W} {n : Nat} {f : Nat → Option Nat} (h : okq ws n f = true) {i y : Nat} (hi : i < n) (hy : f i = some y) : okc ws y = true := by
  have h1 := List.all_eq_true.mp h i (List.mem_range.mpr hi)
  rw [hy] at h1
  exact h1
def hcpq {α : Type} (ws : va_W) (t a0 a lim : Nat) (n : Int32) (K : va_W → Option α) : Option α := match hlk ws a0, hlk ws a with
  | some (.inl (t0, n0, .inr (.inr (.inr (.inr f))))), some (.inl (t1, n1, .inr (.inr (.inr (.inr g))))) => if (t0 = t ∧ t1 = t ∧ a + 1 = lim) ∧ (¬ n < 0 ∧ n.toNatClampNeg ≤ n0 ∧ n.toNatClampNeg ≤ n1) ∧ okq ws n.toNatClampNeg f = true then K (hup ws a (.inl (t, n1, .inr (.inr (.inr (.inr (va_cpy f g 0 0 n.toNatClampNeg))))))) else none
  | _, _ => none
theorem hcpq_some {α : Type} {q : α} {ws : va_W} {t a0 a lim : Nat} {n : Int32} {K : va_W → Option α} (h : hcpq ws t a0 a lim n K = some q) : ∃ (n0 n1 : Nat) (f g : Nat → Option Nat), hlk ws a0 = some (.inl (t, n0, .inr (.inr (.inr (.inr f))))) ∧ hlk ws a = some (.inl (t, n1, .inr (.inr (.inr (.inr g))))) ∧ a + 1 = lim ∧ (¬ n < 0 ∧ n.toNatClampNeg ≤ n0 ∧ n.toNatClampNeg ≤ n1) ∧ okq ws n.toNatClampNeg f = true ∧ K (hup ws a (.inl (t, n1, .inr (.inr (.inr (.inr (va_cpy f g 0 0 n.toNatClampNeg))))))) = some q := by
  unfold hcpq at h
  split at h
  · rename_i t0 n0 f t1 n1 g he1 he2
    by_cases hc : (t0 = t ∧ t1 = t ∧ a + 1 = lim) ∧ (¬ n < 0 ∧ n.toNatClampNeg ≤ n0 ∧ n.toNatClampNeg ≤ n1) ∧ okq ws n.toNatClampNeg f = true
    · rw [if_pos hc] at h
      obtain ⟨⟨rfl, rfl, h3⟩, h4, h5⟩ := hc
      exact ⟨n0, n1, f, g, he1, he2, h3, h4, h5, h⟩
    · rw [if_neg hc] at h; cases h
  · cases h
/-- a clone of bytes -/
def hcln {α : Type} (C Y c y : Nat) (ws : va_W) (t a lim : Nat) (K : va_W → Nat → Nat → Option α) : Option α := match hlk ws a with
  | some (.inl (t0, n, .inl f)) => if t0 = t ∧ bfit n f = true then onew C Y c y n ws lim (.inl (t, n, .inl f)) K else none
  | _ => none
theorem hcln_some {α : Type} {q : α} {C Y c y : Nat} {ws : va_W} {t a lim : Nat} {K : va_W → Nat → Nat → Option α} (h : hcln C Y c y ws t a lim K = some q) : ∃ (n : Nat) (f : Nat → Int32), hlk ws a = some (.inl (t, n, .inl f)) ∧ bfit n f = true ∧ onew C Y c y n ws lim (.inl (t, n, .inl f)) K = some q := by
  unfold hcln at h
  split at h
  · rename_i t0 n f he
    by_cases hc : t0 = t ∧ bfit n f = true
    · rw [if_pos hc] at h
      obtain ⟨rfl, h2⟩ := hc
      exact ⟨n, f, he, h2, h⟩
    · rw [if_neg hc] at h; cases h
  · cases h
/-- the last cell made stands in the world -/
def lst {α : Type} (ws : va_W) (a : Nat) (K : Option α) : Option α := match hlk ws a with
  | some _ => K
  | none => none
theorem lst_some {α : Type} {q : α} {ws : va_W} {a : Nat} {K : Option α} (h : lst ws a K = some q) : (∃ x, hlk ws a = some x) ∧ K = some q := by
  unfold lst at h
  split at h
  · rename_i x hx
    exact ⟨⟨x, hx⟩, h⟩
  · cases h
section OROWS
variable {p : Program} {l : Launch} {e : Env} {R : Room} {s : State} {m : MethodId} {args : Array Value} {below : List Frame} {meth : Method} {c : Code} {H : Heap} {locs : List Loc} {Q : State → Prop}
variable {cc : ByteArray} {pc nL : Nat} {ls : Array Slot} {rest st0 : List Value} {D : va_G} {dA : Nat → ClassId} {A : Nat → Prop} {w w1 : va_W} {z c0 y0 c1 y1 a : Nat} {own : String} {α : Type} {q : α}
theorem Wo.gx (hW : Wo D dA A s w z c0 H locs) : GX dA A s s.heap := hW.1.2.2.2.2.2
theorem o_text (FX : CallFix p m c cc nL s args lw_all own) (hown : own = "TrunkLitters$Reader") (hW : Wo D dA A s w z c0 H locs) (i : Nat) (hi : i < 19) {index : Nat} (hx : strI.getD i 0 = index) (hdg : decode cc pc = .ok (.ldc index, 2))
    (kk : W p l e R s m args below meth c H locs c0 y0 Q (F0 m (pc + 2) ls (.ref (dA (200 + i)) :: rest))) : W p l e R s m args below meth c H locs c0 y0 Q (F0 m pc ls rest) := by
  subst hx
  subst hown
  exact va_ldcS FX.1 FX.2.1 FX.2.2.2.1 (hW.gx.2.2.2.2.2.2.1 i hi) hdg kk
theorem o_enum (FX : CallFix p m c cc nL s args lw_all own) (hW : Wo D dA A s w z c0 H locs) (i : Nat) (hi : i < 5) {index : Nat} (hlink : Cond.fieldLink own index "TrunkLitters$Asked" (enN i) "LTrunkLitters$Asked;" ∈ lw_all) (hdg : decode cc pc = .ok (.getstatic index, 3))
    (kk : W p l e R s m args below meth c H locs c0 y0 Q (F0 m (pc + 3) ls (.ref (dA (100 + i)) :: rest))) : W p l e R s m args below meth c H locs c0 y0 Q (F0 m pc ls rest) :=
  va_gets FX.1 FX.2.1 (hW.gx.2.2.2.2.1 i hi).1 hW.1.2.2.1 FX.2.2.2.1 (FX.2.2.2.2 _ hlink) (fun _ h => h) hdg kk
theorem o_castS (FX : CallFix p m c cc nL s args lw_all own) (hW : Wo D dA A s w z c0 H locs) {C : String} {T : u_T} {N ci index : Nat} (hc : vwCl[ci]? = some (C, T, N)) (hlink : Cond.classLink own index C ∈ lw_all) (hv : ∃ fs : List Value, hlk w a = some (.inr (ci, fs))) (hdg : decode cc pc = .ok (.checkcast index, 3))
    (kk : W p l e R s m args below meth c H locs c0 y0 Q (F0 m (pc + 3) ls (.ref a :: rest))) : W p l e R s m args below meth c H locs c0 y0 Q (F0 m pc ls (.ref a :: rest)) := by
  obtain ⟨fs, hv⟩ := hv
  obtain ⟨k, hk⟩ := hlk_get hv
  exact g_castS FX hW.1 hc hlink ⟨k, fs, hk⟩ hdg kk
theorem o_castY (FX : CallFix p m c cc nL s args lw_all own) (hW : Wo D dA A s w z c0 H locs) {nm : String} {r : vw_C} {ci index : Nat} (hc : vwCl[ci]? = some r) (hlink : Cond.classLink own index nm ∈ lw_all) (hca : Cond.castable r.1 nm ∈ nwL) (hv : ∃ fs : List Value, hlk w a = some (.inr (ci, fs))) (hdg : decode cc pc = .ok (.checkcast index, 3))
    (kk : W p l e R s m args below meth c H locs c0 y0 Q (F0 m (pc + 3) ls (.ref a :: rest))) : W p l e R s m args below meth c H locs c0 y0 Q (F0 m pc ls (.ref a :: rest)) :=
  va_castY FX.1 FX.2.1 FX.2.2.2.1 (FX.2.2.2.2 _ hlink) (hW.gx.1 _ hca) (o_recv hW hc hv) hdg kk
theorem Wd.fB (hW : Wd D dA A s w H locs) : s.vm.findClass "[B" = some (dA 1) := (hW.2.2.2.1.2 1 _ rfl).2
theorem o_castB (FX : CallFix p m c cc nL s args lw_all own) (hW : Wo D dA A s w z c0 H locs) {index : Nat} (hlink : Cond.classLink own index "[B" ∈ lw_all) (hv : ∃ (n : Nat) (f : Nat → Int32), hlk w a = some (.inl (dA 1, n, .inl f))) (hdg : decode cc pc = .ok (.checkcast index, 3))
    (kk : W p l e R s m args below meth c H locs c0 y0 Q (F0 m (pc + 3) ls (.ref a :: rest))) : W p l e R s m args below meth c H locs c0 y0 Q (F0 m pc ls (.ref a :: rest)) := by
  obtain ⟨n, f, hv⟩ := hv
  obtain ⟨k, hk⟩ := hlk_get hv
  exact va_castA FX.1 FX.2.1 FX.2.2.2.1 (FX.2.2.2.2 _ hlink) hW.1.1 k hk hW.1.fB hdg kk
/-- the heap's size is known exactly where the last cell made stands in the world -/
theorem o_exact {g : JFrame} (hW : Wd D dA A s w H locs) (hz : s.heap.size = z) (hl : c0 = 0 ∨ ∃ x, hlk w (z + c0 - 1) = some x) (k : H.size = z + c0 → W p l e R s m args below meth c H locs c0 y0 Q g) : W p l e R s m args below meth c H locs c0 y0 Q g := by
  intro T hT X
  refine k ?_ T hT X
  have h1 := X.heapSize
  rw [hT] at h1
  have h2 := hW.2.2.1.1
  rcases hl with rfl | ⟨x, hx⟩
  · omega
  · obtain ⟨j, hj⟩ := hlk_get hx
    have h3 := (hW.1 j _ hj).lt
    have h4 : z + c0 - 1 < H.size := h3
    omega
theorem on_newO (FX : CallFix p m c cc nL s args lw_all own) (hW : Wo D dA A s w z c0 H locs) {index : Nat} (hcl : Cond.classLink own index "java/lang/Object" ∈ lw_all) {n : Int32} {K : va_W → Nat → Nat → Option α} (hf : gsz n (fun N => onew R.cells R.slots c0 y0 N w (z + c0) (.inl (dA 4, N, .inr (.inr (.inr (.inr (fun _ => none)))))) K) = some q) (hdg : decode cc pc = .ok (.anewarray index, 3))
    (kk : ∀ (w1 : va_W) (c1 y1 : Nat) (H1 : Heap), Wo D dA A s w1 z c1 H1 locs → K w1 c1 y1 = some q → W p l e R s m args below meth c H1 locs c1 y1 Q (F0 m (pc + 3) ls (.ref (z + c0) :: rest))) : W p l e R s m args below meth c H locs c0 y0 Q (F0 m pc ls (.int n :: rest)) := by
  obtain ⟨g1, g2, hf⟩ := gsz_some hf
  obtain ⟨h1, hf⟩ := gck_some hf
  exact z_newO FX (hW.toZ (y0 := y0)) hcl g1 (by omega) h1.1 h1.2 hdg (fun H1 hW1 => kk _ _ _ H1 ⟨hW1.1, hW.2.1, by rw [hW1.2, Nat.add_assoc]⟩ hf)
theorem on_newH (FX : CallFix p m c cc nL s args lw_all own) (hW : Wo D dA A s w z c0 H locs) {index : Nat} (hcl : Cond.classLink own index "TrunkLitters$House" ∈ lw_all) {n : Int32} {K : va_W → Nat → Nat → Option α} (hf : gsz n (fun N => onew R.cells R.slots c0 y0 N w (z + c0) (.inl (dA 5, N, .inr (.inr (.inr (.inr (fun _ => none)))))) K) = some q) (hdg : decode cc pc = .ok (.anewarray index, 3))
    (kk : ∀ (w1 : va_W) (c1 y1 : Nat) (H1 : Heap), Wo D dA A s w1 z c1 H1 locs → K w1 c1 y1 = some q → W p l e R s m args below meth c H1 locs c1 y1 Q (F0 m (pc + 3) ls (.ref (z + c0) :: rest))) : W p l e R s m args below meth c H locs c0 y0 Q (F0 m pc ls (.int n :: rest)) := by
  obtain ⟨g1, g2, hf⟩ := gsz_some hf
  obtain ⟨h1, hf⟩ := gck_some hf
  have hWz : Wz D dA A s (w, z + c0, c0, y0) H locs := hW.toZ
  refine W.anew FX.1 FX.2.1 FX.2.2.2.1 (FX.2.2.2.2 _ hcl) (va_AO.use hW.1.2.2.2.2.2.2.2.1) rfl hdg rfl g1 (by omega) h1.1 h1.2 fun cA kA comp f1 f2 f3 f4 => ?_
  obtain ⟨kA2, comp2, j1, j2, j3, j4⟩ := (hW.1.2.2.2.1.2 5 _ rfl).2
  have hcA : cA = dA 5 := Option.some.inj (f1.symm.trans j4)
  subst hcA
  rw [hW.2.2]
  generalize hH1 : H.push ({ cls := dA 5, slots := Array.replicate n.toNatClampNeg .null, vm := .none } : Cell) = H1
  have z1 : H1.size = z + c0 + 1 := by rw [← hH1, Array.size_push, hW.2.2]
  have e1 : H1[z + c0]? = some (arrV (dA 5) n.toNatClampNeg (fun _ => .null)) := by rw [← hW.2.2, ← hH1, Array.getElem?_push_size, ← arrV_new]
  have o1 : ∀ q : Nat, q < z + c0 → H1[q]? = H[q]? := fun q hq => by rw [← hH1, Array.getElem?_push, if_neg (by rw [hW.2.2]; exact Nat.ne_of_lt hq)]
  have hW1 := z_pushA (a0 := (n.toNatClampNeg, .inr (.inr (.inr (.inr (fun _ => none)))))) hWz rfl e1 z1 o1
  exact kk _ _ _ H1 ⟨hW1.1, hW.2.1, by rw [hW1.2, Nat.add_assoc]⟩ hf
theorem on_newz (FX : CallFix p m c cc nL s args lw_all own) (hW : Wo D dA A s w z c0 H locs) {n : Int32} {K : va_W → Nat → Nat → Option α} (hf : gsz n (fun N => onew R.cells R.slots c0 y0 N w (z + c0) (.inl (dA 2, N, .inl (fun _ => 0))) K) = some q) (hdg : decode cc pc = .ok (.newarray .boolean, 2))
    (kk : ∀ (w1 : va_W) (c1 y1 : Nat) (H1 : Heap), Wo D dA A s w1 z c1 H1 locs → K w1 c1 y1 = some q → W p l e R s m args below meth c H1 locs c1 y1 Q (F0 m (pc + 2) ls (.ref (z + c0) :: rest))) : W p l e R s m args below meth c H locs c0 y0 Q (F0 m pc ls (.int n :: rest)) := by
  obtain ⟨g1, g2, hf⟩ := gsz_some hf
  obtain ⟨h1, hf⟩ := gck_some hf
  have hWz : Wz D dA A s (w, z + c0, c0, y0) H locs := hW.toZ
  refine va_newaK (atype := .boolean) FX.1 FX.2.1 (FX.2.2.2.2 _ q446) rfl hdg rfl g1 rfl (by simp [componentBytes, newarray.typeOf]; omega) h1.1 h1.2 hWz.2 fun H1 cA e1 z1 o1 hAr hNm => ?_
  have hcA : cA = dA 2 := Option.some.inj (hNm.symm.trans (hW.1.2.2.2.1.2 2 _ rfl).2)
  subst hcA
  have hW1 := z_pushA (a0 := (n.toNatClampNeg, .inl (fun _ => 0))) hWz rfl e1 z1 o1
  exact kk _ _ _ H1 ⟨hW1.1, hW.2.1, by rw [hW1.2, Nat.add_assoc]⟩ hf
theorem on_newl (FX : CallFix p m c cc nL s args lw_all own) (hW : Wo D dA A s w z c0 H locs) {n : Int32} {K : va_W → Nat → Nat → Option α} (hf : gsz n (fun N => onew R.cells R.slots c0 y0 N w (z + c0) (.inl (dA 3, N, .inr (.inl (fun _ => 0)))) K) = some q) (hdg : decode cc pc = .ok (.newarray .long, 2))
    (kk : ∀ (w1 : va_W) (c1 y1 : Nat) (H1 : Heap), Wo D dA A s w1 z c1 H1 locs → K w1 c1 y1 = some q → W p l e R s m args below meth c H1 locs c1 y1 Q (F0 m (pc + 2) ls (.ref (z + c0) :: rest))) : W p l e R s m args below meth c H locs c0 y0 Q (F0 m pc ls (.int n :: rest)) := by
  obtain ⟨g1, g2, hf⟩ := gsz_some hf
  obtain ⟨h1, hf⟩ := gck_some hf
  have hWz : Wz D dA A s (w, z + c0, c0, y0) H locs := hW.toZ
  refine va_newaK (atype := .long) FX.1 FX.2.1 (FX.2.2.2.2 _ q1746) rfl hdg rfl g1 rfl (by simp [componentBytes, newarray.typeOf]; omega) h1.1 h1.2 hWz.2 fun H1 cA e1 z1 o1 hAr hNm => ?_
  have hcA : cA = dA 3 := Option.some.inj (hNm.symm.trans (hW.1.2.2.2.1.2 3 _ rfl).2)
  subst hcA
  have hW1 := z_pushA (a0 := (n.toNatClampNeg, .inr (.inl (fun _ => 0)))) hWz rfl e1 z1 o1
  exact kk _ _ _ H1 ⟨hW1.1, hW.2.1, by rw [hW1.2, Nat.add_assoc]⟩ hf
end OROWS
