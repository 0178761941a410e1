/-! kind O: fields and arrays -/
/-- an array of objects is read -/
def hqld {α : Type} (ws : va_W) (t a : Nat) (i : Int32) (K : Option Nat → Option α) : Option α := match hlk ws a with
  | some (.inl (cA, n, .inr (.inr (.inr (.inr f))))) => if cA = t then ast n i (K (f i.toNatClampNeg)) else none
  | _ => none
theorem hqld_some {α : Type} {q : α} {ws : va_W} {t a : Nat} {i : Int32} {K : Option Nat → Option α} (h : hqld ws t a i K = some q) : ∃ (n : Nat) (f : Nat → Option Nat), hlk ws a = some (.inl (t, n, .inr (.inr (.inr (.inr f))))) ∧ vp_in i n ∧ K (f i.toNatClampNeg) = some q := by
  unfold hqld at h
  split at h
  · rename_i cA n f he
    by_cases hc : cA = t
    · rw [if_pos hc] at h
      obtain ⟨h1, h2⟩ := ast_some h
      exact ⟨n, f, by rw [he, hc], h1, h2⟩
    · rw [if_neg hc] at h; cases h
  · cases h
/-- an object of the class ci is written to an array of objects -/
def hqst {α : Type} (ws : va_W) (t a : Nat) (i : Int32) (v ci : Nat) (K : va_W → Option α) : Option α := match hlk ws a, hlk ws v with
  | some (.inl (cA, n, .inr (.inr (.inr (.inr f))))), some (.inr (cj, _)) => if cA = t ∧ cj = ci then ast n i (K (hup ws a (.inl (t, n, .inr (.inr (.inr (.inr (va_up f i.toNatClampNeg (some v))))))))) else none
  | _, _ => none
theorem hqst_some {α : Type} {q : α} {ws : va_W} {t a v ci : Nat} {i : Int32} {K : va_W → Option α} (h : hqst ws t a i v ci K = some q) : ∃ (n : Nat) (f : Nat → Option Nat) (vs : List Value), hlk ws a = some (.inl (t, n, .inr (.inr (.inr (.inr f))))) ∧ hlk ws v = some (.inr (ci, vs)) ∧ vp_in i n ∧ K (hup ws a (.inl (t, n, .inr (.inr (.inr (.inr (va_up f i.toNatClampNeg (some v)))))))) = some q := by
  unfold hqst at h
  split at h
  · rename_i cA n f cj vs he hv
    by_cases hc : cA = t ∧ cj = ci
    · rw [if_pos hc] at h
      obtain ⟨h1, h2⟩ := ast_some h
      exact ⟨n, f, vs, by rw [he, hc.1], by rw [hv, hc.2], h1, h2⟩
    · rw [if_neg hc] at h; cases h
  · cases h
section OFLD
variable {p : Program} {l : Launch} {e : Env} {R : Room} {s : State} {m : MethodId} {args : Array Value} {below : List Frame} {meth : Method} {c : Code} {H : Heap} {locs : List Loc} {Q : State → Prop}
variable {cc : ByteArray} {pc nL : Nat} {ls : Array Slot} {rest st0 : List Value} {D : va_G} {dA : Nat → ClassId} {A : Nat → Prop} {w : va_W} {z c0 y0 a : Nat} {own : String} {α : Type} {q : α}
variable {ref C : String} {T : u_T} {N ci index : Nat}
theorem og_i (FX : CallFix p m c cc nL s args lw_all own) (hW : Wo D dA A s w z c0 H locs) (hin : ∀ w ∈ u_ws C T N, w ∈ lw_all) (hc : vwCl[ci]? = some (C, T, N)) (k : Nat) (hk : k < N) (hlink : Cond.fieldLink own index ref (T k).2.1 (T k).2.2.1 ∈ lw_all) (hsame : ∀ x, s.fieldFound? (T k).1 (T k).2.1 (T k).2.2.1 = some x → s.fieldFound? ref (T k).2.1 (T k).2.2.1 = some x) {K : Int32 → Option α} (hf : pgi w a ci k K = some q) (hdg : decode cc pc = .ok (.getfield index, 3))
    (kk : ∀ v : Int32, K v = some q → W p l e R s m args below meth c H locs c0 y0 Q (F0 m (pc + 3) ls (.int v :: rest))) : W p l e R s m args below meth c H locs c0 y0 Q (F0 m pc ls (.ref a :: rest)) := by
  obtain ⟨fs, v, he, hv, hf⟩ := pgi_some hf
  obtain ⟨q0, he⟩ := hlk_get he
  exact g_get FX hW.1 hin q0 he hc k hk hlink hsame hv hdg (kk v hf)
theorem og_R (FX : CallFix p m c cc nL s args lw_all own) (hW : Wo D dA A s w z c0 H locs) (hin : ∀ w ∈ u_ws C T N, w ∈ lw_all) (hc : vwCl[ci]? = some (C, T, N)) (k : Nat) (hk : k < N) (hlink : Cond.fieldLink own index ref (T k).2.1 (T k).2.2.1 ∈ lw_all) (hsame : ∀ x, s.fieldFound? (T k).1 (T k).2.1 (T k).2.2.1 = some x → s.fieldFound? ref (T k).2.1 (T k).2.2.1 = some x) {K : Nat → Option α} (hf : pgR w a ci k K = some q) (hdg : decode cc pc = .ok (.getfield index, 3))
    (kk : ∀ v : Nat, K v = some q → W p l e R s m args below meth c H locs c0 y0 Q (F0 m (pc + 3) ls (.ref v :: rest))) : W p l e R s m args below meth c H locs c0 y0 Q (F0 m pc ls (.ref a :: rest)) := by
  obtain ⟨fs, v, he, hv, hf⟩ := pgR_some hf
  obtain ⟨q0, he⟩ := hlk_get he
  exact g_get FX hW.1 hin q0 he hc k hk hlink hsame hv hdg (kk v hf)
theorem og_Q (FX : CallFix p m c cc nL s args lw_all own) (hW : Wo D dA A s w z c0 H locs) (hin : ∀ w ∈ u_ws C T N, w ∈ lw_all) (hc : vwCl[ci]? = some (C, T, N)) (k : Nat) (hk : k < N) (hlink : Cond.fieldLink own index ref (T k).2.1 (T k).2.2.1 ∈ lw_all) (hsame : ∀ x, s.fieldFound? (T k).1 (T k).2.1 (T k).2.2.1 = some x → s.fieldFound? ref (T k).2.1 (T k).2.2.1 = some x) {K : Option Nat → Option α} (hf : pgQ w a ci k K = some q) (hdg : decode cc pc = .ok (.getfield index, 3))
    (kk : ∀ v : Option Nat, K v = some q → W p l e R s m args below meth c H locs c0 y0 Q (F0 m (pc + 3) ls (va_rf v :: rest))) : W p l e R s m args below meth c H locs c0 y0 Q (F0 m pc ls (.ref a :: rest)) := by
  obtain ⟨fs, v, he, hv, hf⟩ := pgQ_some hf
  obtain ⟨q0, he⟩ := hlk_get he
  exact g_get FX hW.1 hin q0 he hc k hk hlink hsame hv hdg (kk v hf)
theorem og_iN {host : String} (FX : CallFix p m c cc nL s args lw_all own) (hW : Wo D dA A s w z c0 H locs) (hin : ∀ w ∈ u_ws C T N, w ∈ lw_all) (hc : vwCl[ci]? = some (C, T, N)) (k : Nat) (hk : k < N) (hlink : Cond.fieldLinkNest own index ref (T k).2.1 (T k).2.2.1 host ∈ nwL) (hsame : ∀ x, s.fieldFound? (T k).1 (T k).2.1 (T k).2.2.1 = some x → s.fieldFound? ref (T k).2.1 (T k).2.2.1 = some x) {K : Int32 → Option α} (hf : pgi w a ci k K = some q) (hdg : decode cc pc = .ok (.getfield index, 3))
    (kk : ∀ v : Int32, K v = some q → W p l e R s m args below meth c H locs c0 y0 Q (F0 m (pc + 3) ls (.int v :: rest))) : W p l e R s m args below meth c H locs c0 y0 Q (F0 m pc ls (.ref a :: rest)) := by
  obtain ⟨fs, v, he, hv, hf⟩ := pgi_some hf
  obtain ⟨q0, he⟩ := hlk_get he
  exact g_getN FX hW.1 hin q0 he hc k hk hlink hsame hv hdg (kk v hf)
theorem og_RN {host : String} (FX : CallFix p m c cc nL s args lw_all own) (hW : Wo D dA A s w z c0 H locs) (hin : ∀ w ∈ u_ws C T N, w ∈ lw_all) (hc : vwCl[ci]? = some (C, T, N)) (k : Nat) (hk : k < N) (hlink : Cond.fieldLinkNest own index ref (T k).2.1 (T k).2.2.1 host ∈ nwL) (hsame : ∀ x, s.fieldFound? (T k).1 (T k).2.1 (T k).2.2.1 = some x → s.fieldFound? ref (T k).2.1 (T k).2.2.1 = some x) {K : Nat → Option α} (hf : pgR w a ci k K = some q) (hdg : decode cc pc = .ok (.getfield index, 3))
    (kk : ∀ v : Nat, K v = some q → W p l e R s m args below meth c H locs c0 y0 Q (F0 m (pc + 3) ls (.ref v :: rest))) : W p l e R s m args below meth c H locs c0 y0 Q (F0 m pc ls (.ref a :: rest)) := by
  obtain ⟨fs, v, he, hv, hf⟩ := pgR_some hf
  obtain ⟨q0, he⟩ := hlk_get he
  exact g_getN FX hW.1 hin q0 he hc k hk hlink hsame hv hdg (kk v hf)
theorem op_put (FX : CallFix p m c cc nL s args lw_all own) (hW : Wo D dA A s w z c0 H locs) (hin : ∀ w ∈ u_ws C T N, w ∈ lw_all) (ty0 : Nat → FieldType) (hty : ∀ k, k < N → parseFieldDescriptor (T k).2.2.1 = some (ty0 k)) (hnm : ∀ a, a < N → ∀ b, b < N → a ≠ b → (T a).2.1 ≠ (T b).2.1) (hc : vwCl[ci]? = some (C, T, N)) (k : Nat) (hk : k < N) (hlink : Cond.fieldLink own index ref (T k).2.1 (T k).2.2.1 ∈ lw_all) (hsame : ∀ x, s.fieldFound? (T k).1 (T k).2.1 (T k).2.2.1 = some x → s.fieldFound? ref (T k).2.1 (T k).2.2.1 = some x) (hfin : (T k).2.2.2 = false) {ty : FieldType} {v : Value} (hd : parseFieldDescriptor (T k).2.2.1 = some ty) (hn : narrow ty v = v) (hfit : fits ty v = true) {K : va_W → Option α} (hf : ppt w a ci k v K = some q) (hdg : decode cc pc = .ok (.putfield index, 3))
    (kk : ∀ (w1 : va_W) (H1 : Heap) (locs1 : List Loc), Wo D dA A s w1 z c0 H1 locs1 → K w1 = some q → W p l e R s m args below meth c H1 locs1 c0 y0 Q (F0 m (pc + 3) ls rest)) : W p l e R s m args below meth c H locs c0 y0 Q (F0 m pc ls (v :: .ref a :: rest)) := by
  obtain ⟨fs, he, hl, hf⟩ := ppt_some hf
  exact z_put FX (hW.toZ (y0 := y0)) hin ty0 hty hnm he hc k hk hlink hsame hfin hd hn hfit hl hdg (fun H1 locs1 hW1 => kk _ H1 locs1 ⟨hW1.1, hW.2.1, hW1.2⟩ hf)
theorem op_putF (FX : CallFix p m c cc nL s args lw_all own) (hW : Wo D dA A s w z c0 H locs) (hin : ∀ w ∈ u_ws C T N, w ∈ lw_all) (ty0 : Nat → FieldType) (hty : ∀ k, k < N → parseFieldDescriptor (T k).2.2.1 = some (ty0 k)) (hnm : ∀ a, a < N → ∀ b, b < N → a ≠ b → (T a).2.1 ≠ (T b).2.1) (hc : vwCl[ci]? = some (C, T, N)) (k : Nat) (hk : k < N) (hlink : Cond.fieldLink own index ref (T k).2.1 (T k).2.2.1 ∈ lw_all) (hsame : ∀ x, s.fieldFound? (T k).1 (T k).2.1 (T k).2.2.1 = some x → s.fieldFound? ref (T k).2.1 (T k).2.2.1 = some x) (hfin : (T k).2.2.2 = true) (hin2 : meth.name = "<init>") (hdecl : (T k).1 = own) {ty : FieldType} {v : Value} (hd : parseFieldDescriptor (T k).2.2.1 = some ty) (hn : narrow ty v = v) (hfit : fits ty v = true) {K : va_W → Option α} (hf : ppt w a ci k v K = some q) (hdg : decode cc pc = .ok (.putfield index, 3))
    (kk : ∀ (w1 : va_W) (H1 : Heap) (locs1 : List Loc), Wo D dA A s w1 z c0 H1 locs1 → K w1 = some q → W p l e R s m args below meth c H1 locs1 c0 y0 Q (F0 m (pc + 3) ls rest)) : W p l e R s m args below meth c H locs c0 y0 Q (F0 m pc ls (v :: .ref a :: rest)) := by
  obtain ⟨fs, he, hl, hf⟩ := ppt_some hf
  exact z_putF FX (hW.toZ (y0 := y0)) hin ty0 hty hnm he hc k hk hlink hsame hfin hin2 hdecl hd hn hfit hl hdg (fun H1 locs1 hW1 => kk _ H1 locs1 ⟨hW1.1, hW.2.1, hW1.2⟩ hf)
theorem op_bast (FX : CallFix p m c cc nL s args lw_all own) (hW : Wo D dA A s w z c0 H locs) {i x : Int32} {K : va_W → Option α} (hf : hast w (dA 1) a i (vp_nar .byte x) K = some q) (hdg : decode cc pc = .ok (.bastore, 1)) (kk : ∀ (w1 : va_W) (H1 : Heap) (locs1 : List Loc), Wo D dA A s w1 z c0 H1 locs1 → K w1 = some q → W p l e R s m args below meth c H1 locs1 c0 y0 Q (F0 m (pc + 1) ls rest)) : W p l e R s m args below meth c H locs c0 y0 Q (F0 m pc ls (.int x :: .int i :: .ref a :: rest)) := by
  obtain ⟨n, f, he, h1, hf⟩ := hast_some hf
  exact z_bast FX (hW.toZ (y0 := y0)) he h1 hdg (fun H1 locs1 hW1 => kk _ H1 locs1 ⟨hW1.1, hW.2.1, hW1.2⟩ hf)
theorem op_iast (FX : CallFix p m c cc nL s args lw_all own) (hW : Wo D dA A s w z c0 H locs) {i x : Int32} {K : va_W → Option α} (hf : hast w (dA 0) a i x K = some q) (hdg : decode cc pc = .ok (.iastore, 1)) (kk : ∀ (w1 : va_W) (H1 : Heap) (locs1 : List Loc), Wo D dA A s w1 z c0 H1 locs1 → K w1 = some q → W p l e R s m args below meth c H1 locs1 c0 y0 Q (F0 m (pc + 1) ls rest)) : W p l e R s m args below meth c H locs c0 y0 Q (F0 m pc ls (.int x :: .int i :: .ref a :: rest)) := by
  obtain ⟨n, f, he, h1, hf⟩ := hast_some hf
  exact z_iast FX (hW.toZ (y0 := y0)) he h1 hdg (fun H1 locs1 hW1 => kk _ H1 locs1 ⟨hW1.1, hW.2.1, hW1.2⟩ hf)
theorem op_aast {v : Nat} {r : vw_C} (FX : CallFix p m c cc nL s args lw_all own) (hW : Wo D dA A s w z c0 H locs) (hc : vwCl[ci]? = some r) (hca : va_Nw (.castable r.1 "java/lang/Object") s) {i : Int32} {K : va_W → Option α} (hf : hqst w (dA 4) a i v ci K = some q) (hdg : decode cc pc = .ok (.aastore, 1)) (kk : ∀ (w1 : va_W) (H1 : Heap) (locs1 : List Loc), Wo D dA A s w1 z c0 H1 locs1 → K w1 = some q → W p l e R s m args below meth c H1 locs1 c0 y0 Q (F0 m (pc + 1) ls rest)) : W p l e R s m args below meth c H locs c0 y0 Q (F0 m pc ls (.ref v :: .int i :: .ref a :: rest)) := by
  obtain ⟨n, f, vs, he, hv, h1, hf⟩ := hqst_some hf
  exact z_aast FX (hW.toZ (y0 := y0)) he hv hc hca h1 hdg (fun H1 locs1 hW1 => kk _ H1 locs1 ⟨hW1.1, hW.2.1, hW1.2⟩ hf)
/-- an object of the world is thrown -/
theorem o_athrow (FX : CallFix p m c cc nL s args lw_all own) (hW : Wo D dA A s w z c0 H locs) {fs : List Value} {v : Nat} (hv : hlk w v = some (.inr (7, fs))) (hdg : decode cc pc = .ok (.athrow, 1)) (kk : ∀ ce : Cell, H[v]? = some ce → ce.vm = .none → s.vm.findClass "TrunkLitters$Wrong" = some ce.cls → vy_W p l e R s m args below meth c H locs c0 y0 Q (F0 m pc ls rest) v) : W p l e R s m args below meth c H locs c0 y0 Q (F0 m pc ls (.ref v :: rest)) := by
  obtain ⟨q0, hq0⟩ := hlk_get hv
  obtain ⟨r', hr', cell, g1, g2, g3, -⟩ := hW.1.1 q0 _ hq0
  have hcls := (hW.1.2.2.2.1.1 7 _ rfl).2
  refine vy_athrow FX.1 FX.2.1 hdg (kk cell g1 g3 ?_)
  rw [g2]
  exact hcls.1
end OFLD
