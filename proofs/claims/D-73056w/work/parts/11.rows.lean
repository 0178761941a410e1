/-! GENERIC ROWS: each takes the function's equation hf along -/
def ald {α β : Type} (n : Nat) (f : Nat → β) (i : Int32) (k : β → Option α) : Option α := if i < 0 ∨ n ≤ i.toNatClampNeg then none else k (f i.toNatClampNeg)
def ast {α : Type} (n : Nat) (i : Int32) (k : Option α) : Option α := if i < 0 ∨ n ≤ i.toNatClampNeg then none else k
def stp {α σ : Type} (x : σ) (k : σ → Option α) : Option α := k x
def dvd {α : Type} (y : Int32) (k : Option α) : Option α := if y = 0 then none else k
def zrt {α : Type} (v : Int32) (x : α) : Option α := if v = 0 ∨ v = 1 then some x else none
theorem ald_some {α β : Type} {n : Nat} {f : Nat → β} {i : Int32} {k : β → Option α} {q : α} (h : ald n f i k = some q) : vp_in i n ∧ k (f i.toNatClampNeg) = some q := by
  unfold ald at h
  by_cases c : i < 0 ∨ n ≤ i.toNatClampNeg
  · rw [if_pos c] at h; cases h
  · rw [if_neg c] at h; exact ⟨c, h⟩
theorem ast_some {α : Type} {n : Nat} {i : Int32} {k : Option α} {q : α} (h : ast n i k = some q) : vp_in i n ∧ k = some q := by
  unfold ast at h
  by_cases c : i < 0 ∨ n ≤ i.toNatClampNeg
  · rw [if_pos c] at h; cases h
  · rw [if_neg c] at h; exact ⟨c, h⟩
theorem dvd_some {α : Type} {y : Int32} {k : Option α} {q : α} (h : dvd y k = some q) : ¬ y = 0 ∧ k = some q := by
  unfold dvd at h
  by_cases c : y = 0
  · rw [if_pos c] at h; cases h
  · rw [if_neg c] at h; exact ⟨c, h⟩
theorem zrt_some {α : Type} {v : Int32} {x q : α} (h : zrt v x = some q) : narrow .boolean (.int v) = .int v ∧ x = q := by
  unfold zrt at h
  by_cases c : v = 0 ∨ v = 1
  · rw [if_pos c] at h
    refine ⟨?_, Option.some.inj h⟩
    rcases c with rfl | rfl <;> rfl
  · rw [if_neg c] at h; cases h
theorem ifp {α : Type} {c : Prop} [Decidable c] {x y q : α} (hc : c) (hf : (if c then x else y) = q) : x = q := by rw [if_pos hc] at hf; exact hf
theorem ifn {α : Type} {c : Prop} [Decidable c] {x y q : α} (hc : ¬ c) (hf : (if c then x else y) = q) : y = q := by rw [if_neg hc] at hf; exact hf
theorem bnd {α β : Type} {x : Option α} {k : α → Option β} {q : β} (h : x.bind k = some q) : ∃ r, x = some r ∧ k r = some q := by
  cases x with
  | none => cases h
  | some r => exact ⟨r, rfl, h⟩
section ROWS
variable {p : Program} {l : Launch} {e : Env} {R : Room} {s : State} {m : MethodId} {args : Array Value} {below : List Frame} {meth : Method} {c : Code} {H : Heap} {locs : List Loc} {cells slots : Nat} {Q : State → Prop}
variable {cc : ByteArray} {pc nL : Nat} {ls : Array Slot} {rest : List Value} {D : va_G} {dA : Nat → ClassId} {A : Nat → Prop} {a : Nat} {ws ws' : va_W} {own : String} {α : Type} {q : α}
theorem g_get (FX : CallFix p m c cc nL s args lw_all own) (hW : Wd D dA A s ws H locs) {ref C : String} {T : u_T} {N ci index : Nat} (hin : ∀ w ∈ u_ws C T N, w ∈ lw_all) (q0 : Nat) {fs : List Value} (he : ws[q0]? = some (a, .inr (ci, fs))) (hc : vwCl[ci]? = some (C, T, N)) (k : Nat) (hk : k < N) (hlink : Cond.fieldLink own index ref (T k).2.1 (T k).2.2.1 ∈ lw_all) (hsame : ∀ x, s.fieldFound? (T k).1 (T k).2.1 (T k).2.2.1 = some x → s.fieldFound? ref (T k).2.1 (T k).2.2.1 = some x) {v : Value} (hv : fs[k]? = some v) (hdg : decode cc pc = .ok (.getfield index, 3))
    (kk : W p l e R s m args below meth c H locs cells slots Q (F0 m (pc + 3) ls (v :: rest))) : W p l e R s m args below meth c H locs cells slots Q (F0 m pc ls (.ref a :: rest)) :=
  va_get FX.1 FX.2.1 FX.2.2.2.2 hin FX.2.2.2.1 hW.2.2.2.1 hW.1 q0 he hc k hk (FX.2.2.2.2 _ hlink) hsame hv hdg kk
theorem g_put (FX : CallFix p m c cc nL s args lw_all own) (hW : Wd D dA A s ws H locs) {ref C : String} {T : u_T} {N ci index : Nat} (hin : ∀ w ∈ u_ws C T N, w ∈ lw_all) (ty0 : Nat → FieldType) (hty : ∀ k, k < N → parseFieldDescriptor (T k).2.2.1 = some (ty0 k)) (hnm : ∀ a, a < N → ∀ b, b < N → a ≠ b → (T a).2.1 ≠ (T b).2.1) (q0 : Nat) {fs : List Value} (he : ws[q0]? = some (a, .inr (ci, fs))) (hc : vwCl[ci]? = some (C, T, N)) (k : Nat) (hk : k < N) (hlink : Cond.fieldLink own index ref (T k).2.1 (T k).2.2.1 ∈ lw_all) (hsame : ∀ x, s.fieldFound? (T k).1 (T k).2.1 (T k).2.2.1 = some x → s.fieldFound? ref (T k).2.1 (T k).2.2.1 = some x) (hfin : (T k).2.2.2 = false) {ty : FieldType} {v : Value} (hd : parseFieldDescriptor (T k).2.2.1 = some ty) (hn : narrow ty v = v) (hfit : fits ty v = true) (hl : k < fs.length)
    (hset : ws.set q0 (a, .inr (ci, fs.set k v)) = ws') (hdg : decode cc pc = .ok (.putfield index, 3)) (kk : ∀ (H1 : Heap) (locs1 : List Loc), Wd D dA A s ws' H1 locs1 → W p l e R s m args below meth c H1 locs1 cells slots Q (F0 m (pc + 3) ls rest)) : W p l e R s m args below meth c H locs cells slots Q (F0 m pc ls (v :: .ref a :: rest)) := by
  obtain ⟨hP, hD, hS, hK, hA⟩ := hW
  refine va_put FX.1 FX.2.1 FX.2.2.2.2 hin ty0 hty hnm FX.2.2.2.1 hK hP hD hS q0 he hc k hk (FX.2.2.2.2 _ hlink) hsame hfin hd hn hfit hl hdg (fun H1 locs1 h1 h2 h3 => ?_)
  rw [hset] at h1 h2
  exact kk H1 locs1 ⟨h1, h2, h3, hK, hA⟩
theorem g_putF (FX : CallFix p m c cc nL s args lw_all own) (hW : Wd D dA A s ws H locs) {ref C : String} {T : u_T} {N ci index : Nat} (hin : ∀ w ∈ u_ws C T N, w ∈ lw_all) (ty0 : Nat → FieldType) (hty : ∀ k, k < N → parseFieldDescriptor (T k).2.2.1 = some (ty0 k)) (hnm : ∀ a, a < N → ∀ b, b < N → a ≠ b → (T a).2.1 ≠ (T b).2.1) (q0 : Nat) {fs : List Value} (he : ws[q0]? = some (a, .inr (ci, fs))) (hc : vwCl[ci]? = some (C, T, N)) (k : Nat) (hk : k < N) (hlink : Cond.fieldLink own index ref (T k).2.1 (T k).2.2.1 ∈ lw_all) (hsame : ∀ x, s.fieldFound? (T k).1 (T k).2.1 (T k).2.2.1 = some x → s.fieldFound? ref (T k).2.1 (T k).2.2.1 = some x) (hfin : (T k).2.2.2 = true) (hin2 : meth.name = "<init>") (hdecl : (T k).1 = own) {ty : FieldType} {v : Value} (hd : parseFieldDescriptor (T k).2.2.1 = some ty) (hn : narrow ty v = v) (hfit : fits ty v = true) (hl : k < fs.length)
    (hset : ws.set q0 (a, .inr (ci, fs.set k v)) = ws') (hdg : decode cc pc = .ok (.putfield index, 3)) (kk : ∀ (H1 : Heap) (locs1 : List Loc), Wd D dA A s ws' H1 locs1 → W p l e R s m args below meth c H1 locs1 cells slots Q (F0 m (pc + 3) ls rest)) : W p l e R s m args below meth c H locs cells slots Q (F0 m pc ls (v :: .ref a :: rest)) := by
  obtain ⟨hP, hD, hS, hK, hA⟩ := hW
  refine va_putF FX.1 FX.2.1 FX.2.2.2.2 hin ty0 hty hnm FX.2.2.2.1 hK hP hD hS q0 he hc k hk (FX.2.2.2.2 _ hlink) hsame hfin hin2 hdecl hd hn hfit hl hdg (fun H1 locs1 h1 h2 h3 => ?_)
  rw [hset] at h1 h2
  exact kk H1 locs1 ⟨h1, h2, h3, hK, hA⟩
theorem g_iald (FX : CallFix p m c cc nL s args lw_all own) (hW : Wd D dA A s ws H locs) (q0 : Nat) {n : Nat} {f : Nat → Int32} (ha : ws[q0]? = some (a, .inl (dA 0, n, .inl f))) {i : Int32} {k : Int32 → Option α} (hf : ald n f i k = some q) (hdg : decode cc pc = .ok (.iaload, 1))
    (kk : ∀ v : Int32, k v = some q → W p l e R s m args below meth c H locs cells slots Q (F0 m (pc + 1) ls (.int v :: rest))) : W p l e R s m args below meth c H locs cells slots Q (F0 m pc ls (.int i :: .ref a :: rest)) :=
  va_iald FX.1 FX.2.1 hW.2.2.2.1 hW.1 q0 0 ha rfl (ald_some hf).1 hdg (kk _ (ald_some hf).2)
theorem g_bald (FX : CallFix p m c cc nL s args lw_all own) (hW : Wd D dA A s ws H locs) (q0 : Nat) {n : Nat} {f : Nat → Int32} (ha : ws[q0]? = some (a, .inl (dA 1, n, .inl f))) {i : Int32} {k : Int32 → Option α} (hf : ald n f i k = some q) (hdg : decode cc pc = .ok (.baload, 1))
    (kk : ∀ v : Int32, k v = some q → W p l e R s m args below meth c H locs cells slots Q (F0 m (pc + 1) ls (.int v :: rest))) : W p l e R s m args below meth c H locs cells slots Q (F0 m pc ls (.int i :: .ref a :: rest)) :=
  va_bald FX.1 FX.2.1 hW.2.2.2.1 hW.1 q0 1 ha rfl (ald_some hf).1 hdg (kk _ (ald_some hf).2)
theorem g_zald (FX : CallFix p m c cc nL s args lw_all own) (hW : Wd D dA A s ws H locs) (q0 : Nat) {n : Nat} {f : Nat → Int32} (ha : ws[q0]? = some (a, .inl (dA 2, n, .inl f))) {i : Int32} {k : Int32 → Option α} (hf : ald n f i k = some q) (hdg : decode cc pc = .ok (.baload, 1))
    (kk : ∀ v : Int32, k v = some q → W p l e R s m args below meth c H locs cells slots Q (F0 m (pc + 1) ls (.int v :: rest))) : W p l e R s m args below meth c H locs cells slots Q (F0 m pc ls (.int i :: .ref a :: rest)) :=
  va_zald FX.1 FX.2.1 hW.2.2.2.1 hW.1 q0 2 ha rfl (ald_some hf).1 hdg (kk _ (ald_some hf).2)
theorem g_lald (FX : CallFix p m c cc nL s args lw_all own) (hW : Wd D dA A s ws H locs) (q0 : Nat) {n : Nat} {f : Nat → Int64} (ha : ws[q0]? = some (a, .inl (dA 3, n, .inr (.inl f)))) {i : Int32} {k : Int64 → Option α} (hf : ald n f i k = some q) (hdg : decode cc pc = .ok (.laload, 1))
    (kk : ∀ v : Int64, k v = some q → W p l e R s m args below meth c H locs cells slots Q (F0 m (pc + 1) ls (.long v :: rest))) : W p l e R s m args below meth c H locs cells slots Q (F0 m pc ls (.int i :: .ref a :: rest)) :=
  va_lald FX.1 FX.2.1 hW.2.2.2.1 hW.1 q0 3 ha rfl (ald_some hf).1 hdg (kk _ (ald_some hf).2)
theorem g_iast {σ : Type} (FX : CallFix p m c cc nL s args lw_all own) (hW : Wd D dA A s ws H locs) (q0 : Nat) {n : Nat} {f : Nat → Int32} (ha : ws[q0]? = some (a, .inl (dA 0, n, .inl f))) {i x : Int32} {L : σ → va_W} {y : σ} (hset : ws.set q0 (a, .inl (dA 0, n, .inl (upd f i.toNatClampNeg x))) = L y) {k : σ → Option α} (hf : ast n i (stp y k) = some q) (hdg : decode cc pc = .ok (.iastore, 1))
    (kk : ∀ (y : σ) (H1 : Heap) (locs1 : List Loc), Wd D dA A s (L y) H1 locs1 → k y = some q → W p l e R s m args below meth c H1 locs1 cells slots Q (F0 m (pc + 1) ls rest)) : W p l e R s m args below meth c H locs cells slots Q (F0 m pc ls (.int x :: .int i :: .ref a :: rest)) := by
  have hq := ast_some hf
  obtain ⟨hP, hD, hS, hK, hA⟩ := hW
  refine va_iast FX.1 FX.2.1 hK hP hD hS q0 0 ha rfl hq.1 hdg (fun H1 locs1 h1 h2 h3 => ?_)
  rw [hset] at h1 h2
  exact kk y H1 locs1 ⟨h1, h2, h3, hK, hA⟩ hq.2
theorem g_bast {σ : Type} (FX : CallFix p m c cc nL s args lw_all own) (hW : Wd D dA A s ws H locs) (q0 : Nat) {n : Nat} {f : Nat → Int32} (ha : ws[q0]? = some (a, .inl (dA 1, n, .inl f))) {i x : Int32} {L : σ → va_W} {y : σ} (hset : ws.set q0 (a, .inl (dA 1, n, .inl (upd f i.toNatClampNeg (vp_nar .byte x)))) = L y) {k : σ → Option α} (hf : ast n i (stp y k) = some q) (hdg : decode cc pc = .ok (.bastore, 1))
    (kk : ∀ (y : σ) (H1 : Heap) (locs1 : List Loc), Wd D dA A s (L y) H1 locs1 → k y = some q → W p l e R s m args below meth c H1 locs1 cells slots Q (F0 m (pc + 1) ls rest)) : W p l e R s m args below meth c H locs cells slots Q (F0 m pc ls (.int x :: .int i :: .ref a :: rest)) := by
  have hq := ast_some hf
  obtain ⟨hP, hD, hS, hK, hA⟩ := hW
  refine va_bast FX.1 FX.2.1 hK hP hD hS q0 1 ha rfl hq.1 hdg (fun H1 locs1 h1 h2 h3 => ?_)
  rw [hset] at h1 h2
  exact kk y H1 locs1 ⟨h1, h2, h3, hK, hA⟩ hq.2
theorem g_zast {σ : Type} (FX : CallFix p m c cc nL s args lw_all own) (hW : Wd D dA A s ws H locs) (q0 : Nat) {n : Nat} {f : Nat → Int32} (ha : ws[q0]? = some (a, .inl (dA 2, n, .inl f))) {i x : Int32} {L : σ → va_W} {y : σ} (hset : ws.set q0 (a, .inl (dA 2, n, .inl (upd f i.toNatClampNeg (vp_nar .boolean x)))) = L y) {k : σ → Option α} (hf : ast n i (stp y k) = some q) (hdg : decode cc pc = .ok (.bastore, 1))
    (kk : ∀ (y : σ) (H1 : Heap) (locs1 : List Loc), Wd D dA A s (L y) H1 locs1 → k y = some q → W p l e R s m args below meth c H1 locs1 cells slots Q (F0 m (pc + 1) ls rest)) : W p l e R s m args below meth c H locs cells slots Q (F0 m pc ls (.int x :: .int i :: .ref a :: rest)) := by
  have hq := ast_some hf
  obtain ⟨hP, hD, hS, hK, hA⟩ := hW
  refine va_zast FX.1 FX.2.1 hK hP hD hS q0 2 ha rfl hq.1 hdg (fun H1 locs1 h1 h2 h3 => ?_)
  rw [hset] at h1 h2
  exact kk y H1 locs1 ⟨h1, h2, h3, hK, hA⟩ hq.2
theorem g_last {σ : Type} (FX : CallFix p m c cc nL s args lw_all own) (hW : Wd D dA A s ws H locs) (q0 : Nat) {n : Nat} {f : Nat → Int64} (ha : ws[q0]? = some (a, .inl (dA 3, n, .inr (.inl f)))) {i : Int32} {x : Int64} {L : σ → va_W} {y : σ} (hset : ws.set q0 (a, .inl (dA 3, n, .inr (.inl (vp_updL f i.toNatClampNeg x)))) = L y) {k : σ → Option α} (hf : ast n i (stp y k) = some q) (hdg : decode cc pc = .ok (.lastore, 1))
    (kk : ∀ (y : σ) (H1 : Heap) (locs1 : List Loc), Wd D dA A s (L y) H1 locs1 → k y = some q → W p l e R s m args below meth c H1 locs1 cells slots Q (F0 m (pc + 1) ls rest)) : W p l e R s m args below meth c H locs cells slots Q (F0 m pc ls (.long x :: .int i :: .ref a :: rest)) := by
  have hq := ast_some hf
  obtain ⟨hP, hD, hS, hK, hA⟩ := hW
  refine va_last FX.1 FX.2.1 hK hP hD hS q0 3 ha rfl hq.1 hdg (fun H1 locs1 h1 h2 h3 => ?_)
  rw [hset] at h1 h2
  exact kk y H1 locs1 ⟨h1, h2, h3, hK, hA⟩ hq.2
/-- switches, one case at a time -/
theorem g_tabC (FX : CallFix p m c cc nL s args lw_all own) {dflt lo hi : Int} {offs : Array Int} {len : Nat} {x : Int32} (k : Int32) {off : Int} {tgt : Nat} (hx : x = k) (h1 : ¬ k.toInt < lo) (h2 : ¬ hi < k.toInt) (ho : offs[(k.toInt - lo).toNat]? = some off) (ht : (pc : Int) + off = (tgt : Int)) (hdg : decode cc pc = .ok (.tableswitch dflt lo hi offs, len))
    (kk : W p l e R s m args below meth c H locs cells slots Q (F0 m tgt ls rest)) : W p l e R s m args below meth c H locs cells slots Q (F0 m pc ls (.int x :: rest)) := by
  subst hx
  exact lv_tableIn FX.1 FX.2.1 hdg h1 h2 ho ht kk
theorem g_lookC (FX : CallFix p m c cc nL s args lw_all own) {dflt : Int} {ps : Array (Int × Int)} {len : Nat} {x : Int32} (k : Int32) {off : Int} {tgt : Nat} (hx : x = k) (hp : (ps.toList.zip (ps.toList.drop 1)).all (fun (a, next) => a.1 < next.1) = true) (ho : Op.lookupswitch.offset ps.toList dflt k.toInt = off) (ht : (pc : Int) + off = (tgt : Int)) (hdg : decode cc pc = .ok (.lookupswitch dflt ps, len))
    (kk : W p l e R s m args below meth c H locs cells slots Q (F0 m tgt ls rest)) : W p l e R s m args below meth c H locs cells slots Q (F0 m pc ls (.int x :: rest)) := by
  subst hx
  exact lv_lookup FX.1 FX.2.1 hdg hp ho ht kk
abbrev QI (D : va_G) (dA : Nat → ClassId) (A : Nat → Prop) (below : List Frame) (args : Array Value) (s : State) (mc ms : Nat) (r : Int32) (w1 : va_W) : State → Prop := MQ below (va_Qi (fun (r1 : Int32) (_ : Unit) => r1 = r) (fun _ t => PostW D dA A w1 s.heap.size t) A) args s mc ms A
abbrev QL (D : va_G) (dA : Nat → ClassId) (A : Nat → Prop) (below : List Frame) (args : Array Value) (s : State) (mc ms : Nat) (r : Int64) (w1 : va_W) : State → Prop := MQ below (va_Ql (fun (r1 : Int64) (_ : Unit) => r1 = r) (fun _ t => PostW D dA A w1 s.heap.size t) A) args s mc ms A
abbrev QV (D : va_G) (dA : Nat → ClassId) (A : Nat → Prop) (below : List Frame) (args : Array Value) (s : State) (mc ms : Nat) (w1 : va_W) : State → Prop := MQ below (va_Qv (fun (_ : Unit) => True) (fun _ t => PostW D dA A w1 s.heap.size t) A) args s mc ms A
theorem g_size {g : JFrame} (hW : Wd D dA A s ws H locs) (k : H.size = s.heap.size → W p l e R s m args below meth c H locs 0 0 Q g) : W p l e R s m args below meth c H locs 0 0 Q g := by
  intro T hT X
  refine k ?_ T hT X
  have h1 := X.heapSize
  rw [hT] at h1
  have h2 := hW.2.2.1.1
  omega
theorem g_iret (FX : CallFix p m c cc nL s args lw_all own) (hr : meth.sig.returnType = some .int) (hlk : meth.locks = false) (hW : Wd D dA A s ws H locs) {v r : Int32} (hv : v = r) (hdg : decode cc pc = .ok (.ireturn, 1)) : W p l e R s m args below meth c H locs 0 0 (QI D dA A below args s 0 0 r ws) (F0 m pc ls [.int v]) := by
  subst hv
  refine g_size hW (fun hz => ?_)
  exact W.iret FX.1 FX.2.1 hr (fun t ht hw => ⟨⟨v, (), rfl, rfl, by rw [ht]; exact hW.1, va_K.moved hw.alike hW.2.2.2.1, hW.2.1, by rw [ht]; exact hz⟩, hW.2.2.1.F ht⟩) hW.2.2.1.2.2 hdg
theorem g_zret (FX : CallFix p m c cc nL s args lw_all own) (hr : meth.sig.returnType = some .boolean) (hlk : meth.locks = false) (hW : Wd D dA A s ws H locs) {v r : Int32} (hn : narrow .boolean (.int v) = .int v) (hv : v = r) (hdg : decode cc pc = .ok (.ireturn, 1)) : W p l e R s m args below meth c H locs 0 0 (QI D dA A below args s 0 0 r ws) (F0 m pc ls [.int v]) := by
  subst hv
  refine g_size hW (fun hz => ?_)
  exact W.zret FX.1 FX.2.1 hr hn (fun t ht hw => ⟨⟨v, (), rfl, rfl, by rw [ht]; exact hW.1, va_K.moved hw.alike hW.2.2.2.1, hW.2.1, by rw [ht]; exact hz⟩, hW.2.2.1.F ht⟩) hW.2.2.1.2.2 hdg
theorem g_lret (FX : CallFix p m c cc nL s args lw_all own) (hr : meth.sig.returnType = some .long) (hlk : meth.locks = false) (hW : Wd D dA A s ws H locs) {v r : Int64} (hv : v = r) (hdg : decode cc pc = .ok (.lreturn, 1)) : W p l e R s m args below meth c H locs 0 0 (QL D dA A below args s 0 0 r ws) (F0 m pc ls [.long v]) := by
  subst hv
  refine g_size hW (fun hz => ?_)
  exact W.lret FX.1 FX.2.1 hr (fun t ht hw => ⟨⟨v, (), rfl, rfl, by rw [ht]; exact hW.1, va_K.moved hw.alike hW.2.2.2.1, hW.2.1, by rw [ht]; exact hz⟩, hW.2.2.1.F ht⟩) hW.2.2.1.2.2 hdg
theorem g_vret (FX : CallFix p m c cc nL s args lw_all own) (hr : meth.sig.returnType = none) (hlk : meth.locks = false) (hW : Wd D dA A s ws H locs) (hdg : decode cc pc = .ok (.return_, 1)) : W p l e R s m args below meth c H locs 0 0 (QV D dA A below args s 0 0 ws) (F0 m pc ls []) :=
  g_size hW fun hz => W.vret FX.1 FX.2.1 hr (fun t ht hw => ⟨⟨(), rfl, trivial, by rw [ht]; exact hW.1, va_K.moved hw.alike hW.2.2.2.1, hW.2.1, by rw [ht]; exact hz⟩, hW.2.2.1.F ht⟩) hW.2.2.1.2.2 hdg
end ROWS
section ENTRY
variable {l : Launch} {y : MethodName} {cc : ByteArray} {nL : Nat} {ret : Option FieldType} {rm : Room} {D : va_G} {dA : Nat → ClassId} {av : List Value} {ws w1 : va_W}
theorem e_start {sz : Nat} {Qc : Array Value → State → Outcome → State → Prop} {mc ms : Nat} (hy : plainName y.cls = true) (hn : (lg_sl av).length ≤ nL)
    (body : ∀ (p : Program) (e : Env) (s : State) (m : MethodId) (below : List Frame) (meth : Method) (c : Code) (ls : Array Slot), CallFix p m c cc nL s av.toArray lw_all y.cls → meth.sig.returnType = ret → meth.locks = false → meth.name = y.name → lv_has ls nL (lv_args 0 av) → Wd D dA (va_A ws sz) s ws s.heap [] → s.heap.size = sz →
      W p l e rm s m av.toArray below meth c s.heap [] 0 0 (MQ below Qc av.toArray s mc ms (va_A ws sz)) (F0 m 0 ls [])) : Met l y (ws_ y cc nL ret) rm (va_Pc av (PreW D dA ws sz)) Qc mc ms (va_A ws sz) := by
  refine Met.ofW (cc := cc) (maxL := nL) (ret := ret) hy rfl ?_
  intro p e s m args below meth c s₁ B hml hv
  obtain ⟨rfl, hsz, hP, hK, hD0, hG⟩ := hv
  subst hsz
  have hts := atoms_spec (ws := ws_ y cc nL ret) B.pre
  have hts : ∀ w ∈ lw_all, w.before _ s = true := fun w h => hts w (List.mem_cons_of_mem _ h)
  have hown : s.vm.findClass y.cls = some m.cls := findClass_of_methodNamed B.named
  rw [lg_entry_eq]
  exact body p e s m below meth c _ ⟨B.exec, B.bytes, hml, hown, hts⟩ B.returns B.notSynchronized (name_of_methodNamed B.named B.method).1 (lv_entry av hn) ⟨hP, hD0.self, va_S.rf, hK, fun q h => Or.inr h, hG⟩ rfl
theorem e_I {r : Int32} (hy : plainName y.cls = true) (hn : (lg_sl av).length ≤ nL)
    (body : ∀ (p : Program) (e : Env) (s : State) (m : MethodId) (below : List Frame) (meth : Method) (c : Code) (ls : Array Slot) (A : Nat → Prop), CallFix p m c cc nL s av.toArray lw_all y.cls → meth.sig.returnType = ret → meth.locks = false → lv_has ls nL (lv_args 0 av) → Wd D dA A s ws s.heap [] →
      W p l e rm s m av.toArray below meth c s.heap [] 0 0 (QI D dA A below av.toArray s rm.cells rm.slots r w1) (F0 m 0 ls [])) : CtI l y cc nL ret rm D dA av ws r w1 :=
  fun _ => e_start hy hn (fun p e s m below meth c ls FX hr hlk _ hl hW hz => by subst hz; exact body p e s m below meth c ls _ FX hr hlk hl hW)
theorem e_L {r : Int64} (hy : plainName y.cls = true) (hn : (lg_sl av).length ≤ nL)
    (body : ∀ (p : Program) (e : Env) (s : State) (m : MethodId) (below : List Frame) (meth : Method) (c : Code) (ls : Array Slot) (A : Nat → Prop), CallFix p m c cc nL s av.toArray lw_all y.cls → meth.sig.returnType = ret → meth.locks = false → lv_has ls nL (lv_args 0 av) → Wd D dA A s ws s.heap [] →
      W p l e rm s m av.toArray below meth c s.heap [] 0 0 (QL D dA A below av.toArray s rm.cells rm.slots r w1) (F0 m 0 ls [])) : CtL l y cc nL ret rm D dA av ws r w1 :=
  fun _ => e_start hy hn (fun p e s m below meth c ls FX hr hlk _ hl hW hz => by subst hz; exact body p e s m below meth c ls _ FX hr hlk hl hW)
theorem e_V (hy : plainName y.cls = true) (hn : (lg_sl av).length ≤ nL)
    (body : ∀ (p : Program) (e : Env) (s : State) (m : MethodId) (below : List Frame) (meth : Method) (c : Code) (ls : Array Slot) (A : Nat → Prop), CallFix p m c cc nL s av.toArray lw_all y.cls → meth.sig.returnType = ret → meth.locks = false → lv_has ls nL (lv_args 0 av) → Wd D dA A s ws s.heap [] →
      W p l e rm s m av.toArray below meth c s.heap [] 0 0 (QV D dA A below av.toArray s rm.cells rm.slots w1) (F0 m 0 ls [])) : CtV l y cc nL ret rm D dA av ws w1 :=
  fun _ => e_start hy hn (fun p e s m below meth c ls FX hr hlk _ hl hW hz => by subst hz; exact body p e s m below meth c ls _ FX hr hlk hl hW)
end ENTRY
