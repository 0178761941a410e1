/-! MORE ROWS: nest mates, answers that are cells -/
def CtR (l : Launch) (y : MethodName) (cc : ByteArray) (nL : Nat) (ret : Option FieldType) (rm : Room) (D : va_G) (dA : Nat → ClassId) (av : List Value) (ws : va_W) (r : Nat) (w1 : va_W) : Prop :=
  ∀ sz : Nat, Met l y (ws_ y cc nL ret) rm (va_Pc av (PreW D dA ws sz)) (va_Qr (fun (_ : Unit) => True) (fun _ a t => a = r ∧ PostW D dA (va_A ws sz) w1 sz t) (va_A ws sz)) rm.cells rm.slots (va_A ws sz)
abbrev QR (D : va_G) (dA : Nat → ClassId) (A : Nat → Prop) (below : List Frame) (args : Array Value) (s : State) (mc ms : Nat) (r : Nat) (w1 : va_W) : State → Prop := MQ below (va_Qr (fun (_ : Unit) => True) (fun _ a t => a = r ∧ PostW D dA A w1 s.heap.size t) A) args s mc ms A
section ROWS2
variable {p : Program} {l : Launch} {e : Env} {R : Room} {s : State} {m : MethodId} {args : Array Value} {below : List Frame} {meth : Method} {c : Code} {H : Heap} {locs : List Loc} {cells slots : Nat} {Q : State → Prop}
variable {cc : ByteArray} {pc nL : Nat} {ls : Array Slot} {rest : List Value} {D : va_G} {dA : Nat → ClassId} {A : Nat → Prop} {a : Nat} {ws wc wr w1 ws' : va_W} {own : String} {α : Type} {q : α}
theorem g_getN (FX : CallFix p m c cc nL s args lw_all own) (hW : Wd D dA A s ws H locs) {ref C host : String} {T : u_T} {N ci index : Nat} (hin : ∀ w ∈ u_ws C T N, w ∈ lw_all) (q0 : Nat) {fs : List Value} (he : ws[q0]? = some (a, .inr (ci, fs))) (hc : vwCl[ci]? = some (C, T, N)) (k : Nat) (hk : k < N) (hlink : Cond.fieldLinkNest own index ref (T k).2.1 (T k).2.2.1 host ∈ nwL) (hsame : ∀ x, s.fieldFound? (T k).1 (T k).2.1 (T k).2.2.1 = some x → s.fieldFound? ref (T k).2.1 (T k).2.2.1 = some x) {v : Value} (hv : fs[k]? = some v) (hdg : decode cc pc = .ok (.getfield index, 3))
    (kk : W p l e R s m args below meth c H locs cells slots Q (F0 m (pc + 3) ls (v :: rest))) : W p l e R s m args below meth c H locs cells slots Q (F0 m pc ls (.ref a :: rest)) :=
  va_getN FX.1 FX.2.1 FX.2.2.2.2 hin FX.2.2.2.1 hW.2.2.2.1 hW.1 q0 he hc k hk (va_Nw.use rfl (hW.2.2.2.2.2.1 _ hlink)) hsame hv hdg kk
theorem w_SiN {y : MethodName} {host : String} {bytes : ByteArray} {maxL n index : Nat} {ret : Option FieldType} {rm : Room} {As : List Value} {st0 : List Value} {r : Int32} (FX : CallFix p m c cc nL s args lw_all own) (hM : CtI l y bytes maxL ret rm D dA As wc r w1) (cw : va_CN R s args own index y host bytes maxL ret (ws_ y bytes maxL ret) rm rm.cells rm.slots n ∧ (Cond.static y).before args s = true ∧ True) (hn : As.length = n) (hl : ls.size = nL) (hst : st0 = As.reverse ++ rest) (hrm : (rest.map fun v => v.category).sum ≤ 8) (hf : cells + rm.cells ≤ R.cells ∧ slots + rm.slots ≤ R.slots) (hdg : decode cc pc = .ok (.invokestatic index, 3)) (hW : Wd D dA A s (wc ++ wr) H locs)
    (kk : ∀ (H1 : Heap) (locs1 : List Loc), Wd D dA A s (w1 ++ wr) H1 locs1 → W p l e R s m args below meth c H1 locs1 (cells + rm.cells) (slots + rm.slots) Q (F0 m (pc + 3) ls (.int r :: rest))) : W p l e R s m args below meth c H locs cells slots Q (F0 m pc ls st0) := by
  refine va_calli (va_runSN (As := As) (rest := rest) FX (hM H.size) cw ⟨PreW.blind, fun U hU hw => ⟨rfl, hW.pre U hU hw⟩⟩ rfl hn hl hst (lv_room (rest := st0) hrm) hdg hf) hW.2.2.1 (fun q _ h => hW.free q h) hW.free (fun r1 u t H1 locs1 ht hvm hw1 hB hz1 hk1 hS => ?_)
  subst hw1
  exact kk H1 locs1 (hW.join ht hB hk1 hS)
theorem w_ViN {y : MethodName} {host C : String} {bytes : ByteArray} {maxL n index b : Nat} {ret : Option FieldType} {rm : Room} {As : List Value} {st0 : List Value} {r : Int32} (FX : CallFix p m c cc nL s args lw_all own) (hM : CtI l y bytes maxL ret rm D dA (.ref b :: As) wc r w1) (cw : va_CN R s args own index y host bytes maxL ret (ws_ y bytes maxL ret) rm rm.cells rm.slots n ∧ (Cond.instanceMethod y).before args s = true ∧ (Cond.selects C y y).before args s = true) (hcv : ∃ cell : Cell, H[b]? = some cell ∧ cell.vm.isStatics = false ∧ s.vm.findClass C = some cell.cls) (hn : As.length = n) (hl : ls.size = nL) (hst : st0 = As.reverse ++ .ref b :: rest) (hrm : (rest.map fun v => v.category).sum ≤ 8) (hf : cells + rm.cells ≤ R.cells ∧ slots + rm.slots ≤ R.slots) (hdg : decode cc pc = .ok (.invokevirtual index, 3)) (hW : Wd D dA A s (wc ++ wr) H locs)
    (kk : ∀ (H1 : Heap) (locs1 : List Loc), Wd D dA A s (w1 ++ wr) H1 locs1 → W p l e R s m args below meth c H1 locs1 (cells + rm.cells) (slots + rm.slots) Q (F0 m (pc + 3) ls (.int r :: rest))) : W p l e R s m args below meth c H locs cells slots Q (F0 m pc ls st0) := by
  refine va_calli (va_runVN (As := As) (rest := rest) FX (hM H.size) cw ⟨PreW.blind, hcv, fun U hU hw => ⟨rfl, hW.pre U hU hw⟩⟩ rfl hn hl hst (lv_room (rest := st0) hrm) hdg hf) hW.2.2.1 (fun q _ h => hW.free q h) hW.free (fun r1 u t H1 locs1 ht hvm hw1 hB hz1 hk1 hS => ?_)
  subst hw1
  exact kk H1 locs1 (hW.join ht hB hk1 hS)
theorem w_VR {y : MethodName} {C : String} {bytes : ByteArray} {maxL n index b : Nat} {ret : Option FieldType} {rm : Room} {As : List Value} {st0 : List Value} {r : Nat} (FX : CallFix p m c cc nL s args lw_all own) (hM : CtR l y bytes maxL ret rm D dA (.ref b :: As) wc r w1) (cw : CallW R s args own C index y bytes maxL ret (ws_ y bytes maxL ret) rm rm.cells rm.slots n) (hcv : ∃ cell : Cell, H[b]? = some cell ∧ cell.vm.isStatics = false ∧ s.vm.findClass C = some cell.cls) (hn : As.length = n) (hl : ls.size = nL) (hst : st0 = As.reverse ++ .ref b :: rest) (hrm : (rest.map fun v => v.category).sum ≤ 8) (hf : cells + rm.cells ≤ R.cells ∧ slots + rm.slots ≤ R.slots) (hdg : decode cc pc = .ok (.invokevirtual index, 3)) (hW : Wd D dA A s (wc ++ wr) H locs)
    (kk : ∀ (H1 : Heap) (locs1 : List Loc), Wd D dA A s (w1 ++ wr) H1 locs1 → W p l e R s m args below meth c H1 locs1 (cells + rm.cells) (slots + rm.slots) Q (F0 m (pc + 3) ls (.ref r :: rest))) : W p l e R s m args below meth c H locs cells slots Q (F0 m pc ls st0) := by
  refine va_callr (va_runV (As := As) (rest := rest) FX (hM H.size) cw ⟨PreW.blind, hcv, fun U hU hw => ⟨rfl, hW.pre U hU hw⟩⟩ rfl hn hl hst (lv_room (rest := st0) hrm) hdg hf) hW.2.2.1 (fun q _ h => hW.free q h) hW.free (fun u r1 t H1 locs1 ht hvm hw1 hB hz1 hk1 hS => ?_)
  obtain ⟨rfl, hB⟩ := hB
  exact kk H1 locs1 (hW.join ht hB hk1 hS)
theorem g_aret (FX : CallFix p m c cc nL s args lw_all own) {nm : String} (hr : meth.sig.returnType = some (.object nm)) (hlk : meth.locks = false) (hW : Wd D dA A s ws H locs) {v r : Nat} (hv : v = r) (hdg : decode cc pc = .ok (.areturn, 1)) : W p l e R s m args below meth c H locs 0 0 (QR D dA A below args s 0 0 r ws) (F0 m pc ls [.ref v]) := by
  subst hv
  refine g_size hW (fun hz => ?_)
  exact W.aret FX.1 FX.2.1 hr (Or.inl ⟨_, rfl⟩) (Or.inr ⟨v, rfl⟩) (fun t ht hw => ⟨⟨(), v, rfl, trivial, rfl, by rw [ht]; exact hW.1, va_K.moved hw.alike hW.2.2.2.1, hW.2.1, by rw [ht]; exact hz⟩, hW.2.2.1.F ht⟩) hW.2.2.1.2.2 hdg
/-- reading a cell by its address -/
def hlk (ws : va_W) (a : Nat) : Option va_E := (ws.find? (fun q => q.1 == a)).map (fun q => q.2)
theorem hlk_get {ws : va_W} {a : Nat} {x : va_E} (h : hlk ws a = some x) : ∃ k : Nat, ws[k]? = some (a, x) := by
  unfold hlk at h
  cases hf : ws.find? (fun q => q.1 == a) with
  | none => rw [hf] at h; cases h
  | some z =>
    rw [hf] at h
    have h1 := List.find?_some hf
    have h2 := List.mem_of_find?_eq_some hf
    obtain ⟨k, hk⟩ := List.getElem?_of_mem h2
    have h3 : z.1 = a := by simpa using h1
    have h4 : z.2 = x := by simpa using h
    exact ⟨k, by rw [hk, ← h3, ← h4]⟩
/-- an int field of a cell of the world -/
def pgi (ws : va_W) (a ci k : Nat) (K : Int32 → Option α) : Option α := match hlk ws a with
  | some (.inr (c, fs)) => if c = ci then (match fs[k]? with
    | some (.int v) => K v
    | _ => none) else none
  | _ => none
theorem pgi_some {ws : va_W} {a ci k : Nat} {K : Int32 → Option α} (h : pgi ws a ci k K = some q) : ∃ (fs : List Value) (v : Int32), hlk ws a = some (.inr (ci, fs)) ∧ fs[k]? = some (.int v) ∧ K v = some q := by
  unfold pgi at h
  split at h
  · rename_i c fs he
    by_cases hc : c = ci
    · rw [if_pos hc] at h
      split at h
      · rename_i v hv
        exact ⟨fs, v, by rw [he, hc], hv, h⟩
      · cases h
    · rw [if_neg hc] at h; cases h
  · cases h
/-- the elements of a list: n of them, in an array of cap places -/
def lget (cap : Nat) (n : Int32) (f : Nat → Option Nat) (i : Int32) (K : Nat → Option α) : Option α := if i < 0 ∨ n ≤ i ∨ cap ≤ i.toNatClampNeg then none else (match f i.toNatClampNeg with
  | some x => K x
  | none => none)
theorem lget_some {cap : Nat} {n : Int32} {f : Nat → Option Nat} {i : Int32} {K : Nat → Option α} (h : lget cap n f i K = some q) : ¬ i < 0 ∧ ¬ n ≤ i ∧ vp_in i cap ∧ ∃ x, f i.toNatClampNeg = some x ∧ K x = some q := by
  unfold lget at h
  by_cases c : i < 0 ∨ n ≤ i ∨ cap ≤ i.toNatClampNeg
  · rw [if_pos c] at h; cases h
  · rw [if_neg c] at h
    split at h
    · rename_i x hx
      exact ⟨fun z => c (Or.inl z), fun z => c (Or.inr (Or.inl z)), fun z => c (z.elim Or.inl (fun w => Or.inr (Or.inr w))), x, hx, h⟩
    · cases h
end ROWS2
section ENTRY2
variable {l : Launch} {y : MethodName} {cc : ByteArray} {nL : Nat} {ret : Option FieldType} {rm : Room} {D : va_G} {dA : Nat → ClassId} {av : List Value} {ws w1 : va_W}
theorem e_R {r : Nat} (hy : plainName y.cls = true) (hn : (lg_sl av).length ≤ nL)
    (body : ∀ (p : Program) (e : Env) (s : State) (m : MethodId) (below : List Frame) (meth : Method) (c : Code) (ls : Array Slot) (A : Nat → Prop), CallFix p m c cc nL s av.toArray lw_all y.cls → meth.sig.returnType = ret → meth.locks = false → lv_has ls nL (lv_args 0 av) → Wd D dA A s ws s.heap [] →
      W p l e rm s m av.toArray below meth c s.heap [] 0 0 (QR D dA A below av.toArray s rm.cells rm.slots r w1) (F0 m 0 ls [])) : CtR l y cc nL ret rm D dA av ws r w1 :=
  fun _ => e_start hy hn (fun p e s m below meth c ls FX hr hlk _ hl hW hz => by subst hz; exact body p e s m below meth c ls _ FX hr hlk hl hW)
end ENTRY2
