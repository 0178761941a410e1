/-! FORMULAS: what a tree of nodes answers; the book's data -/
/-- what a pair makes of two numbers -/
def pr2 (c a b : Int32) : Int32 := if c = 43 then a + b else if c = 45 then a - b else if c = 42 then a * b else if c = 47 then (if b = 0 then 0 else a / b) else if c = 37 then (if b = 0 then 0 else a - a / b * b) else if c = 60 then (if a < b then 1 else 0) else if c = 62 then (if b < a then 1 else 0) else if c = 61 then (if a = b then 1 else 0) else if c = 38 then (if a = 0 ∨ b = 0 then 0 else 1) else (if a = 0 ∧ b = 0 then 0 else 1)
def nEv (dA : Nat → Nat) (ws : va_W) (u : Nat → Int32) : Nat → Nat → Option Int32
  | 0, _ => none
  | n + 1, x => match hlk ws x with
    | some (.inr (10, [.int v])) => some v
    | some (.inr (9, [.ref y])) => (nEv dA ws u n y).bind fun r => some (if r = 0 then 1 else 0)
    | some (.inr (11, [.ref y, .ref z, .int c])) => (nEv dA ws u n y).bind fun a => (nEv dA ws u n z).bind fun b => some (pr2 c a b)
    | some _ => none
    | none => if x = dA 100 then some (u 0) else if x = dA 101 then some (u 1) else if x = dA 102 then some (u 2) else if x = dA 103 then some (u 3) else if x = dA 104 then some (u 4) else none
def ndCode (i : Nat) : ByteArray := [cX10_of, cX11_of, cX12_of, cX14_of, cX15_of, cX16_of, cX17_of, cX18_of].getD i cX10_of
def ndL (i : Nat) : Nat := [2, 2, 4, 2, 2, 2, 2, 2].getD i 0
def ndCls (dA : Nat → Nat) (ws : va_W) (x i : Nat) : Prop := (i = 0 ∧ ∃ fs : List Value, hlk ws x = some (.inr (9, fs))) ∨ (i = 1 ∧ ∃ fs : List Value, hlk ws x = some (.inr (10, fs))) ∨ (i = 2 ∧ ∃ fs : List Value, hlk ws x = some (.inr (11, fs))) ∨ ∃ j, j < 5 ∧ i = 3 + j ∧ x = dA (100 + j)
abbrev rNode (n : Nat) : Room := { frames := n, cells := 0, slots := 0, locals := 40 * n }
abbrev Bk : Type := (Nat → Nat) × (Nat → Int32) × (Nat → Option Nat) × (Nat → Option Nat) × Option Nat × va_W
/-- the book's addresses: itself, rooms, trunks, what is asked, the two arrays; the arrays' lengths -/
def bA (B : Bk) (k : Nat) : Nat := B.1 k
/-- the book's ints: pines, tales, seed, units; the lists' counts -/
def bI (B : Bk) (k : Nat) : Int32 := B.2.1 k
def bR (B : Bk) : Nat → Option Nat := B.2.2.1
def bT (B : Bk) : Nat → Option Nat := B.2.2.2.1
def bN (B : Bk) : Option Nat := B.2.2.2.2.1
def bP (B : Bk) : va_W := B.2.2.2.2.2
def BdI (l : Launch) (y : MethodName) (bytes : ByteArray) (maxL : Nat) (rm : Room) (D : va_G) (dA : Nat → ClassId) (av : List Value) (ws : va_W) (r : Int32) (w1 : va_W) : Prop :=
  ∀ (p : Program) (e : Env) (s : State) (m : MethodId) (below : List Frame) (meth : Method) (c : Code) (ls : Array Slot) (A : Nat → Prop), CallFix p m c bytes maxL s av.toArray lw_all y.cls → meth.sig.returnType = some .int → meth.locks = false → lv_has ls maxL (lv_args 0 av) → Wd D dA A s ws s.heap [] →
    W p l e rm s m av.toArray below meth c s.heap [] 0 0 (QI D dA A below av.toArray s rm.cells rm.slots r w1) (F0 m 0 ls [])
/-- every formula that ev answers is met, whatever its class -/
def NodeM (l : Launch) (D : va_G) (dA : Nat → ClassId) (ws pool : va_W) (ka n : Nat) (ev : Nat → Option Int32) : Prop := ∀ (x : Nat) (r : Int32), ev x = some r → ∃ i, i < 8 ∧ ndCls dA pool x i ∧ BdI l (fwY i) (ndCode i) (ndL i) (rNode n) D dA [.ref x, .ref ka] ws r ws
theorem ndWords : ∀ i, i < 8 → Cond.selects (fwC i) fwX (fwY i) ∈ lw_all ∧ Cond.instanceMethod (fwY i) ∈ lw_all ∧ Cond.code (fwY i) (ndCode i) (ndL i) (some .int) ∈ lw_all ∧ plainName (fwY i).cls = true ∧ 2 ≤ ndL i ∧ ndL i ≤ 4
  | 0, _ => ⟨q1211, q1213, q1215, by decide, by decide, by decide⟩
  | 1, _ => ⟨q1227, q1229, q1231, by decide, by decide, by decide⟩
  | 2, _ => ⟨q1219, q1221, q1223, by decide, by decide, by decide⟩
  | 3, _ => ⟨q1181, q1183, q1185, by decide, by decide, by decide⟩
  | 4, _ => ⟨q1187, q1189, q1191, by decide, by decide, by decide⟩
  | 5, _ => ⟨q1193, q1195, q1197, by decide, by decide, by decide⟩
  | 6, _ => ⟨q1199, q1201, q1203, by decide, by decide, by decide⟩
  | 7, _ => ⟨q1205, q1207, q1209, by decide, by decide, by decide⟩
section NODE
variable {p : Program} {l : Launch} {e : Env} {R : Room} {s : State} {m : MethodId} {args : Array Value} {below : List Frame} {meth : Method} {c : Code} {H : Heap} {locs : List Loc} {cells slots : Nat} {Q : State → Prop}
variable {cc : ByteArray} {pc nL : Nat} {ls : Array Slot} {rest : List Value} {D : va_G} {dA : Nat → ClassId} {A : Nat → Prop} {ws pool wr wc w1 : va_W} {own : String} {α : Type} {q : α}
theorem BdI.back {y : MethodName} {bytes : ByteArray} {maxL len : Nat} {rm : Room} {av : List Value} {r : Int32} {sz : Nat} (hexec : p.tables.exec = Jvm.exec) (hy : plainName y.cls = true) (hn : (lg_sl av).length ≤ maxL) (hM : BdI l y bytes maxL rm D dA av ws r w1) (hts : ∀ w ∈ lw_all, w.before args s = true) (hcode : Cond.code y bytes maxL (some .int) ∈ lw_all) (hframes : rm.frames + 1 ≤ R.frames) (hlocals : 8 + (maxL + 11) + rm.locals ≤ R.locals) :
    Back l R p e below s args y len 8 (PreOf R rm.cells rm.slots (va_Pc av (PreW D dA ws sz))) (PostOf (va_Qi (fun (r1 : Int32) (_ : Unit) => r1 = r) (fun _ t => PostW D dA (va_A ws sz) w1 sz t) (va_A ws sz)) rm.cells rm.slots (va_A ws sz)) := by
  refine back_body (rm := rm) hy ?_ hts hcode PreW.blind rfl rfl hframes hlocals
  intro s' mk a below' methk ck h1 h2 h3 h4 h5 h6 hv
  obtain ⟨rfl, hsz, hP, hK, hD0, hG⟩ := hv
  subst hsz
  rw [lg_entry_eq]
  exact hM p e s' mk below' methk ck _ _ ⟨hexec, h1, h2, h5, h6⟩ h3 h4 (lv_entry av hn) ⟨hP, hD0.self, va_S.rf, hK, fun q h => Or.inr h, hG⟩
theorem run_FB {y : MethodName} {C : String} {cC : ClassId} {bytes : ByteArray} {maxL index count b mc ms : Nat} {ret : Option FieldType} {Pc : Array Value → State → Prop} {Qc : Array Value → State → Outcome → State → Prop} {free : Addr → Prop} {As : List Value} {g : JFrame} (hat : ClassAt s C cC) (FX : CallFix p m c cc nL s args lw_all own) (hK : Back l R p e below s args y 5 8 (PreOf R mc ms Pc) (PostOf Qc mc ms free))
    (hlink : Cond.methodLink own index fwX ∈ lw_all) (hsel : Cond.selects C fwX y ∈ lw_all) (hinst : Cond.instanceMethod y ∈ lw_all) (hcode : Cond.code y bytes maxL ret ∈ lw_all) (hF : va_Fw C fwX y s) (hp : PreV s H C b Pc As)
    (hg : g.method = m) (hn : As.length = 1) (hsize : g.locals.size = nL) (hstack : g.stack = As.reverse ++ .ref b :: rest) (hW : 2 * g.monitorRoom + (rest.map fun v => v.category).sum ≤ 8) (hdg : decode cc g.pc = .ok (.invokeinterface index count, 5)) (hf : cells + mc ≤ R.cells ∧ slots + ms ≤ R.slots) :
    va_Run5 p l e R s m args below meth c H locs cells slots mc ms g rest (Qc (Value.ref b :: As).toArray) (free) := by
  obtain ⟨hx, hb, hml, ho, hts⟩ := FX
  obtain ⟨-, ⟨cellB, hcB, hoB, hclB⟩, hPc⟩ := hp
  obtain ⟨hfc, kB, hkB, -⟩ := hat
  cases hfc.symm.trans hclB
  intro T hT X
  obtain ⟨v, vm₁, ⟨U', l2, c2, s2⟩, hW₁, X', ⟨g', mk, t, L, e1, e2, hq, h1, hL, h2, h3⟩, st⟩ := va_callIF X hx (C := C) (bytes := bytes) (maxL := maxL) (ret := ret) ho (hts _ hlink) (va_any rfl hF.1) (va_any rfl hF.2.1) (hts _ hsel) (hts _ hinst) (va_any rfl hF.2.2.1) (va_any rfl hF.2.2.2.1) (va_any rfl hF.2.2.2.2) (hts _ hcode) ⟨by decide, by decide⟩ hK (by rw [hT]; exact hcB) hoB hclB hkB hg (hsize.trans hml.symm) (argsL := As) (rest := rest) (fun sig h => by
      rw [hn]
      have : parseMethodDescriptor fwX.desc = some sig := h
      have h2 : (parseMethodDescriptor fwX.desc).map (fun d => d.parameters.length) = some 1 := by decide +kernel
      rw [this] at h2
      exact (Option.some.inj h2).symm) hstack hW (by rw [hb]; exact hdg)
    (fun vm₁ hW₁ => ⟨hf.1, hf.2, hPc (T.setVm vm₁) hT hW₁⟩)
  dsimp only [Pt.U, Pt.locs, Pt.cells, Pt.slots] at X' e1 e2 h1 h2 h3 st
  subst h1; subst h2; subst h3
  exact ⟨v, (T.setVm vm₁).calling g' mk (Value.ref b :: As).toArray, t, U', L, hT, X', hL, e1, e2, hq, st⟩
/-- the class of a formula's cell -/
theorem nd_recv {x i : Nat} (hsub : ∀ (a : Nat) (z : va_E), hlk pool a = some z → ∃ k : Nat, ws[k]? = some (a, z)) (hW : Wd D dA A s ws H locs) (h : ndCls dA pool x i) : (∃ cell : Cell, H[x]? = some cell ∧ cell.vm.isStatics = false ∧ s.vm.findClass (fwC i) = some cell.cls) ∧ ∃ cC, ClassAt s (fwC i) cC := by
  rcases h with ⟨rfl, fs, hx⟩ | ⟨rfl, fs, hx⟩ | ⟨rfl, fs, hx⟩ | ⟨j, hj, rfl, rfl⟩
  · obtain ⟨k, hk⟩ := hsub _ _ hx
    exact ⟨va_recv hW.2.2.2.1 hW.1 (ci := 9) (q := (RX10, TX10, 1)) rfl hk, _, hW.classAt (ci := 9) (C := RX10) (T := TX10) (N := 1) rfl⟩
  · obtain ⟨k, hk⟩ := hsub _ _ hx
    exact ⟨va_recv hW.2.2.2.1 hW.1 (ci := 10) (q := (RX11, TX11, 1)) rfl hk, _, hW.classAt (ci := 10) (C := RX11) (T := TX11) (N := 1) rfl⟩
  · obtain ⟨k, hk⟩ := hsub _ _ hx
    exact ⟨va_recv hW.2.2.2.1 hW.1 (ci := 11) (q := (RX12, TX12, 3)) rfl hk, _, hW.classAt (ci := 11) (C := RX12) (T := TX12) (N := 3) rfl⟩
  · obtain ⟨-, h1, cc, h2⟩ := hW.2.2.2.2.2.2.2.2.2.1 j hj
    exact ⟨va_Orecv h1 hW.2.2.1, cc, h2⟩
theorem node_row {ka n x index count : Nat} {ev : Nat → Option Int32} {k : Int32 → Option α} (hown : (own = "TrunkLitters$House" ∧ index = 145) ∨ (own = "TrunkLitters$Not" ∧ index = 13) ∨ (own = "TrunkLitters$Pair" ∧ index = 20)) (hsub : ∀ (a : Nat) (z : va_E), hlk pool a = some z → ∃ k : Nat, ws[k]? = some (a, z)) (hev : NodeM l D dA ws pool ka n ev)
    (FX : CallFix p m c cc nL s args lw_all own) (hR : n + 1 ≤ R.frames ∧ 40 * n + 40 ≤ R.locals) (hcs : cells ≤ R.cells ∧ slots ≤ R.slots) (hl : ls.size = nL) (hrm : (rest.map fun v => v.category).sum ≤ 8) (hW : Wd D dA A s ws H locs) (hf : (ev x).bind k = some q) (hdg : decode cc pc = .ok (.invokeinterface index count, 5))
    (kk : ∀ (r : Int32) (H1 : Heap) (locs1 : List Loc), Wd D dA A s ws H1 locs1 → k r = some q → W p l e R s m args below meth c H1 locs1 cells slots Q (F0 m (pc + 5) ls (.int r :: rest))) : W p l e R s m args below meth c H locs cells slots Q (F0 m pc ls (.ref ka :: .ref x :: rest)) := by
  obtain ⟨r, h1, hf⟩ := bnd hf
  obtain ⟨i, hi, hcls, hbd⟩ := hev x r h1
  obtain ⟨w1, w2, w3, w4, w5, w6⟩ := ndWords i hi
  obtain ⟨hrec, cC, hat⟩ := nd_recv hsub hW hcls
  have hlink : Cond.methodLink own index fwX ∈ lw_all := by
    rcases hown with ⟨rfl, rfl⟩ | ⟨rfl, rfl⟩ | ⟨rfl, rfl⟩
    · exact q1177
    · exact q1217
    · exact q1225
  have hW2 := hW.nil
  have hK : Back l R p e below s args (fwY i) 5 8 _ _ := BdI.back (sz := H.size) FX.1 w4 (by show 2 ≤ _; exact w5) hbd FX.2.2.2.2 w3 hR.1 (by show 8 + (ndL i + 11) + 40 * n ≤ R.locals; omega)
  refine va_callFi (run_FB (As := [.ref ka]) (rest := rest) hat FX hK hlink w1 w2 w3 (hW.2.2.2.2.2.2.2.2.1 i hi) ⟨PreW.blind, hrec, fun U hU hw => ⟨rfl, hW2.pre U hU hw⟩⟩ rfl rfl hl rfl (lv_room (rest := (.ref ka :: .ref x :: rest)) hrm) hdg ⟨hcs.1, hcs.2⟩) hW.2.2.1 (fun q _ h => hW2.free q h) hW2.free (fun r1 u t H1 locs1 ht hvm hw1 hB hz1 hk1 hS => ?_)
  subst hw1
  exact kk _ H1 locs1 (hW2.join ht hB hk1 hS).nil' hf
end NODE
