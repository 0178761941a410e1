/-! the free heap: ends and entries; a contract without cells holds over any world -/
abbrev QIZ (D : va_G) (dA : Nat → ClassId) (A : Nat → Prop) (below : List Frame) (args : Array Value) (s : State) (mc ms : Nat) (r : Int32) (w1 : va_W) (z1 : Nat) : State → Prop := MQ below (va_Qi (fun (r1 : Int32) (_ : Unit) => r1 = r) (fun _ t => PostW D dA A w1 z1 t) A) args s mc ms A
abbrev QVZ (D : va_G) (dA : Nat → ClassId) (A : Nat → Prop) (below : List Frame) (args : Array Value) (s : State) (mc ms : Nat) (w1 : va_W) (z1 : Nat) : State → Prop := MQ below (va_Qv (fun (_ : Unit) => True) (fun _ t => PostW D dA A w1 z1 t) A) args s mc ms A
abbrev QRZ (D : va_G) (dA : Nat → ClassId) (A : Nat → Prop) (below : List Frame) (args : Array Value) (s : State) (mc ms : Nat) (r : Nat) (w1 : va_W) (z1 : Nat) : State → Prop := MQ below (va_Qr (fun (_ : Unit) => True) (fun _ a t => a = r ∧ PostW D dA A w1 z1 t) A) args s mc ms A
def bnd3 {α ρ : Type} (x : Option (ρ × va_W × Nat)) (k : ρ → va_W → Nat → Option α) : Option α := x.bind fun q => k q.1 q.2.1 q.2.2
theorem bnd3_eq {α ρ : Type} {x : Option (ρ × va_W × Nat)} {k : ρ → va_W → Nat → Option α} {q : α} (h : bnd3 x k = some q) : (x.bind fun q => k q.1 q.2.1 q.2.2) = some q := h
section GHR
variable {p : Program} {l : Launch} {e : Env} {R : Room} {s : State} {m : MethodId} {args : Array Value} {below : List Frame} {meth : Method} {c : Code} {H : Heap} {locs : List Loc} {cells slots : Nat} {Q : State → Prop}
variable {cc : ByteArray} {pc nL : Nat} {ls : Array Slot} {rest : List Value} {D : va_G} {dA : Nat → ClassId} {A : Nat → Prop} {w : va_W} {z c0 y0 C0 Y0 : Nat} {own : String}
theorem zi_ret (FX : CallFix p m c cc nL s args lw_all own) (hr : meth.sig.returnType = some .int) (hlk : meth.locks = false) (hW : Wz D dA A s (w, z, c0, y0) H locs) (hc : c0 ≤ C0 ∧ y0 ≤ Y0) {v r : Int32} (hv : v = r) (hdg : decode cc pc = .ok (.ireturn, 1)) : W p l e R s m args below meth c H locs c0 y0 (QIZ D dA A below args s C0 Y0 r w z) (F0 m pc ls [.int v]) := by
  subst hv
  refine W.widen hc.1 hc.2 ?_
  exact W.iret FX.1 FX.2.1 hr (fun t ht hw => ⟨⟨v, (), rfl, rfl, by rw [ht]; exact hW.1.1, va_K.moved hw.alike hW.1.2.2.2.1, hW.1.2.1, by rw [ht]; exact hW.2⟩, hW.1.2.2.1.F ht⟩) hW.1.2.2.1.2.2 hdg
theorem zz_ret (FX : CallFix p m c cc nL s args lw_all own) (hr : meth.sig.returnType = some .boolean) (hlk : meth.locks = false) (hW : Wz D dA A s (w, z, c0, y0) H locs) (hc : c0 ≤ C0 ∧ y0 ≤ Y0) {v r : Int32} (hn : narrow .boolean (.int v) = .int v) (hv : v = r) (hdg : decode cc pc = .ok (.ireturn, 1)) : W p l e R s m args below meth c H locs c0 y0 (QIZ D dA A below args s C0 Y0 r w z) (F0 m pc ls [.int v]) := by
  subst hv
  refine W.widen hc.1 hc.2 ?_
  exact W.zret FX.1 FX.2.1 hr hn (fun t ht hw => ⟨⟨v, (), rfl, rfl, by rw [ht]; exact hW.1.1, va_K.moved hw.alike hW.1.2.2.2.1, hW.1.2.1, by rw [ht]; exact hW.2⟩, hW.1.2.2.1.F ht⟩) hW.1.2.2.1.2.2 hdg
theorem zv_ret (FX : CallFix p m c cc nL s args lw_all own) (hr : meth.sig.returnType = none) (hlk : meth.locks = false) (hW : Wz D dA A s (w, z, c0, y0) H locs) (hc : c0 ≤ C0 ∧ y0 ≤ Y0) (hdg : decode cc pc = .ok (.return_, 1)) : W p l e R s m args below meth c H locs c0 y0 (QVZ D dA A below args s C0 Y0 w z) (F0 m pc ls []) := by
  refine W.widen hc.1 hc.2 ?_
  exact W.vret FX.1 FX.2.1 hr (fun t ht hw => ⟨⟨(), rfl, trivial, by rw [ht]; exact hW.1.1, va_K.moved hw.alike hW.1.2.2.2.1, hW.1.2.1, by rw [ht]; exact hW.2⟩, hW.1.2.2.1.F ht⟩) hW.1.2.2.1.2.2 hdg
theorem za_ret (FX : CallFix p m c cc nL s args lw_all own) {rt : FieldType} (hr : meth.sig.returnType = some rt) (hrt : (∃ n, rt = .object n) ∨ ∃ t, rt = .array t) (hlk : meth.locks = false) (hW : Wz D dA A s (w, z, c0, y0) H locs) (hc : c0 ≤ C0 ∧ y0 ≤ Y0) {v r : Nat} (hv : v = r) (hdg : decode cc pc = .ok (.areturn, 1)) : W p l e R s m args below meth c H locs c0 y0 (QRZ D dA A below args s C0 Y0 r w z) (F0 m pc ls [.ref v]) := by
  subst hv
  refine W.widen hc.1 hc.2 ?_
  exact W.aret FX.1 FX.2.1 hr hrt (Or.inr ⟨v, rfl⟩) (fun t ht hw => ⟨⟨(), v, rfl, trivial, rfl, by rw [ht]; exact hW.1.1, va_K.moved hw.alike hW.1.2.2.2.1, hW.1.2.1, by rw [ht]; exact hW.2⟩, hW.1.2.2.1.F ht⟩) hW.1.2.2.1.2.2 hdg
end GHR
section GHE
variable {l : Launch} {y : MethodName} {cc : ByteArray} {nL : Nat} {ret : Option FieldType} {rm : Room} {D : va_G} {dA : Nat → ClassId} {av : List Value} {ws w1 : va_W} {z z1 : Nat}
theorem e_IZ {r : Int32} (hy : plainName y.cls = true) (hn : (lg_sl av).length ≤ nL)
    (body : ∀ (p : Program) (e : Env) (s : State) (m : MethodId) (below : List Frame) (meth : Method) (c : Code) (ls : Array Slot) (A : Nat → Prop), CallFix p m c cc nL s av.toArray lw_all y.cls → meth.sig.returnType = ret → meth.locks = false → meth.name = y.name → lv_has ls nL (lv_args 0 av) → Wz D dA A s (ws, z, 0, 0) s.heap [] →
      W p l e rm s m av.toArray below meth c s.heap [] 0 0 (QIZ D dA A below av.toArray s rm.cells rm.slots r w1 z1) (F0 m 0 ls [])) : CtIZ l y cc nL ret rm D dA av ws z r w1 z1 :=
  e_start hy hn (fun p e s m below meth c ls FX hr hlk hnm hl hW hz => body p e s m below meth c ls _ FX hr hlk hnm hl ⟨hW, hz⟩)
theorem e_VZ (hy : plainName y.cls = true) (hn : (lg_sl av).length ≤ nL)
    (body : ∀ (p : Program) (e : Env) (s : State) (m : MethodId) (below : List Frame) (meth : Method) (c : Code) (ls : Array Slot) (A : Nat → Prop), CallFix p m c cc nL s av.toArray lw_all y.cls → meth.sig.returnType = ret → meth.locks = false → meth.name = y.name → lv_has ls nL (lv_args 0 av) → Wz D dA A s (ws, z, 0, 0) s.heap [] →
      W p l e rm s m av.toArray below meth c s.heap [] 0 0 (QVZ D dA A below av.toArray s rm.cells rm.slots w1 z1) (F0 m 0 ls [])) : CtVZ l y cc nL ret rm D dA av ws z w1 z1 :=
  e_start hy hn (fun p e s m below meth c ls FX hr hlk hnm hl hW hz => body p e s m below meth c ls _ FX hr hlk hnm hl ⟨hW, hz⟩)
theorem e_RZ {r : Nat} (hy : plainName y.cls = true) (hn : (lg_sl av).length ≤ nL)
    (body : ∀ (p : Program) (e : Env) (s : State) (m : MethodId) (below : List Frame) (meth : Method) (c : Code) (ls : Array Slot) (A : Nat → Prop), CallFix p m c cc nL s av.toArray lw_all y.cls → meth.sig.returnType = ret → meth.locks = false → meth.name = y.name → lv_has ls nL (lv_args 0 av) → Wz D dA A s (ws, z, 0, 0) s.heap [] →
      W p l e rm s m av.toArray below meth c s.heap [] 0 0 (QRZ D dA A below av.toArray s rm.cells rm.slots r w1 z1) (F0 m 0 ls [])) : CtRZ l y cc nL ret rm D dA av ws z r w1 z1 :=
  e_start hy hn (fun p e s m below meth c ls FX hr hlk hnm hl hW hz => body p e s m below meth c ls _ FX hr hlk hnm hl ⟨hW, hz⟩)
theorem GX.nar {dA : Nat → Nat} {A B : Nat → Prop} {U : State} {H : Heap} (h : GX dA A U H) (hAB : ∀ q, B q → A q) : GX dA B U H := by
  obtain ⟨h1, h2, h3, h4, h5, h6, h7, h8, h9, h10, h11, h12, h13⟩ := h
  exact ⟨h1, h2, h3, h4, fun i hi => ⟨(h5 i hi).1.narrow hAB, (h5 i hi).2.1.narrow hAB, (h5 i hi).2.2⟩, h6.narrow hAB, h7, h8.narrow hAB, h9.narrow hAB, h10.narrow hAB, h11.narrow hAB, h12, h13⟩
/-- a method without cells, over any world -/
theorem CtI.any {r : Int32} (h : CtI l y cc nL ret rm D dA av [] r []) (ws : va_W) : CtI l y cc nL ret rm D dA av ws r ws := by
  intro sz p e ha hc hk s m args below hf happ hP hK
  obtain ⟨hv, hz, hP1, hK1, hD1, hG⟩ := hP
  have hF : ∀ q, va_A [] sz q → va_A ws sz q := fun q hq => by
    rcases hq with ⟨k, e, hk⟩ | hq
    · simp at hk
    · exact Or.inr hq
  obtain ⟨k, o, g1, g2, g3, ⟨⟨r1, u, ho, hpost, hP2, hK2, hD2, hz2⟩, hsz, hkeep⟩, L, g5, g6⟩ := h sz p e ha hc hk s m args below hf happ ⟨hv, hz, fun k q hk => by simp at hk, hK1, ⟨fun i j p q hi => by simp at hi, fun k q hk => by simp at hk⟩, hG.nar hF⟩ hK
  refine ⟨k, o, g1, g2, g3, ⟨⟨r1, u, ho, hpost, ?_, hK2, hD1.self, hz2⟩, hsz, fun q hq hn => hkeep q hq (fun z => hn (hF q z))⟩, L, g5, fun q hq => hF _ (g6 q hq)⟩
  refine hP1.kept (fun k q hk => ?_)
  have hlt := (hP1 k q hk).lt
  refine hkeep q.1 hlt (fun z => ?_)
  rcases z with ⟨k, e, hk⟩ | z
  · simp at hk
  · omega
end GHE
