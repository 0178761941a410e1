/-! the contract for a method with a table of its own -/
def CtOW (l : Launch) (y : MethodName) (cc : ByteArray) (nL : Nat) (ret : Option FieldType) (hh : List (Nat × Nat × Nat × Nat)) (rm : Room) (D : va_G) (dA : Nat → ClassId) (av : List Value) (ws : va_W) (z : Nat) (o : Option Value ⊕ Nat) (w1 : va_W) (c1 y1 : Nat) : Prop :=
  vy_Met l y (wsW_ y cc nL ret hh) rm (va_Pc av (PreW D dA ws z)) (Qo D dA (va_A ws z) w1 (z + c1) y1 o) (Xo D dA (va_A ws z) w1 (z + c1) y1 o) rm.cells rm.slots (va_A ws z)
section COW
variable {l : Launch} {y : MethodName} {cc : ByteArray} {nL : Nat} {ret : Option FieldType} {hh : List (Nat × Nat × Nat × Nat)} {rm : Room} {D : va_G} {dA : Nat → ClassId} {av : List Value} {ws w1 : va_W} {z c1 y1 : Nat} {o : Option Value ⊕ Nat}
theorem e_OW (hy : plainName y.cls = true) (hn : (lg_sl av).length ≤ nL)
    (body : ∀ (p : Program) (e : Env) (s : State) (m : MethodId) (below : List Frame) (meth : Method) (c : Code) (ls : Array Slot) (A : Nat → Prop), CallFix p m c cc nL s av.toArray lw_all y.cls → meth.sig.returnType = ret → meth.locks = false → meth.name = y.name → c.exceptionTable.toList = tableOf hh → lv_has ls nL (lv_args 0 av) → Wo D dA A s ws z 0 s.heap [] →
      W p l e rm s m av.toArray below meth c s.heap [] 0 0 (QO D dA A below av.toArray s rm.cells rm.slots o w1 (z + c1) y1) (F0 m 0 ls [])) : CtOW l y cc nL ret hh rm D dA av ws z o w1 c1 y1 := by
  refine vy_ofWH (cc := cc) (maxL := nL) (ret := ret) (hh := hh) hy rfl ?_
  intro p e s m args below meth c s₁ B hml hv
  obtain ⟨rfl, hsz, hP, hK, hD0, hG⟩ := hv
  subst hsz
  have hts := atoms_spec (ws := wsW_ y cc nL ret hh) B.pre
  have htb := vy_table (x := y) B (hts _ List.mem_cons_self)
  have hts : ∀ w ∈ lw_all, w.before _ s = true := fun w h => hts w (List.mem_cons_of_mem _ h)
  have hown : s.vm.findClass y.cls = some m.cls := findClass_of_methodNamed B.named
  rw [lg_entry_eq]
  exact body p e s m below meth c _ _ ⟨B.exec, B.bytes, hml, hown, hts⟩ B.returns B.notSynchronized (name_of_methodNamed B.named B.method).1 htb (lv_entry av hn) ⟨⟨hP, hD0.self, va_S.rf, hK, fun q h => Or.inr h, hG⟩, rfl, rfl⟩
end COW
