/-! calls, ends and entries of the contract CtO -/
abbrev QO (D : va_G) (dA : Nat → ClassId) (A : Nat → Prop) (below : List Frame) (args : Array Value) (s : State) (C Y : Nat) (o : Option Value ⊕ Nat) (w1 : va_W) (z1 y1 : Nat) : State → Prop := vy_MQ below (Qo D dA A w1 z1 y1 o) (Xo D dA A w1 z1 y1 o) args s C Y A
section CO2
variable {p : Program} {l : Launch} {e : Env} {R : Room} {s : State} {m : MethodId} {args : Array Value} {below : List Frame} {meth : Method} {c : Code} {H : Heap} {locs : List Loc} {Q : State → Prop}
variable {cc : ByteArray} {pc nL : Nat} {ls : Array Slot} {rest st0 : List Value} {D : va_G} {dA : Nat → ClassId} {A : Nat → Prop} {w w1 : va_W} {z c0 y0 c1 y1 mc ms C0 Y0 : Nat} {own : String} {av : Array Value}
variable {y : MethodName} {C : String} {bytes : ByteArray} {maxL n index b : Nat} {ret : Option FieldType} {rm : Room} {As : List Value} {o : Option Value ⊕ Nat}
theorem o_V (FX : CallFix p m c cc nL s args lw_all own) (hM : CtO l y bytes maxL ret rm D dA (.ref b :: As) w (z + c0) o w1 c1 y1) (cw : CallW R s args own C index y bytes maxL ret (ws_ y bytes maxL ret) rm rm.cells rm.slots n) (hcv : ∃ cell : Cell, H[b]? = some cell ∧ cell.vm.isStatics = false ∧ s.vm.findClass C = some cell.cls) (hn : As.length = n) (hl : ls.size = nL) (hst : st0 = As.reverse ++ .ref b :: rest) (hrm : (rest.map fun v => v.category).sum ≤ 8) (hf : c0 + rm.cells ≤ R.cells ∧ y0 + rm.slots ≤ R.slots) (hdg : decode cc pc = .ok (.invokevirtual index, 3)) (hW : Wo D dA A s w z c0 H locs) :
    vy_Run p l e R s m args below meth c H locs c0 y0 rm.cells rm.slots (F0 m pc ls st0) rest (Qo D dA (va_A w (z + c0)) w1 (z + c0 + c1) y1 o (Value.ref b :: As).toArray) (Xo D dA (va_A w (z + c0)) w1 (z + c0 + c1) y1 o) (va_A w (z + c0)) :=
  vy_runV (As := As) (rest := rest) FX hM cw ⟨PreW.blind, hcv, fun U hU hw => ⟨rfl, (hW.toZ (y0 := y0)).pre U hU hw⟩⟩ rfl hn hl hst (lv_room (rest := st0) hrm) hdg hf
theorem o_S (FX : CallFix p m c cc nL s args lw_all own) (hM : CtO l y bytes maxL ret rm D dA As w (z + c0) o w1 c1 y1) (cw : CallB R s args own index y bytes maxL ret (ws_ y bytes maxL ret) rm rm.cells rm.slots n ∧ (Cond.static y).before args s = true) (hn : As.length = n) (hl : ls.size = nL) (hst : st0 = As.reverse ++ rest) (hrm : (rest.map fun v => v.category).sum ≤ 8) (hf : c0 + rm.cells ≤ R.cells ∧ y0 + rm.slots ≤ R.slots) (hdg : decode cc pc = .ok (.invokestatic index, 3)) (hW : Wo D dA A s w z c0 H locs) :
    vy_Run p l e R s m args below meth c H locs c0 y0 rm.cells rm.slots (F0 m pc ls st0) rest (Qo D dA (va_A w (z + c0)) w1 (z + c0 + c1) y1 o As.toArray) (Xo D dA (va_A w (z + c0)) w1 (z + c0 + c1) y1 o) (va_A w (z + c0)) :=
  vy_runS (As := As) (rest := rest) FX hM cw ⟨PreW.blind, fun U hU hw => ⟨rfl, (hW.toZ (y0 := y0)).pre U hU hw⟩⟩ rfl hn hl hst (lv_room (rest := st0) hrm) hdg hf
theorem o_I (FX : CallFix p m c cc nL s args lw_all own) (hM : CtO l y bytes maxL none rm D dA (.ref b :: As) w (z + c0) o w1 c1 y1) (cw : CallB R s args own index y bytes maxL none (ws_ y bytes maxL none) rm rm.cells rm.slots n ∧ y.name = "<init>" ∧ (Cond.instanceMethod y).before args s = true) (hn : As.length = n) (hl : ls.size = nL) (hst : st0 = As.reverse ++ .ref b :: rest) (hrm : (rest.map fun v => v.category).sum ≤ 8) (hf : c0 + rm.cells ≤ R.cells ∧ y0 + rm.slots ≤ R.slots) (hdg : decode cc pc = .ok (.invokespecial index, 3)) (hW : Wo D dA A s w z c0 H locs) :
    vy_Run p l e R s m args below meth c H locs c0 y0 rm.cells rm.slots (F0 m pc ls st0) rest (Qo D dA (va_A w (z + c0)) w1 (z + c0 + c1) y1 o (Value.ref b :: As).toArray) (Xo D dA (va_A w (z + c0)) w1 (z + c0 + c1) y1 o) (va_A w (z + c0)) :=
  vy_runI (As := As) (rest := rest) FX hM cw ⟨PreW.blind, fun U hU hw => ⟨rfl, (hW.toZ (y0 := y0)).pre U hU hw⟩⟩ rfl hn hl hst (lv_room (rest := st0) hrm) hdg hf
theorem o_IN {host : String} (FX : CallFix p m c cc nL s args lw_all own) (hM : CtO l y bytes maxL none rm D dA (.ref b :: As) w (z + c0) o w1 c1 y1) (cw : va_CN R s args own index y host bytes maxL none (ws_ y bytes maxL none) rm rm.cells rm.slots n ∧ y.name = "<init>" ∧ (Cond.instanceMethod y).before args s = true) (hn : As.length = n) (hl : ls.size = nL) (hst : st0 = As.reverse ++ .ref b :: rest) (hrm : (rest.map fun v => v.category).sum ≤ 8) (hf : c0 + rm.cells ≤ R.cells ∧ y0 + rm.slots ≤ R.slots) (hdg : decode cc pc = .ok (.invokespecial index, 3)) (hW : Wo D dA A s w z c0 H locs) :
    vy_Run p l e R s m args below meth c H locs c0 y0 rm.cells rm.slots (F0 m pc ls st0) rest (Qo D dA (va_A w (z + c0)) w1 (z + c0 + c1) y1 o (Value.ref b :: As).toArray) (Xo D dA (va_A w (z + c0)) w1 (z + c0 + c1) y1 o) (va_A w (z + c0)) :=
  vy_runIN (As := As) (rest := rest) FX hM cw ⟨PreW.blind, fun U hU hw => ⟨rfl, (hW.toZ (y0 := y0)).pre U hU hw⟩⟩ rfl hn hl hst (lv_room (rest := st0) hrm) hdg hf
theorem o_SU {ci : Nat} {T : u_T} {N : Nat} (hc : vwCl[ci]? = some (C, T, N)) (FX : CallFix p m c cc nL s args lw_all own) (hM : CtO l y bytes maxL ret rm D dA (.ref b :: As) w (z + c0) o w1 c1 y1) (cw : va_CS R s args own index y bytes maxL ret (ws_ y bytes maxL ret) rm rm.cells rm.slots n) (hcv : ∃ cell : Cell, H[b]? = some cell ∧ cell.vm.isStatics = false ∧ s.vm.findClass C = some cell.cls) (hn : As.length = n) (hl : ls.size = nL) (hst : st0 = As.reverse ++ .ref b :: rest) (hrm : (rest.map fun v => v.category).sum ≤ 8) (hf : c0 + rm.cells ≤ R.cells ∧ y0 + rm.slots ≤ R.slots) (hdg : decode cc pc = .ok (.invokespecial index, 3)) (hW : Wo D dA A s w z c0 H locs) :
    vy_Run p l e R s m args below meth c H locs c0 y0 rm.cells rm.slots (F0 m pc ls st0) rest (Qo D dA (va_A w (z + c0)) w1 (z + c0 + c1) y1 o (Value.ref b :: As).toArray) (Xo D dA (va_A w (z + c0)) w1 (z + c0 + c1) y1 o) (va_A w (z + c0)) :=
  vy_runSU (As := As) (rest := rest) (hW.1.classAt hc) FX hM cw ⟨PreW.blind, hcv, fun U hU hw => ⟨rfl, (hW.toZ (y0 := y0)).pre U hU hw⟩⟩ rfl hn hl hst (lv_room (rest := st0) hrm) hdg hf
/-- the end: what is owed of the world -/
theorem Wo.po (hW : Wo D dA A s w z c0 H locs) (hy : hsl H ≤ hsl s.heap + y0) {t : State} (ht : t.heap = H) (hvm : s.vm.Alike t.vm) : Po D dA A w (z + c0) y0 s t :=
  ⟨⟨by rw [ht]; exact hW.1.1, va_K.moved hvm hW.1.2.2.2.1, hW.1.2.1, by rw [ht]; exact hW.2.2⟩, hW.1.2.2.1.F ht, by rw [ht]; exact hy⟩
theorem ro_i (FX : CallFix p m c cc nL s args lw_all own) (hr : meth.sig.returnType = some .int) (hlk : meth.locks = false) (hW : Wo D dA A s w z c0 H locs) (hc : c0 ≤ C0 ∧ y0 ≤ Y0) {v : Int32} (hdg : decode cc pc = .ok (.ireturn, 1)) : W p l e R s m args below meth c H locs c0 y0 (QO D dA A below args s C0 Y0 (.inl (some (.int v))) w (z + c0) y0) (F0 m pc ls [.int v]) :=
  W.knows fun hy => W.widen hc.1 hc.2 (vy_ret (W.iret FX.1 FX.2.1 hr (fun t ht hw => ⟨⟨_, rfl, rfl⟩, hW.po hy ht hw.alike⟩) hW.1.2.2.1.2.2 hdg))
theorem ro_z (FX : CallFix p m c cc nL s args lw_all own) (hr : meth.sig.returnType = some .boolean) (hlk : meth.locks = false) (hW : Wo D dA A s w z c0 H locs) (hc : c0 ≤ C0 ∧ y0 ≤ Y0) {v : Int32} (hn : narrow .boolean (.int v) = .int v) (hdg : decode cc pc = .ok (.ireturn, 1)) : W p l e R s m args below meth c H locs c0 y0 (QO D dA A below args s C0 Y0 (.inl (some (.int v))) w (z + c0) y0) (F0 m pc ls [.int v]) :=
  W.knows fun hy => W.widen hc.1 hc.2 (vy_ret (W.zret FX.1 FX.2.1 hr hn (fun t ht hw => ⟨⟨_, rfl, rfl⟩, hW.po hy ht hw.alike⟩) hW.1.2.2.1.2.2 hdg))
theorem ro_v (FX : CallFix p m c cc nL s args lw_all own) (hr : meth.sig.returnType = none) (hlk : meth.locks = false) (hW : Wo D dA A s w z c0 H locs) (hc : c0 ≤ C0 ∧ y0 ≤ Y0) (hdg : decode cc pc = .ok (.return_, 1)) : W p l e R s m args below meth c H locs c0 y0 (QO D dA A below args s C0 Y0 (.inl none) w (z + c0) y0) (F0 m pc ls []) :=
  W.knows fun hy => W.widen hc.1 hc.2 (vy_ret (W.vret FX.1 FX.2.1 hr (fun t ht hw => ⟨⟨_, rfl, rfl⟩, hW.po hy ht hw.alike⟩) hW.1.2.2.1.2.2 hdg))
theorem ro_a (FX : CallFix p m c cc nL s args lw_all own) {rt : FieldType} (hr : meth.sig.returnType = some rt) (hrt : (∃ n, rt = .object n) ∨ ∃ t, rt = .array t) (hlk : meth.locks = false) (hW : Wo D dA A s w z c0 H locs) (hc : c0 ≤ C0 ∧ y0 ≤ Y0) {v : Option Nat} (hdg : decode cc pc = .ok (.areturn, 1)) : W p l e R s m args below meth c H locs c0 y0 (QO D dA A below args s C0 Y0 (.inl (some (va_rf v))) w (z + c0) y0) (F0 m pc ls [va_rf v]) :=
  W.knows fun hy => W.widen hc.1 hc.2 (vy_ret (W.aret FX.1 FX.2.1 hr hrt (by cases v with | none => exact Or.inl rfl | some v => exact Or.inr ⟨v, rfl⟩) (fun t ht hw => ⟨⟨_, rfl, rfl⟩, hW.po hy ht hw.alike⟩) hW.1.2.2.1.2.2 hdg))
/-- thrown, and not caught here -/
theorem ro_x {ce : Cell} {q : Nat} (hout : ∀ x ∈ c.exceptionTable.toList, False) (hlk : meth.locks = false) (hW : Wo D dA A s w z c0 H locs) (hc : c0 ≤ C0 ∧ y0 ≤ Y0) (hcell : H[q]? = some ce) (hv : ce.vm = .none) (hcl : s.vm.findClass "TrunkLitters$Wrong" = some ce.cls) : vy_W p l e R s m args below meth c H locs c0 y0 (QO D dA A below args s C0 Y0 (.inr q) w (z + c0) y0) (F0 m pc ls rest) q :=
  vy_knows fun hy => vy_out (fun x hx => (hout x hx).elim) hlk hcell hv hcl (fun t ht hvm => ⟨⟨rfl, rfl⟩, hW.po hy ht hvm⟩) hW.1.2.2.1.2.2 hc.1 hc.2
end CO2
section CO3
variable {l : Launch} {y : MethodName} {cc : ByteArray} {nL : Nat} {ret : Option FieldType} {rm : Room} {D : va_G} {dA : Nat → ClassId} {av : List Value} {ws w1 : va_W} {z c1 y1 : Nat} {o : Option Value ⊕ Nat}
theorem e_O (hy : plainName y.cls = true) (hn : (lg_sl av).length ≤ nL)
    (body : ∀ (p : Program) (e : Env) (s : State) (m : MethodId) (below : List Frame) (meth : Method) (c : Code) (ls : Array Slot) (A : Nat → Prop), CallFix p m c cc nL s av.toArray lw_all y.cls → meth.sig.returnType = ret → meth.locks = false → meth.name = y.name → (∀ x ∈ c.exceptionTable.toList, False) → lv_has ls nL (lv_args 0 av) → Wo D dA A s ws z 0 s.heap [] →
      W p l e rm s m av.toArray below meth c s.heap [] 0 0 (QO D dA A below av.toArray s rm.cells rm.slots o w1 (z + c1) y1) (F0 m 0 ls [])) : CtO l y cc nL ret rm D dA av ws z o w1 c1 y1 := by
  refine vy_ofW (cc := cc) (maxL := nL) (ret := ret) hy rfl ?_
  intro p e s m args below meth c s₁ B hml hout hv
  obtain ⟨rfl, hsz, hP, hK, hD0, hG⟩ := hv
  subst hsz
  have hts := atoms_spec (ws := ws_ y cc nL ret) B.pre
  have hts : ∀ w ∈ lw_all, w.before _ s = true := fun w h => hts w (List.mem_cons_of_mem _ h)
  have hown : s.vm.findClass y.cls = some m.cls := findClass_of_methodNamed B.named
  rw [lg_entry_eq]
  exact body p e s m below meth c _ _ ⟨B.exec, B.bytes, hml, hown, hts⟩ B.returns B.notSynchronized (name_of_methodNamed B.named B.method).1 hout (lv_entry av hn) ⟨⟨hP, hD0.self, va_S.rf, hK, fun q h => Or.inr h, hG⟩, rfl, rfl⟩
theorem CtI.toO {r : Int32} (h : CtI l y cc nL ret rm D dA av ws r w1) (hs : rm.slots = 0) (z : Nat) : CtO l y cc nL ret rm D dA av ws z (.inl (some (.int r))) w1 0 0 := by
  intro p e ha hc hk s m args below hf happ hP hK
  obtain ⟨k, o, g1, g2, g3, ⟨⟨r1, u, ho, hpost, hB⟩, hF⟩, L, g5, g6⟩ := h z p e ha hc hk s m args below hf happ hP hK
  refine ⟨k, o, g1, g2, g3, Or.inl ⟨⟨⟨_, ho, by rw [hpost]⟩, hB, hF, ?_⟩, L, g5, g6⟩⟩
  have h1 := hsl_split g5.2.2
  have h2 := g5.2.2.2.2.2.2.1
  exact Nat.le_trans (Nat.le_of_eq h1) (by omega)
theorem CtV.toO (h : CtV l y cc nL ret rm D dA av ws w1) (hs : rm.slots = 0) (z : Nat) : CtO l y cc nL ret rm D dA av ws z (.inl none) w1 0 0 := by
  intro p e ha hc hk s m args below hf happ hP hK
  obtain ⟨k, o, g1, g2, g3, ⟨⟨u, ho, hpost, hB⟩, hF⟩, L, g5, g6⟩ := h z p e ha hc hk s m args below hf happ hP hK
  refine ⟨k, o, g1, g2, g3, Or.inl ⟨⟨⟨_, ho, rfl⟩, hB, hF, ?_⟩, L, g5, g6⟩⟩
  have h1 := hsl_split g5.2.2
  have h2 := g5.2.2.2.2.2.2.1
  exact Nat.le_trans (Nat.le_of_eq h1) (by omega)
theorem CtR.toO {r : Nat} (h : CtR l y cc nL ret rm D dA av ws r w1) (hs : rm.slots = 0) (z : Nat) : CtO l y cc nL ret rm D dA av ws z (.inl (some (.ref r))) w1 0 0 := by
  intro p e ha hc hk s m args below hf happ hP hK
  obtain ⟨k, o, g1, g2, g3, ⟨⟨u, r1, ho, hpost, rfl, hB⟩, hF⟩, L, g5, g6⟩ := h z p e ha hc hk s m args below hf happ hP hK
  refine ⟨k, o, g1, g2, g3, Or.inl ⟨⟨⟨_, ho, rfl⟩, hB, hF, ?_⟩, L, g5, g6⟩⟩
  have h1 := hsl_split g5.2.2
  have h2 := g5.2.2.2.2.2.2.1
  exact Nat.le_trans (Nat.le_of_eq h1) (by omega)
end CO3
