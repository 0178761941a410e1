/-! kind O: calls of nest mates, of inherited methods, of private methods of a class above; class objects; grids -/
theorem sel_priv {s : State} {args : Array Value} {C : String} {x y : MethodName} (h0 : (Cond.selects C x x).before args s = true) (hxy : x.cls = y.cls) (hx : x.cls ≠ "java/lang/invoke/MethodHandle" ∧ x.cls ≠ "java/lang/invoke/VarHandle") (hpriv : (Cond.privateMethod y).before args s = true) (hinst : (Cond.instanceMethod y).before args s = true) : (Cond.selects C y y).before args s = true := by
  obtain ⟨mk, methM, hnamed, hmethM, -, -⟩ := Cond.instanceMethod_spec hinst
  have hP := Cond.privateMethod_at hpriv
  obtain ⟨c2, r2, m2, q1, q2, q3, q4, kP, hkP, hkPi⟩ := Cond.selects_spec h0
  have hfound : s.methodFound? y.cls y.name y.desc = some mk := State.methodFound?_of_named hnamed (by rw [← hxy]; exact hx)
  have hsel : selectMethod {} s.vm c2 mk = .method mk := selectMethod_private hmethM (hP mk methM hnamed hmethM)
  have hcls : mk.cls = m2.cls := by
    have e1 := findClass_of_methodNamed hnamed
    have e2 := findClass_of_methodNamed q3
    rw [← hxy] at e1
    exact Option.some.inj (e1.symm.trans e2)
  simp only [Cond.before, Cond.holds, Cond.value, q1, hfound, hnamed, hsel, hcls, hkP]
  simp; exact hkPi
theorem lw5 {a b c d e : Cond} (h1 : a ∈ lw_all) (h2 : b ∈ lw_all) (h3 : c ∈ lw_all) (h4 : d ∈ lw_all) (h5 : e ∈ lw_all) : ∀ w ∈ [a, b, c, d, e], w ∈ lw_all :=
  List.forall_mem_cons.mpr ⟨h1, List.forall_mem_cons.mpr ⟨h2, List.forall_mem_cons.mpr ⟨h3, List.forall_mem_cons.mpr ⟨h4, List.forall_mem_cons.mpr ⟨h5, fun _ h => absurd h List.not_mem_nil⟩⟩⟩⟩⟩
theorem lw6 {a b c d e f : Cond} (h1 : a ∈ lw_all) (h2 : b ∈ lw_all) (h3 : c ∈ lw_all) (h4 : d ∈ lw_all) (h5 : e ∈ lw_all) (h6 : f ∈ lw_all) : ∀ w ∈ [a, b, c, d, e, f], w ∈ lw_all := List.forall_mem_cons.mpr ⟨h1, lw5 h2 h3 h4 h5 h6⟩
theorem lw_SUx {own : String} {idx : Nat} {y : MethodName} {b : ByteArray} {L : Nat} {r : Option FieldType} (h1 : Cond.methodLink own idx y ∈ lw_all) (h2 : Cond.sameMethod y.cls y.cls y.name y.desc ∈ lw_all) (h3 : Cond.superclass own y.cls ∈ lw_all) (h4 : Cond.instanceMethod y ∈ lw_all) (h5 : Cond.initialized y.cls ∈ lw_all) (h6 : Cond.code y b L r ∈ lw_all) : GoodIn lw_all (va_wsSU own idx y (ws_ y b L r)) := lw_app (lw5 h1 h2 h3 h4 h5) (lw_meth h6)
theorem lw_Ox {own C owner : String} {idx : Nat} {x y : MethodName} {b : ByteArray} {L : Nat} {r : Option FieldType} (h1 : Cond.methodLink own idx x ∈ lw_all) (h2 : Cond.sameMethod x.cls owner x.name x.desc ∈ lw_all) (h3 : Cond.instanceMethod ⟨owner, x.name, x.desc⟩ ∈ lw_all) (h4 : Cond.selects C x y ∈ lw_all) (h5 : Cond.instanceMethod y ∈ lw_all) (h6 : Cond.initialized y.cls ∈ lw_all) (h7 : Cond.code y b L r ∈ lw_all) : GoodIn lw_all (va_wsO own idx C owner x y (ws_ y b L r)) := lw_app (lw6 h1 h2 h3 h4 h5 h6) (lw_meth h7)
theorem cwG {R : Room} {s : State} {args : Array Value} {own C : String} {index maxL : Nat} {y : MethodName} {bytes : ByteArray} {ret : Option FieldType} {rm : Room} (n : Nat) (ht : ∀ w ∈ lw_all, w.before args s = true) (hl : Cond.methodLink own index y ∈ lw_all) (hi : Cond.instanceMethod y ∈ lw_all) (hs : (Cond.selects C y y).before args s = true) (hini : Cond.initialized y.cls ∈ lw_all) (hcode : Cond.code y bytes maxL ret ∈ lw_all) (hd : y.cls ≠ "java/lang/invoke/MethodHandle" ∧ y.cls ≠ "java/lang/invoke/VarHandle" ∧ (parseMethodDescriptor y.desc).map (fun d => d.parameters.length) = some n) (hR : rm.frames + 1 ≤ R.frames ∧ 8 + (maxL + 11) + rm.locals ≤ R.locals) : CallW R s args own C index y bytes maxL ret (ws_ y bytes maxL ret) rm rm.cells rm.slots n :=
  ⟨callB_of n ht (lw_meth hcode) rfl rfl rfl (ht _ hini) (ht _ hl) hd hR, ht _ hi, hs⟩
section OROWS3
variable {p : Program} {l : Launch} {e : Env} {R : Room} {s : State} {m : MethodId} {args : Array Value} {below : List Frame} {meth : Method} {c : Code} {H : Heap} {locs : List Loc} {Q : State → Prop}
variable {cc : ByteArray} {pc nL : Nat} {ls : Array Slot} {rest st0 : List Value} {D : va_G} {dA : Nat → ClassId} {A : Nat → Prop} {w w1 : va_W} {z c0 y0 c1 y1 a : Nat} {own : String} {α : Type} {q : α}
variable {y x : MethodName} {C host owner : String} {bytes : ByteArray} {maxL n index b : Nat} {ret : Option FieldType} {rm : Room} {As : List Value} {o : Option Value ⊕ Nat}
theorem o_VN (FX : CallFix p m c cc nL s args lw_all own) (hM : CtO l y bytes maxL ret rm D dA (.ref b :: As) w (z + c0) o w1 c1 y1) (cw : va_CN R s args own index y host bytes maxL ret (ws_ y bytes maxL ret) rm rm.cells rm.slots n ∧ (Cond.instanceMethod y).before args s = true ∧ (Cond.selects C y y).before args s = true) (hcv : ∃ cell : Cell, H[b]? = some cell ∧ cell.vm.isStatics = false ∧ s.vm.findClass C = some cell.cls) (hn : As.length = n) (hl : ls.size = nL) (hst : st0 = As.reverse ++ .ref b :: rest) (hrm : (rest.map fun v => v.category).sum ≤ 8) (hf : c0 + rm.cells ≤ R.cells ∧ y0 + rm.slots ≤ R.slots) (hdg : decode cc pc = .ok (.invokevirtual index, 3)) (hW : Wo D dA A s w z c0 H locs) :
    vy_Run p l e R s m args below meth c H locs c0 y0 rm.cells rm.slots (F0 m pc ls st0) rest (Qo D dA (va_A w (z + c0)) w1 (z + c0 + c1) y1 o (Value.ref b :: As).toArray) (Xo D dA (va_A w (z + c0)) w1 (z + c0 + c1) y1 o) (va_A w (z + c0)) :=
  vy_runVN (As := As) (rest := rest) FX hM cw ⟨PreW.blind, hcv, fun U hU hw => ⟨rfl, (hW.toZ (y0 := y0)).pre U hU hw⟩⟩ rfl hn hl hst (lv_room (rest := st0) hrm) hdg hf
theorem o_SN (FX : CallFix p m c cc nL s args lw_all own) (hM : CtO l y bytes maxL ret rm D dA As w (z + c0) o w1 c1 y1) (cw : va_CN R s args own index y host bytes maxL ret (ws_ y bytes maxL ret) rm rm.cells rm.slots n ∧ (Cond.static y).before args s = true ∧ True) (hn : As.length = n) (hl : ls.size = nL) (hst : st0 = As.reverse ++ rest) (hrm : (rest.map fun v => v.category).sum ≤ 8) (hf : c0 + rm.cells ≤ R.cells ∧ y0 + rm.slots ≤ R.slots) (hdg : decode cc pc = .ok (.invokestatic index, 3)) (hW : Wo D dA A s w z c0 H locs) :
    vy_Run p l e R s m args below meth c H locs c0 y0 rm.cells rm.slots (F0 m pc ls st0) rest (Qo D dA (va_A w (z + c0)) w1 (z + c0 + c1) y1 o As.toArray) (Xo D dA (va_A w (z + c0)) w1 (z + c0 + c1) y1 o) (va_A w (z + c0)) :=
  vy_runSN (As := As) (rest := rest) FX hM cw ⟨PreW.blind, fun U hU hw => ⟨rfl, (hW.toZ (y0 := y0)).pre U hU hw⟩⟩ rfl hn hl hst (lv_room (rest := st0) hrm) hdg hf
theorem o_U (FX : CallFix p m c cc nL s args lw_all own) (hM : CtO l y bytes maxL ret rm D dA (.ref b :: As) w (z + c0) o w1 c1 y1) (cw : va_CU R s args own C owner index x y bytes maxL ret (ws_ y bytes maxL ret) rm rm.cells rm.slots n) (hcv : ∃ cell : Cell, H[b]? = some cell ∧ cell.vm.isStatics = false ∧ s.vm.findClass C = some cell.cls) (hn : As.length = n) (hl : ls.size = nL) (hst : st0 = As.reverse ++ .ref b :: rest) (hrm : (rest.map fun v => v.category).sum ≤ 8) (hf : c0 + rm.cells ≤ R.cells ∧ y0 + rm.slots ≤ R.slots) (hdg : decode cc pc = .ok (.invokevirtual index, 3)) (hW : Wo D dA A s w z c0 H locs) :
    vy_Run p l e R s m args below meth c H locs c0 y0 rm.cells rm.slots (F0 m pc ls st0) rest (Qo D dA (va_A w (z + c0)) w1 (z + c0 + c1) y1 o (Value.ref b :: As).toArray) (Xo D dA (va_A w (z + c0)) w1 (z + c0 + c1) y1 o) (va_A w (z + c0)) :=
  vy_runU (As := As) (rest := rest) FX hM cw ⟨PreW.blind, hcv, fun U hU hw => ⟨rfl, (hW.toZ (y0 := y0)).pre U hU hw⟩⟩ rfl hn hl hst (lv_room (rest := st0) hrm) hdg hf
/-- the class of an array of objects, by getClass -/
theorem o_getC (FX : CallFix p m c cc nL s args lw_all own) (hW : Wo D dA A s w z c0 H locs) (hlink : Cond.methodLink own index ⟨"java/lang/Object", "getClass", "()Ljava/lang/Class;"⟩ ∈ lw_all) (hinst : Cond.instanceMethod ⟨"java/lang/Object", "getClass", "()Ljava/lang/Class;"⟩ ∈ lw_all) (hl : ls.size = nL) {K : Option α} (hf : hqk w (dA 4) a K = some q) (hR : 1 ≤ R.frames ∧ 8 + 14 ≤ R.locals) (hrm : (rest.map fun v => v.category).sum ≤ 8) (hdg : decode cc pc = .ok (.invokevirtual index, 3))
    (kk : K = some q → W p l e R s m args below meth c H locs c0 y0 Q (F0 m (pc + 3) ls (.ref (dA 99) :: rest))) : W p l e R s m args below meth c H locs c0 y0 Q (F0 m pc ls (.ref a :: rest)) := by
  obtain ⟨⟨n, f, he⟩, hf⟩ := hqk_some hf
  obtain ⟨k, hk⟩ := hlk_get he
  obtain ⟨kA, comp, k1, k2, k3, k4⟩ := (hW.1.2.2.2.1.2 4 _ rfl).2
  refine va_getC (C := "[Ljava/lang/Object;") FX.1 FX.2.1 (FX.2.2.1.trans hl.symm) FX.2.2.2.1 (FX.2.2.2.2 _ hlink) (va_Nw.use rfl (hW.gx.1 _ (show Cond.declares ⟨"java/lang/Object", "getClass", "()Ljava/lang/Class;"⟩ ∈ nwL from List.mem_of_getElem? (i := 19) rfl))) (FX.2.2.2.2 _ q2284) (FX.2.2.2.2 _ hinst) (FX.2.2.2.2 _ q979) hW.gx.2.2.2.2.2.2.2.2.2.2.2.1 ⟨vp_cell (dA 4) (n, .inr (.inr (.inr (.inr f)))), hW.1.1 k _ hk, rfl, k4⟩ hR.1 (Nat.le_trans (Nat.add_le_add_right hrm _) hR.2) hdg (kk hf)
theorem o_ldcC (FX : CallFix p m c cc nL s args lw_all own) (hW : Wo D dA A s w z c0 H locs) (hlink : Cond.classLink own index "[Ljava/lang/Object;" ∈ lw_all) (hdg : decode cc pc = .ok (.ldc index, 2))
    (kk : W p l e R s m args below meth c H locs c0 y0 Q (F0 m (pc + 2) ls (.ref (dA 99) :: rest))) : W p l e R s m args below meth c H locs c0 y0 Q (F0 m pc ls rest) :=
  va_ldcM FX.1 FX.2.1 FX.2.2.2.1 (FX.2.2.2.2 _ hlink) hW.gx.2.2.2.2.2.2.2.2.2.2.2.1 hdg kk
end OROWS3
/-! values that may be null: locals; the root constructor -/
theorem fits_qo {n : String} (u : Option Nat) : fits (.object n) (va_rf u) = true := by cases u <;> rfl
theorem fits_qa {t : FieldType} (u : Option Nat) : fits (.array t) (va_rf u) = true := by cases u <;> rfl
theorem narrow_qo {n : String} (u : Option Nat) : narrow (.object n) (va_rf u) = va_rf u := by cases u <;> rfl
theorem narrow_qa {t : FieldType} (u : Option Nat) : narrow (.array t) (va_rf u) = va_rf u := by cases u <;> rfl
theorem cat_q (u : Option Nat) : (va_rf u).category = 1 := by cases u <;> rfl
section OROWS4
variable {p : Program} {l : Launch} {e : Env} {R : Room} {s : State} {m : MethodId} {args : Array Value} {below : List Frame} {meth : Method} {c : Code} {H : Heap} {locs : List Loc} {Q : State → Prop}
variable {cc : ByteArray} {pc nL cells slots : Nat} {ls : Array Slot} {rest : List Value} {own : String}
theorem lv_aload_nQ (hexec : p.tables.exec = Jvm.exec) (hb : c.code = cc) {k : Fin 4} {i : Nat} {x : Option Nat} (hdg : decode cc pc = .ok (.aload_n k, 1)) (hi : (k : Nat) = i) (hl : ls[i]? = some (.val (va_rf x)))
    (k : W p l e R s m args below meth c H locs cells slots Q (F0 m (pc + 1) ls (va_rf x :: rest))) : W p l e R s m args below meth c H locs cells slots Q (F0 m pc ls rest) := by
  cases x with
  | none => exact lv_aload_nN hexec hb hdg hi hl k
  | some x => exact lv_aload_n hexec hb hdg hi hl k
theorem lv_aloadQ (hexec : p.tables.exec = Jvm.exec) (hb : c.code = cc) {i : Nat} {x : Option Nat} (hdg : decode cc pc = .ok (.aload i, 2)) (hl : ls[i]? = some (.val (va_rf x)))
    (k : W p l e R s m args below meth c H locs cells slots Q (F0 m (pc + 2) ls (va_rf x :: rest))) : W p l e R s m args below meth c H locs cells slots Q (F0 m pc ls rest) := by
  cases x with
  | none => exact lv_aloadN hexec hb hdg hl k
  | some x => exact lv_aload hexec hb hdg hl k
theorem lv_astore_nQ (hexec : p.tables.exec = Jvm.exec) (hb : c.code = cc) {k : Fin 4} {i nL : Nat} {x : Option Nat} {lv lv' : List (Nat × Value)} (hdg : decode cc pc = .ok (.astore_n k, 1)) (hi : (k : Nat) = i) (h : lv_has ls nL lv) (hn : i < nL) (hl : (i, va_rf x) :: lv.filter (fun q => !(q.1 == i) && !(q.1 + 1 == i && q.2.category == 2)) = lv')
    (kk : ∀ ls' : Array Slot, lv_has ls' nL lv' → W p l e R s m args below meth c H locs cells slots Q (F0 m (pc + 1) ls' rest)) : W p l e R s m args below meth c H locs cells slots Q (F0 m pc ls (va_rf x :: rest)) := by
  cases x with
  | none => exact lv_astore_nN hexec hb hdg hi h hn hl kk
  | some x => exact lv_astore_n hexec hb hdg hi h hn hl kk
theorem lv_astoreQ (hexec : p.tables.exec = Jvm.exec) (hb : c.code = cc) {i nL : Nat} {x : Option Nat} {lv lv' : List (Nat × Value)} (hdg : decode cc pc = .ok (.astore i, 2)) (h : lv_has ls nL lv) (hn : i < nL) (hl : (i, va_rf x) :: lv.filter (fun q => !(q.1 == i) && !(q.1 + 1 == i && q.2.category == 2)) = lv')
    (kk : ∀ ls' : Array Slot, lv_has ls' nL lv' → W p l e R s m args below meth c H locs cells slots Q (F0 m (pc + 2) ls' rest)) : W p l e R s m args below meth c H locs cells slots Q (F0 m pc ls (va_rf x :: rest)) := by
  cases x with
  | none => exact lv_astoreN hexec hb hdg h hn hl kk
  | some x => exact lv_astore hexec hb hdg h hn hl kk
theorem o_obj {idx : Nat} (FX : CallFix p m c cc nL s args lw_all own) (hlink : Cond.methodLink own idx Lib.objectInit ∈ lw_all) (hl : ls.size = nL) {a : Nat} (hdg : decode cc pc = .ok (.invokespecial idx, 3)) (hframes : 1 ≤ R.frames) (hlocals : (rest.map fun v => v.category).sum + 12 ≤ R.locals)
    (kk : W p l e R s m args below meth c H locs cells slots Q (F0 m (pc + 3) ls rest)) : W p l e R s m args below meth c H locs cells slots Q (F0 m pc ls (.ref a :: rest)) :=
  W.objInit FX.1 FX.2.1 FX.2.2.2.1 (FX.2.2.2.2 _ hlink) (FX.2.2.2.2 _ q162) (FX.2.2.2.2 _ q163) rfl (by rw [FX.2.2.1]; exact hl) rfl hdg hframes (by show 2 * 0 + _ + _ ≤ _; omega) kk
end OROWS4
