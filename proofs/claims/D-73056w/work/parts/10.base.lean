/-! THE BASE: worlds as one bundle, contracts as equations, the call rules over them -/
abbrev vwCl : List vw_C := [(RX0, TX0, 26), (RX1, TX1, 8), (RX2, TX2, 5), (RX3, TX3, 14), (RX4, TX4, 60), (RX5, TX5, 12), (RX7, TX7, 3), (RX8, TX8, 8), (RX9, TX9, 5), (RX10, TX10, 1), (RX11, TX11, 1), (RX12, TX12, 3), (RX13, TX13, 6), (RJ2, TJ2, 3), (RJ6, TJ6, 4), (RJ7, TJ7, 4)]
abbrev tysG (dA : Nat → ClassId) : List (ClassId × FieldType) := [(dA 0, .int), (dA 1, .byte), (dA 2, .boolean), (dA 3, .long), (dA 4, .object "java/lang/Object"), (dA 5, .object "TrunkLitters$House"), (dA 6, .array .int)]
def Wd (D : va_G) (dA : Nat → ClassId) (A : Nat → Prop) (s : State) (ws : va_W) (H : Heap) (locs : List Loc) : Prop :=
  va_P D vwCl ws H ∧ va_D A ws ∧ va_S A s.heap H locs ∧ va_K D vwCl (tysG dA) s ∧ (∀ q : Nat, s.heap.size ≤ q → A q) ∧ GX dA A s s.heap
def PreW (D : va_G) (dA : Nat → ClassId) (ws : va_W) (sz : Nat) (U : State) : Prop := U.heap.size = sz ∧ va_P D vwCl ws U.heap ∧ va_K D vwCl (tysG dA) U ∧ va_D (fun _ => True) ws ∧ GX dA (va_A ws sz) U U.heap
def PostW (D : va_G) (dA : Nat → ClassId) (A : Nat → Prop) (ws : va_W) (sz : Nat) (t : State) : Prop := va_P D vwCl ws t.heap ∧ va_K D vwCl (tysG dA) t ∧ va_D A ws ∧ t.heap.size = sz
/-- contracts: the world ws, the answer, the world behind -/
def CtI (l : Launch) (y : MethodName) (cc : ByteArray) (nL : Nat) (ret : Option FieldType) (rm : Room) (D : va_G) (dA : Nat → ClassId) (av : List Value) (ws : va_W) (r : Int32) (w1 : va_W) : Prop :=
  ∀ sz : Nat, Met l y (ws_ y cc nL ret) rm (va_Pc av (PreW D dA ws sz)) (va_Qi (fun (r1 : Int32) (_ : Unit) => r1 = r) (fun _ t => PostW D dA (va_A ws sz) w1 sz t) (va_A ws sz)) rm.cells rm.slots (va_A ws sz)
def CtL (l : Launch) (y : MethodName) (cc : ByteArray) (nL : Nat) (ret : Option FieldType) (rm : Room) (D : va_G) (dA : Nat → ClassId) (av : List Value) (ws : va_W) (r : Int64) (w1 : va_W) : Prop :=
  ∀ sz : Nat, Met l y (ws_ y cc nL ret) rm (va_Pc av (PreW D dA ws sz)) (va_Ql (fun (r1 : Int64) (_ : Unit) => r1 = r) (fun _ t => PostW D dA (va_A ws sz) w1 sz t) (va_A ws sz)) rm.cells rm.slots (va_A ws sz)
def CtV (l : Launch) (y : MethodName) (cc : ByteArray) (nL : Nat) (ret : Option FieldType) (rm : Room) (D : va_G) (dA : Nat → ClassId) (av : List Value) (ws : va_W) (w1 : va_W) : Prop :=
  ∀ sz : Nat, Met l y (ws_ y cc nL ret) rm (va_Pc av (PreW D dA ws sz)) (va_Qv (fun (_ : Unit) => True) (fun _ t => PostW D dA (va_A ws sz) w1 sz t) (va_A ws sz)) rm.cells rm.slots (va_A ws sz)
theorem PreW.blind {D : va_G} {dA : Nat → ClassId} {ws : va_W} {sz : Nat} {av : List Value} : FrameBlind (va_Pc av (PreW D dA ws sz)) := fun a U g mk q => by
  obtain ⟨q0, q1, qP, qK, qD, qG⟩ := q
  exact ⟨q0, q1, qP, va_K.moved (u := U) (U := U.calling g mk a) (Vm.Alike.refl U.vm) qK, qD, qG.same rfl⟩
section BASE
variable {p : Program} {l : Launch} {e : Env} {R : Room} {s : State} {m : MethodId} {args : Array Value} {below : List Frame} {meth : Method} {c : Code} {H : Heap} {locs : List Loc} {cells slots : Nat} {Q : State → Prop}
variable {cc : ByteArray} {pc nL : Nat} {ls : Array Slot} {rest : List Value} {D : va_G} {dA : Nat → ClassId} {A : Nat → Prop} {a : Nat} {ws wc wr w1 : va_W} {own : String}
theorem Wd.free (hW : Wd D dA A s (wc ++ wr) H locs) : ∀ q, va_A wc H.size q → A q := by
  obtain ⟨hP, hD, hS, hK, hA⟩ := hW
  intro q hq
  rcases hq with ⟨k, e, hk⟩ | h
  · exact hD.2 k (q, e) (by rw [List.getElem?_append_left (List.getElem?_eq_some_iff.mp hk).1]; exact hk)
  · exact hA.1 q (Nat.le_trans hS.1 h)
theorem Wd.pre (hW : Wd D dA A s (wc ++ wr) H locs) : ∀ U : State, U.heap = H → s.WarmedH U.vm → PreW D dA wc H.size U := by
  intro U hU hw
  have hfr := hW.free
  obtain ⟨hP, hD, hS, hK, hA⟩ := hW
  refine ⟨by rw [hU], ?_, va_K.moved hw.alike hK, ?_, ?_⟩
  · rw [hU]
    intro k q hk
    exact hP k q (by rw [List.getElem?_append_left (List.getElem?_eq_some_iff.mp hk).1]; exact hk)
  · refine ⟨fun i j x y hi hj hxy => hD.1 i j x y ?_ ?_ hxy, fun _ _ _ => trivial⟩
    · rw [List.getElem?_append_left (List.getElem?_eq_some_iff.mp hi).1]; exact hi
    · rw [List.getElem?_append_left (List.getElem?_eq_some_iff.mp hj).1]; exact hj
  · rw [hU]
    exact hA.2.go hw hS.2.1 hfr
theorem Wd.join (hW : Wd D dA A s (wc ++ wr) H locs) {t : State} {H1 : Heap} {locs1 : List Loc} (ht : t.heap = H1) (hB : PostW D dA (va_A wc H.size) w1 H.size t) (hk : ∀ q : Nat, q < H.size → ¬ va_A wc H.size q → H1[q]? = H[q]?) (hS1 : va_S A s.heap H1 locs1) : Wd D dA A s (w1 ++ wr) H1 locs1 := by
  have hfree := hW.free
  obtain ⟨hP, hD, hS, hK, hA⟩ := hW
  obtain ⟨hP1, hK1, hD1, hz1⟩ := hB
  rw [ht] at hP1
  have hr : ∀ (k : Nat) (q : Nat × va_E), wr[k]? = some q → (wc ++ wr)[wc.length + k]? = some q := by
    intro k q hk
    rw [List.getElem?_append_right (Nat.le_add_right _ _)]
    simpa using hk
  have hnot : ∀ (k : Nat) (q : Nat × va_E), wr[k]? = some q → ¬ va_A wc H.size q.1 := by
    intro k q hq hin
    rcases hin with ⟨j, e, hj⟩ | h
    · have := hD.1 j (wc.length + k) (q.1, e) q (by rw [List.getElem?_append_left (List.getElem?_eq_some_iff.mp hj).1]; exact hj) (hr k q hq) rfl
      have := (List.getElem?_eq_some_iff.mp hj).1
      omega
    · have := (hP _ _ (hr k q hq)).lt
      omega
  refine ⟨hP1.app ?_, va_D.app (hD1.weaken fun _ _ _ h => hfree _ h) ⟨fun i j x y hi hj hxy => ?_, fun k q hq => hD.2 _ q (hr k q hq)⟩ ?_, hS1, hK, hA⟩
  · intro k q hq
    exact (hP _ q (hr k q hq)).kept (hk _ (hP _ q (hr k q hq)).lt (hnot k q hq))
  · have := hD.1 _ _ x y (hr i x hi) (hr j y hj) hxy
    omega
  · intro i j x y hi hj hxy
    exact hnot j y hj (hxy ▸ hD1.2 i x hi)
theorem Wd.nil (hW : Wd D dA A s ws H locs) : Wd D dA A s (ws ++ []) H locs := by rw [List.append_nil]; exact hW
theorem Wd.nil' (hW : Wd D dA A s (ws ++ []) H locs) : Wd D dA A s ws H locs := by rw [List.append_nil] at hW; exact hW
/-- the static calls' framing: the callee has the cells wc of the world -/
theorem w_Si {y : MethodName} {bytes : ByteArray} {maxL n index : Nat} {ret : Option FieldType} {rm : Room} {As : List Value} {st0 : List Value} {r : Int32} (FX : CallFix p m c cc nL s args lw_all own) (hM : CtI l y bytes maxL ret rm D dA As wc r w1) (cw : CallB R s args own index y bytes maxL ret (ws_ y bytes maxL ret) rm rm.cells rm.slots n ∧ (Cond.static y).before args s = true) (hn : As.length = n) (hl : ls.size = nL) (hst : st0 = As.reverse ++ rest) (hrm : (rest.map fun v => v.category).sum ≤ 8) (hf : cells + rm.cells ≤ R.cells ∧ slots + rm.slots ≤ R.slots) (hdg : decode cc pc = .ok (.invokestatic index, 3)) (hW : Wd D dA A s (wc ++ wr) H locs)
    (kk : ∀ (H1 : Heap) (locs1 : List Loc), Wd D dA A s (w1 ++ wr) H1 locs1 → W p l e R s m args below meth c H1 locs1 (cells + rm.cells) (slots + rm.slots) Q (F0 m (pc + 3) ls (.int r :: rest))) : W p l e R s m args below meth c H locs cells slots Q (F0 m pc ls st0) := by
  refine va_calli (va_runS (As := As) (rest := rest) FX (hM H.size) cw ⟨PreW.blind, fun U hU hw => ⟨rfl, hW.pre U hU hw⟩⟩ rfl hn hl hst (lv_room (rest := st0) hrm) hdg hf) hW.2.2.1 (fun q _ h => hW.free q h) hW.free (fun r1 u t H1 locs1 ht hvm hw1 hB hz1 hk1 hS => ?_)
  subst hw1
  exact kk H1 locs1 (hW.join ht hB hk1 hS)
theorem w_Sl {y : MethodName} {bytes : ByteArray} {maxL n index : Nat} {ret : Option FieldType} {rm : Room} {As : List Value} {st0 : List Value} {r : Int64} (FX : CallFix p m c cc nL s args lw_all own) (hM : CtL l y bytes maxL ret rm D dA As wc r w1) (cw : CallB R s args own index y bytes maxL ret (ws_ y bytes maxL ret) rm rm.cells rm.slots n ∧ (Cond.static y).before args s = true) (hn : As.length = n) (hl : ls.size = nL) (hst : st0 = As.reverse ++ rest) (hrm : (rest.map fun v => v.category).sum ≤ 8) (hf : cells + rm.cells ≤ R.cells ∧ slots + rm.slots ≤ R.slots) (hdg : decode cc pc = .ok (.invokestatic index, 3)) (hW : Wd D dA A s (wc ++ wr) H locs)
    (kk : ∀ (H1 : Heap) (locs1 : List Loc), Wd D dA A s (w1 ++ wr) H1 locs1 → W p l e R s m args below meth c H1 locs1 (cells + rm.cells) (slots + rm.slots) Q (F0 m (pc + 3) ls (.long r :: rest))) : W p l e R s m args below meth c H locs cells slots Q (F0 m pc ls st0) := by
  refine va_calll (va_runS (As := As) (rest := rest) FX (hM H.size) cw ⟨PreW.blind, fun U hU hw => ⟨rfl, hW.pre U hU hw⟩⟩ rfl hn hl hst (lv_room (rest := st0) hrm) hdg hf) hW.2.2.1 (fun q _ h => hW.free q h) hW.free (fun r1 u t H1 locs1 ht hvm hw1 hB hz1 hk1 hS => ?_)
  subst hw1
  exact kk H1 locs1 (hW.join ht hB hk1 hS)
theorem w_Vi {y : MethodName} {C : String} {bytes : ByteArray} {maxL n index b : Nat} {ret : Option FieldType} {rm : Room} {As : List Value} {st0 : List Value} {r : Int32} (FX : CallFix p m c cc nL s args lw_all own) (hM : CtI l y bytes maxL ret rm D dA (.ref b :: As) wc r w1) (cw : CallW R s args own C index y bytes maxL ret (ws_ y bytes maxL ret) rm rm.cells rm.slots n) (hcv : ∃ cell : Cell, H[b]? = some cell ∧ cell.vm.isStatics = false ∧ s.vm.findClass C = some cell.cls) (hn : As.length = n) (hl : ls.size = nL) (hst : st0 = As.reverse ++ .ref b :: rest) (hrm : (rest.map fun v => v.category).sum ≤ 8) (hf : cells + rm.cells ≤ R.cells ∧ slots + rm.slots ≤ R.slots) (hdg : decode cc pc = .ok (.invokevirtual index, 3)) (hW : Wd D dA A s (wc ++ wr) H locs)
    (kk : ∀ (H1 : Heap) (locs1 : List Loc), Wd D dA A s (w1 ++ wr) H1 locs1 → W p l e R s m args below meth c H1 locs1 (cells + rm.cells) (slots + rm.slots) Q (F0 m (pc + 3) ls (.int r :: rest))) : W p l e R s m args below meth c H locs cells slots Q (F0 m pc ls st0) := by
  refine va_calli (va_runV (As := As) (rest := rest) FX (hM H.size) cw ⟨PreW.blind, hcv, fun U hU hw => ⟨rfl, hW.pre U hU hw⟩⟩ rfl hn hl hst (lv_room (rest := st0) hrm) hdg hf) hW.2.2.1 (fun q _ h => hW.free q h) hW.free (fun r1 u t H1 locs1 ht hvm hw1 hB hz1 hk1 hS => ?_)
  subst hw1
  exact kk H1 locs1 (hW.join ht hB hk1 hS)
theorem w_Vl {y : MethodName} {C : String} {bytes : ByteArray} {maxL n index b : Nat} {ret : Option FieldType} {rm : Room} {As : List Value} {st0 : List Value} {r : Int64} (FX : CallFix p m c cc nL s args lw_all own) (hM : CtL l y bytes maxL ret rm D dA (.ref b :: As) wc r w1) (cw : CallW R s args own C index y bytes maxL ret (ws_ y bytes maxL ret) rm rm.cells rm.slots n) (hcv : ∃ cell : Cell, H[b]? = some cell ∧ cell.vm.isStatics = false ∧ s.vm.findClass C = some cell.cls) (hn : As.length = n) (hl : ls.size = nL) (hst : st0 = As.reverse ++ .ref b :: rest) (hrm : (rest.map fun v => v.category).sum ≤ 8) (hf : cells + rm.cells ≤ R.cells ∧ slots + rm.slots ≤ R.slots) (hdg : decode cc pc = .ok (.invokevirtual index, 3)) (hW : Wd D dA A s (wc ++ wr) H locs)
    (kk : ∀ (H1 : Heap) (locs1 : List Loc), Wd D dA A s (w1 ++ wr) H1 locs1 → W p l e R s m args below meth c H1 locs1 (cells + rm.cells) (slots + rm.slots) Q (F0 m (pc + 3) ls (.long r :: rest))) : W p l e R s m args below meth c H locs cells slots Q (F0 m pc ls st0) := by
  refine va_calll (va_runV (As := As) (rest := rest) FX (hM H.size) cw ⟨PreW.blind, hcv, fun U hU hw => ⟨rfl, hW.pre U hU hw⟩⟩ rfl hn hl hst (lv_room (rest := st0) hrm) hdg hf) hW.2.2.1 (fun q _ h => hW.free q h) hW.free (fun r1 u t H1 locs1 ht hvm hw1 hB hz1 hk1 hS => ?_)
  subst hw1
  exact kk H1 locs1 (hW.join ht hB hk1 hS)
theorem w_Vv {y : MethodName} {C : String} {bytes : ByteArray} {maxL n index b : Nat} {ret : Option FieldType} {rm : Room} {As : List Value} {st0 : List Value} (FX : CallFix p m c cc nL s args lw_all own) (hM : CtV l y bytes maxL ret rm D dA (.ref b :: As) wc w1) (cw : CallW R s args own C index y bytes maxL ret (ws_ y bytes maxL ret) rm rm.cells rm.slots n) (hcv : ∃ cell : Cell, H[b]? = some cell ∧ cell.vm.isStatics = false ∧ s.vm.findClass C = some cell.cls) (hn : As.length = n) (hl : ls.size = nL) (hst : st0 = As.reverse ++ .ref b :: rest) (hrm : (rest.map fun v => v.category).sum ≤ 8) (hf : cells + rm.cells ≤ R.cells ∧ slots + rm.slots ≤ R.slots) (hdg : decode cc pc = .ok (.invokevirtual index, 3)) (hW : Wd D dA A s (wc ++ wr) H locs)
    (kk : ∀ (H1 : Heap) (locs1 : List Loc), Wd D dA A s (w1 ++ wr) H1 locs1 → W p l e R s m args below meth c H1 locs1 (cells + rm.cells) (slots + rm.slots) Q (F0 m (pc + 3) ls rest)) : W p l e R s m args below meth c H locs cells slots Q (F0 m pc ls st0) := by
  refine va_callv (va_runV (As := As) (rest := rest) FX (hM H.size) cw ⟨PreW.blind, hcv, fun U hU hw => ⟨rfl, hW.pre U hU hw⟩⟩ rfl hn hl hst (lv_room (rest := st0) hrm) hdg hf) hW.2.2.1 (fun q _ h => hW.free q h) hW.free (fun u t H1 locs1 ht hvm hw1 hB hz1 hk1 hS => ?_)
  exact kk H1 locs1 (hW.join ht hB hk1 hS)
end BASE
