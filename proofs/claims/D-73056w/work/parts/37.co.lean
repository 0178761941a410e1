/-! ONE CONTRACT FOR WHAT MAKES CELLS AND MAY THROW: the room is a bound, the count of what was made is exact; behind a call the caller counts anew -/
def hsl (H : Heap) : Nat := (H.toList.map (fun c => c.slots.size)).sum
theorem hsl_split {s s' : State} {L : List Loc} {c y : Nat} (h : s.sameButNew s' L c y) : hsl s'.heap = hsl s.heap + ((s'.heap.toList.drop s.heap.size).map (fun c => c.slots.size)).sum := by
  obtain ⟨-, h2, -, -, -, h6⟩ := h
  have h1 : (s'.heap.toList.take s.heap.size).map (fun c : Cell => c.slots.size) = s.heap.toList.map (fun c => c.slots.size) := by
    apply List.ext_getElem?
    intro i
    rw [List.getElem?_map, List.getElem?_map, List.getElem?_take]
    by_cases hi : i < s.heap.size
    · rw [if_pos hi, Array.getElem?_toList, Array.getElem?_toList]
      obtain ⟨c', e1, -, e3, -⟩ := h6 i _ (Array.getElem?_eq_getElem hi)
      rw [e1, Array.getElem?_eq_getElem hi]
      simp [e3]
    · rw [if_neg hi, Array.getElem?_toList, Array.getElem?_eq_none (by omega)]
  unfold hsl
  rw [← h1, ← List.sum_append, ← List.map_append, List.take_append_drop]
section TIGHT
variable {p : Program} {l : Launch} {e : Env} {R : Room} {s : State} {m : MethodId} {args : Array Value} {below : List Frame} {meth : Method} {c : Code} {H : Heap} {locs : List Loc} {Q : State → Prop} {g : JFrame} {c0 y0 c1 y1 : Nat}
theorem st_tight {T : State} (hT : T.heap = H) (hz : H.size ≤ s.heap.size + c0) (hy : hsl H ≤ hsl s.heap + y0) (X : Stand p l e R s m args below meth c T locs c1 y1) : Stand p l e R s m args below meth c T locs c0 y0 := by
  refine { X with same := ?_ }
  have h := hsl_split X.same
  obtain ⟨h1, h2, h3, h4, h5, h6⟩ := X.same
  have hh : (T.setVm s.vm).heap = H := hT
  rw [hh] at h
  exact ⟨h1, h2, by rw [hh]; exact hz, h4, by rw [hh]; omega, h6⟩
theorem W.tight (hz : H.size ≤ s.heap.size + c0) (hy : hsl H ≤ hsl s.heap + y0) (k : W p l e R s m args below meth c H locs c0 y0 Q g) : W p l e R s m args below meth c H locs c1 y1 Q g := fun T hT X => k T hT (st_tight hT hz hy X)
theorem vy_tight {q : Addr} (hz : H.size ≤ s.heap.size + c0) (hy : hsl H ≤ hsl s.heap + y0) (k : vy_W p l e R s m args below meth c H locs c0 y0 Q g q) : vy_W p l e R s m args below meth c H locs c1 y1 Q g q := fun T hT X => k T hT (st_tight hT hz hy X)
theorem st_knows {T : State} (hT : T.heap = H) (X : Stand p l e R s m args below meth c T locs c0 y0) : hsl H ≤ hsl s.heap + y0 := by
  have h := hsl_split X.same
  have h5 := X.same.2.2.2.2.1
  have hh : (T.setVm s.vm).heap = H := hT
  rw [hh] at h h5
  omega
theorem W.knows (k : hsl H ≤ hsl s.heap + y0 → W p l e R s m args below meth c H locs c0 y0 Q g) : W p l e R s m args below meth c H locs c0 y0 Q g := fun T hT X => k (st_knows hT X) T hT X
theorem vy_knows {q : Addr} (k : hsl H ≤ hsl s.heap + y0 → vy_W p l e R s m args below meth c H locs c0 y0 Q g q) : vy_W p l e R s m args below meth c H locs c0 y0 Q g q := fun T hT X => k (st_knows hT X) T hT X
end TIGHT
def Po (D : va_G) (dA : Nat → ClassId) (A : Nat → Prop) (w1 : va_W) (z1 y1 : Nat) (st t : State) : Prop := PostW D dA A w1 z1 t ∧ va_F A st t ∧ hsl t.heap ≤ hsl st.heap + y1
def Qo (D : va_G) (dA : Nat → ClassId) (A : Nat → Prop) (w1 : va_W) (z1 y1 : Nat) (o : Option Value ⊕ Nat) : Array Value → State → Outcome → State → Prop := fun _ st oc t => (∃ v, oc = .returned v ∧ o = .inl v) ∧ Po D dA A w1 z1 y1 st t
def Xo (D : va_G) (dA : Nat → ClassId) (A : Nat → Prop) (w1 : va_W) (z1 y1 : Nat) (o : Option Value ⊕ Nat) : String → Addr → State → State → Prop := fun E q st t => (E = "TrunkLitters$Wrong" ∧ o = .inr q) ∧ Po D dA A w1 z1 y1 st t
/-- the method, at these arguments in this world, ends so: the world behind, how many cells and slots it made -/
def CtO (l : Launch) (y : MethodName) (cc : ByteArray) (nL : Nat) (ret : Option FieldType) (rm : Room) (D : va_G) (dA : Nat → ClassId) (av : List Value) (ws : va_W) (z : Nat) (o : Option Value ⊕ Nat) (w1 : va_W) (c1 y1 : Nat) : Prop :=
  vy_Met l y (ws_ y cc nL ret) rm (va_Pc av (PreW D dA ws z)) (Qo D dA (va_A ws z) w1 (z + c1) y1 o) (Xo D dA (va_A ws z) w1 (z + c1) y1 o) rm.cells rm.slots (va_A ws z)
/-- the world at a place of the method: z the heap's size at its start, c the cells made since -/
def Wo (D : va_G) (dA : Nat → ClassId) (A : Nat → Prop) (s : State) (w : va_W) (z c : Nat) (H : Heap) (locs : List Loc) : Prop := Wd D dA A s w H locs ∧ s.heap.size = z ∧ H.size = z + c
section CO
variable {p : Program} {l : Launch} {e : Env} {R : Room} {s : State} {m : MethodId} {args : Array Value} {below : List Frame} {meth : Method} {c : Code} {H : Heap} {locs : List Loc} {Q : State → Prop}
variable {cc : ByteArray} {pc nL : Nat} {ls : Array Slot} {rest st0 : List Value} {D : va_G} {dA : Nat → ClassId} {A : Nat → Prop} {w w1 : va_W} {z c0 y0 c1 y1 mc ms : Nat} {own : String} {av : Array Value}
theorem Wo.toZ (hW : Wo D dA A s w z c0 H locs) : Wz D dA A s (w, z + c0, c0, y0) H locs := ⟨hW.1, hW.2.2⟩
theorem oc_ret {v : Option Value} (hW : Wo D dA A s w z c0 H locs)
    (hr : vy_Run p l e R s m args below meth c H locs c0 y0 mc ms (F0 m pc ls st0) rest (Qo D dA (va_A w (z + c0)) w1 (z + c0 + c1) y1 (.inl v) av) (Xo D dA (va_A w (z + c0)) w1 (z + c0 + c1) y1 (.inl v)) (va_A w (z + c0)))
    (kk : ∀ (H1 : Heap) (locs1 : List Loc), Wo D dA A s w1 z (c0 + c1) H1 locs1 → W p l e R s m args below meth c H1 locs1 (c0 + c1) (y0 + y1) Q (F0 m (pc + 3) ls (v.toList ++ rest))) : W p l e R s m args below meth c H locs c0 y0 Q (F0 m pc ls st0) := by
  intro T hT X
  have hy := st_knows hT X
  have hWz : Wz D dA A s (w, z + c0, c0, y0) H locs := hW.toZ
  rcases hr T hT X with ⟨v9, st₀, t, T', L, h0, X', hL, e1, e2, ⟨⟨v2, hv, ho⟩, hB, hF, hs⟩, st⟩ | ⟨q, st₀, t, T', L, E, ce, h0, X', hL, e1, e2, ⟨⟨-, ho⟩, -⟩, hce, hcv, hcl, st⟩
  · cases ho
    cases hv
    obtain ⟨k1, k2, k3⟩ := vy_keep h0 e1 hW.1.2.2.1 (fun q _ h => hWz.free q h) hWz.free hL hF
    have hj : Wz D dA A s (w1, z + c0 + c1, c0, y0) T'.heap (locs ++ L) := hWz.join e1.symm hB k2 k3
    have hW1 : Wo D dA A s w1 z (c0 + c1) T'.heap (locs ++ L) := ⟨hj.1, hW.2.1, by rw [hj.2, Nat.add_assoc]⟩
    rw [h0, ← e1] at hs
    have hk := W.tight (c1 := c0 + mc) (y1 := y0 + ms) (c0 := c0 + c1) (y0 := y0 + y1) (by rw [hW1.2.2, hW1.2.1]; exact Nat.le_refl _) (by omega) (kk _ _ hW1)
    obtain ⟨t2, a1, b1⟩ := hk T' rfl X'
    exact ⟨t2, st t2 a1, b1⟩
  · cases ho
theorem oc_thr {q9 : Nat} (hW : Wo D dA A s w z c0 H locs)
    (hr : vy_Run p l e R s m args below meth c H locs c0 y0 mc ms (F0 m pc ls st0) rest (Qo D dA (va_A w (z + c0)) w1 (z + c0 + c1) y1 (.inr q9) av) (Xo D dA (va_A w (z + c0)) w1 (z + c0 + c1) y1 (.inr q9)) (va_A w (z + c0)))
    (kk : ∀ (H1 : Heap) (locs1 : List Loc) (ce : Cell), Wo D dA A s w1 z (c0 + c1) H1 locs1 → H1[q9]? = some ce → ce.vm = .none → s.vm.findClass "TrunkLitters$Wrong" = some ce.cls → vy_W p l e R s m args below meth c H1 locs1 (c0 + c1) (y0 + y1) Q (F0 m pc ls rest) q9) : W p l e R s m args below meth c H locs c0 y0 Q (F0 m pc ls st0) := by
  intro T hT X
  have hy := st_knows hT X
  have hWz : Wz D dA A s (w, z + c0, c0, y0) H locs := hW.toZ
  rcases hr T hT X with ⟨v9, st₀, t, T', L, h0, X', hL, e1, e2, ⟨⟨v2, hv, ho⟩, hB, hF, hs⟩, st⟩ | ⟨q, st₀, t, T', L, E, ce, h0, X', hL, e1, e2, ⟨⟨hE, ho⟩, hB, hF, hs⟩, hce, hcv, hcl, st⟩
  · cases ho
  · cases ho
    subst hE
    obtain ⟨k1, k2, k3⟩ := vy_keep h0 e1 hW.1.2.2.1 (fun q _ h => hWz.free q h) hWz.free hL hF
    have hj : Wz D dA A s (w1, z + c0 + c1, c0, y0) T'.heap (locs ++ L) := hWz.join e1.symm hB k2 k3
    have hW1 : Wo D dA A s w1 z (c0 + c1) T'.heap (locs ++ L) := ⟨hj.1, hW.2.1, by rw [hj.2, Nat.add_assoc]⟩
    rw [h0, ← e1] at hs
    have hk := vy_tight (c1 := c0 + mc) (y1 := y0 + ms) (c0 := c0 + c1) (y0 := y0 + y1) (by rw [hW1.2.2, hW1.2.1]; exact Nat.le_refl _) (by omega) (kk _ _ ce hW1 (by rw [e1]; exact hce) hcv hcl)
    obtain ⟨t2, a1, b1⟩ := hk T' rfl X'
    exact ⟨t2, st.trans a1, b1⟩
end CO
