/-! LISTS that are read, formulas that are asked: over any world that holds their cells -/
abbrev rJ2_size : Room := { frames := 0, cells := 0, slots := 0, locals := 0 }
abbrev rJ2_elementData : Room := { frames := 0, cells := 0, slots := 0, locals := 0 }
abbrev rJ2_get : Room := { frames := 3, cells := 0, slots := 0, locals := 70 }
def nlc {α : Type} (o : Option Nat) (x : Option α) (k : Nat → Option α) : Option α := match o with
  | none => x
  | some y => k y
def nn {α : Type} (o : Option Nat) (k : Nat → Option α) : Option α := match o with
  | none => none
  | some y => k y
theorem nn_some {α : Type} {o : Option Nat} {k : Nat → Option α} {q : α} (h : nn o k = some q) : ∃ x, o = some x ∧ k x = some q := by
  cases o with
  | none => cases h
  | some y => exact ⟨y, rfl, h⟩
/-- the cell at a is an object of the class -/
def pck {α : Type} (ws : va_W) (a ci : Nat) (K : Option α) : Option α := match hlk ws a with
  | some (.inr (c, _)) => if c = ci then K else none
  | _ => none
theorem pck_some {α : Type} {q : α} {ws : va_W} {a ci : Nat} {K : Option α} (h : pck ws a ci K = some q) : (∃ fs : List Value, hlk ws a = some (.inr (ci, fs))) ∧ K = some q := by
  unfold pck at h
  split at h
  · rename_i c fs he
    by_cases hc : c = ci
    · rw [if_pos hc] at h
      exact ⟨⟨fs, by rw [he, hc]⟩, h⟩
    · rw [if_neg hc] at h; cases h
  · cases h
theorem pool_in {pre pool wr : va_W} {k : Nat} {y : Nat × va_E} (h : pool[k]? = some y) : ∃ j : Nat, (pre ++ (pool ++ wr))[j]? = some y := by
  refine ⟨pre.length + k, ?_⟩
  rw [List.getElem?_append_right (Nat.le_add_right _ _), Nat.add_sub_cancel_left, List.getElem?_append_left (List.getElem?_eq_some_iff.mp h).1]
  exact h
section AL
variable {p : Program} {l : Launch} {e : Env} {R : Room} {s : State} {m : MethodId} {args : Array Value} {below : List Frame} {meth : Method} {c : Code} {H : Heap} {locs : List Loc} {cells slots : Nat} {Q : State → Prop}
variable {cc : ByteArray} {pc nL : Nat} {ls : Array Slot} {rest : List Value} {D : va_G} {dA : Nat → ClassId} {A : Nat → Prop} {ws : va_W} {own : String} {α : Type} {q : α}
theorem Wd.classAt (hW : Wd D dA A s ws H locs) {ci : Nat} {C : String} {T : u_T} {N : Nat} (hc : vwCl[ci]? = some (C, T, N)) : ClassAt s C (D.1 ci) := (hW.2.2.2.1.1 ci _ hc).2
theorem g_ifnonnull {o : Option Nat} {x : Option α} {k : Nat → Option α} {off : Int} {tgt : Nat} (FX : CallFix p m c cc nL s args lw_all own) (hf : nlc o x k = some q) (hdg : decode cc pc = .ok (.ifnonnull off, 3)) (ht : (pc : Int) + off = (tgt : Int))
    (kn : x = some q → W p l e R s m args below meth c H locs cells slots Q (F0 m (pc + 3) ls rest)) (ks : ∀ y, o = some y → k y = some q → W p l e R s m args below meth c H locs cells slots Q (F0 m tgt ls rest)) : W p l e R s m args below meth c H locs cells slots Q (F0 m pc ls (va_rf o :: rest)) := by
  cases o with
  | none => exact lv_ifnonnullN FX.1 FX.2.1 hdg (kn hf)
  | some y => exact lv_ifnonnull FX.1 FX.2.1 hdg ht (ks y rfl hf)
theorem g_ifnull {o : Option Nat} {x : Option α} {k : Nat → Option α} {off : Int} {tgt : Nat} (FX : CallFix p m c cc nL s args lw_all own) (hf : nlc o x k = some q) (hdg : decode cc pc = .ok (.ifnull off, 3)) (ht : (pc : Int) + off = (tgt : Int))
    (kn : x = some q → W p l e R s m args below meth c H locs cells slots Q (F0 m tgt ls rest)) (ks : ∀ y, o = some y → k y = some q → W p l e R s m args below meth c H locs cells slots Q (F0 m (pc + 3) ls rest)) : W p l e R s m args below meth c H locs cells slots Q (F0 m pc ls (va_rf o :: rest)) := by
  cases o with
  | none => exact lv_ifnullN FX.1 FX.2.1 hdg ht (kn hf)
  | some y => exact lv_ifnull FX.1 FX.2.1 hdg (ks y rfl hf)
/-- checkcast to the cell's own class -/
theorem g_castS (FX : CallFix p m c cc nL s args lw_all own) (hW : Wd D dA A s ws H locs) {C : String} {T : u_T} {N ci index a : Nat} (hc : vwCl[ci]? = some (C, T, N)) (hlink : Cond.classLink own index C ∈ lw_all) (he : ∃ (k : Nat) (fs : List Value), ws[k]? = some (a, .inr (ci, fs))) (hdg : decode cc pc = .ok (.checkcast index, 3))
    (kk : W p l e R s m args below meth c H locs cells slots Q (F0 m (pc + 3) ls (.ref a :: rest))) : W p l e R s m args below meth c H locs cells slots Q (F0 m pc ls (.ref a :: rest)) := by
  obtain ⟨k, fs, hk⟩ := he
  exact va_castS FX.1 FX.2.1 FX.2.2.2.1 (FX.2.2.2.2 _ hlink) (hW.classAt hc) (va_recv hW.2.2.2.1 hW.1 hc hk) hdg kk
theorem mJ2_size {k e pk : Nat} {mc n : Int32} (hk : ws[pk]? = some (k, .inr (13, [.int mc, .ref e, .int n]))) : CtI l yJ2_size cJ2_size 1 (some .int) rJ2_size D dA [.ref k] ws n ws := by
  refine e_I (by decide) (Nat.le_of_ble_eq_true rfl) ?_
  intro p e s m below meth c ls A FX hr hlk hl hW
  have hx := FX.1; have hb := FX.2.1
  have hl : lv_has ls 1 [(0, .ref k)] := hl
  refine lv_aload_n hx hb dJ2_size_0 rfl (lv_at hl 0 rfl) ?_
  refine g_get FX hW (C := RJ2) (T := TJ2) (N := 3) (ci := 13) in_J2 pk hk rfl 2 (by decide) q187 (fun _ h => h) rfl dJ2_size_1 ?_
  exact g_iret FX hr hlk hW rfl dJ2_size_4
theorem mJ2_elementData {k e pk pe cap x : Nat} {mc n i : Int32} {f : Nat → Option Nat} (hk : ws[pk]? = some (k, .inr (13, [.int mc, .ref e, .int n]))) (he : ws[pe]? = some (e, .inl (dA 4, cap, .inr (.inr (.inr (.inr f)))))) (hin : vp_in i cap) (hx1 : f i.toNatClampNeg = some x) : CtR l yJ2_elementData cJ2_elementData 2 (some (.object "java/lang/Object")) rJ2_elementData D dA [.ref k, .int i] ws x ws := by
  refine e_R (by decide) (Nat.le_of_ble_eq_true rfl) ?_
  intro p e s m below meth c ls A FX hr hlk hl hW
  have hx := FX.1; have hb := FX.2.1
  have hl : lv_has ls 2 [(0, .ref k), (1, .int i)] := hl
  refine lv_aload_n hx hb dJ2_elementData_0 rfl (lv_at hl 0 rfl) ?_
  refine g_get FX hW (C := RJ2) (T := TJ2) (N := 3) (ci := 13) in_J2 pk hk rfl 1 (by decide) q186 (fun _ h => h) rfl dJ2_elementData_1 ?_
  refine lv_iload_n hx hb dJ2_elementData_4 rfl (lv_at hl 1 rfl) ?_
  refine va_aldq (C := "java/lang/Object") hx hb hW.2.2.2.1 hW.1 pe 4 he rfl hin dJ2_elementData_5 ?_
  rw [hx1]
  exact g_aret FX hr hlk hW rfl dJ2_elementData_6
set_option maxHeartbeats 4000000 in
theorem mJ2_get {k e pk pe cap x : Nat} {mc n i : Int32} {f : Nat → Option Nat} (hk : ws[pk]? = some (k, .inr (13, [.int mc, .ref e, .int n]))) (he : ws[pe]? = some (e, .inl (dA 4, cap, .inr (.inr (.inr (.inr f)))))) (h0 : ¬ i < 0) (hn : ¬ n ≤ i) (hin : vp_in i cap) (hx1 : f i.toNatClampNeg = some x) : CtR l yJ2_get cJ2_get 2 (some (.object "java/lang/Object")) rJ2_get D dA [.ref k, .int i] ws x ws := by
  refine e_R (by decide) (Nat.le_of_ble_eq_true rfl) ?_
  intro p e s m below meth c ls A FX hr hlk hl hW
  have hx := FX.1; have hb := FX.2.1
  have hl : lv_has ls 2 [(0, .ref k), (1, .int i)] := hl
  have hlt : i < n := Int32.not_le.mp hn
  have hf : (fJ3_checkIndex i n).bind (fun r => some r) = some i := by
    simp [fJ3_checkIndex, fJ4_checkIndex, h0, hlt]
  refine lv_iload_n hx hb dJ2_get_0 rfl (lv_at hl 1 rfl) ?_
  refine lv_aload_n hx hb dJ2_get_1 rfl (lv_at hl 0 rfl) ?_
  refine g_get FX hW (C := RJ2) (T := TJ2) (N := 3) (ci := 13) in_J2 pk hk rfl 2 (by decide) q187 (fun _ h => h) rfl dJ2_get_2 ?_
  refine kJ2_J3_checkIndex FX ⟨Nat.le_of_ble_eq_true rfl, Nat.le_of_ble_eq_true rfl⟩ ⟨Nat.zero_le _, Nat.zero_le _⟩ hl.1 (Nat.le_of_ble_eq_true rfl) hW hf dJ2_get_5 (fun r1 H locs hW hf => ?_)
  refine lv_pop hx hb dJ2_get_8 rfl ?_
  refine lv_aload_n hx hb dJ2_get_9 rfl (lv_at hl 0 rfl) ?_
  refine lv_iload_n hx hb dJ2_get_10 rfl (lv_at hl 1 rfl) ?_
  refine w_VR (C := RJ2) (As := [.int i]) (rest := []) (n := 1) (wr := []) FX (mJ2_elementData hk he hin hx1) (cwV 1 FX.2.2.2.2 (lw_V q354 q355 q356 q127 q357) rfl rfl rfl (by decide +kernel) ⟨Nat.le_of_ble_eq_true rfl, Nat.le_of_ble_eq_true rfl⟩) (va_recv hW.2.2.2.1 hW.1 (ci := 13) rfl hk) rfl hl.1 rfl (Nat.le_of_ble_eq_true rfl) ⟨Nat.zero_le _, Nat.zero_le _⟩ dJ2_get_11 hW.nil ?_
  exact fun H1 locs1 hW1 => g_aret FX hr hlk hW1.nil' rfl dJ2_get_14
end AL
