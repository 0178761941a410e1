/-! cells by their addresses: what is written is read again -/
theorem hlk_nil {b : Nat} : hlk [] b = none := rfl
theorem hlk_cons {p : Nat × va_E} {w : va_W} {b : Nat} : hlk (p :: w) b = if p.1 = b then some p.2 else hlk w b := by
  unfold hlk
  rw [List.find?_cons]
  by_cases h : p.1 = b
  · simp [h]
  · have hb : (p.1 == b) = false := by simpa using h
    rw [hb, if_neg h]
theorem hup_cons {p : Nat × va_E} {w : va_W} {a : Nat} {x : va_E} : hup (p :: w) a x = (if p.1 = a then (a, x) else p) :: hup w a x := rfl
theorem hlk_hup_self {w : va_W} {a : Nat} {x y : va_E} (h : hlk w a = some y) : hlk (hup w a x) a = some x := by
  induction w with
  | nil => cases h
  | cons p w ih =>
    rw [hup_cons, hlk_cons]
    rw [hlk_cons] at h
    by_cases hp : p.1 = a
    · simp [hp]
    · rw [if_neg hp] at h ⊢
      rw [if_neg hp]
      exact ih h
theorem hlk_hup_ne {w : va_W} {a b : Nat} {x : va_E} (h : b ≠ a) : hlk (hup w a x) b = hlk w b := by
  induction w with
  | nil => rfl
  | cons p w ih =>
    rw [hup_cons, hlk_cons, hlk_cons, ih]
    by_cases hp : p.1 = a
    · have : ¬ p.1 = b := fun e => h (e.symm.trans hp)
      rw [if_pos hp, if_neg this]
      rw [if_neg (fun e : a = b => h e.symm)]
    · rw [if_neg hp]
theorem hup_hup {w : va_W} {a : Nat} {x y : va_E} : hup (hup w a x) a y = hup w a y := by
  unfold hup
  rw [List.map_map]
  apply List.map_congr_left
  intro p _
  by_cases h : p.1 = a <;> simp [h]
theorem hlk_app {w v : va_W} {b : Nat} : hlk (w ++ v) b = (hlk w b).or (hlk v b) := by
  induction w with
  | nil => simp [hlk_nil]
  | cons p w ih =>
    rw [List.cons_append, hlk_cons, hlk_cons, ih]
    by_cases h : p.1 = b <;> simp [h]
theorem hlk_one {a b : Nat} {x : va_E} : hlk [(a, x)] b = if a = b then some x else none := by rw [hlk_cons, hlk_nil]
abbrev rJ7_equalsO : Room := { frames := 1, cells := 0, slots := 0, locals := 30 }
def fJ7_equalsO (dA : Nat → Nat) (z x y : Nat) (w : va_W) : Option ((Int32) × va_W × Nat × Nat) := match strOf dA w x, strOf dA w y with
  | some a, some b => some (byEq a.1 a.2 b.1 b.2, w, 0, 0)
  | _, _ => none
theorem mJ7_equalsO {l : Launch} {D : va_G} {dA : Nat → ClassId} {z x y : Nat} {w : va_W} {q : (Int32) × va_W × Nat × Nat} (hf : fJ7_equalsO dA z x y w = some q) : CtO l yJ7_equals cJ7_equals 3 (some .boolean) rJ7_equalsO D dA [.ref x, .ref y] w z (.inl (some (.int q.1))) q.2.1 q.2.2.1 q.2.2.2 := by
  unfold fJ7_equalsO at hf
  split at hf
  · rename_i a b h1 h2
    obtain rfl := Option.some.inj hf
    exact (mJ7_equals (n := a.1) (f := a.2) (n2 := b.1) (f2 := b.2) h1 h2).toO rfl z
  · cases hf
abbrev rJ2_sizeO : Room := { frames := 0, cells := 0, slots := 0, locals := 0 }
def fJ2_sizeO (_dA : Nat → Nat) (_z a : Nat) (w : va_W) : Option ((Int32) × va_W × Nat × Nat) := match hlk w a with
  | some (.inr (13, [.int _, .ref _, .int n])) => some (n, w, 0, 0)
  | _ => none
theorem mJ2_sizeO {l : Launch} {D : va_G} {dA : Nat → ClassId} {z a : Nat} {w : va_W} {q : (Int32) × va_W × Nat × Nat} (hf : fJ2_sizeO dA z a w = some q) : CtO l yJ2_size cJ2_size 1 (some .int) rJ2_sizeO D dA [.ref a] w z (.inl (some (.int q.1))) q.2.1 q.2.2.1 q.2.2.2 := by
  unfold fJ2_sizeO at hf
  split at hf
  · rename_i mc e n he
    obtain rfl := Option.some.inj hf
    obtain ⟨k, hk⟩ := hlk_get he
    exact (mJ2_size hk).toO rfl z
  · cases hf
abbrev rJ2_getO : Room := { frames := 3, cells := 0, slots := 0, locals := 70 }
def fJ2_getO (dA : Nat → Nat) (_z a : Nat) (i : Int32) (w : va_W) : Option ((Nat) × va_W × Nat × Nat) := match hlk w a with
  | some (.inr (13, [.int _, .ref e, .int n])) => (match hlk w e with
    | some (.inl (t, cap, .inr (.inr (.inr (.inr f))))) => if t = dA 4 then lget cap n f i (fun x => some (x, w, 0, 0)) else none
    | _ => none)
  | _ => none
theorem mJ2_getO {l : Launch} {D : va_G} {dA : Nat → ClassId} {z a : Nat} {i : Int32} {w : va_W} {q : (Nat) × va_W × Nat × Nat} (hf : fJ2_getO dA z a i w = some q) : CtO l yJ2_get cJ2_get 2 (some (.object "java/lang/Object")) rJ2_getO D dA [.ref a, .int i] w z (.inl (some (.ref q.1))) q.2.1 q.2.2.1 q.2.2.2 := by
  unfold fJ2_getO at hf
  split at hf
  · rename_i mc e n he
    split at hf
    · rename_i t cap f hx
      by_cases ht : t = dA 4
      · rw [if_pos ht] at hf
        subst ht
        obtain ⟨h0, hn, hin, x, hx1, hf⟩ := lget_some hf
        obtain rfl := Option.some.inj hf
        obtain ⟨k, hk⟩ := hlk_get he
        obtain ⟨k2, hk2⟩ := hlk_get hx
        exact (mJ2_get hk hk2 h0 hn hin hx1).toO rfl z
      · rw [if_neg ht] at hf; cases hf
    · cases hf
  · cases hf
theorem va_Zq.ex {C n d : String} {A : Nat → Prop} {U : State} {H : Heap} (h : va_Zq C n d A U H) : ∃ u : Option Nat, va_Z C n d (va_rf u) A U H := by
  rcases h with h | ⟨t, h⟩
  · exact ⟨none, h⟩
  · exact ⟨some t, h⟩
abbrev rJ13_init2O : Room := { frames := 1, cells := 0, slots := 0, locals := 30 }
def fJ13_init2O (_dA : Nat → Nat) (_z t : Nat) (a b : Option Nat) (c d : Int32) (w : va_W) : Option ((Unit) × va_W × Nat × Nat) := match hlk w t with
  | some (.inr (7, [_, _, _, _, f4, f5, f6, f7])) => if c = 0 ∧ d = 0 then some ((), hup w t (.inr (7, [va_rf b, .null, .null, va_rf a, f4, f5, f6, f7])), 0, 0) else none
  | _ => none
theorem ppt_at {ws : va_W} {a ci k : Nat} {v : Value} {fs : List Value} (h : hlk ws a = some (.inr (ci, fs))) (hk : k < fs.length) : ppt ws a ci k v some = some (hup ws a (.inr (ci, fs.set k v))) := by
  unfold ppt
  rw [h]
  simp [hk]
set_option maxHeartbeats 4000000 in
theorem mJ13_init2O {l : Launch} {D : va_G} {dA : Nat → ClassId} {z t : Nat} {a b : Option Nat} {c d : Int32} {w : va_W} {q : (Unit) × va_W × Nat × Nat} (hf : fJ13_init2O dA z t a b c d w = some q) : CtO l yJ13_init_2 cJ13_init_2 5 none rJ13_init2O D dA [.ref t, va_rf a, va_rf b, .int c, .int d] w z (.inl none) q.2.1 q.2.2.1 q.2.2.2 := by
  unfold fJ13_init2O at hf
  split at hf
  case h_2 => cases hf
  rename_i g0 g1 g2 g3 f4 f5 f6 f7 he
  by_cases hcd : c = 0 ∧ d = 0
  case neg => rw [if_neg hcd] at hf; cases hf
  rw [if_pos hcd] at hf
  obtain ⟨rfl, rfl⟩ := hcd
  obtain rfl := Option.some.inj hf
  refine e_O (by decide) (by cases a <;> cases b <;> exact Nat.le_of_ble_eq_true rfl) ?_
  intro p e s m below meth c9 ls A FX hr hlk hnm hout hl hW
  have hx := FX.1; have hb := FX.2.1; have hown := FX.2.2.2.1; have hts := FX.2.2.2.2
  have hl : lv_has ls 5 [(0, .ref t), (1, va_rf a), (2, va_rf b), (3, .int 0), (4, .int 0)] := by cases a <;> cases b <;> exact hl
  obtain ⟨u1, hu1⟩ := va_Zq.ex hW.gx.2.2.2.2.2.2.2.2.1
  obtain ⟨u2, hu2⟩ := va_Zq.ex hW.gx.2.2.2.2.2.2.2.2.2.1
  refine lv_aload_n hx hb dJ13_init_2_0 rfl (lv_at hl 0 rfl) ?_
  refine o_obj FX q845 hl.1 dJ13_init_2_1 (Nat.le_of_ble_eq_true rfl) (Nat.le_of_ble_eq_true rfl) ?_
  refine lv_aload_n hx hb dJ13_init_2_4 rfl (lv_at hl 0 rfl) ?_
  refine lv_aload_n hx hb dJ13_init_2_5 rfl (lv_at hl 0 rfl) ?_
  refine op_put (C := RX8) (T := TX8) (N := 8) (ci := 7) (ty := (.object "java/lang/Throwable")) FX hW in_X8 tyX8 tyX8_ok nmX8 rfl 0 (by decide) q874 (fun _ h => h) rfl (by decide +kernel) rfl rfl (ppt_at he (Nat.le_of_ble_eq_true rfl)) dJ13_init_2_6 (fun w1 H locs hW hw => ?_)
  obtain rfl := Option.some.inj hw
  have he := hlk_hup_self (x := .inr (7, [.ref t, g1, g2, g3, f4, f5, f6, f7])) he
  refine lv_aload_n hx hb dJ13_init_2_9 rfl (lv_at hl 0 rfl) ?_
  refine va_gets hx hb hu1 hW.1.2.2.1 FX.2.2.2.1 (FX.2.2.2.2 _ q846) (fun _ h => h) dJ13_init_2_10 ?_
  refine op_put (C := RX8) (T := TX8) (N := 8) (ci := 7) (ty := (.array (.object "java/lang/StackTraceElement"))) FX hW in_X8 tyX8 tyX8_ok nmX8 rfl 1 (by decide) q875 (fun _ h => h) rfl (by decide +kernel) (narrow_qa _) (fits_qa _) (ppt_at he (Nat.le_of_ble_eq_true rfl)) dJ13_init_2_13 (fun w1 H locs hW hw => ?_)
  obtain rfl := Option.some.inj hw
  have he := hlk_hup_self (x := .inr (7, [.ref t, va_rf u1, g2, g3, f4, f5, f6, f7])) he
  refine lv_aload_n hx hb dJ13_init_2_16 rfl (lv_at hl 0 rfl) ?_
  refine va_gets hx hb hu2 hW.1.2.2.1 FX.2.2.2.1 (FX.2.2.2.2 _ q848) (fun _ h => h) dJ13_init_2_17 ?_
  refine op_put (C := RX8) (T := TX8) (N := 8) (ci := 7) (ty := (.object "java/util/List")) FX hW in_X8 tyX8 tyX8_ok nmX8 rfl 2 (by decide) q876 (fun _ h => h) rfl (by decide +kernel) (narrow_qo _) (fits_qo _) (ppt_at he (Nat.le_of_ble_eq_true rfl)) dJ13_init_2_20 (fun w1 H locs hW hw => ?_)
  obtain rfl := Option.some.inj hw
  have he := hlk_hup_self (x := .inr (7, [.ref t, va_rf u1, va_rf u2, g3, f4, f5, f6, f7])) he
  refine lv_iload hx hb dJ13_init_2_23 (lv_at hl 4 rfl) ?_
  refine lv_if_eq (tgt := 36) hx hb dJ13_init_2_25 (by decide) (fun c25 => ?_) (fun c25 => absurd rfl c25)
  refine lv_aload_n hx hb dJ13_init_2_36 rfl (lv_at hl 0 rfl) ?_
  refine lv_null hx hb dJ13_init_2_37 ?_
  refine op_put (C := RX8) (T := TX8) (N := 8) (ci := 7) (ty := (.array (.object "java/lang/StackTraceElement"))) FX hW in_X8 tyX8 tyX8_ok nmX8 rfl 1 (by decide) q875 (fun _ h => h) rfl (by decide +kernel) rfl rfl (ppt_at he (Nat.le_of_ble_eq_true rfl)) dJ13_init_2_38 (fun w1 H locs hW hw => ?_)
  obtain rfl := Option.some.inj hw
  have he := hlk_hup_self (x := .inr (7, [.ref t, .null, va_rf u2, g3, f4, f5, f6, f7])) he
  refine lv_aload_n hx hb dJ13_init_2_41 rfl (lv_at hl 0 rfl) ?_
  refine lv_aload_nQ hx hb dJ13_init_2_42 rfl (lv_at hl 1 rfl) ?_
  refine op_put (C := RX8) (T := TX8) (N := 8) (ci := 7) (ty := (.object "java/lang/String")) FX hW in_X8 tyX8 tyX8_ok nmX8 rfl 3 (by decide) q873 (fun _ h => h) rfl (by decide +kernel) (narrow_qo _) (fits_qo _) (ppt_at he (Nat.le_of_ble_eq_true rfl)) dJ13_init_2_43 (fun w1 H locs hW hw => ?_)
  obtain rfl := Option.some.inj hw
  have he := hlk_hup_self (x := .inr (7, [.ref t, .null, va_rf u2, va_rf a, f4, f5, f6, f7])) he
  refine lv_aload_n hx hb dJ13_init_2_46 rfl (lv_at hl 0 rfl) ?_
  refine lv_aload_nQ hx hb dJ13_init_2_47 rfl (lv_at hl 2 rfl) ?_
  refine op_put (C := RX8) (T := TX8) (N := 8) (ci := 7) (ty := (.object "java/lang/Throwable")) FX hW in_X8 tyX8 tyX8_ok nmX8 rfl 0 (by decide) q874 (fun _ h => h) rfl (by decide +kernel) (narrow_qo _) (fits_qo _) (ppt_at he (Nat.le_of_ble_eq_true rfl)) dJ13_init_2_48 (fun w1 H locs hW hw => ?_)
  obtain rfl := Option.some.inj hw
  have he := hlk_hup_self (x := .inr (7, [va_rf b, .null, va_rf u2, va_rf a, f4, f5, f6, f7])) he
  refine lv_iload_n hx hb dJ13_init_2_51 rfl (lv_at hl 3 rfl) ?_
  refine lv_if_ne (tgt := 60) hx hb dJ13_init_2_52 (by decide) (fun c52 => absurd rfl c52) (fun c52 => ?_)
  refine lv_aload_n hx hb dJ13_init_2_55 rfl (lv_at hl 0 rfl) ?_
  refine lv_null hx hb dJ13_init_2_56 ?_
  refine op_put (C := RX8) (T := TX8) (N := 8) (ci := 7) (ty := (.object "java/util/List")) FX hW in_X8 tyX8 tyX8_ok nmX8 rfl 2 (by decide) q876 (fun _ h => h) rfl (by decide +kernel) rfl rfl (ppt_at he (Nat.le_of_ble_eq_true rfl)) dJ13_init_2_57 (fun w1 H locs hW hw => ?_)
  obtain rfl := Option.some.inj hw
  have he := hlk_hup_self (x := .inr (7, [va_rf b, .null, .null, va_rf a, f4, f5, f6, f7])) he
  simp only [hup_hup] at hW
  exact ro_v FX hr hlk hW ⟨Nat.le_refl _, Nat.le_refl _⟩ dJ13_init_2_60
