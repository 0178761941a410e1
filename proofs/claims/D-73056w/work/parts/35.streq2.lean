section STREQ2
variable {l : Launch} {D : va_G} {dA : Nat → ClassId} {ws : va_W} {x y n n2 : Nat} {f f2 : Nat → Int32}
theorem byEq_self : byEq n f n f = 1 := by
  unfold byEq
  rw [if_pos ⟨rfl, List.all_eq_true.mpr fun j _ => by simp⟩]
theorem byEq_01 : byEq n f n2 f2 = 0 ∨ byEq n f n2 f2 = 1 := by
  unfold byEq
  split
  · exact Or.inr rfl
  · exact Or.inl rfl
set_option maxHeartbeats 4000000 in
theorem mJ7_equals (h1 : strOf dA ws x = some (n, f)) (h2 : strOf dA ws y = some (n2, f2)) : CtI l yJ7_equals cJ7_equals 3 (some .boolean) rJ7_equals D dA [.ref x, .ref y] ws (byEq n f n2 f2) ws := by
  refine e_I (by decide) (Nat.le_of_ble_eq_true rfl) ?_
  intro p e s m below meth c ls A FX hr hlk hl hW
  have hx := FX.1; have hb := FX.2.1
  have hl : lv_has ls 3 [(0, .ref x), (1, .ref y)] := hl
  obtain ⟨hn, v, fs, hv1, hv2⟩ := strOf_some h1
  obtain ⟨hn2, v2, fs2, hw1, hw2⟩ := strOf_some h2
  refine lv_aload_n hx hb dJ7_equals_0 rfl (lv_at hl 0 rfl) ?_
  refine lv_aload_n hx hb dJ7_equals_1 rfl (lv_at hl 1 rfl) ?_
  refine lv_acmp_ne (rx := some x) (ry := some y) (tgt := 7) hx hb dJ7_equals_2 (by decide) (fun c2 => ?_) (fun c2 => ?_)
  · have hC := hW.classAt (ci := 15) (C := RJ7) (T := TJ7) (N := 4) rfl
    refine lv_aload_n hx hb dJ7_equals_7 rfl (lv_at hl 1 rfl) ?_
    refine va_instS hx hb FX.2.2.2.1 (FX.2.2.2.2 _ q729) hC (v_recv hW hw1) dJ7_equals_8 ?_
    refine lv_if_eq (tgt := 54) hx hb dJ7_equals_11 (by decide) (fun c11 => by cases c11) (fun c11 => ?_)
    refine lv_aload_n hx hb dJ7_equals_14 rfl (lv_at hl 1 rfl) ?_
    refine va_castS hx hb FX.2.2.2.1 (FX.2.2.2.2 _ q729) hC (v_recv hW hw1) dJ7_equals_15 ?_
    refine lv_astore_n (lv' := [(2, .ref y), (0, .ref x), (1, .ref y)]) hx hb dJ7_equals_18 rfl hl (by decide) rfl (fun ls hl => ?_)
    refine va_gets hx hb hW.2.2.2.2.2.2.2.2.2.2.1 hW.2.2.1 FX.2.2.2.1 (FX.2.2.2.2 _ q682) (fun _ h => h) dJ7_equals_19 ?_
    refine lv_if_eq (tgt := 36) hx hb dJ7_equals_22 (by decide) (fun c11 => by cases c11) (fun c11 => ?_)
    refine lv_aload_n hx hb dJ7_equals_25 rfl (lv_at hl 1 rfl) ?_
    refine v_get1 FX hW q697 hv1 rfl dJ7_equals_26 ?_
    refine lv_aload_n hx hb dJ7_equals_29 rfl (lv_at hl 0 rfl) ?_
    refine v_get1 FX hW q697 hw1 rfl dJ7_equals_30 ?_
    refine lv_icmp_ne (tgt := 54) hx hb dJ7_equals_33 (by decide) (fun c4 => (c4 rfl).elim) (fun c4 => ?_)
    refine lv_aload_n hx hb dJ7_equals_36 rfl (lv_at hl 1 rfl) ?_
    refine v_get0 FX hW q696 hv1 rfl dJ7_equals_37 ?_
    refine lv_aload_n hx hb dJ7_equals_40 rfl (lv_at hl 0 rfl) ?_
    refine v_get0 FX hW q696 hw1 rfl dJ7_equals_41 ?_
    refine w_Si (As := [.ref v, .ref v2]) (rest := []) (n := 2) (wr := []) FX (mJ12_equals hv2 hw2 hn hn2) (va_cwS 2 FX.2.2.2.2 (lw_S q730 q731 q142 q732) rfl rfl rfl (by decide +kernel) (by decide)) rfl hl.1 rfl (by decide) (by decide) dJ7_equals_44 (by simpa using hW) ?_
    intro H1 locs1 hW1
    have hW1 : Wd D dA A s ws H1 locs1 := by simpa using hW1
    refine lv_if_eq (tgt := 54) hx hb dJ7_equals_47 (by decide) (fun c11 => ?_) (fun c11 => ?_)
    · refine lv_iconst (v := 0) hx hb dJ7_equals_54 (by decide) ?_
      exact g_zret FX hr hlk hW1 rfl c11.symm dJ7_equals_55
    · refine lv_iconst (v := 1) hx hb dJ7_equals_50 (by decide) ?_
      refine lv_goto (tgt := 55) hx hb dJ7_equals_51 (by decide) ?_
      refine g_zret FX hr hlk hW1 rfl ?_ dJ7_equals_55
      rcases byEq_01 (n := n) (f := f) (n2 := n2) (f2 := f2) with h | h
      · exact absurd h c11
      · exact h.symm
  · cases c2
    have h3 := h1.symm.trans h2
    cases h3
    refine lv_iconst (v := 1) hx hb dJ7_equals_5 (by decide) ?_
    exact g_zret FX hr hlk hW rfl byEq_self.symm dJ7_equals_6
end STREQ2
