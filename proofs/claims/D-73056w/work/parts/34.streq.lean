/-! String.equals, of texts that are known -/
def byEq (n : Nat) (f : Nat → Int32) (n2 : Nat) (f2 : Nat → Int32) : Int32 := if n = n2 ∧ (List.range n).all (fun j => f j == f2 j) = true then 1 else 0
/-- the text of the String at x: its length, its bytes -/
def strOf (dA : Nat → Nat) (ws : va_W) (x : Nat) : Option (Nat × (Nat → Int32)) := match vlk dA ws x with
  | some (.inr (15, .ref v :: .int 0 :: _)) => match vlk dA ws v with
    | some (.inl (t, n, .inl f)) => if t = dA 1 ∧ n < 100000 then some (n, f) else none
    | _ => none
  | _ => none
theorem strOf_some {dA : Nat → Nat} {ws : va_W} {x n : Nat} {f : Nat → Int32} (h : strOf dA ws x = some (n, f)) : n < 100000 ∧ ∃ (v : Nat) (fs : List Value), vlk dA ws x = some (.inr (15, .ref v :: .int 0 :: fs)) ∧ vlk dA ws v = some (.inl (dA 1, n, .inl f)) := by
  unfold strOf at h
  split at h
  · rename_i v fs hx
    split at h
    · rename_i t n2 f2 hv
      by_cases hc : t = dA 1 ∧ n2 < 100000
      · rw [if_pos hc] at h
        cases h
        exact ⟨hc.2, v, fs, hx, by rw [hv, hc.1]⟩
      · rw [if_neg hc] at h; cases h
    · cases h
  · cases h
abbrev rJ12_equals : Room := { frames := 0, cells := 0, slots := 0, locals := 0 }
abbrev rJ7_equals : Room := { frames := 1, cells := 0, slots := 0, locals := 30 }
section STREQ
variable {l : Launch} {D : va_G} {dA : Nat → ClassId} {ws : va_W} {a b n n2 : Nat} {f f2 : Nat → Int32}
set_option maxHeartbeats 4000000 in
theorem mJ12_equals (ha : vlk dA ws a = some (.inl (dA 1, n, .inl f))) (hb2 : vlk dA ws b = some (.inl (dA 1, n2, .inl f2))) (hn : n < 100000) (hn2 : n2 < 100000) : CtI l yJ12_equals cJ12_equals 3 (some .boolean) rJ12_equals D dA [.ref a, .ref b] ws (byEq n f n2 f2) ws := by
  refine e_I (by decide) (Nat.le_of_ble_eq_true rfl) ?_
  intro p e s m below meth c ls A FX hr hlk hl hW
  have hx := FX.1; have hb := FX.2.1
  have hl : lv_has ls 3 [(0, .ref a), (1, .ref b)] := hl
  refine lv_aload_n hx hb dJ12_equals_0 rfl (lv_at hl 0 rfl) ?_
  refine v_len FX hW ha dJ12_equals_1 ?_
  refine lv_aload_n hx hb dJ12_equals_2 rfl (lv_at hl 1 rfl) ?_
  refine v_len FX hW hb2 dJ12_equals_3 ?_
  refine lv_icmp_ne (tgt := 34) hx hb dJ12_equals_4 (by decide) (fun c4 => ?_) (fun c4 => ?_)
  · refine lv_iconst (v := 0) hx hb dJ12_equals_34 (by decide) ?_
    refine g_zret FX hr hlk hW rfl ?_ dJ12_equals_35
    unfold byEq
    rw [if_neg]
    rintro ⟨rfl, -⟩
    exact c4 rfl
  · have hnn : n = n2 := (nI_eq (by omega) (by omega)).mp c4
    subst hnn
    refine lv_iconst (v := 0) hx hb dJ12_equals_7 (by decide) ?_
    refine lv_istore_n (lv' := [(2, .int (nI 0)), (0, .ref a), (1, .ref b)]) hx hb dJ12_equals_8 rfl hl (by decide) rfl (fun ls hl => ?_)
    have loop : ∀ (k i : Nat), i + k = n → (∀ j, j < i → f j = f2 j) → ∀ (H : Heap) (locs : List Loc) (ls : Array Slot), lv_has ls 3 [(2, .int (nI i)), (0, .ref a), (1, .ref b)] → Wd D dA A s ws H locs → W p l e rJ12_equals s m #[.ref a, .ref b] below meth c H locs 0 0 (QI D dA A below #[.ref a, .ref b] s 0 0 (byEq n f n f2) ws) (F0 m 9 ls []) := by
      intro k
      induction k with
      | zero =>
        intro i hik hj H locs ls hl hW
        refine lv_iload_n hx hb dJ12_equals_9 rfl (lv_at hl 0 rfl) ?_
        refine lv_aload_n hx hb dJ12_equals_10 rfl (lv_at hl 1 rfl) ?_
        refine v_len FX hW ha dJ12_equals_11 ?_
        refine lv_icmp_ge (tgt := 32) hx hb dJ12_equals_12 (by decide) (fun c1 => ?_) (fun c1 => ?_)
        · refine lv_iconst (v := 1) hx hb dJ12_equals_32 (by decide) ?_
          refine g_zret FX hr hlk hW rfl ?_ dJ12_equals_33
          unfold byEq
          rw [if_pos ⟨rfl, List.all_eq_true.mpr fun j hj2 => by simpa using hj j (by have := List.mem_range.mp hj2; omega)⟩]
        · exact absurd (nI_le (show n ≤ i by omega) (by omega)) c1
      | succ k ih =>
        intro i hik hj H locs ls hl hW
        refine lv_iload_n hx hb dJ12_equals_9 rfl (lv_at hl 0 rfl) ?_
        refine lv_aload_n hx hb dJ12_equals_10 rfl (lv_at hl 1 rfl) ?_
        refine v_len FX hW ha dJ12_equals_11 ?_
        refine lv_icmp_ge (tgt := 32) hx hb dJ12_equals_12 (by decide) (fun c1 => ?_) (fun c1 => ?_)
        · exact absurd c1 (nI_ge (show i < n by omega) (by omega))
        · have hin : vp_in (nI i) n := vp_in_nI (by omega) (by omega)
          refine lv_aload_n hx hb dJ12_equals_15 rfl (lv_at hl 1 rfl) ?_
          refine lv_iload_n hx hb dJ12_equals_16 rfl (lv_at hl 0 rfl) ?_
          refine v_bald FX hW ha hin dJ12_equals_17 ?_
          refine lv_aload_n hx hb dJ12_equals_18 rfl (lv_at hl 2 rfl) ?_
          refine lv_iload_n hx hb dJ12_equals_19 rfl (lv_at hl 0 rfl) ?_
          refine v_bald FX hW hb2 hin dJ12_equals_20 ?_
          refine lv_icmp_eq (tgt := 26) hx hb dJ12_equals_21 (by decide) (fun c2 => ?_) (fun c2 => ?_)
          · refine lv_iinc (v := nI (i + 1)) (lv' := [(2, .int (nI (i + 1))), (0, .ref a), (1, .ref b)]) hx hb dJ12_equals_26 hl (k := 0) rfl (nI_1 i) (by decide) rfl (fun ls hl => ?_)
            refine lv_goto (tgt := 9) hx hb dJ12_equals_29 (by decide) ?_
            refine ih (i + 1) (by omega) (fun j hj2 => ?_) H locs ls hl hW
            rcases Nat.lt_succ_iff_lt_or_eq.mp hj2 with h | h
            · exact hj j h
            · subst h
              rw [nI_clamp (by omega)] at c2
              exact c2
          · refine lv_iconst (v := 0) hx hb dJ12_equals_24 (by decide) ?_
            refine g_zret FX hr hlk hW rfl ?_ dJ12_equals_25
            unfold byEq
            rw [if_neg]
            rintro ⟨-, h⟩
            have h2 := List.all_eq_true.mp h i (List.mem_range.mpr (by omega))
            rw [nI_clamp (by omega)] at c2
            exact c2 (by simpa using h2)
    exact loop n 0 (by omega) (fun j hj => absurd hj (by omega)) _ _ ls hl hW
end STREQ
