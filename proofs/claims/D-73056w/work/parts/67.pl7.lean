/-! plain law: a house: one leaves, one listens -/
theorem clr_at {a : Nat → Int32} {t q : Nat} (ht : t < 8) (hq : q < 8) : clr a t q = (if q = t then 0 else a q) ∧ clr a t (8 + q) = (if q = t then 0 else a (8 + q)) ∧ clr a t (16 + q) = (if q = t then 0 else a (16 + q)) ∧ clr a t (24 + q) = (if q = t then 0 else a (24 + q)) ∧ clr a t (32 + q) = (if q = t then 0 else a (32 + q)) ∧ clr a t (40 + q) = (if q = t then -1 else a (40 + q)) ∧ clr a t (48 + q) = (if q = t then -1 else a (48 + q)) := by
  unfold clr
  by_cases e : q = t
  · subst e
    refine ⟨?_, ?_, ?_, ?_, ?_, ?_, ?_⟩ <;> rw [if_pos rfl]
    · rw [upd_n (by omega), upd_n (by omega), upd_n (by omega), upd_n (by omega), upd_n (by omega), upd_n (by omega), upd_s]
    · rw [upd_n (by omega), upd_n (by omega), upd_n (by omega), upd_n (by omega), upd_n (by omega), upd_s]
    · rw [upd_n (by omega), upd_n (by omega), upd_n (by omega), upd_n (by omega), upd_s]
    · rw [upd_n (by omega), upd_n (by omega), upd_n (by omega), upd_s]
    · rw [upd_n (by omega), upd_n (by omega), upd_s]
    · rw [upd_n (by omega), upd_s]
    · rw [upd_s]
  · refine ⟨?_, ?_, ?_, ?_, ?_, ?_, ?_⟩ <;> rw [if_neg e, upd_n (by omega), upd_n (by omega), upd_n (by omega), upd_n (by omega), upd_n (by omega), upd_n (by omega), upd_n (by omega)]
theorem clr_hi {a : Nat → Int32} {t q : Nat} (ht : t < 8) (hq : 56 ≤ q) : clr a t q = a q := by
  unfold clr
  rw [upd_n (by omega), upd_n (by omega), upd_n (by omega), upd_n (by omega), upd_n (by omega), upd_n (by omega), upd_n (by omega)]
theorem los_at {a : Nat → Int32} {t q : Nat} (ht : t < 8) (hq : q < 8) : los a t q = (if q = t then 0 else a q) ∧ los a t (8 + q) = (if q = t then 0 else a (8 + q)) ∧ los a t (16 + q) = (if q = t then 0 else a (16 + q)) ∧ los a t (24 + q) = (if q = t then 0 else a (24 + q)) ∧ los a t (32 + q) = (if q = t then 0 else a (32 + q)) ∧ los a t (40 + q) = (if q = t ∨ a (40 + q) = nI t then -1 else a (40 + q)) ∧ los a t (48 + q) = (if q = t ∨ a (48 + q) = nI t then -1 else a (48 + q)) := by
  obtain ⟨c0, c8, c16, c24, c32, c40, c48⟩ := clr_at (a := a) ht hq
  unfold los
  refine ⟨?_, ?_, ?_, ?_, ?_, ?_, ?_⟩
  · rw [if_neg (by omega), c0]
  · rw [if_neg (by omega), c8]
  · rw [if_neg (by omega), c16]
  · rw [if_neg (by omega), c24]
  · rw [if_neg (by omega), c32]
  · rw [c40]
    by_cases e : q = t
    · rw [if_pos e, if_neg (by rintro ⟨-, g⟩; exact m1_ne ht g), if_pos (Or.inl e)]
    · rw [if_neg e]
      by_cases g : a (40 + q) = nI t
      · rw [if_pos ⟨by omega, g⟩, if_pos (Or.inr g)]
      · rw [if_neg (fun x => g x.2), if_neg (fun x => x.elim e g)]
  · rw [c48]
    by_cases e : q = t
    · rw [if_pos e, if_neg (by rintro ⟨-, g⟩; exact m1_ne ht g), if_pos (Or.inl e)]
    · rw [if_neg e]
      by_cases g : a (48 + q) = nI t
      · rw [if_pos ⟨by omega, g⟩, if_pos (Or.inr g)]
      · rw [if_neg (fun x => g x.2), if_neg (fun x => x.elim e g)]
theorem los_hi {a : Nat → Int32} {t q : Nat} (ht : t < 8) (hq : 56 ≤ q) : los a t q = a q := by
  unfold los
  rw [if_neg (by omega), clr_hi ht hq]
theorem lv_los {a : Nat → Int32} {t q : Nat} (ht : t < 8) (hq : q < 8) : lv (los a t) q = bup (lv a) t false q := by
  unfold lv
  rw [(los_at ht hq).1]
  by_cases e : q = t
  · subst e; rw [bup_s, if_pos rfl]; decide
  · rw [bup_n e, if_neg e]
theorem Sth_los {a : Nat → Int32} {t : Nat} (ht : t < 8) : Sth (los a t) = Sth a &&& (bw t ^^^ -1) := by
  rw [Sth_set, Sth_set, ← setB_out _ ht]
  exact setB_cg fun q hq => lv_los ht hq
section HG
variable {s : Hst} {k j : Nat} {v i : Int32}
theorem hF_uF (h : j ≠ k) : hF (uF s k v) j = hF s j := up_n h
theorem hF_uFs : hF (uF s k v) k = v := up_s
theorem hF_uA : hF (uA s k i v) j = hF s j := rfl
theorem hA_uF : hA (uF s k v) j = hA s j := rfl
theorem hA_uA (h : j ≠ k) : hA (uA s k i v) j = hA s j := up_n h
theorem hA_uAs : hA (uA s k i v) k = upd (hA s k) i.toNatClampNeg v := up_s
end HG
def hclr (h : Hst) (t : Nat) : Hst := uA (uA (uA (uA (uA (uA (uA h 0 (nI t) 0) 1 (nI t) (-1)) 2 (nI t) 0) 3 (nI t) 0) 4 (nI t) 0) 5 (nI t) (-1)) 6 (nI t) (-1)
theorem d_clear {h : Hst} {t : Nat} (ht : t < 8) : fX3_clear (nI t) h = some (hclr h t) := by
  unfold fX3_clear
  simp only [sh ht, stp_eq]
  rfl
theorem hclr_A {h : Hst} {t : Nat} (ht : t < 8) : hA (hclr h t) 0 = upd (hA h 0) t 0 ∧ hA (hclr h t) 1 = upd (hA h 1) t (-1) ∧ hA (hclr h t) 2 = upd (hA h 2) t 0 ∧ hA (hclr h t) 3 = upd (hA h 3) t 0 ∧ hA (hclr h t) 4 = upd (hA h 4) t 0 ∧ hA (hclr h t) 5 = upd (hA h 5) t (-1) ∧ hA (hclr h t) 6 = upd (hA h 6) t (-1) ∧ hA (hclr h t) 7 = hA h 7 ∧ hF (hclr h t) = hF h := by
  unfold hclr
  refine ⟨?_, ?_, ?_, ?_, ?_, ?_, ?_, ?_, rfl⟩
  · rw [hA_uA (by decide), hA_uA (by decide), hA_uA (by decide), hA_uA (by decide), hA_uA (by decide), hA_uA (by decide), hA_uAs, ch ht]
  · rw [hA_uA (by decide), hA_uA (by decide), hA_uA (by decide), hA_uA (by decide), hA_uA (by decide), hA_uAs, hA_uA (by decide), ch ht]
  · rw [hA_uA (by decide), hA_uA (by decide), hA_uA (by decide), hA_uA (by decide), hA_uAs, hA_uA (by decide), hA_uA (by decide), ch ht]
  · rw [hA_uA (by decide), hA_uA (by decide), hA_uA (by decide), hA_uAs, hA_uA (by decide), hA_uA (by decide), hA_uA (by decide), ch ht]
  · rw [hA_uA (by decide), hA_uA (by decide), hA_uAs, hA_uA (by decide), hA_uA (by decide), hA_uA (by decide), hA_uA (by decide), ch ht]
  · rw [hA_uA (by decide), hA_uAs, hA_uA (by decide), hA_uA (by decide), hA_uA (by decide), hA_uA (by decide), hA_uA (by decide), ch ht]
  · rw [hA_uAs, hA_uA (by decide), hA_uA (by decide), hA_uA (by decide), hA_uA (by decide), hA_uA (by decide), hA_uA (by decide), ch ht]
  · rw [hA_uA (by decide), hA_uA (by decide), hA_uA (by decide), hA_uA (by decide), hA_uA (by decide), hA_uA (by decide), hA_uA (by decide)]
/-- a house but for the parents -/
def HS (s b : Hst) : Prop := hF b = hF s ∧ ∀ k, k ≠ 5 → k ≠ 6 → hA b k = hA s k
theorem d_leaves {h : Hst} {t : Nat} (ht : t < 8) : ∃ h', fX3_leaves (nI t) h = some h' ∧ (∀ k, k ≠ 8 → hF h' k = hF h k) ∧ hF h' 8 = hF h 8 &&& (bw t ^^^ -1) ∧ hA h' 0 = upd (hA h 0) t 0 ∧ hA h' 1 = upd (hA h 1) t (-1) ∧ hA h' 2 = upd (hA h 2) t 0 ∧ hA h' 3 = upd (hA h 3) t 0 ∧ hA h' 4 = upd (hA h 4) t 0 ∧ hA h' 7 = hA h 7 ∧ (∀ q, q < 8 → hA h' 5 q = if q = t ∨ hA h 5 q = nI t then -1 else hA h 5 q) ∧ (∀ q, q < 8 → hA h' 6 q = if q = t ∨ hA h 6 q = nI t then -1 else hA h 6 q) := by
  rw [fX3_leaves, stp_eq, d_clear ht, bind_s]
  generalize hs : hclr (uF h 8 (hF h 8 &&& ((1 : Int32) <<< (nI t &&& 31) ^^^ -1))) t = s
  have hcl := hclr_A (h := uF h 8 (hF h 8 &&& ((1 : Int32) <<< (nI t &&& 31) ^^^ -1))) ht
  rw [hs] at hcl
  obtain ⟨A0, A1, A2, A3, A4, A5, A6, A7, AF⟩ := hcl
  have h9 := lp_endI (fun n i2 b => fX3_leaves_21 n (nI t) i2 b) (fun k b => uA (uA b 5 (nI k) (if hA b 5 k = nI t then -1 else hA b 5 k)) 6 (nI k) (if hA b 6 k = nI t then -1 else hA b 6 k)) 8 69991 some
    (fun k b => HS s b ∧ ∀ q, hA b 5 q = (if q < k ∧ hA s 5 q = nI t then -1 else hA s 5 q) ∧ hA b 6 q = (if q < k ∧ hA s 6 q = nI t then -1 else hA s 6 q)) s ⟨⟨rfl, fun _ _ _ => rfl⟩, fun q => by rw [if_neg (by omega), if_neg (by omega)]; exact ⟨rfl, rfl⟩⟩ (fun k b hk hP => by
      obtain ⟨⟨g1, g2⟩, g3⟩ := hP
      refine ⟨⟨g1, fun k9 h5 h6 => ?_⟩, fun q => ?_⟩
      · rw [hA_uA h6, hA_uA h5]; exact g2 k9 h5 h6
      · have e5 := (g3 k).1
        have e6 := (g3 k).2
        rw [if_neg (by omega)] at e5 e6
        refine ⟨?_, ?_⟩
        · rw [hA_uA (by decide), hA_uAs, ch hk]
          by_cases e : q = k
          · subst e
            rw [upd_s, e5]
            by_cases g : hA s 5 q = nI t
            · rw [if_pos g, if_pos ⟨by omega, g⟩]
            · rw [if_neg g, if_neg (fun x => g x.2)]
          · rw [upd_n e, (g3 q).1]
            congr 1
            apply propext
            constructor
            · rintro ⟨a1, a2⟩; exact ⟨by omega, a2⟩
            · rintro ⟨a1, a2⟩; exact ⟨by omega, a2⟩
        · rw [hA_uAs, ch hk, hA_uA (by decide)]
          by_cases e : q = k
          · subst e
            rw [upd_s, e6]
            by_cases g : hA s 6 q = nI t
            · rw [if_pos g, if_pos ⟨by omega, g⟩]
            · rw [if_neg g, if_neg (fun x => g x.2)]
          · rw [upd_n e, (g3 q).2]
            congr 1
            apply propext
            constructor
            · rintro ⟨a1, a2⟩; exact ⟨by omega, a2⟩
            · rintro ⟨a1, a2⟩; exact ⟨by omega, a2⟩)
    (fun n k b hk _ => by
      simp only [fX3_leaves_21, if_neg (ge8 hk), ah hk, fX3_leaves_52, fX3_leaves_78, sh hk, stp_eq, n1, hA_uA (show (6 : Nat) ≠ 5 by decide)]
      by_cases h1 : hA b 5 k = nI t
      · simp only [if_pos h1]
        by_cases h2 : hA b 6 k = nI t
        · simp only [if_pos h2]
        · simp only [if_neg h2]
      · simp only [if_neg h1]
        by_cases h2 : hA b 6 k = nI t
        · simp only [if_pos h2]
        · simp only [if_neg h2])
    (fun n b _ => by simp only [fX3_leaves_21, if_pos le8])
  refine ⟨_, h9.1, ?_⟩
  obtain ⟨⟨g1, g2⟩, g3⟩ := h9.2
  generalize lp _ 8 0 s = h' at g1 g2 g3 ⊢
  refine ⟨fun k hk => by rw [g1, AF, hF_uF hk], by rw [g1, AF, hF_uFs]; rfl, by rw [g2 0 (by decide) (by decide), A0]; rfl, by rw [g2 1 (by decide) (by decide), A1]; rfl, by rw [g2 2 (by decide) (by decide), A2]; rfl, by rw [g2 3 (by decide) (by decide), A3]; rfl, by rw [g2 4 (by decide) (by decide), A4]; rfl, by rw [g2 7 (by decide) (by decide), A7]; rfl, fun q hq => ?_, fun q hq => ?_⟩
  · rw [(g3 q).1, A5]
    by_cases e : q = t
    · subst e
      rw [upd_s, if_neg (fun x => m1_ne ht x.2), if_pos (Or.inl rfl)]
    · rw [upd_n e]
      show (if q < 8 ∧ hA h 5 q = nI t then _ else hA h 5 q) = _
      by_cases g : hA h 5 q = nI t
      · rw [if_pos ⟨hq, g⟩, if_pos (Or.inr g)]
      · rw [if_neg (fun x => g x.2), if_neg (fun x => x.elim e g)]
  · rw [(g3 q).2, A6]
    by_cases e : q = t
    · subst e
      rw [upd_s, if_neg (fun x => m1_ne ht x.2), if_pos (Or.inl rfl)]
    · rw [upd_n e]
      show (if q < 8 ∧ hA h 6 q = nI t then _ else hA h 6 q) = _
      by_cases g : hA h 6 q = nI t
      · rw [if_pos ⟨hq, g⟩, if_pos (Or.inr g)]
      · rw [if_neg (fun x => g x.2), if_neg (fun x => x.elim e g)]
theorem d_leavesR {h : Hst} {a : Nat → Int32} (R : RH h a) {t : Nat} (ht : t < 8) : ∃ h', fX3_leaves (nI t) h = some h' ∧ RH h' (los a t) ∧ hF h' 12 = hF h 12 ∧ hF h' 13 = hF h 13 ∧ hA h' 7 = hA h 7 := by
  obtain ⟨h', e, f1, f8, A0, A1, A2, A3, A4, A7, A5, A6⟩ := d_leaves (h := h) ht
  refine ⟨h', e, ⟨fun q hq => ?_, ?_, ?_, ?_, ?_⟩, f1 12 (by decide), f1 13 (by decide), A7⟩
  · obtain ⟨l0, l8, l16, l24, l32, l40, l48⟩ := los_at (a := a) ht hq
    obtain ⟨r0, r2, r3, r4, r5, r6, r1⟩ := R.1 q hq
    refine ⟨?_, ?_, ?_, ?_, ?_, ?_, fun hl => ?_⟩
    · rw [A0, l0]
      by_cases e : q = t
      · subst e; rw [upd_s, if_pos rfl]
      · rw [upd_n e, if_neg e, r0]
    · rw [A2, l16]
      by_cases e : q = t
      · subst e; rw [upd_s, if_pos rfl]
      · rw [upd_n e, if_neg e, r2]
    · rw [A3, l24]
      by_cases e : q = t
      · subst e; rw [upd_s, if_pos rfl]
      · rw [upd_n e, if_neg e, r3]
    · rw [A4, l32]
      by_cases e : q = t
      · subst e; rw [upd_s, if_pos rfl]
      · rw [upd_n e, if_neg e, r4]
    · rw [A5 q hq, l40, r5]
    · rw [A6 q hq, l48, r6]
    · rw [l0] at hl
      by_cases e : q = t
      · rw [if_pos e] at hl; exact absurd (Int32.le_refl 0) hl
      · rw [if_neg e] at hl
        rw [A1, l8, upd_n e, if_neg e, r1 hl]
  · rw [f8, R.2.1, Sth_los ht]
  · rw [f1 9 (by decide), R.2.2.1, los_hi ht (by decide)]
  · rw [f1 10 (by decide), R.2.2.2.1, los_hi ht (by decide)]
  · rw [f1 11 (by decide), R.2.2.2.2, los_hi ht (by decide)]
