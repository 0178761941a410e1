/-! plain law: what holds of a row in earnest; one leaves, one listens -/
def PO (nR : Nat) (a : Nat → Int32) (t : Nat) : Prop :=
  (∃ v, v ≤ 20 ∧ a t = nI v) ∧ (∃ w, w < 4 ∧ a (8 + t) = nI w ∧ (¬ a t ≤ 0 → w < nR)) ∧ (∃ m, m < 64 ∧ a (16 + t) = nI m) ∧ (∃ v, v ≤ 9 ∧ a (24 + t) = nI v) ∧ (∃ v, v ≤ 9 ∧ a (32 + t) = nI v) ∧ (a (40 + t) = -1 ∨ ∃ q, q < 8 ∧ a (40 + t) = nI q) ∧ (a (48 + t) = -1 ∨ ∃ q, q < 8 ∧ a (48 + t) = nI q) ∧ (a t ≤ 0 → a (16 + t) = 0 ∧ a (24 + t) = 0 ∧ a (32 + t) = 0 ∧ a (40 + t) = -1 ∧ a (48 + t) = -1)
theorem PO_cg {nR : Nat} {a b : Nat → Int32} {t : Nat} (h0 : b t = a t) (h8 : b (8 + t) = a (8 + t)) (h16 : b (16 + t) = a (16 + t)) (h24 : b (24 + t) = a (24 + t)) (h32 : b (32 + t) = a (32 + t)) (h40 : b (40 + t) = a (40 + t)) (h48 : b (48 + t) = a (48 + t)) (h : PO nR a t) : PO nR b t := by
  unfold PO
  rw [h0, h8, h16, h24, h32, h40, h48]
  exact h
/-- what a place takes of a room -/
def wt (a : Nat → Int32) (r t : Nat) : Nat := if a t ≤ 0 then 0 else if a (8 + t) = nI r then (a t).toNatClampNeg else 0
def ld (a : Nat → Int32) (r : Nat) : Nat := wt a r 0 + wt a r 1 + wt a r 2 + wt a r 3 + wt a r 4 + wt a r 5 + wt a r 6 + wt a r 7
theorem ld_upd {a b : Nat → Int32} {r t : Nat} (ht : t < 8) (h : ∀ q, q < 8 → q ≠ t → wt b r q = wt a r q) : ld b r + wt a r t = ld a r + wt b r t := by
  unfold ld
  match t, ht with
  | 0, _ => have h1 := h 1 (by decide) (by decide); have h2 := h 2 (by decide) (by decide); have h3 := h 3 (by decide) (by decide); have h4 := h 4 (by decide) (by decide); have h5 := h 5 (by decide) (by decide); have h6 := h 6 (by decide) (by decide); have h7 := h 7 (by decide) (by decide); omega
  | 1, _ => have h1 := h 0 (by decide) (by decide); have h2 := h 2 (by decide) (by decide); have h3 := h 3 (by decide) (by decide); have h4 := h 4 (by decide) (by decide); have h5 := h 5 (by decide) (by decide); have h6 := h 6 (by decide) (by decide); have h7 := h 7 (by decide) (by decide); omega
  | 2, _ => have h1 := h 1 (by decide) (by decide); have h2 := h 0 (by decide) (by decide); have h3 := h 3 (by decide) (by decide); have h4 := h 4 (by decide) (by decide); have h5 := h 5 (by decide) (by decide); have h6 := h 6 (by decide) (by decide); have h7 := h 7 (by decide) (by decide); omega
  | 3, _ => have h1 := h 1 (by decide) (by decide); have h2 := h 2 (by decide) (by decide); have h3 := h 0 (by decide) (by decide); have h4 := h 4 (by decide) (by decide); have h5 := h 5 (by decide) (by decide); have h6 := h 6 (by decide) (by decide); have h7 := h 7 (by decide) (by decide); omega
  | 4, _ => have h1 := h 1 (by decide) (by decide); have h2 := h 2 (by decide) (by decide); have h3 := h 3 (by decide) (by decide); have h4 := h 0 (by decide) (by decide); have h5 := h 5 (by decide) (by decide); have h6 := h 6 (by decide) (by decide); have h7 := h 7 (by decide) (by decide); omega
  | 5, _ => have h1 := h 1 (by decide) (by decide); have h2 := h 2 (by decide) (by decide); have h3 := h 3 (by decide) (by decide); have h4 := h 4 (by decide) (by decide); have h5 := h 0 (by decide) (by decide); have h6 := h 6 (by decide) (by decide); have h7 := h 7 (by decide) (by decide); omega
  | 6, _ => have h1 := h 1 (by decide) (by decide); have h2 := h 2 (by decide) (by decide); have h3 := h 3 (by decide) (by decide); have h4 := h 4 (by decide) (by decide); have h5 := h 5 (by decide) (by decide); have h6 := h 0 (by decide) (by decide); have h7 := h 7 (by decide) (by decide); omega
  | 7, _ => have h1 := h 1 (by decide) (by decide); have h2 := h 2 (by decide) (by decide); have h3 := h 3 (by decide) (by decide); have h4 := h 4 (by decide) (by decide); have h5 := h 5 (by decide) (by decide); have h6 := h 6 (by decide) (by decide); have h7 := h 0 (by decide) (by decide); omega
theorem wt_le {nR : Nat} {a : Nat → Int32} {r t : Nat} (h : PO nR a t) : wt a r t ≤ 20 := by
  obtain ⟨v, hv, e⟩ := h.1
  unfold wt
  split
  · omega
  · split
    · rw [e, nI_clamp (by omega)]; exact hv
    · omega
theorem bulk_ld {nR : Nat} {a : Nat → Int32} (h : ∀ t, t < 8 → PO nR a t) (r : Nat) : Sbu a (Sin a (nI r)) = nI (ld a r) := by
  have h1 : ∀ t b, t < 8 → (if ((Sin a (nI r) >>> (nI t &&& 31)) &&& 1) = 1 then nI b + a t else nI b) = nI (b + wt a r t) := fun t b ht => by
    obtain ⟨v, hv, e⟩ := (h t ht).1
    rw [Sin_set]
    unfold wt
    by_cases h1 : a t ≤ 0
    · rw [if_pos h1, if_neg]
      · rfl
      · rw [setB_bit _ ht]; simp [lv, h1]
    · rw [if_neg h1]
      by_cases h2 : a (8 + t) = nI r
      · rw [if_pos h2, if_pos, e, nI_clamp (by omega), nI_add]
        rw [setB_bit _ ht]; simp [lv, h1, h2]
      · rw [if_neg h2, if_neg]
        · rfl
        · rw [setB_bit _ ht]; simp [h2]
  show lp _ 8 0 (nI 0) = _
  simp only [lp]
  rw [h1 0 _ (by decide), h1 1 _ (by decide), h1 2 _ (by decide), h1 3 _ (by decide), h1 4 _ (by decide), h1 5 _ (by decide), h1 6 _ (by decide), h1 7 _ (by decide)]
  unfold ld
  rw [Nat.zero_add]
/-- all of it: places, rooms' loads, tales, year, seed -/
def IN (nR : Nat) (hd : Nat → Int32) (a : Nat → Int32) : Prop := (∀ t, t < 8 → PO nR a t) ∧ (∀ r, r < nR → ∃ H, H ≤ 99 ∧ hd r = nI H ∧ ld a r ≤ H) ∧ (∃ v, v ≤ 99 ∧ a 56 = nI v) ∧ (∃ y, y ≤ 2000 ∧ a 57 = nI y) ∧ (∃ s, s < 1000 ∧ a 58 = nI s)
theorem IN.ia {nR : Nat} {hd a : Nat → Int32} (h : IN nR hd a) : IA nR a := fun t ht => by
  obtain ⟨⟨v, hv, e⟩, ⟨w, hw, e2, hw2⟩, h3, -, ⟨v5, hv5, e5⟩, -⟩ := h.1 t ht
  exact ⟨by rw [e]; exact nI_pos' (by omega), by rw [e5]; exact nI_pos' (by omega), h3, fun hl => ⟨w, hw2 hl, e2⟩⟩
theorem IN.left {nR : Nat} {hd a : Nat → Int32} (h : IN nR hd a) {r : Nat} (hr : r < nR) : ∃ k, k ≤ 99 ∧ Sle a hd r = nI k ∧ ∃ H, H ≤ 99 ∧ hd r = nI H ∧ k = H - ld a r ∧ ld a r ≤ H := by
  obtain ⟨H, hH, e, hl⟩ := h.2.1 r hr
  refine ⟨H - ld a r, by omega, ?_, H, hH, e, rfl, hl⟩
  unfold Sle
  rw [bulk_ld h.1, e, pk_sub hl]
/-- a place is emptied -/
def clr (a : Nat → Int32) (t : Nat) : Nat → Int32 := upd (upd (upd (upd (upd (upd (upd a t 0) (8 + t) 0) (16 + t) 0) (24 + t) 0) (32 + t) 0) (40 + t) (-1)) (48 + t) (-1)
theorem m_clear {σ : Mst} {a p : Nat → Int32} {i j : Int32} {t : Nat} (ht : t < 8) : fX4_clearPlace (nI t) (mk σ a i j p) = some (mk σ (clr a t) i j p) := by
  unfold fX4_clearPlace
  simp only [as0 ht, as8 ht, as16 ht, as24 ht, as32 ht, as40 ht, as48 ht, stp_eq, mk_s40, cl0 ht, cl8 ht, cl16 ht, cl24 ht, cl32 ht, cl40 ht, cl48 ht, Nat.zero_add]
  rfl
def los (a : Nat → Int32) (t : Nat) : Nat → Int32 := fun q => if (40 ≤ q ∧ q < 56) ∧ clr a t q = nI t then -1 else clr a t q
theorem m1_ne {t : Nat} (ht : t < 8) : ¬ (-1 : Int32) = nI t := fun e => by
  have := nI_pos (n := t) (by omega)
  rw [← e] at this
  exact this (by decide)
theorem m_lose {σ : Mst} {a p : Nat → Int32} {i j : Int32} {t : Nat} (ht : t < 8) : fX4_loseOne (nI t) (mk σ a i j p) = some (mk σ (los a t) i j p) := by
  rw [fX4_loseOne, m_clear ht, bind_s]
  have h := lp_endI (fun n i2 b => fX4_loseOne_7 n (nI t) i2 (mk σ b i j p)) (fun k b => if (if b (40 + k) = nI t then upd b (40 + k) (-1) else b) (48 + k) = nI t then upd (if b (40 + k) = nI t then upd b (40 + k) (-1) else b) (48 + k) (-1) else (if b (40 + k) = nI t then upd b (40 + k) (-1) else b)) 8 69991 (fun b => some (mk σ b i j p))
    (fun k b => ∀ q, b q = if ((40 ≤ q ∧ q < 40 + k) ∨ (48 ≤ q ∧ q < 48 + k)) ∧ clr a t q = nI t then -1 else clr a t q) (clr a t) (fun q => by rw [if_neg]; omega) (fun k b hk hP q => by
      have e40 := hP (40 + k)
      have e48 := hP (48 + k)
      rw [if_neg (by omega)] at e40 e48
      have hP1 : ∀ q, (if b (40 + k) = nI t then upd b (40 + k) (-1) else b) q = if ((40 ≤ q ∧ q < 40 + (k + 1)) ∨ (48 ≤ q ∧ q < 48 + k)) ∧ clr a t q = nI t then -1 else clr a t q := fun q => by
        by_cases h1 : b (40 + k) = nI t
        · rw [if_pos h1]
          by_cases e : q = 40 + k
          · subst e; rw [upd_s, if_pos]; exact ⟨Or.inl (by omega), e40 ▸ h1⟩
          · rw [upd_n e, hP q]
            congr 1
            apply propext
            constructor
            · rintro ⟨g1, g2⟩; exact ⟨by omega, g2⟩
            · rintro ⟨g1, g2⟩; exact ⟨by omega, g2⟩
        · rw [if_neg h1, hP q]
          by_cases e : q = 40 + k
          · subst e; rw [if_neg (by omega), if_neg]; rintro ⟨-, g⟩; exact h1 (e40.trans g)
          · congr 1
            apply propext
            constructor
            · rintro ⟨g1, g2⟩; exact ⟨by omega, g2⟩
            · rintro ⟨g1, g2⟩; exact ⟨by omega, g2⟩
      generalize hb1 : (if b (40 + k) = nI t then upd b (40 + k) (-1) else b) = b1 at hP1 ⊢
      have f48 := hP1 (48 + k)
      rw [if_neg (by omega)] at f48
      by_cases h2 : b1 (48 + k) = nI t
      · rw [if_pos h2]
        by_cases e : q = 48 + k
        · subst e; rw [upd_s, if_pos]; exact ⟨Or.inr (by omega), f48 ▸ h2⟩
        · rw [upd_n e, hP1 q]
          congr 1
          apply propext
          constructor
          · rintro ⟨g1, g2⟩; exact ⟨by omega, g2⟩
          · rintro ⟨g1, g2⟩; exact ⟨by omega, g2⟩
      · rw [if_neg h2, hP1 q]
        by_cases e : q = 48 + k
        · subst e; rw [if_neg (by omega), if_neg]; rintro ⟨-, g⟩; exact h2 (f48.trans g)
        · congr 1
          apply propext
          constructor
          · rintro ⟨g1, g2⟩; exact ⟨by omega, g2⟩
          · rintro ⟨g1, g2⟩; exact ⟨by omega, g2⟩)
    (fun n k b hk hP => by
      simp only [fX4_loseOne_7, if_neg (ge8 hk), al40 hk, as40 hk, mk_a, stp_eq, mk_s40, cl40 hk, fX4_loseOne_36, al48 hk, as48 hk, cl48 hk, n1]
      by_cases h1 : b (40 + k) = nI t
      · simp only [if_pos h1]
        by_cases h2 : upd b (40 + k) (-1) (48 + k) = nI t
        · simp only [if_pos h2]
        · simp only [if_neg h2]
      · simp only [if_neg h1]
        by_cases h2 : b (48 + k) = nI t
        · simp only [if_pos h2]
        · simp only [if_neg h2])
    (fun n b _ => by simp only [fX4_loseOne_7, if_pos le8])
  have key : ∀ L : Nat → Int32, (∀ q, L q = if ((40 ≤ q ∧ q < 40 + 8) ∨ (48 ≤ q ∧ q < 48 + 8)) ∧ clr a t q = nI t then -1 else clr a t q) → L = los a t := fun L hL => by
    funext q
    rw [hL q]
    unfold los
    congr 1
    apply propext
    constructor
    · rintro ⟨g1, g2⟩; exact ⟨by omega, g2⟩
    · rintro ⟨g1, g2⟩; exact ⟨by omega, g2⟩
  exact h.1.trans (congrArg (fun L => some (mk σ L i j p)) (key _ h.2))
