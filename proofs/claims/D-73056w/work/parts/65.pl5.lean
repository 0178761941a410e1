/-! plain law: books, formulas, ripe rooms -/
def BB (B : Bk) (nR : Nat) (hd : Nat → Int32) : Prop := bI B 5 = nI nR ∧ ∀ r, r < nR → r < bA B 6 ∧ ∃ (x : Nat) (fs : List Value), bR B r = some x ∧ hlk (bP B) x = some (.inr (6, fs)) ∧ fs[1]? = some (.int (hd r))
theorem d_hold {α : Type} {B : Bk} {nR : Nat} {hd : Nat → Int32} (hB : BB B nR hd) (h4 : nR ≤ 4) {r : Nat} (hr : r < nR) (K : Int32 → Option α) : lget (bA B 6) (bI B 5) (bR B) (nI r) (fun a1 => pck (bP B) a1 6 (pgi (bP B) a1 6 1 K)) = K (hd r) := by
  obtain ⟨h1, h2⟩ := hB
  obtain ⟨h3, x, fs, h5, h6, h7⟩ := h2 r hr
  unfold lget
  rw [if_neg, nI_clamp (by omega), h5]
  · simp only [pck, pgi, h6, h7, if_true]
  · rw [h1, nI_clamp (by omega)]
    rintro (h | h | h)
    · exact nI_pos (by omega) h
    · exact nI_ge hr (by omega) h
    · omega
theorem d_left {dA : Nat → Nat} {B : Bk} {nR : Nat} {hd : Nat → Int32} {h : Hst} {u : Nat → Int32} {a : Nat → Int32} (hB : BB B nR hd) (h4 : nR ≤ 4) (R : RH h a) {r : Nat} (hr : r < nR) : fHB_left dA B (nI r) (h, u) = some (Sle a hd r) := by
  unfold fHB_left
  rw [d_hold hB h4 hr]
  simp only [d_in R, bind_s, d_bulkOf R]
  rfl
abbrev FE : Type := Option (Int32 → Int32 → Int32 → Int32 → Int32 → Int32)
/-- the desk's formula is fe -/
def DF (dA : Nat → Nat) (B : Bk) (fe : FE) : Prop := match fe with
  | none => bN B = none
  | some E => ∃ y, bN B = some y ∧ ∀ u, nEv dA (bP B) u 64 y = some (E (u 0) (u 1) (u 2) (u 3) (u 4))
/-- what comes of two -/
def Sbd (fe : FE) (a hd : Nat → Int32) (t o r : Nat) : Int32 := match fe with
  | none => Ssh (a (16 + t)) (a (16 + o)) - bc (Sth a)
  | some E => E (a t + a o) (Ssh (a (16 + t)) (a (16 + o))) (Sle a hd r) (bc (Sth a)) (a 57)
/-- the reference's formula is fe -/
def MF (σ : Mst) (nR : Nat) (hd : Nat → Int32) (fe : FE) : Prop := ∃ b : Nat, b < 2 ∧ gF σ 32 = nI b ∧ match fe with
  | none => ¬ ((gA σ 17 b >>> ((0 : Int32) &&& 31)) &&& 1) = 1
  | some E => ((gA σ 17 b >>> ((0 : Int32) &&& 31)) &&& 1) = 1 ∧ ∀ (a p : Nat → Int32) (t o r : Nat), t < 8 → o < 8 → r < nR → a (8 + t) = nI r → (∀ q, q < 8 → ∃ m, m < 64 ∧ a (16 + q) = nI m) → ∃ p', fX4_comes (mk σ a (nI t) (nI o) p) = some (E (a t + a o) (Ssh (a (16 + t)) (a (16 + o))) (Sle a hd r) (bc (Sth a)) (a 57), mk σ a (nI t) (nI o) p')
section BR
variable {σ : Mst} {nR : Nat} {hd : Nat → Int32} {fe : FE} {a p : Nat → Int32} {i j : Int32}
theorem m_brood (hM : MB σ nR hd) (hF : MF σ nR hd fe) (I : IA nR a) {t o r : Nat} (ht : t < 8) (ho : o < 8) (hr : r < nR) (hw : a (8 + t) = nI r) : ∃ p', fX4_broodOf (nI t) (nI o) (mk σ a i j p) = some (Sbd fe a hd t o r, mk σ a (nI t) (nI o) p') := by
  obtain ⟨b, hb, h1, h2⟩ := hF
  have e : ∀ K : Int32 → Option (Int32 × Mst), ald 2 (gA (mk σ a (nI t) (nI o) p) 17) (gF (mk σ a (nI t) (nI o) p) 32) K = K (gA σ 17 b) := fun K => by
    rw [mk_F (by decide) (by decide), h1, ald_nI hb (by decide), mk_A (by decide) (by decide)]
  unfold fX4_broodOf
  simp only [stp_eq, mk_s38, mk_s39, e, m_bit, bind_s]
  cases fe with
  | none =>
    have h3 : ¬ ((gA σ 17 b >>> ((0 : Int32) &&& 31)) &&& 1) = 1 := h2
    obtain ⟨m1, hm1, e1⟩ := (I t ht).2.2.1
    obtain ⟨m2, hm2, e2⟩ := (I o ho).2.2.1
    refine ⟨p, ?_⟩
    rw [if_neg h3, if_pos rfl, al16 ht, al16 ho, mk_a, e1, e2, m_sharedBy hm1 hm2, bind_s, m_those, bind_s, mk_a, Sth_set, m_bitsB, bind_s, ← Sth_set]
    unfold Sbd
    rw [e1, e2]
  | some E =>
    obtain ⟨h3, h4⟩ := h2
    obtain ⟨p', h5⟩ := h4 a p t o r ht ho hr hw (fun q hq => (I q hq).2.2.1)
    refine ⟨p', ?_⟩
    rw [if_pos h3, if_neg one_ne, h5, bnd2_s]
    rfl
theorem d_brood {dA : Nat → Nat} {B : Bk} {h : Hst} {u : Nat → Int32} (hB : BB B nR hd) (h4 : nR ≤ 4) (hD : DF dA B fe) (R : RH h a) {t o r : Nat} (ht : t < 8) (ho : o < 8) (hr : r < nR) (hl : ¬ a t ≤ 0) (hw : a (8 + t) = nI r) : ∃ u', fHB_broodOf dA B (nI t) (nI o) (h, u) = some (Sbd fe a hd t o r, (h, u')) := by
  have hat : hA h 1 t = nI r := ((R.1 t ht).2.2.2.2.2.2 hl).trans hw
  unfold fHB_broodOf
  simp only [ah ht, ah ho, stp_eq, d_shared, bind_s, hat, d_left hB h4 R hr, d_bits, (R.1 t ht).1, (R.1 o ho).1, (R.1 t ht).2.1, (R.1 o ho).2.1, R.2.1, R.2.2.2.1]
  cases fe with
  | none =>
    have hn : bN B = none := hD
    rw [hn]
    refine ⟨va_up (va_up (va_up (va_up (va_up u 0 (a t + a o)) 1 (Ssh (a (16 + t)) (a (16 + o)))) 2 (Sle a hd r)) 3 (bc (Sth a))) 4 (a 57), ?_⟩
    show some (_, _) = _
    unfold Sbd
    simp [va_up]
  | some E =>
    obtain ⟨y, hy, hE⟩ := hD
    rw [hy]
    refine ⟨va_up (va_up (va_up (va_up (va_up u 0 (a t + a o)) 1 (Ssh (a (16 + t)) (a (16 + o)))) 2 (Sle a hd r)) 3 (bc (Sth a))) 4 (a 57), ?_⟩
    show (nEv dA (bP B) _ 64 y).bind _ = _
    rw [hE, bind_s]
    unfold Sbd
    simp [va_up]
/-- whether a room's couple brings forth -/
def Srp (fe : FE) (a hd : Nat → Int32) (r : Nat) : Bool := match Scp a (nI r), Sfr a with
  | some (f, o), some _ => !decide (Sbd fe a hd f o r ≤ 0) && !decide (Sle a hd r < Syo a f o)
  | _, _ => false
def b2 (b : Bool) : Int32 := if b then 1 else 0
theorem cI_n : cI none < 0 := by decide
theorem cI_s {f o : Nat} (hf : f < 8) (ho : o < 8) : ¬ cI (some (f, o)) < 0 := nI_pos (by omega)
theorem m_ripe1 (hM : MB σ nR hd) (hF : MF σ nR hd fe) (I : IA nR a) {r : Nat} (hr : r < nR) : ∃ i' j' p', fX4_isRipe (nI r) (mk σ a i j p) = some (b2 (Srp fe a hd r), mk σ a i' j' p') := by
  have hp : ∀ t, t < 8 → 0 ≤ gA (mk σ a i j p) 40 t := fun t ht => by rw [mk_a]; exact (I t ht).1
  unfold fX4_isRipe
  rw [m_couple, bind_s, mk_a]
  cases hc : Scp a (nI r) with
  | none =>
    refine ⟨i, j, p, ?_⟩
    rw [if_pos cI_n]
    unfold Srp
    rw [hc]
    rfl
  | some fo =>
    obtain ⟨f, o⟩ := fo
    obtain ⟨hf, ho, hne, c1, c2⟩ := Scp_in hc
    obtain ⟨g1, g2, g3⟩ := ccp_t c1
    rw [if_neg (cI_s hf ho), m_free _ hp, bind_s, mk_a]
    cases hs : Sfr a with
    | none =>
      refine ⟨i, j, p, ?_⟩
      rw [if_pos oI_n]
      unfold Srp
      rw [hc, hs]
      rfl
    | some q =>
      have hq := (Sfr_in hs).1
      obtain ⟨p', hb⟩ := m_brood (i := i) (j := j) (p := p) hM hF I hf ho hr g2
      refine ⟨nI f, nI o, p', ?_⟩
      show (if oI (some q) < 0 then _ else bnd2 (fX4_broodOf (nI (8 * f + o) / 8) (nI (8 * f + o) - nI (8 * f + o) / 8 * 8) _) _) = _
      rw [if_neg (oI_s hq), (q8 hf ho).2, (q8 hf ho).1, hb, bnd2_s]
      unfold Srp
      rw [hc, hs]
      simp only
      by_cases h1 : Sbd fe a hd f o r ≤ 0
      · rw [if_pos h1]; simp [h1, b2]
      · rw [if_neg h1]
        show (fX4_youngOf (nI (8 * f + o)) _).bind _ = _
        rw [m_young hf ho, bind_s, m_leftIn (mk_MB hM) hr, bind_s, mk_a]
        by_cases h2 : Sle a hd r < Syo a f o
        · rw [if_pos h2]; simp [h1, h2, b2]
        · rw [if_neg h2]; simp [h1, h2, b2]
theorem d_ripe1 {dA : Nat → Nat} {B : Bk} {h : Hst} {u : Nat → Int32} (hB : BB B nR hd) (h4 : nR ≤ 4) (hD : DF dA B fe) (R : RH h a) (I : IA nR a) {r : Nat} (hr : r < nR) : ∃ u', fHB_isRipe dA B (nI r) (h, u) = some (b2 (Srp fe a hd r), (h, u')) := by
  unfold fHB_isRipe
  simp only
  rw [d_couple R I, bind_s]
  cases hc : Scp a (nI r) with
  | none =>
    refine ⟨u, ?_⟩
    rw [if_pos cI_n]
    unfold Srp
    rw [hc]
    rfl
  | some fo =>
    obtain ⟨f, o⟩ := fo
    obtain ⟨hf, ho, hne, c1, c2⟩ := Scp_in hc
    obtain ⟨g1, g2, g3⟩ := ccp_t c1
    rw [if_neg (cI_s hf ho), d_free R, bind_s]
    cases hs : Sfr a with
    | none =>
      refine ⟨u, ?_⟩
      rw [if_pos oI_n]
      unfold Srp
      rw [hc, hs]
      rfl
    | some q =>
      have hq := (Sfr_in hs).1
      obtain ⟨u', hb⟩ := d_brood (u := u) hB h4 hD R hf ho hr g1 g2
      refine ⟨u', ?_⟩
      show (if oI (some q) < 0 then _ else bnd2 (fHB_broodOf dA B (nI (8 * f + o) / 8) (nI (8 * f + o) - nI (8 * f + o) / 8 * 8) _) _) = _
      rw [if_neg (oI_s hq), (q8 hf ho).2, (q8 hf ho).1, hb, bnd2_s]
      unfold Srp
      rw [hc, hs]
      simp only
      by_cases h1 : Sbd fe a hd f o r ≤ 0
      · rw [if_pos h1]; simp [h1, b2]
      · rw [if_neg h1]
        show (fX3_youngBulk (nI (8 * f + o)) _).bind _ = _
        rw [d_young R hf ho, bind_s, d_left hB h4 R hr, bind_s]
        by_cases h2 : Sle a hd r < Syo a f o
        · rw [if_pos h2]; simp [h1, h2, b2]
        · rw [if_neg h2]; simp [h1, h2, b2]
end BR
