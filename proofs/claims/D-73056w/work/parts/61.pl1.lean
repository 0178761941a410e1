/-! plain law: what is read of a row in earnest -/
theorem lp_end {β γ : Type} (F : Nat → Int32 → β → Option γ) (g : Nat → β → β) (N M : Nat) (e : β → Option γ) (b : β) (hs : ∀ n j b, j < N → F (n + 1) (nI j) b = F n (nI (j + 1)) (g j b)) (he : ∀ n b, F (n + 1) (nI N) b = e b) : F (M + 1 + N) (nI 0) b = e (lp g N 0 b) := by
  have := lp_run hs N 0 (M + 1) b (by omega)
  rw [Nat.zero_add] at this
  rw [this]
  exact he M _
theorem lp_endI {β γ : Type} (F : Nat → Int32 → β → Option γ) (g : Nat → β → β) (N M : Nat) (e : β → Option γ) (P : Nat → β → Prop) (b : β) (h0 : P 0 b) (hp : ∀ j b, j < N → P j b → P (j + 1) (g j b)) (hs : ∀ n j b, j < N → P j b → F (n + 1) (nI j) b = F n (nI (j + 1)) (g j b)) (he : ∀ n b, P N b → F (n + 1) (nI N) b = e b) : F (M + 1 + N) (nI 0) b = e (lp g N 0 b) ∧ P N (lp g N 0 b) := by
  have := lp_inv hp hs N 0 (M + 1) b (by omega) h0
  rw [Nat.zero_add] at this
  rw [this.1]
  exact ⟨he M _ this.2, this.2⟩
def bw (t : Nat) : Int32 := (1 : Int32) <<< (nI t &&& 31)
def Sth (a : Nat → Int32) : Int32 := lp (fun t b => if a t ≤ 0 then b else b ||| bw t) 8 0 0
def Sin (a : Nat → Int32) (r : Int32) : Int32 := lp (fun t b => if a t ≤ 0 then b else if a (8 + t) = r then b ||| bw t else b) 8 0 0
def Sbu (a : Nat → Int32) (s : Int32) : Int32 := lp (fun t b => if ((s >>> (nI t &&& 31)) &&& 1) = 1 then b + a t else b) 8 0 0
theorem m_those (σ : Mst) : fX4_those σ = some (Sth (gA σ 40)) := by
  refine lp_end (fun n i b => fX4_those_4 σ n b i) _ 8 69991 some 0 (fun n j b hj => ?_) (fun n b => ?_)
  · simp only [fX4_those_4, if_neg (ge8 hj), al0 hj, Nat.zero_add, n1]
    by_cases h : gA σ 40 j ≤ 0
    · rw [if_pos h, if_pos h]
    · rw [if_neg h, if_neg h]; rfl
  · simp only [fX4_those_4, if_pos le8]
theorem m_thoseIn (x : Int32) (σ : Mst) : fX4_thoseIn x σ = some (Sin (gA σ 40) x) := by
  refine lp_end (fun n i b => fX4_thoseIn_4 σ n x b i) _ 8 69991 some 0 (fun n j b hj => ?_) (fun n b => ?_)
  · simp only [fX4_thoseIn_4, if_neg (ge8 hj), al0 hj, al8 hj, Nat.zero_add, n1]
    by_cases h : gA σ 40 j ≤ 0
    · rw [if_pos h, if_pos h]
    · rw [if_neg h, if_neg h]
      by_cases h2 : gA σ 40 (8 + j) = x
      · rw [if_pos h2, if_pos h2]; rfl
      · rw [if_neg h2, if_neg h2]
  · simp only [fX4_thoseIn_4, if_pos le8]
theorem m_bit (s x : Int32) : fX4_bit s x = some (if ((s >>> (x &&& 31)) &&& 1) = 1 then 1 else 0) := by
  unfold fX4_bit
  split <;> rfl
theorem one_ne : ¬ (1 : Int32) = 0 := by decide
theorem m_bulkOf (x : Int32) (σ : Mst) : fX4_bulkOf x σ = some (Sbu (gA σ 40) x) := by
  refine lp_end (fun n i b => fX4_bulkOf_4 σ n x b i) _ 8 69991 some 0 (fun n j b hj => ?_) (fun n b => ?_)
  · simp only [fX4_bulkOf_4, if_neg (ge8 hj), al0 hj, Nat.zero_add, n1, m_bit, bind_s, Int32.add_zero]
    by_cases h : ((x >>> (nI j &&& 31)) &&& 1) = 1
    · simp only [if_pos h, if_neg one_ne]
    · simp only [if_neg h, if_pos]
  · simp only [fX4_bulkOf_4, if_pos le8]
def Sle (a : Nat → Int32) (hd : Nat → Int32) (r : Nat) : Int32 := hd r - Sbu a (Sin a (nI r))
/-- the reference's book: how many rooms, what they hold -/
def MB (σ : Mst) (nR : Nat) (hd : Nat → Int32) : Prop := nR ≤ 4 ∧ ∃ b : Nat, b < 2 ∧ gF σ 32 = nI b ∧ gA σ 11 b = nI nR ∧ ∀ r, r < nR → gA σ 18 (4 * b + r) = hd r
theorem mk_MB {σ : Mst} {a p : Nat → Int32} {i j : Int32} {nR : Nat} {hd : Nat → Int32} (h : MB σ nR hd) : MB (mk σ a i j p) nR hd := by
  obtain ⟨h0, b, hb, h1, h2, h3⟩ := h
  exact ⟨h0, b, hb, by rw [mk_F (by decide) (by decide)]; exact h1, by rw [mk_A (by decide) (by decide)]; exact h2, fun r hr => by rw [mk_A (by decide) (by decide)]; exact h3 r hr⟩
section RD
variable {σ : Mst} {nR : Nat} {hd : Nat → Int32}
theorem m_chambers (h : MB σ nR hd) : fX4_chambers σ = some (nI nR) := by
  obtain ⟨h0, b, hb, h1, h2, h3⟩ := h
  rw [fX4_chambers, h1, ald_nI hb (by decide), h2]
theorem m_holdsOf (h : MB σ nR hd) {r : Nat} (hr : r < nR) : fX4_holdsOf (nI r) σ = some (hd r) := by
  obtain ⟨h0, b, hb, h1, h2, h3⟩ := h
  rw [fX4_holdsOf, h1, show (4 : Int32) * nI b + nI r = nI (4 * b + r) by rw [lit_nI, pk_mul, nI_add], ald_nI (by omega) (by decide), h3 r hr]
theorem m_leftIn (h : MB σ nR hd) {r : Nat} (hr : r < nR) : fX4_leftIn (nI r) σ = some (Sle (gA σ 40) hd r) := by
  rw [fX4_leftIn, m_holdsOf h hr, bind_s, m_thoseIn, bind_s, m_bulkOf, bind_s]
  rfl
end RD
theorem m_isIn (x y z : Int32) : fX4_isIn x y z = some (if x < y then 0 else if z < x then 0 else 1) := by
  unfold fX4_isIn
  by_cases h : x < y
  · rw [if_pos h, if_pos h]
  · rw [if_neg h, if_neg h]; split <;> rfl
theorem d_isIn (x y z : Int32) : fX0_isIn x y z = some (if x < y then 0 else if z < x then 0 else 1) := by
  unfold fX0_isIn
  by_cases h : x < y
  · rw [if_pos h, if_pos h]
  · rw [if_neg h, if_neg h]; split <;> rfl
/-- a number is one of n places, or none -/
theorem in_or (x : Int32) {n : Nat} (hn : n < 2 ^ 31) : (∃ j, j < n ∧ x = nI j) ∨ (x < 0 ∨ nI n ≤ x) := by
  rcases pk_ix x hn with h | h | h
  · exact Or.inr (Or.inl h)
  · exact Or.inr (Or.inr h)
  · exact Or.inl h
theorem isIn_yes {j n : Nat} (h : j < n) (hn : n < 2 ^ 31) : (if nI j < 0 then (0 : Int32) else if nI n - 1 < nI j then 0 else 1) = 1 := by
  rw [if_neg (nI_pos (by omega))]
  obtain ⟨m, rfl⟩ : ∃ m, n = m + 1 := ⟨n - 1, by omega⟩
  rw [nI_pred, if_neg (nI_nlt (by omega) (by omega))]
theorem isIn_no {x : Int32} {n : Nat} (h : x < 0 ∨ nI n ≤ x) (hn : n < 2 ^ 31) : (if x < 0 then (0 : Int32) else if nI n - 1 < x then 0 else 1) = 0 := by
  by_cases h0 : x < 0
  · rw [if_pos h0]
  · rw [if_neg h0]
    obtain ⟨k, hk, rfl⟩ := nI_of h0
    have h1 : nI n ≤ nI k := by rcases h with h | h; exact absurd h h0; exact h
    have h2 : n ≤ k := (nI_leI hn hk).mp h1
    rw [if_pos]
    cases n with
    | zero =>
      have : nI 0 - 1 = -1 := by decide
      rw [this]
      exact fa_trans (by decide : (-1 : Int32) < 0) (nI_pos' hk)
    | succ m => rw [nI_pred]; exact nI_lt (by omega) hk
