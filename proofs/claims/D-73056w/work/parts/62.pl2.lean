/-! plain law: sets of eight, counts of bits -/
def setB (p : Nat → Bool) : Int32 := lp (fun t b => if p t = true then b ||| bw t else b) 8 0 0
def sb (b0 b1 b2 b3 b4 b5 b6 b7 : Bool) : Int32 := setB (fun t => [b0, b1, b2, b3, b4, b5, b6, b7].getD t false)
def l8 (p : Nat → Bool) : List Bool := [p 0, p 1, p 2, p 3, p 4, p 5, p 6, p 7]
theorem setB_sb (p : Nat → Bool) : setB p = sb (p 0) (p 1) (p 2) (p 3) (p 4) (p 5) (p 6) (p 7) := rfl
theorem l8_get (p : Nat → Bool) {t : Nat} (h : t < 8) : (l8 p).getD t false = p t := by
  match t, h with
  | 0, _ => rfl
  | 1, _ => rfl
  | 2, _ => rfl
  | 3, _ => rfl
  | 4, _ => rfl
  | 5, _ => rfl
  | 6, _ => rfl
  | 7, _ => rfl
def hbit (s : Int32) (t : Nat) : Prop := ((s >>> (nI t &&& 31)) &&& 1) = 1
theorem sb_bit : ∀ b0 b1 b2 b3 b4 b5 b6 b7 : Bool, ∀ t, t < 8 → (decide (((sb b0 b1 b2 b3 b4 b5 b6 b7 >>> (nI t &&& 31)) &&& 1) = 1) = [b0, b1, b2, b3, b4, b5, b6, b7].getD t false) := by decide +kernel
theorem setB_bit (p : Nat → Bool) {t : Nat} (h : t < 8) : (((setB p >>> (nI t &&& 31)) &&& 1) = 1) ↔ p t = true := by
  have h1 := sb_bit (p 0) (p 1) (p 2) (p 3) (p 4) (p 5) (p 6) (p 7) t h
  rw [show [p 0, p 1, p 2, p 3, p 4, p 5, p 6, p 7] = l8 p from rfl, l8_get p h] at h1
  rw [setB_sb, ← h1]
  simp
theorem setB_cg {p q : Nat → Bool} (h : ∀ t, t < 8 → p t = q t) : setB p = setB q := lp_cg (N := 8) (fun j b hj => by simp only [h j hj]) 8 0 0 (by decide)
def bn (b0 b1 b2 b3 b4 b5 b6 b7 : Bool) : Nat := b0.toNat + 2 * b1.toNat + 4 * b2.toNat + 8 * b3.toNat + 16 * b4.toNat + 32 * b5.toNat + 64 * b6.toNat + 128 * b7.toNat
theorem sb_bn : ∀ b0 b1 b2 b3 b4 b5 b6 b7 : Bool, sb b0 b1 b2 b3 b4 b5 b6 b7 = nI (bn b0 b1 b2 b3 b4 b5 b6 b7) ∧ bn b0 b1 b2 b3 b4 b5 b6 b7 < 256 := by decide +kernel
theorem setB_nat (p : Nat → Bool) : ∃ k, k < 256 ∧ setB p = nI k := ⟨_, (sb_bn _ _ _ _ _ _ _ _).2, (sb_bn _ _ _ _ _ _ _ _).1⟩
/-- one is put in, one is taken out -/
def bup (p : Nat → Bool) (t : Nat) (v : Bool) : Nat → Bool := fun q => if q = t then v else p q
theorem bup_s {p : Nat → Bool} {t : Nat} {v : Bool} : bup p t v t = v := by simp [bup]
theorem bup_n {p : Nat → Bool} {t q : Nat} {v : Bool} (h : q ≠ t) : bup p t v q = p q := by simp [bup, h]
theorem sb_in : ∀ b0 b1 b2 b3 b4 b5 b6 b7 : Bool, ∀ t, t < 8 → setB (bup (fun q => [b0, b1, b2, b3, b4, b5, b6, b7].getD q false) t true) = sb b0 b1 b2 b3 b4 b5 b6 b7 ||| bw t := by decide +kernel
theorem sb_out : ∀ b0 b1 b2 b3 b4 b5 b6 b7 : Bool, ∀ t, t < 8 → setB (bup (fun q => [b0, b1, b2, b3, b4, b5, b6, b7].getD q false) t false) = sb b0 b1 b2 b3 b4 b5 b6 b7 &&& (bw t ^^^ -1) := by decide +kernel
theorem setB_in (p : Nat → Bool) {t : Nat} (h : t < 8) : setB (bup p t true) = setB p ||| bw t := by
  rw [setB_sb p, ← sb_in _ _ _ _ _ _ _ _ t h]
  refine setB_cg fun q hq => ?_
  by_cases e : q = t
  · subst e; rw [bup_s, bup_s]
  · rw [bup_n e, bup_n e]; exact (l8_get p hq).symm
theorem setB_out (p : Nat → Bool) {t : Nat} (h : t < 8) : setB (bup p t false) = setB p &&& (bw t ^^^ -1) := by
  rw [setB_sb p, ← sb_out _ _ _ _ _ _ _ _ t h]
  refine setB_cg fun q hq => ?_
  by_cases e : q = t
  · subst e; rw [bup_s, bup_s]
  · rw [bup_n e, bup_n e]; exact (l8_get p hq).symm
/-- counts of bits -/
def bc (x : Int32) : Int32 := (fJ15_bitCount x).getD 0
theorem d_bits (x : Int32) : fJ15_bitCount x = some (bc x) := rfl
theorem m_bits : ∀ k, k < 256 → fX4_bitsOf (nI k) = some (bc (nI k)) := by decide +kernel
def bcn (k : Nat) : Nat := (bc (nI k)).toNatClampNeg
theorem bc_n : ∀ k, k < 256 → bc (nI k) = nI (bcn k) ∧ bcn k ≤ 8 := by decide +kernel
theorem m_bitsB (p : Nat → Bool) : fX4_bitsOf (setB p) = some (bc (setB p)) := by
  obtain ⟨k, hk, e⟩ := setB_nat p
  rw [e, m_bits k hk]
/-- at least two -/
theorem sb_two : ∀ b0 b1 b2 b3 b4 b5 b6 b7 : Bool, ∀ f, f < 8 → [b0, b1, b2, b3, b4, b5, b6, b7].getD f false = true → (decide (2 ≤ bc (sb b0 b1 b2 b3 b4 b5 b6 b7)) = !(decide (setB (bup (fun q => [b0, b1, b2, b3, b4, b5, b6, b7].getD q false) f false) = 0))) := by decide +kernel
theorem sb_none : ∀ b0 b1 b2 b3 b4 b5 b6 b7 : Bool, (decide (sb b0 b1 b2 b3 b4 b5 b6 b7 = 0) = !(b0 || b1 || b2 || b3 || b4 || b5 || b6 || b7)) := by decide +kernel
theorem setB_none (p : Nat → Bool) : setB p = 0 ↔ ∀ t, t < 8 → p t = false := by
  have h := sb_none (p 0) (p 1) (p 2) (p 3) (p 4) (p 5) (p 6) (p 7)
  rw [setB_sb]
  constructor
  · intro e t ht
    rw [e] at h
    simp at h
    match t, ht with
    | 0, _ => exact h.1.1.1.1.1.1.1
    | 1, _ => exact h.1.1.1.1.1.1.2
    | 2, _ => exact h.1.1.1.1.1.2
    | 3, _ => exact h.1.1.1.1.2
    | 4, _ => exact h.1.1.1.2
    | 5, _ => exact h.1.1.2
    | 6, _ => exact h.1.2
    | 7, _ => exact h.2
  · intro e
    rw [e 0 (by decide), e 1 (by decide), e 2 (by decide), e 3 (by decide), e 4 (by decide), e 5 (by decide), e 6 (by decide), e 7 (by decide)]
    decide +kernel
theorem setB_two (p : Nat → Bool) {f : Nat} (hf : f < 8) (h : p f = true) : 2 ≤ bc (setB p) ↔ ¬ setB (bup p f false) = 0 := by
  have h1 := sb_two (p 0) (p 1) (p 2) (p 3) (p 4) (p 5) (p 6) (p 7) f hf (by rw [show [p 0, p 1, p 2, p 3, p 4, p 5, p 6, p 7] = l8 p from rfl, l8_get p hf]; exact h)
  have h2 : setB (bup (fun q => [p 0, p 1, p 2, p 3, p 4, p 5, p 6, p 7].getD q false) f false) = setB (bup p f false) := setB_cg fun q hq => by
    by_cases e : q = f
    · subst e; rw [bup_s, bup_s]
    · rw [bup_n e, bup_n e]; exact l8_get p hq
  rw [h2, ← setB_sb] at h1
  by_cases e : setB (bup p f false) = 0
  · simp [e] at h1; simp [e, h1]
  · simp [e] at h1; simp [e, h1]
theorem setB_lt2 (p : Nat → Bool) (h : setB p = 0) : ¬ 2 ≤ bc (setB p) := by rw [h]; decide +kernel
/-- marks that are shared -/
def Ssh (m o : Int32) : Int32 := bc (((m ^^^ o) ^^^ -1) &&& 63)
theorem d_shared (m o : Int32) : fX0_shared m o = some (Ssh m o) := rfl
theorem sh64 : ∀ x, x < 64 → (fX4_bitsOf (nI x &&& 63)).bind (fun r => some ((6 : Int32) - r)) = some (bc ((nI x ^^^ -1) &&& 63)) := by decide +kernel
theorem shn64 : ∀ x, x < 64 → bc ((nI x ^^^ -1) &&& 63) = nI (6 - bcn x) ∧ bcn x ≤ 6 := by decide +kernel
theorem m_sharedBy {m o : Nat} (hm : m < 64) (ho : o < 64) : fX4_sharedBy (nI m) (nI o) = some (Ssh (nI m) (nI o)) := by
  unfold fX4_sharedBy Ssh
  rw [nx_xor]
  exact sh64 _ (Nat.xor_lt_two_pow (n := 6) hm ho)
theorem Ssh_n {m o : Nat} (hm : m < 64) (ho : o < 64) : ∃ v, v ≤ 6 ∧ Ssh (nI m) (nI o) = nI v := by
  unfold Ssh
  rw [nx_xor]
  exact ⟨_, by omega, (shn64 _ (Nat.xor_lt_two_pow (n := 6) hm ho)).1⟩
