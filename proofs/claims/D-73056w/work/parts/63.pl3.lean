/-! plain law: a house and a row in earnest: what is read of both -/
def lv (a : Nat → Int32) (t : Nat) : Bool := !decide (a t ≤ 0)
theorem lv_t {a : Nat → Int32} {t : Nat} : lv a t = true ↔ ¬ a t ≤ 0 := by simp [lv]
theorem lv_f {a : Nat → Int32} {t : Nat} : lv a t = false ↔ a t ≤ 0 := by simp [lv]
theorem Sth_set (a : Nat → Int32) : Sth a = setB (lv a) := lp_cg (N := 8) (fun j b _ => by
  by_cases h : a j ≤ 0
  · rw [if_pos h, if_neg]; rw [lv_t]; exact fun x => x h
  · rw [if_neg h, if_pos]; rw [lv_t]; exact h) 8 0 0 (by decide)
theorem Sin_set (a : Nat → Int32) (r : Int32) : Sin a r = setB (fun t => lv a t && decide (a (8 + t) = r)) := lp_cg (N := 8) (fun j b _ => by
  by_cases h : a j ≤ 0
  · rw [if_pos h, if_neg]; simp [lv, h]
  · rw [if_neg h]
    by_cases h2 : a (8 + j) = r
    · rw [if_pos h2, if_pos]; simp [lv, h, h2]
    · rw [if_neg h2, if_neg]; simp [h2]) 8 0 0 (by decide)
def RH (h : Hst) (a : Nat → Int32) : Prop := (∀ t, t < 8 → hA h 0 t = a t ∧ hA h 2 t = a (16 + t) ∧ hA h 3 t = a (24 + t) ∧ hA h 4 t = a (32 + t) ∧ hA h 5 t = a (40 + t) ∧ hA h 6 t = a (48 + t) ∧ (¬ a t ≤ 0 → hA h 1 t = a (8 + t))) ∧ hF h 8 = Sth a ∧ hF h 9 = a 56 ∧ hF h 10 = a 57 ∧ hF h 11 = a 58
def oI (b : Option Nat) : Int32 := match b with
  | none => -1
  | some q => nI q
theorem oI_n : oI none < 0 := by decide
theorem oI_s {q : Nat} (h : q < 8) : ¬ oI (some q) < 0 := nI_pos (by omega)
theorem oI_s0 {q : Nat} (h : q < 8) : 0 ≤ oI (some q) := nI_pos' (by omega)
theorem oI_n0 : ¬ 0 ≤ oI none := by decide
theorem nI_oI {t : Nat} {x : Option Nat} (ht : t < 8) (hx : ∀ q, x = some q → q < 8) : nI t = oI x ↔ x = some t := by
  cases x with
  | none =>
    constructor
    · intro e
      have := nI_pos (n := t) (by omega)
      rw [e] at this
      exact absurd oI_n this
    · intro e; cases e
  | some q =>
    have hq := hx q rfl
    show nI t = nI q ↔ _
    rw [nI_eq (by omega) (by omega)]
    constructor
    · intro e; rw [e]
    · intro e; cases e; rfl
/-- the greatest of some -/
def big1 (a : Nat → Int32) (t : Nat) (b : Option Nat) : Option Nat := match b with
  | none => some t
  | some q => if a t ≤ a q then some q else some t
def Sbig (a : Nat → Int32) (c : Nat → Bool) : Option Nat := lp (fun t b => if c t = true then big1 a t b else b) 8 0 none
theorem Sbig_all (a : Nat → Int32) (c : Nat → Bool) : (∀ q, Sbig a c = some q → q < 8 ∧ c q = true) ∧ (Sbig a c = none → ∀ t, t < 8 → c t = false) := by
  have h := lp_P (N := 8) (P := fun j b => (∀ q, b = some q → q < j ∧ c q = true) ∧ (b = none → ∀ t, t < j → c t = false)) (g := fun t b => if c t = true then big1 a t b else b) (fun j b hj hP => by
    by_cases hc : c j = true
    · rw [if_pos hc]
      cases b with
      | none =>
        refine ⟨fun q hq => ?_, fun hq => ?_⟩
        · have e : q = j := by simpa [big1] using hq.symm
          subst e
          exact ⟨by omega, hc⟩
        · simp [big1] at hq
      | some r =>
        have hr := hP.1 r rfl
        refine ⟨fun q hq => ?_, fun hq => ?_⟩
        · unfold big1 at hq
          simp only at hq
          split at hq
          · cases hq; exact ⟨by omega, hr.2⟩
          · cases hq; exact ⟨by omega, hc⟩
        · unfold big1 at hq
          simp only at hq
          split at hq <;> cases hq
    · rw [if_neg hc]
      refine ⟨fun q hq => ⟨by have := (hP.1 q hq).1; omega, (hP.1 q hq).2⟩, fun hq t ht => ?_⟩
      rcases Nat.lt_succ_iff_lt_or_eq.mp ht with h | h
      · exact hP.2 hq t h
      · subst h; simpa using hc) 8 0 none (by decide) ⟨fun q hq => (by cases hq), fun _ t ht => (by omega)⟩
  exact ⟨fun q hq => h.1 q hq, fun hq => h.2 hq⟩
theorem Sbig_cg {a : Nat → Int32} {c d : Nat → Bool} (h : ∀ t, t < 8 → c t = d t) : Sbig a c = Sbig a d := lp_cg (N := 8) (fun j b hj => by simp only [h j hj]) 8 0 none (by decide)
theorem m_biggest (s : Int32) (σ : Mst) : fX4_biggestOf s σ = some (oI (Sbig (gA σ 40) (fun t => decide (((s >>> (nI t &&& 31)) &&& 1) = 1)))) := by
  refine (lp_endI (fun n i b => fX4_biggestOf_4 σ n s (oI b) i) (fun t b => if decide (((s >>> (nI t &&& 31)) &&& 1) = 1) = true then big1 (gA σ 40) t b else b) 8 69991 (fun b => some (oI b)) (fun _ b => ∀ q, b = some q → q < 8) none (fun q hq => by cases hq) (fun j b hj hP q hq => by
    by_cases hc : decide (((s >>> (nI j &&& 31)) &&& 1) = 1) = true
    · rw [if_pos hc] at hq
      cases b with
      | none => have e : q = j := by simpa [big1] using hq.symm
                omega
      | some r =>
        have hr := hP r rfl
        unfold big1 at hq
        simp only at hq
        split at hq
        · cases hq; exact hr
        · cases hq; exact hj
    · rw [if_neg hc] at hq; exact hP q hq) (fun n j b hj hP => by
    simp only [fX4_biggestOf_4, if_neg (ge8 hj), m_bit, bind_s, n1, decide_eq_true_eq, fX4_biggestOf_41]
    by_cases hc : ((s >>> (nI j &&& 31)) &&& 1) = 1
    · rw [if_pos hc, if_neg one_ne, if_pos hc]
      cases b with
      | none => rw [if_pos oI_n]; rfl
      | some r =>
        have hr := hP r rfl
        rw [if_neg (oI_s hr), al0 hj, show oI (some r) = nI r from rfl, al0 hr, Nat.zero_add, Nat.zero_add]
        unfold big1
        by_cases h : gA σ 40 j ≤ gA σ 40 r
        · simp only [if_pos h]; rfl
        · simp only [if_neg h]; rfl
    · rw [if_neg hc, if_pos rfl, if_neg hc]) (fun n b _ => by simp only [fX4_biggestOf_4, if_pos le8])).1
section HS
variable {h : Hst} {a : Nat → Int32}
theorem d_has (R : RH h a) {t : Nat} (ht : t < 8) : fX3_has (nI t) h = some (if a t ≤ 0 then 0 else 1) := by
  unfold fX3_has
  rw [R.2.1, Sth_set]
  by_cases h1 : a t ≤ 0
  · rw [if_pos h1, if_neg]
    rw [setB_bit _ ht, lv_t]
    exact fun x => x h1
  · rw [if_neg h1, if_pos]
    rw [setB_bit _ ht, lv_t]
    exact h1
theorem d_in (R : RH h a) (r : Int32) : fX3_in r h = some (Sin a r) := by
  refine lp_end (fun n i b => fX3_in_4 h n r b i) _ 8 69991 some 0 (fun n j b hj => ?_) (fun n b => ?_)
  · simp only [fX3_in_4, if_neg (ge8 hj), d_has R hj, bind_s, ah hj, n1, fX3_in_35, Int32.or_zero]
    by_cases h1 : a j ≤ 0
    · simp only [if_pos h1, if_pos]
    · rw [if_neg h1, if_neg one_ne, (R.1 j hj).2.2.2.2.2.2 h1, if_neg h1]
      by_cases h2 : a (8 + j) = r
      · rw [if_pos h2, if_pos h2]; rfl
      · rw [if_neg h2, if_neg h2]
  · simp only [fX3_in_4, if_pos le8]
theorem d_bulkOf (R : RH h a) (s : Int32) : fX3_bulkOf s h = some (Sbu a s) := by
  refine lp_end (fun n i b => fX3_bulkOf_4 h n s b i) _ 8 69991 some 0 (fun n j b hj => ?_) (fun n b => ?_)
  · simp only [fX3_bulkOf_4, if_neg (ge8 hj), ah hj, n1, Int32.add_zero, (R.1 j hj).1]
    by_cases h1 : ((s >>> (nI j &&& 31)) &&& 1) = 1
    · rw [if_pos h1, if_pos h1]
    · rw [if_neg h1, if_neg h1]
  · simp only [fX3_bulkOf_4, if_pos le8]
theorem d_great (R : RH h a) (s : Int32) (x : Option Nat) (hx : ∀ q, x = some q → q < 8) : fX3_greatest s (oI x) h = some (oI (Sbig a (fun t => decide (((s >>> (nI t &&& 31)) &&& 1) = 1) && !decide (x = some t) && decide (a (32 + t) = 0)))) := by
  refine (lp_endI (fun n i b => fX3_greatest_5 h n s (oI x) (oI b) i) (fun t b => if (decide (((s >>> (nI t &&& 31)) &&& 1) = 1) && !decide (x = some t) && decide (a (32 + t) = 0)) = true then big1 a t b else b) 8 69991 (fun b => some (oI b)) (fun _ b => ∀ q, b = some q → q < 8) none (fun q hq => by cases hq) (fun j b hj hP q hq => by
    by_cases hc : (decide (((s >>> (nI j &&& 31)) &&& 1) = 1) && !decide (x = some j) && decide (a (32 + j) = 0)) = true
    · rw [if_pos hc] at hq
      cases b with
      | none => have e : q = j := by simpa [big1] using hq.symm
                omega
      | some r =>
        have hr := hP r rfl
        unfold big1 at hq
        simp only at hq
        split at hq
        · cases hq; exact hr
        · cases hq; exact hj
    · rw [if_neg hc] at hq; exact hP q hq) (fun n j b hj hP => by
    simp only [fX3_greatest_5, if_neg (ge8 hj), n1, ah hj, fX3_greatest_58, (R.1 j hj).2.2.2.1, (R.1 j hj).1]
    by_cases hc : ((s >>> (nI j &&& 31)) &&& 1) = 1
    · rw [if_pos hc]
      by_cases hx1 : x = some j
      · have hcc : ¬ (decide (((s >>> (nI j &&& 31)) &&& 1) = 1) && !decide (x = some j) && decide (a (32 + j) = 0)) = true := by simp [hx1]
        rw [if_pos ((nI_oI hj hx).mpr hx1), if_neg hcc]
      · rw [if_neg (fun e => hx1 ((nI_oI hj hx).mp e))]
        by_cases hp : a (32 + j) = 0
        · have hcc : (decide (((s >>> (nI j &&& 31)) &&& 1) = 1) && !decide (x = some j) && decide (a (32 + j) = 0)) = true := by simp [hc, hx1, hp]
          rw [if_pos hp, if_pos hcc]
          cases b with
          | none => rw [if_pos oI_n]; rfl
          | some r =>
            have hr := hP r rfl
            rw [if_neg (oI_s hr), show oI (some r) = nI r from rfl, ah hr, (R.1 r hr).1]
            unfold big1
            by_cases h2 : a j ≤ a r
            · simp only [if_pos h2]; rfl
            · simp only [if_neg h2]; rfl
        · have hcc : ¬ (decide (((s >>> (nI j &&& 31)) &&& 1) = 1) && !decide (x = some j) && decide (a (32 + j) = 0)) = true := by simp [hp]
          rw [if_neg hp, if_neg hcc]
    · have hcc : ¬ (decide (((s >>> (nI j &&& 31)) &&& 1) = 1) && !decide (x = some j) && decide (a (32 + j) = 0)) = true := by simp [hc]
      rw [if_neg hc, if_neg hcc]) (fun n b _ => by simp only [fX3_greatest_5, if_pos le8])).1
end HS
