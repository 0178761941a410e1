/-! plain law: couples, what comes of two, whether a room is ripe -/
def ccp (a : Nat → Int32) (r : Int32) (t : Nat) : Bool := lv a t && decide (a (8 + t) = r) && decide (a (32 + t) ≤ 0)
def Scp (a : Nat → Int32) (r : Int32) : Option (Nat × Nat) := match Sbig a (ccp a r) with
  | none => none
  | some f => match Sbig a (bup (ccp a r) f false) with
    | none => none
    | some o => some (f, o)
def cI (x : Option (Nat × Nat)) : Int32 := match x with
  | none => -1
  | some (f, o) => nI (8 * f + o)
theorem Scp_in {a : Nat → Int32} {r : Int32} {f o : Nat} (h : Scp a r = some (f, o)) : f < 8 ∧ o < 8 ∧ f ≠ o ∧ ccp a r f = true ∧ ccp a r o = true := by
  unfold Scp at h
  split at h
  · cases h
  · rename_i f1 h1
    split at h
    · cases h
    · rename_i o1 h2
      cases h
      have g1 := (Sbig_all a (ccp a r)).1 f h1
      have g2 := (Sbig_all a (bup (ccp a r) f false)).1 o h2
      have hne : o ≠ f := fun e => by subst e; rw [bup_s] at g2; cases g2.2
      rw [bup_n hne] at g2
      exact ⟨g1.1, g2.1, fun e => hne e.symm, g1.2, g2.2⟩
theorem Scp_n1 {a : Nat → Int32} {r : Int32} (h : Sbig a (ccp a r) = none) : Scp a r = none := by unfold Scp; rw [h]
theorem Scp_n2 {a : Nat → Int32} {r : Int32} {f : Nat} (h : Sbig a (ccp a r) = some f) (h2 : Sbig a (bup (ccp a r) f false) = none) : Scp a r = none := by unfold Scp; rw [h]; simp only; rw [h2]
theorem Scp_s {a : Nat → Int32} {r : Int32} {f o : Nat} (h : Sbig a (ccp a r) = some f) (h2 : Sbig a (bup (ccp a r) f false) = some o) : Scp a r = some (f, o) := by unfold Scp; rw [h]; simp only; rw [h2]
theorem ccp_t {a : Nat → Int32} {r : Int32} {t : Nat} (h : ccp a r t = true) : ¬ a t ≤ 0 ∧ a (8 + t) = r ∧ a (32 + t) ≤ 0 := by
  unfold ccp at h
  simp only [Bool.and_eq_true, decide_eq_true_eq] at h
  exact ⟨lv_t.mp h.1.1, h.1.2, h.2⟩
theorem pin_out (a : Nat → Int32) (p : Nat → Bool) : lp (fun t b => if a (32 + t) ≤ 0 then b else b &&& (bw t ^^^ -1)) 8 0 (setB p) = setB (fun t => p t && decide (a (32 + t) ≤ 0)) := by
  have h := lp_P (N := 8) (P := fun j b => b = setB (fun t => p t && (decide (j ≤ t) || decide (a (32 + t) ≤ 0)))) (g := fun t b => if a (32 + t) ≤ 0 then b else b &&& (bw t ^^^ -1)) (fun j b hj hP => by
    rw [hP]
    by_cases h : a (32 + j) ≤ 0
    · rw [if_pos h]
      refine setB_cg fun t _ => ?_
      by_cases e : t = j
      · subst e; simp [h]
      · have : (decide (j ≤ t)) = decide (j + 1 ≤ t) := by
          by_cases hh : j ≤ t
          · simp [hh]; omega
          · simp [hh]; omega
        rw [this]
    · rw [if_neg h, ← setB_out _ hj]
      refine setB_cg fun t _ => ?_
      by_cases e : t = j
      · subst e; rw [bup_s]; simp [h]
      · rw [bup_n e]
        have : (decide (j ≤ t)) = decide (j + 1 ≤ t) := by
          by_cases hh : j ≤ t
          · simp [hh]; omega
          · simp [hh]; omega
        rw [this]) 8 0 (setB p) (by decide) (setB_cg fun t _ => by simp)
  rw [h]
  exact setB_cg fun t ht => by
    have : ¬ 0 + 8 ≤ t := by omega
    simp [this]
theorem m_couple (r : Int32) (σ : Mst) : fX4_coupleOf r σ = some (cI (Scp (gA σ 40) r)) := by
  rw [fX4_coupleOf, m_thoseIn, bind_s, Sin_set]
  have hend : ∀ n s, s = setB (ccp (gA σ 40) r) → fX4_coupleOf_8 σ (n + 1) s (nI 8) = some (cI (Scp (gA σ 40) r)) := by
    intro n s hs
    rw [fX4_coupleOf_8, if_pos le8, hs, m_bitsB, bind_s, m_biggest, bind_s]
    have hb : Sbig (gA σ 40) (fun t => decide (((setB (ccp (gA σ 40) r) >>> (nI t &&& 31)) &&& 1) = 1)) = Sbig (gA σ 40) (ccp (gA σ 40) r) := Sbig_cg fun t ht => by
      rw [Bool.eq_iff_iff, decide_eq_true_eq, setB_bit _ ht]
    rw [hb]
    cases hf : Sbig (gA σ 40) (ccp (gA σ 40) r) with
    | none =>
      have hz : setB (ccp (gA σ 40) r) = 0 := (setB_none _).mpr ((Sbig_all _ _).2 hf)
      rw [if_neg (setB_lt2 _ hz), Scp_n1 hf]
      rfl
    | some f =>
      have g := (Sbig_all _ _).1 f hf
      have hs2 : setB (ccp (gA σ 40) r) &&& (((1 : Int32) <<< (oI (some f) &&& 31)) ^^^ -1) = setB (bup (ccp (gA σ 40) r) f false) := (setB_out _ g.1).symm
      rw [hs2, m_biggest, bind_s]
      have hb2 : Sbig (gA σ 40) (fun t => decide (((setB (bup (ccp (gA σ 40) r) f false) >>> (nI t &&& 31)) &&& 1) = 1)) = Sbig (gA σ 40) (bup (ccp (gA σ 40) r) f false) := Sbig_cg fun t ht => by
        rw [Bool.eq_iff_iff, decide_eq_true_eq, setB_bit _ ht]
      rw [hb2]
      cases ho : Sbig (gA σ 40) (bup (ccp (gA σ 40) r) f false) with
      | none =>
        have hz : setB (bup (ccp (gA σ 40) r) f false) = 0 := (setB_none _).mpr ((Sbig_all _ _).2 ho)
        rw [if_neg (fun h => (setB_two _ g.1 g.2).mp h hz), Scp_n2 hf ho]
        rfl
      | some o =>
        have g2 := (Sbig_all _ _).1 o ho
        have hz : ¬ setB (bup (ccp (gA σ 40) r) f false) = 0 := fun e => by
          have := (setB_none _).mp e o g2.1
          rw [this] at g2
          cases g2.2
        rw [if_pos ((setB_two _ g.1 g.2).mpr hz), Scp_s hf ho]
        show some ((8 : Int32) * nI f + nI o) = some (nI (8 * f + o))
        rw [lit_nI, pk_mul, nI_add]
  have h := lp_run (F := fun n i b => fX4_coupleOf_8 σ n b i) (N := 8) (g := fun t b => if gA σ 40 (32 + t) ≤ 0 then b else b &&& (bw t ^^^ -1)) (fun n j b hj => by
    simp only [fX4_coupleOf_8, if_neg (ge8 hj), al32 hj, n1]
    by_cases h : gA σ 40 (32 + j) ≤ 0
    · rw [if_pos h, if_pos h]
    · rw [if_neg h, if_neg h]; rfl) 8 0 (69991 + 1) (setB (fun t => lv (gA σ 40) t && decide (gA σ 40 (8 + t) = r))) (by decide)
  exact h.trans (hend 69991 _ (pin_out _ _))
/-- the reference's numbers of the living -/
def IA (nR : Nat) (a : Nat → Int32) : Prop := ∀ t, t < 8 → 0 ≤ a t ∧ 0 ≤ a (32 + t) ∧ (∃ m, m < 64 ∧ a (16 + t) = nI m) ∧ (¬ a t ≤ 0 → ∃ r, r < nR ∧ a (8 + t) = nI r)
theorem le0 {x : Int32} (h : 0 ≤ x) : x ≤ 0 ↔ x = 0 := by
  constructor
  · intro e; exact Int32.le_antisymm e h
  · intro e; rw [e]; exact Int32.le_refl _
theorem d_couple {h : Hst} {a : Nat → Int32} {nR : Nat} (R : RH h a) (I : IA nR a) (r : Int32) : fX3_coupleOf r h = some (cI (Scp a r)) := by
  have hb1 : Sbig a (fun t => decide (((Sin a r >>> (nI t &&& 31)) &&& 1) = 1) && !decide ((none : Option Nat) = some t) && decide (a (32 + t) = 0)) = Sbig a (ccp a r) := Sbig_cg fun t ht => by
    rw [Sin_set]
    unfold ccp
    have e1 : decide (((setB (fun t => lv a t && decide (a (8 + t) = r)) >>> (nI t &&& 31)) &&& 1) = 1) = (lv a t && decide (a (8 + t) = r)) := by rw [Bool.eq_iff_iff, decide_eq_true_eq, setB_bit _ ht]
    rw [e1]
    have e2 : decide (a (32 + t) = 0) = decide (a (32 + t) ≤ 0) := by rw [Bool.eq_iff_iff, decide_eq_true_eq, decide_eq_true_eq, le0 (I t ht).2.1]
    rw [e2]
    simp
  have hb2 : ∀ f, f < 8 → Sbig a (fun t => decide (((Sin a r >>> (nI t &&& 31)) &&& 1) = 1) && !decide (some f = some t) && decide (a (32 + t) = 0)) = Sbig a (bup (ccp a r) f false) := fun f hf => Sbig_cg fun t ht => by
    by_cases e : t = f
    · subst e; rw [bup_s]; simp
    · rw [bup_n e, Sin_set]
      unfold ccp
      have e1 : decide (((setB (fun t => lv a t && decide (a (8 + t) = r)) >>> (nI t &&& 31)) &&& 1) = 1) = (lv a t && decide (a (8 + t) = r)) := by rw [Bool.eq_iff_iff, decide_eq_true_eq, setB_bit _ ht]
      rw [e1]
      have e2 : decide (a (32 + t) = 0) = decide (a (32 + t) ≤ 0) := by rw [Bool.eq_iff_iff, decide_eq_true_eq, decide_eq_true_eq, le0 (I t ht).2.1]
      rw [e2]
      have e3 : decide (some f = some t) = false := by simp; exact fun x => e x.symm
      rw [e3]
      simp
  rw [fX3_coupleOf, d_in R, bind_s, show (-1 : Int32) = oI none from rfl, d_great R _ none (fun q hq => by cases hq), bind_s, hb1]
  cases hf : Sbig a (ccp a r) with
  | none => rw [if_neg oI_n0, Scp_n1 hf]; rfl
  | some f =>
    have g := (Sbig_all _ _).1 f hf
    rw [if_pos (oI_s0 g.1), d_great R _ (some f) (fun q hq => by cases hq; exact g.1), bind_s, hb2 f g.1]
    cases ho : Sbig a (bup (ccp a r) f false) with
    | none => rw [if_neg oI_n0, Scp_n2 hf ho]; rfl
    | some o =>
      have g2 := (Sbig_all _ _).1 o ho
      rw [if_pos (oI_s0 g2.1), Scp_s hf ho]
      show some ((8 : Int32) * nI f + nI o) = some (nI (8 * f + o))
      rw [lit_nI, pk_mul, nI_add]
/-- the bulk of a young one -/
def Syo (a : Nat → Int32) (f o : Nat) : Int32 := if 1 ≤ (a f + a o) / 4 then (a f + a o) / 4 else 1
theorem q8 {f o : Nat} (hf : f < 8) (ho : o < 8) : nI (8 * f + o) / (8 : Int32) = nI f ∧ nI (8 * f + o) - nI (8 * f + o) / (8 : Int32) * (8 : Int32) = nI o := by
  rw [lit_nI]
  refine ⟨?_, ?_⟩
  · rw [pk_div (by omega) (by decide) (by decide)]
    exact congrArg nI (show (8 * f + o) / 8 = f by omega)
  · rw [pk_rem (by omega) (by decide) (by decide)]
    exact congrArg nI (show (8 * f + o) % 8 = o by omega)
theorem m_young {f o : Nat} (hf : f < 8) (ho : o < 8) (σ : Mst) : fX4_youngOf (nI (8 * f + o)) σ = some (Syo (gA σ 40) f o) := by
  rw [fX4_youngOf, (q8 hf ho).2, (q8 hf ho).1, al0 hf, al0 ho, Nat.zero_add, Nat.zero_add]
  unfold Syo
  split <;> rfl
theorem d_young {h : Hst} {a : Nat → Int32} (R : RH h a) {f o : Nat} (hf : f < 8) (ho : o < 8) : fX3_youngBulk (nI (8 * f + o)) h = some (Syo a f o) := by
  rw [fX3_youngBulk, (q8 hf ho).2, (q8 hf ho).1, ah hf, ah ho, (R.1 f hf).1, (R.1 o ho).1]
  unfold Syo
  congr 1
  by_cases h1 : (1 : Int32) < (a f + a o) / 4
  · rw [if_pos h1, if_pos (Int32.le_of_lt h1)]
  · rw [if_neg h1]
    by_cases h2 : (1 : Int32) ≤ (a f + a o) / 4
    · rw [if_pos h2]
      exact Int32.le_antisymm h2 (fa_of_nlt h1)
    · rw [if_neg h2]
/-- a place that is free -/
def fr (a : Nat → Int32) : Nat → Nat → Option Nat
  | 0, _ => none
  | k + 1, j => if a j ≤ 0 then some j else fr a k (j + 1)
def Sfr (a : Nat → Int32) : Option Nat := fr a 8 0
theorem fr_in (a : Nat → Int32) : ∀ k j t, fr a k j = some t → j ≤ t ∧ t < j + k ∧ a t ≤ 0 := by
  intro k
  induction k with
  | zero => intro j t h; cases h
  | succ k ih =>
    intro j t h
    unfold fr at h
    by_cases h1 : a j ≤ 0
    · rw [if_pos h1] at h; cases h; exact ⟨Nat.le_refl _, by omega, h1⟩
    · rw [if_neg h1] at h
      have := ih (j + 1) t h
      exact ⟨by omega, by omega, this.2.2⟩
theorem Sfr_in {a : Nat → Int32} {t : Nat} (h : Sfr a = some t) : t < 8 ∧ a t ≤ 0 := ⟨by have := fr_in a 8 0 t h; omega, (fr_in a 8 0 t h).2.2⟩
theorem m_free (σ : Mst) (hp : ∀ t, t < 8 → 0 ≤ gA σ 40 t) : fX4_freePlace σ = some (oI (Sfr (gA σ 40))) := by
  have h : ∀ k j n, j + k = 8 → fX4_freePlace_2 σ (n + 1 + k) (nI j) = some (oI (fr (gA σ 40) k j)) := by
    intro k
    induction k with
    | zero =>
      intro j n hj
      rw [show j = 8 by omega]
      show fX4_freePlace_2 σ (n + 1) (nI 8) = _
      rw [fX4_freePlace_2, if_pos le8]; rfl
    | succ k ih =>
      intro j n hj
      have hj8 : j < 8 := by omega
      show fX4_freePlace_2 σ ((n + 1 + k) + 1) (nI j) = _
      rw [fX4_freePlace_2, if_neg (ge8 hj8), al0 hj8, Nat.zero_add, n1]
      unfold fr
      by_cases h1 : gA σ 40 j ≤ 0
      · rw [if_pos h1, if_pos ((le0 (hp j hj8)).mp h1)]; rfl
      · rw [if_neg h1, if_neg (fun e => h1 ((le0 (hp j hj8)).mpr e))]
        exact ih (j + 1) n (by omega)
  exact h 8 0 69991 (by decide)
theorem d_free {h : Hst} {a : Nat → Int32} (R : RH h a) : fX3_freePlace h = some (oI (Sfr a)) := by
  have h9 : ∀ k j n, j + k = 8 → fX3_freePlace_2 h (n + 1 + k) (nI j) = some (oI (fr a k j)) := by
    intro k
    induction k with
    | zero =>
      intro j n hj
      rw [show j = 8 by omega]
      show fX3_freePlace_2 h (n + 1) (nI 8) = _
      rw [fX3_freePlace_2, if_pos le8, fX3_freePlace_22, if_pos le8]; rfl
    | succ k ih =>
      intro j n hj
      have hj8 : j < 8 := by omega
      show fX3_freePlace_2 h ((n + 1 + k) + 1) (nI j) = _
      rw [fX3_freePlace_2, if_neg (ge8 hj8), d_has R hj8, bind_s, n1]
      unfold fr
      by_cases h1 : a j ≤ 0
      · rw [if_pos h1, if_pos h1, if_pos rfl, fX3_freePlace_22, if_neg (ge8 hj8)]; rfl
      · rw [if_neg h1, if_neg h1, if_neg one_ne]
        exact ih (j + 1) n (by omega)
  exact h9 8 0 69991 (by decide)
