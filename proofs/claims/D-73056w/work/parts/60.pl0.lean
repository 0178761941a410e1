/-! THE PLAIN LAW: no machine in sight. Numbers, loops, states. -/
theorem lit_nI (n : Nat) : (OfNat.ofNat n : Int32) = nI n := rfl
theorem ald_nI {α β : Type} {n j : Nat} {f : Nat → β} {k : β → Option α} (h : j < n) (hn : n < 2 ^ 31) : ald n f (nI j) k = k (f j) := by
  unfold ald
  rw [if_neg (nI_in h hn), nI_clamp (by omega)]
theorem ast_nI {α : Type} {n j : Nat} {k : Option α} (h : j < n) (hn : n < 2 ^ 31) : ast n (nI j) k = k := by
  unfold ast
  rw [if_neg (nI_in h hn)]
theorem stp_eq {α σ : Type} (x : σ) (k : σ → Option α) : stp x k = k x := rfl
theorem bind_s {α β : Type} (x : α) (k : α → Option β) : (some x).bind k = k x := rfl
theorem bnd2_s {α ρ σ : Type} (x : ρ) (y : σ) (k : ρ → σ → Option α) : bnd2 (some (x, y)) k = k x y := rfl
theorem zrt_01 {α : Type} {v : Int32} {x : α} (h : v = 0 ∨ v = 1) : zrt v x = some x := by unfold zrt; rw [if_pos h]
theorem zrt_if {α : Type} {c : Prop} [Decidable c] {x : α} : zrt (if c then (1 : Int32) else 0) x = some x := by
  by_cases h : c <;> simp [zrt, h]
theorem zrt_if' {α : Type} {c : Prop} [Decidable c] {x : α} : zrt (if c then (0 : Int32) else 1) x = some x := by
  by_cases h : c <;> simp [zrt, h]
/-- a counted loop -/
def lp {β : Type} (g : Nat → β → β) : Nat → Nat → β → β
  | 0, _, b => b
  | k + 1, j, b => lp g k (j + 1) (g j b)
theorem lp_run {β γ : Type} {F : Nat → Int32 → β → Option γ} {g : Nat → β → β} {N : Nat} (hs : ∀ n j b, j < N → F (n + 1) (nI j) b = F n (nI (j + 1)) (g j b)) : ∀ k j n b, j + k ≤ N → F (n + k) (nI j) b = F n (nI (j + k)) (lp g k j b) := by
  intro k
  induction k with
  | zero => intro j n b _; rfl
  | succ k ih =>
    intro j n b h
    rw [show n + (k + 1) = (n + k) + 1 from rfl, hs _ _ _ (by omega), ih (j + 1) n _ (by omega), show j + 1 + k = j + (k + 1) by omega]
    rfl
theorem lp_inv {β γ : Type} {F : Nat → Int32 → β → Option γ} {g : Nat → β → β} {N : Nat} {P : Nat → β → Prop} (hp : ∀ j b, j < N → P j b → P (j + 1) (g j b)) (hs : ∀ n j b, j < N → P j b → F (n + 1) (nI j) b = F n (nI (j + 1)) (g j b)) : ∀ k j n b, j + k ≤ N → P j b → F (n + k) (nI j) b = F n (nI (j + k)) (lp g k j b) ∧ P (j + k) (lp g k j b) := by
  intro k
  induction k with
  | zero => intro j n b _ h; exact ⟨rfl, h⟩
  | succ k ih =>
    intro j n b h hP
    obtain ⟨h1, h2⟩ := ih (j + 1) n (g j b) (by omega) (hp j b (by omega) hP)
    rw [show n + (k + 1) = (n + k) + 1 from rfl, hs _ _ _ (by omega) hP, h1, show j + 1 + k = j + (k + 1) by omega]
    exact ⟨rfl, by rw [show j + (k + 1) = j + 1 + k by omega]; exact h2⟩
theorem lp_P {β : Type} {g : Nat → β → β} {N : Nat} {P : Nat → β → Prop} (hp : ∀ j b, j < N → P j b → P (j + 1) (g j b)) : ∀ k j b, j + k ≤ N → P j b → P (j + k) (lp g k j b) := by
  intro k
  induction k with
  | zero => intro j b _ h; exact h
  | succ k ih =>
    intro j b h hP
    have := ih (j + 1) (g j b) (by omega) (hp j b (by omega) hP)
    rw [show j + (k + 1) = j + 1 + k by omega]
    exact this
theorem lp_cg {β : Type} {g g' : Nat → β → β} {N : Nat} (h : ∀ j b, j < N → g j b = g' j b) : ∀ k j b, j + k ≤ N → lp g k j b = lp g' k j b := by
  intro k
  induction k with
  | zero => intro j b _; rfl
  | succ k ih =>
    intro j b hk
    show lp g k (j + 1) (g j b) = lp g' k (j + 1) (g' j b)
    rw [h j b (by omega), ih (j + 1) _ (by omega)]
/-- two loops side by side -/
theorem lpp {β₁ β₂ γ₁ γ₂ : Type} {F : Nat → Int32 → β₁ → Option γ₁} {G : Nat → Int32 → β₂ → Option γ₂} {N : Nat} {P : Nat → β₁ → β₂ → Prop} (hs : ∀ j b d, j < N → P j b d → ∃ b' d', (∀ n, F (n + 1) (nI j) b = F n (nI (j + 1)) b') ∧ (∀ n, G (n + 1) (nI j) d = G n (nI (j + 1)) d') ∧ P (j + 1) b' d') : ∀ k j b d, j + k ≤ N → P j b d → ∃ b' d', (∀ n, F (n + k) (nI j) b = F n (nI (j + k)) b') ∧ (∀ n, G (n + k) (nI j) d = G n (nI (j + k)) d') ∧ P (j + k) b' d' := by
  intro k
  induction k with
  | zero => intro j b d _ h; exact ⟨b, d, fun _ => rfl, fun _ => rfl, h⟩
  | succ k ih =>
    intro j b d h hP
    obtain ⟨b1, d1, e1, e2, hP1⟩ := hs j b d (by omega) hP
    obtain ⟨b2, d2, e3, e4, hP2⟩ := ih (j + 1) b1 d1 (by omega) hP1
    refine ⟨b2, d2, fun n => ?_, fun n => ?_, by rw [show j + (k + 1) = j + 1 + k by omega]; exact hP2⟩
    · rw [show n + (k + 1) = (n + k) + 1 from rfl, e1, e3, show j + 1 + k = j + (k + 1) by omega]
    · rw [show n + (k + 1) = (n + k) + 1 from rfl, e2, e4, show j + 1 + k = j + (k + 1) by omega]
theorem n1 (j : Nat) : nI j + (1 : Int32) = nI (j + 1) := nI_1 j
theorem up_s {α : Type} {f : Nat → α} {k : Nat} {v : α} : va_up f k v k = v := by simp [va_up]
theorem up_n {α : Type} {f : Nat → α} {k j : Nat} {v : α} (h : j ≠ k) : va_up f k v j = f j := by simp [va_up, h]
theorem upd_s {f : Nat → Int32} {k : Nat} {v : Int32} : upd f k v k = v := by simp [upd]
theorem upd_n {f : Nat → Int32} {k j : Nat} {v : Int32} (h : j ≠ k) : upd f k v j = f j := by simp [upd, h]
theorem ge3 {j : Nat} (h : j < 3) : ¬ (3 : Int32) ≤ nI j := nI_ge (b := 3) h (by decide)
theorem le3 : (3 : Int32) ≤ nI 3 := nI_le (Nat.le_refl _) (by decide)
theorem ge4 {j : Nat} (h : j < 4) : ¬ (4 : Int32) ≤ nI j := nI_ge (b := 4) h (by decide)
theorem le4 : (4 : Int32) ≤ nI 4 := nI_le (Nat.le_refl _) (by decide)
theorem ge6 {j : Nat} (h : j < 6) : ¬ (6 : Int32) ≤ nI j := nI_ge (b := 6) h (by decide)
theorem le6 : (6 : Int32) ≤ nI 6 := nI_le (Nat.le_refl _) (by decide)
theorem ge8 {j : Nat} (h : j < 8) : ¬ (8 : Int32) ≤ nI j := nI_ge (b := 8) h (by decide)
theorem le8 : (8 : Int32) ≤ nI 8 := nI_le (Nat.le_refl _) (by decide)
theorem ge59 {j : Nat} (h : j < 59) : ¬ (59 : Int32) ≤ nI j := nI_ge (b := 59) h (by decide)
theorem le59 : (59 : Int32) ≤ nI 59 := nI_le (Nat.le_refl _) (by decide)
theorem ge64 {j : Nat} (h : j < 64) : ¬ (64 : Int32) ≤ nI j := nI_ge (b := 64) h (by decide)
theorem le64 : (64 : Int32) ≤ nI 64 := nI_le (Nat.le_refl _) (by decide)
theorem ge256 {j : Nat} (h : j < 256) : ¬ (256 : Int32) ≤ nI j := nI_ge (b := 256) h (by decide)
theorem le256 : (256 : Int32) ≤ nI 256 := nI_le (Nat.le_refl _) (by decide)
theorem ad0 {j : Nat} : (0 : Int32) + nI j = nI (0 + j) := nI_add 0 j
theorem al0 {α : Type} {f : Nat → Int32} {k : Int32 → Option α} {j : Nat} (h : j < 8) : ald 59 f ((0 : Int32) + nI j) k = k (f (0 + j)) := by rw [ad0, ald_nI (by omega) (by decide)]
theorem as0 {α : Type} {k : Option α} {j : Nat} (h : j < 8) : ast 59 ((0 : Int32) + nI j) k = k := by rw [ad0, ast_nI (by omega) (by decide)]
theorem cl0 {j : Nat} (h : j < 8) : ((0 : Int32) + nI j).toNatClampNeg = 0 + j := by rw [ad0, nI_clamp (by omega)]
theorem ad8 {j : Nat} : (8 : Int32) + nI j = nI (8 + j) := nI_add 8 j
theorem al8 {α : Type} {f : Nat → Int32} {k : Int32 → Option α} {j : Nat} (h : j < 8) : ald 59 f ((8 : Int32) + nI j) k = k (f (8 + j)) := by rw [ad8, ald_nI (by omega) (by decide)]
theorem as8 {α : Type} {k : Option α} {j : Nat} (h : j < 8) : ast 59 ((8 : Int32) + nI j) k = k := by rw [ad8, ast_nI (by omega) (by decide)]
theorem cl8 {j : Nat} (h : j < 8) : ((8 : Int32) + nI j).toNatClampNeg = 8 + j := by rw [ad8, nI_clamp (by omega)]
theorem ad16 {j : Nat} : (16 : Int32) + nI j = nI (16 + j) := nI_add 16 j
theorem al16 {α : Type} {f : Nat → Int32} {k : Int32 → Option α} {j : Nat} (h : j < 8) : ald 59 f ((16 : Int32) + nI j) k = k (f (16 + j)) := by rw [ad16, ald_nI (by omega) (by decide)]
theorem as16 {α : Type} {k : Option α} {j : Nat} (h : j < 8) : ast 59 ((16 : Int32) + nI j) k = k := by rw [ad16, ast_nI (by omega) (by decide)]
theorem cl16 {j : Nat} (h : j < 8) : ((16 : Int32) + nI j).toNatClampNeg = 16 + j := by rw [ad16, nI_clamp (by omega)]
theorem ad24 {j : Nat} : (24 : Int32) + nI j = nI (24 + j) := nI_add 24 j
theorem al24 {α : Type} {f : Nat → Int32} {k : Int32 → Option α} {j : Nat} (h : j < 8) : ald 59 f ((24 : Int32) + nI j) k = k (f (24 + j)) := by rw [ad24, ald_nI (by omega) (by decide)]
theorem as24 {α : Type} {k : Option α} {j : Nat} (h : j < 8) : ast 59 ((24 : Int32) + nI j) k = k := by rw [ad24, ast_nI (by omega) (by decide)]
theorem cl24 {j : Nat} (h : j < 8) : ((24 : Int32) + nI j).toNatClampNeg = 24 + j := by rw [ad24, nI_clamp (by omega)]
theorem ad32 {j : Nat} : (32 : Int32) + nI j = nI (32 + j) := nI_add 32 j
theorem al32 {α : Type} {f : Nat → Int32} {k : Int32 → Option α} {j : Nat} (h : j < 8) : ald 59 f ((32 : Int32) + nI j) k = k (f (32 + j)) := by rw [ad32, ald_nI (by omega) (by decide)]
theorem as32 {α : Type} {k : Option α} {j : Nat} (h : j < 8) : ast 59 ((32 : Int32) + nI j) k = k := by rw [ad32, ast_nI (by omega) (by decide)]
theorem cl32 {j : Nat} (h : j < 8) : ((32 : Int32) + nI j).toNatClampNeg = 32 + j := by rw [ad32, nI_clamp (by omega)]
theorem ad40 {j : Nat} : (40 : Int32) + nI j = nI (40 + j) := nI_add 40 j
theorem al40 {α : Type} {f : Nat → Int32} {k : Int32 → Option α} {j : Nat} (h : j < 8) : ald 59 f ((40 : Int32) + nI j) k = k (f (40 + j)) := by rw [ad40, ald_nI (by omega) (by decide)]
theorem as40 {α : Type} {k : Option α} {j : Nat} (h : j < 8) : ast 59 ((40 : Int32) + nI j) k = k := by rw [ad40, ast_nI (by omega) (by decide)]
theorem cl40 {j : Nat} (h : j < 8) : ((40 : Int32) + nI j).toNatClampNeg = 40 + j := by rw [ad40, nI_clamp (by omega)]
theorem ad48 {j : Nat} : (48 : Int32) + nI j = nI (48 + j) := nI_add 48 j
theorem al48 {α : Type} {f : Nat → Int32} {k : Int32 → Option α} {j : Nat} (h : j < 8) : ald 59 f ((48 : Int32) + nI j) k = k (f (48 + j)) := by rw [ad48, ald_nI (by omega) (by decide)]
theorem as48 {α : Type} {k : Option α} {j : Nat} (h : j < 8) : ast 59 ((48 : Int32) + nI j) k = k := by rw [ad48, ast_nI (by omega) (by decide)]
theorem cl48 {j : Nat} (h : j < 8) : ((48 : Int32) + nI j).toNatClampNeg = 48 + j := by rw [ad48, nI_clamp (by omega)]
theorem ah {α : Type} {f : Nat → Int32} {k : Int32 → Option α} {j : Nat} (h : j < 8) : ald 8 f (nI j) k = k (f j) := ald_nI h (by decide)
theorem sh {α : Type} {k : Option α} {j : Nat} (h : j < 8) : ast 8 (nI j) k = k := ast_nI h (by decide)
theorem ch {j : Nat} (h : j < 8) : (nI j).toNatClampNeg = j := nI_clamp (by omega)
theorem FU8 : FU = 69991 + 1 + 8 := rfl
theorem FU59 : FU = 69940 + 1 + 59 := rfl
theorem FU64 : FU = 69935 + 1 + 64 := rfl
/-! getters and setters -/
section GS
variable {σ : Mst} {k j : Nat} {v i : Int32}
theorem gF_sF (h : j ≠ k) : gF (sF σ k v) j = gF σ j := up_n h
theorem gF_sFs : gF (sF σ k v) k = v := up_s
theorem gF_sA : gF (sA σ k i v) j = gF σ j := rfl
theorem gA_sF : gA (sF σ k v) j = gA σ j := rfl
theorem gA_sA (h : j ≠ k) : gA (sA σ k i v) j = gA σ j := up_n h
theorem gA_sAs : gA (sA σ k i v) k = upd (gA σ k) i.toNatClampNeg v := up_s
end GS
/-- the reference with another row in earnest, other askers, another pile -/
def mk (σ : Mst) (a : Nat → Int32) (i j : Int32) (p : Nat → Int32) : Mst := (va_up (va_up σ.1 38 i) 39 j, va_up (va_up σ.2.1 40 a) 31 p, σ.2.2)
section MK
variable {σ : Mst} {a p : Nat → Int32} {i j v x : Int32} {k : Nat}
theorem up_up {α : Type} {f : Nat → α} {k : Nat} {v w : α} : va_up (va_up f k v) k w = va_up f k w := by
  funext q; by_cases h : q = k <;> simp [va_up, h]
theorem up_sw {α : Type} {f : Nat → α} {k l : Nat} {v w : α} (h : k ≠ l) : va_up (va_up f k v) l w = va_up (va_up f l w) k v := by
  funext q
  by_cases h1 : q = k
  · subst h1; simp [va_up, h]
  · by_cases h2 : q = l
    · subst h2; simp [va_up, h1]
    · simp [va_up, h1, h2]
theorem up_id {α : Type} {f : Nat → α} {k : Nat} : va_up f k (f k) = f := by
  funext q; by_cases h : q = k <;> simp [va_up, h]
theorem mk_id : mk σ (gA σ 40) (gF σ 38) (gF σ 39) (gA σ 31) = σ := by
  show (va_up (va_up σ.1 38 (σ.1 38)) 39 (σ.1 39), va_up (va_up σ.2.1 40 (σ.2.1 40)) 31 (σ.2.1 31), σ.2.2) = σ
  rw [up_id, up_id, up_id, up_id]
theorem mk_a : gA (mk σ a i j p) 40 = a := by show va_up (va_up σ.2.1 40 a) 31 p 40 = a; rw [up_n (by decide), up_s]
theorem mk_p : gA (mk σ a i j p) 31 = p := by show va_up (va_up σ.2.1 40 a) 31 p 31 = p; rw [up_s]
theorem mk_A (h : k ≠ 40) (h2 : k ≠ 31) : gA (mk σ a i j p) k = gA σ k := by show va_up (va_up σ.2.1 40 a) 31 p k = _; rw [up_n h2, up_n h]; rfl
theorem mk_F (h : k ≠ 38) (h2 : k ≠ 39) : gF (mk σ a i j p) k = gF σ k := by show va_up (va_up σ.1 38 i) 39 j k = _; rw [up_n h2, up_n h]; rfl
theorem mk_38 : gF (mk σ a i j p) 38 = i := by show va_up (va_up σ.1 38 i) 39 j 38 = i; rw [up_n (by decide), up_s]
theorem mk_39 : gF (mk σ a i j p) 39 = j := by show va_up (va_up σ.1 38 i) 39 j 39 = j; rw [up_s]
theorem mk_L : gL (mk σ a i j p) = gL σ := rfl
theorem mk_N : gN (mk σ a i j p) = gN σ := rfl
theorem mk_s40 : sA (mk σ a i j p) 40 x v = mk σ (upd a x.toNatClampNeg v) i j p := by
  unfold mk sA
  simp only
  rw [up_n (by decide), up_s, up_sw (by decide : (31 : Nat) ≠ 40), up_up]
theorem mk_s31 : sA (mk σ a i j p) 31 x v = mk σ a i j (upd p x.toNatClampNeg v) := by
  unfold mk sA
  simp only
  rw [up_s, up_up]
theorem mk_s38 : sF (mk σ a i j p) 38 v = mk σ a v j p := by
  unfold mk sF
  simp only
  rw [up_sw (by decide : (39 : Nat) ≠ 38), up_up]
theorem mk_s39 : sF (mk σ a i j p) 39 v = mk σ a i v p := by
  unfold mk sF
  simp only
  rw [up_up]
end MK
