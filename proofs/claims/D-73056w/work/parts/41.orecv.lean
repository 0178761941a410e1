/-! kind O: receivers; answers that may be thrown -/
theorem othr_inl {α ρ : Type} {r : ρ} {K : ρ → Option α} {X : Nat → Option α} : othr (.inl r) K X = K r := rfl
theorem othr_inr {α ρ : Type} {t : Nat} {K : ρ → Option α} {X : Nat → Option α} : othr (.inr t) K X = X t := rfl
theorem o_recv {D : va_G} {dA : Nat → ClassId} {A : Nat → Prop} {s : State} {w : va_W} {z c0 a ci : Nat} {H : Heap} {locs : List Loc} {r : vw_C} (hW : Wo D dA A s w z c0 H locs) (hc : vwCl[ci]? = some r) (h : ∃ fs : List Value, hlk w a = some (.inr (ci, fs))) : ∃ cell : Cell, H[a]? = some cell ∧ cell.vm.isStatics = false ∧ s.vm.findClass r.1 = some cell.cls := by
  obtain ⟨fs, h⟩ := h
  obtain ⟨k, hk⟩ := hlk_get h
  exact va_recv hW.1.2.2.2.1 hW.1.1 hc hk
