/-! copies between the pool's houses, now and spare: worlds in another order -/
section PCOPY
variable {H : Heap} {locs : List Loc} {D : va_G} {dA : Nat → ClassId} {A : Nat → Prop} {s : State}
variable {t0 : Nat} {ad : Nat → Nat} {B : Bk} {ha : Nat → Nat} {hb : Nat → Nat → Nat} {wr : va_W} {σ : Pst} {j : Nat}
def Wb (dA : Nat → ClassId) (ad ha : Nat → Nat) (f : Nat → Option Nat) : va_W := [(ad 9, .inl (dA 5, 40, .inr (.inr (.inr (.inr f))))), (ad 24, .inl (dA 5, 3, .inr (.inr (.inr (.inr (bxF ha))))))]
theorem Px_eq2 : Px dA t0 ad B ha hb wr σ = Dsx dA t0 ad B σ.1 ++ (Dsh dA (ad 5) (adN ad) (tN σ.1) ++ (Dsh dA (ad 7) (adT ad) (tT σ.1) ++ (Dsh dA (ad 6) (adS ad) (tS σ.1) ++ (Dsk dA B (tU σ.1) ++ (bP B ++ (Wb dA ad ha σ.2.1 ++ (hpool dA ha hb σ.2.2 ++ wr))))))) := rfl
/-- a pool's house, then now -/
theorem pm_pn {γ : Type} {X N T S K P Wz Hp Hj Hr W : List γ} (h : Hp.Perm (Hj ++ Hr)) : (X ++ (N ++ (T ++ (S ++ (K ++ (P ++ (Wz ++ (Hp ++ W)))))))).Perm (Hj ++ (N ++ (X ++ (T ++ (S ++ (K ++ (P ++ (Wz ++ (Hr ++ W))))))))) := by
  classical
  rw [List.perm_iff_count]
  intro a
  have h1 := h.count_eq a
  simp only [List.count_append] at h1 ⊢
  omega
theorem pm_np {γ : Type} {X N T S K P Wz Hp Hj Hr W : List γ} (h : Hp.Perm (Hj ++ Hr)) : (X ++ (N ++ (T ++ (S ++ (K ++ (P ++ (Wz ++ (Hp ++ W)))))))).Perm (N ++ (Hj ++ (X ++ (T ++ (S ++ (K ++ (P ++ (Wz ++ (Hr ++ W))))))))) := by
  classical
  rw [List.perm_iff_count]
  intro a
  have h1 := h.count_eq a
  simp only [List.count_append] at h1 ⊢
  omega
theorem pm_sp {γ : Type} {X N T S K P Wz Hp Hj Hr W : List γ} (h : Hp.Perm (Hj ++ Hr)) : (X ++ (N ++ (T ++ (S ++ (K ++ (P ++ (Wz ++ (Hp ++ W)))))))).Perm (S ++ (Hj ++ (X ++ (N ++ (T ++ (K ++ (P ++ (Wz ++ (Hr ++ W))))))))) := by
  classical
  rw [List.perm_iff_count]
  intro a
  have h1 := h.count_eq a
  simp only [List.count_append] at h1 ⊢
  omega
theorem pm_ns {γ : Type} {X N T S K P W : List γ} : (X ++ (N ++ (T ++ (S ++ (K ++ (P ++ W)))))).Perm (N ++ (S ++ (X ++ (T ++ (K ++ (P ++ W)))))) := by
  classical
  rw [List.perm_iff_count]
  intro a
  simp only [List.count_append]
  omega
abbrev rpn (dA : Nat → ClassId) (t0 : Nat) (ad : Nat → Nat) (B : Bk) (ha : Nat → Nat) (hb : Nat → Nat → Nat) (wr : va_W) (σ : Pst) (j : Nat) : va_W := Dsx dA t0 ad B σ.1 ++ (Dsh dA (ad 7) (adT ad) (tT σ.1) ++ (Dsh dA (ad 6) (adS ad) (tS σ.1) ++ (Dsk dA B (tU σ.1) ++ (bP B ++ (Wb dA ad ha σ.2.1 ++ (hrest dA ha hb σ.2.2 j ++ wr))))))
abbrev rsp (dA : Nat → ClassId) (t0 : Nat) (ad : Nat → Nat) (B : Bk) (ha : Nat → Nat) (hb : Nat → Nat → Nat) (wr : va_W) (σ : Pst) (j : Nat) : va_W := Dsx dA t0 ad B σ.1 ++ (Dsh dA (ad 5) (adN ad) (tN σ.1) ++ (Dsh dA (ad 7) (adT ad) (tT σ.1) ++ (Dsk dA B (tU σ.1) ++ (bP B ++ (Wb dA ad ha σ.2.1 ++ (hrest dA ha hb σ.2.2 j ++ wr))))))
theorem P_pn_in (hj : j < 43) (hW : Wd D dA A s (Px dA t0 ad B ha hb wr σ) H locs) : Wd D dA A s (H2x dA (ha j) (hb j) (ad 5) (adN ad) (rpn dA t0 ad B ha hb wr σ j) (σ.2.2 j, tN σ.1)) H locs := by
  rw [Px_eq2] at hW
  exact hW.perm (pm_pn (hpool_split dA ha hb σ.2.2 hj))
theorem P_pn_out (hj : j < 43) {h : Hst × Hst} (hW : Wd D dA A s (H2x dA (ha j) (hb j) (ad 5) (adN ad) (rpn dA t0 ad B ha hb wr σ j) h) H locs) : Wd D dA A s (Px dA t0 ad B ha hb wr (xN σ.1 h.2, σ.2.1, va_up σ.2.2 j h.1)) H locs := by
  rw [Px_eq2]
  have h1 := hpool_split dA ha hb (va_up σ.2.2 j h.1) hj
  rw [hrest_up, va_up_self] at h1
  exact hW.perm (pm_pn h1).symm
theorem P_np_in (hj : j < 43) (hW : Wd D dA A s (Px dA t0 ad B ha hb wr σ) H locs) : Wd D dA A s (H2x dA (ad 5) (adN ad) (ha j) (hb j) (rpn dA t0 ad B ha hb wr σ j) (tN σ.1, σ.2.2 j)) H locs := by
  rw [Px_eq2] at hW
  exact hW.perm (pm_np (hpool_split dA ha hb σ.2.2 hj))
theorem P_np_out (hj : j < 43) {h : Hst × Hst} (hW : Wd D dA A s (H2x dA (ad 5) (adN ad) (ha j) (hb j) (rpn dA t0 ad B ha hb wr σ j) h) H locs) : Wd D dA A s (Px dA t0 ad B ha hb wr (xN σ.1 h.1, σ.2.1, va_up σ.2.2 j h.2)) H locs := by
  rw [Px_eq2]
  have h1 := hpool_split dA ha hb (va_up σ.2.2 j h.2) hj
  rw [hrest_up, va_up_self] at h1
  exact hW.perm (pm_np h1).symm
theorem P_sp_in (hj : j < 43) (hW : Wd D dA A s (Px dA t0 ad B ha hb wr σ) H locs) : Wd D dA A s (H2x dA (ad 6) (adS ad) (ha j) (hb j) (rsp dA t0 ad B ha hb wr σ j) (tS σ.1, σ.2.2 j)) H locs := by
  rw [Px_eq2] at hW
  exact hW.perm (pm_sp (hpool_split dA ha hb σ.2.2 hj))
theorem P_sp_out (hj : j < 43) {h : Hst × Hst} (hW : Wd D dA A s (H2x dA (ad 6) (adS ad) (ha j) (hb j) (rsp dA t0 ad B ha hb wr σ j) h) H locs) : Wd D dA A s (Px dA t0 ad B ha hb wr (xS σ.1 h.1, σ.2.1, va_up σ.2.2 j h.2)) H locs := by
  rw [Px_eq2]
  have h1 := hpool_split dA ha hb (va_up σ.2.2 j h.2) hj
  rw [hrest_up, va_up_self] at h1
  exact hW.perm (pm_sp h1).symm
theorem P_ns_in (hW : Wd D dA A s (Px dA t0 ad B ha hb wr σ) H locs) : Wd D dA A s (H2x dA (ad 5) (adN ad) (ad 6) (adS ad) (Dsx dA t0 ad B σ.1 ++ (Dsh dA (ad 7) (adT ad) (tT σ.1) ++ (Dsk dA B (tU σ.1) ++ (bP B ++ Wc dA ad ha hb wr σ.2)))) (tN σ.1, tS σ.1)) H locs := by
  rw [Px_eq] at hW
  exact hW.perm (pm_ns (γ := Nat × va_E) (X := Dsx dA t0 ad B σ.1) (N := Dsh dA (ad 5) (adN ad) (tN σ.1)) (T := Dsh dA (ad 7) (adT ad) (tT σ.1)) (S := Dsh dA (ad 6) (adS ad) (tS σ.1)) (K := Dsk dA B (tU σ.1)) (P := bP B) (W := Wc dA ad ha hb wr σ.2))
theorem P_ns_out {h : Hst × Hst} (hW : Wd D dA A s (H2x dA (ad 5) (adN ad) (ad 6) (adS ad) (Dsx dA t0 ad B σ.1 ++ (Dsh dA (ad 7) (adT ad) (tT σ.1) ++ (Dsk dA B (tU σ.1) ++ (bP B ++ Wc dA ad ha hb wr σ.2)))) h) H locs) : Wd D dA A s (Px dA t0 ad B ha hb wr (xS (xN σ.1 h.1) h.2, σ.2)) H locs := by
  rw [Px_eq]
  exact hW.perm (pm_ns (γ := Nat × va_E) (X := Dsx dA t0 ad B σ.1) (N := Dsh dA (ad 5) (adN ad) h.1) (T := Dsh dA (ad 7) (adT ad) (tT σ.1)) (S := Dsh dA (ad 6) (adS ad) h.2) (K := Dsk dA B (tU σ.1)) (P := bP B) (W := Wc dA ad ha hb wr σ.2)).symm
end PCOPY
