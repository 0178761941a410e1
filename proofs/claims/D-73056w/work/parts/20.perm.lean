/-! WORLDS in another order; copies of arrays -/
def wA (σ : Hst) (k : Nat) (f : Nat → Int32) : Hst := (σ.1, va_up σ.2 k f)
section PERM
variable {p : Program} {l : Launch} {e : Env} {R : Room} {s : State} {m : MethodId} {args : Array Value} {below : List Frame} {meth : Method} {c : Code} {H : Heap} {locs : List Loc} {cells slots : Nat} {Q : State → Prop}
variable {cc : ByteArray} {pc nL : Nat} {ls : Array Slot} {rest : List Value} {D : va_G} {dA : Nat → ClassId} {A : Nat → Prop} {ws ws' : va_W} {own : String} {α : Type} {q : α}
theorem va_P.perm {cl : List vw_C} (hp : ws.Perm ws') (h : va_P D cl ws H) : va_P D cl ws' H := by
  intro k z hk
  obtain ⟨j, hj⟩ := List.getElem?_of_mem (hp.mem_iff.mpr (List.mem_of_getElem? hk))
  exact h j z hj
theorem va_D.iff : va_D A ws ↔ (ws.map (fun z => z.1)).Nodup ∧ ∀ z ∈ ws, A z.1 := by
  constructor
  · rintro ⟨h1, h2⟩
    refine ⟨?_, fun z hz => ?_⟩
    · rw [List.nodup_iff_pairwise_ne, List.pairwise_iff_getElem]
      intro i j hi hj hij he
      have hi' : i < ws.length := by simpa using hi
      have hj' : j < ws.length := by simpa using hj
      have := h1 i j ws[i] ws[j] (List.getElem?_eq_getElem hi') (List.getElem?_eq_getElem hj') (by simpa using he)
      omega
    · obtain ⟨k, hk⟩ := List.getElem?_of_mem hz
      exact h2 k z hk
  · rintro ⟨h1, h2⟩
    refine ⟨fun i j x y hi hj hxy => ?_, fun k z hk => h2 z (List.mem_of_getElem? hk)⟩
    have h3 : (ws.map (fun z => z.1))[i]? = some x.1 := by rw [List.getElem?_map, hi]; rfl
    have h4 : (ws.map (fun z => z.1))[j]? = some x.1 := by rw [List.getElem?_map, hj, hxy]; rfl
    obtain ⟨a1, b1⟩ := List.getElem?_eq_some_iff.mp h3
    obtain ⟨a2, b2⟩ := List.getElem?_eq_some_iff.mp h4
    rw [List.nodup_iff_pairwise_ne, List.pairwise_iff_getElem] at h1
    rcases Nat.lt_trichotomy i j with h | h | h
    · exact absurd (b1.trans b2.symm) (h1 i j a1 a2 h)
    · exact h
    · exact absurd (b2.trans b1.symm) (h1 j i a2 a1 h)
theorem va_D.perm (hp : ws.Perm ws') (h : va_D A ws) : va_D A ws' := by
  rw [va_D.iff] at h ⊢
  exact ⟨(hp.map _).nodup_iff.mp h.1, fun z hz => h.2 z (hp.mem_iff.mpr hz)⟩
theorem Wd.perm (hp : ws.Perm ws') (h : Wd D dA A s ws H locs) : Wd D dA A s ws' H locs := ⟨h.1.perm hp, h.2.1.perm hp, h.2.2⟩
/-- the second of five runs, then the fifth, ahead of all -/
theorem perm_now (X N T S K P W : va_W) : (X ++ (N ++ (T ++ (S ++ (K ++ (P ++ W)))))).Perm (N ++ (K ++ (P ++ ((X ++ (T ++ S)) ++ W)))) := by
  refine List.perm_append_comm_assoc X N _ |>.trans (List.Perm.append_left N ?_)
  have e1 : X ++ (T ++ (S ++ (K ++ (P ++ W)))) = (X ++ (T ++ S)) ++ (K ++ (P ++ W)) := by simp [List.append_assoc]
  rw [e1]
  refine List.perm_append_comm_assoc _ K _ |>.trans (List.Perm.append_left K ?_)
  exact List.perm_append_comm_assoc _ P _
theorem perm_tried (X N T S K P W : va_W) : (X ++ (N ++ (T ++ (S ++ (K ++ (P ++ W)))))).Perm (T ++ (K ++ (P ++ ((X ++ (N ++ S)) ++ W)))) := by
  refine (List.Perm.append_left X (List.perm_append_comm_assoc N T _)).trans ?_
  exact perm_now X T N S K P W
/-- two runs ahead: T then N; N then T .. -/
theorem perm_tn (X N T S K P W : va_W) : (X ++ (N ++ (T ++ (S ++ (K ++ (P ++ W)))))).Perm (T ++ (N ++ (X ++ (S ++ (K ++ (P ++ W)))))) := by
  refine (List.Perm.append_left X (List.perm_append_comm_assoc N T _)).trans ?_
  refine (List.perm_append_comm_assoc X T _).trans (List.Perm.append_left T ?_)
  exact List.perm_append_comm_assoc X N _
theorem g_copyi {σ : Type} (FX : CallFix p m c cc nL s args lw_all own) (hl : ls.size = nL) (hW : Wd D dA A s ws H locs) (q0 q1 : Nat) {index a0 a n0 n1 : Nat} {f g : Nat → Int32} (ha0 : ws[q0]? = some (a0, .inl (dA 0, n0, .inl f))) (ha1 : ws[q1]? = some (a, .inl (dA 0, n1, .inl g))) (hlink : Cond.methodLink own index arraycopyName ∈ lw_all)
    {sp dp n : Int32} (h1 : ¬ sp < 0) (h2 : ¬ dp < 0) (h3 : ¬ n < 0) (h4 : sp.toNatClampNeg + n.toNatClampNeg ≤ n0) (h5 : dp.toNatClampNeg + n.toNatClampNeg ≤ n1) (hR : 1 ≤ R.frames ∧ 26 ≤ R.locals) (hrm : (rest.map fun v => v.category).sum ≤ 8)
    {L : σ → va_W} {y : σ} (hset : ws.set q1 (a, .inl (dA 0, n1, .inl (va_cpy f g sp.toNatClampNeg dp.toNatClampNeg n.toNatClampNeg))) = L y) {k : σ → Option α} (hf : stp y k = some q) (hdg : decode cc pc = .ok (.invokestatic index, 3))
    (kk : ∀ (y : σ) (H1 : Heap) (locs1 : List Loc), Wd D dA A s (L y) H1 locs1 → k y = some q → W p l e R s m args below meth c H1 locs1 cells slots Q (F0 m (pc + 3) ls rest)) : W p l e R s m args below meth c H locs cells slots Q (F0 m pc ls (.int n :: .int dp :: .ref a :: .int sp :: .ref a0 :: rest)) := by
  obtain ⟨hP, hD, hS, hK, hA⟩ := hW
  refine va_copyi (ty := .int) FX.1 FX.2.1 (FX.2.2.1.trans hl.symm) FX.2.2.2.1 (FX.2.2.2.2 _ hlink) (FX.2.2.2.2 _ q594) (FX.2.2.2.2 _ q593) (FX.2.2.2.2 _ q141) hK hP hD hS q0 q1 0 0 ha0 ha1 rfl rfl rfl h1 h2 h3 h4 h5 (fun _ _ => rfl) hR.1 (Nat.le_trans (Nat.add_le_add_right hrm _) hR.2) hdg (fun H1 locs1 e1 e2 e3 => ?_)
  rw [hset] at e1 e2
  exact kk y H1 locs1 ⟨e1, e2, e3, hK, hA⟩ hf
end PERM
