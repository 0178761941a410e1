/-! the free heap's operations, as functions and as rows -/
section OPS
variable {p : Program} {l : Launch} {e : Env} {R : Room} {s : State} {m : MethodId} {args : Array Value} {below : List Frame} {meth : Method} {c : Code} {H : Heap} {locs : List Loc} {cells slots : Nat} {Q : State → Prop}
variable {cc : ByteArray} {pc nL : Nat} {ls : Array Slot} {rest : List Value} {D : va_G} {dA : Nat → ClassId} {A : Nat → Prop} {ws w1 : va_W} {g : Gs} {own : String} {α : Type} {q : α} {a : Nat}
/-- a field that holds a cell -/
def pgR (ws : va_W) (a ci k : Nat) (K : Nat → Option α) : Option α := match hlk ws a with
  | some (.inr (c, fs)) => if c = ci then (match fs[k]? with
    | some (.ref v) => K v
    | _ => none) else none
  | _ => none
theorem pgR_some {K : Nat → Option α} {ci k : Nat} (h : pgR ws a ci k K = some q) : ∃ (fs : List Value) (v : Nat), hlk ws a = some (.inr (ci, fs)) ∧ fs[k]? = some (.ref v) ∧ K v = some q := by
  unfold pgR at h
  split at h
  · rename_i c fs he
    by_cases hc : c = ci
    · rw [if_pos hc] at h
      split at h
      · rename_i v hv
        exact ⟨fs, v, by rw [he, hc], hv, h⟩
      · cases h
    · rw [if_neg hc] at h; cases h
  · cases h
/-- a field that holds a cell or nothing -/
def pgQ (ws : va_W) (a ci k : Nat) (K : Option Nat → Option α) : Option α := match hlk ws a with
  | some (.inr (c, fs)) => if c = ci then (match fs[k]? with
    | some (.ref v) => K (some v)
    | some .null => K none
    | _ => none) else none
  | _ => none
theorem pgQ_some {K : Option Nat → Option α} {ci k : Nat} (h : pgQ ws a ci k K = some q) : ∃ (fs : List Value) (v : Option Nat), hlk ws a = some (.inr (ci, fs)) ∧ fs[k]? = some (va_rf v) ∧ K v = some q := by
  unfold pgQ at h
  split at h
  · rename_i c fs he
    by_cases hc : c = ci
    · rw [if_pos hc] at h
      split at h
      · rename_i v hv
        exact ⟨fs, some v, by rw [he, hc], hv, h⟩
      · rename_i hv
        exact ⟨fs, none, by rw [he, hc], hv, h⟩
      · cases h
    · rw [if_neg hc] at h; cases h
  · cases h
/-- a field is written -/
def ppt (ws : va_W) (a ci k : Nat) (v : Value) (K : va_W → Option α) : Option α := match hlk ws a with
  | some (.inr (c, fs)) => if c = ci ∧ k < fs.length then K (hup ws a (.inr (ci, fs.set k v))) else none
  | _ => none
theorem ppt_some {K : va_W → Option α} {ci k : Nat} {v : Value} (h : ppt ws a ci k v K = some q) : ∃ fs : List Value, hlk ws a = some (.inr (ci, fs)) ∧ k < fs.length ∧ K (hup ws a (.inr (ci, fs.set k v))) = some q := by
  unfold ppt at h
  split at h
  · rename_i c fs he
    by_cases hc : c = ci ∧ k < fs.length
    · rw [if_pos hc] at h
      exact ⟨fs, by rw [he, hc.1], hc.2, h⟩
    · rw [if_neg hc] at h; cases h
  · cases h
/-- an array of ints, bytes .. (t: its class) is read -/
def hald (ws : va_W) (t a : Nat) (i : Int32) (K : Int32 → Option α) : Option α := match hlk ws a with
  | some (.inl (cA, n, .inl f)) => if cA = t then ald n f i K else none
  | _ => none
theorem hald_some {K : Int32 → Option α} {t : Nat} {i : Int32} (h : hald ws t a i K = some q) : ∃ (n : Nat) (f : Nat → Int32), hlk ws a = some (.inl (t, n, .inl f)) ∧ ald n f i K = some q := by
  unfold hald at h
  split at h
  · rename_i cA n f he
    by_cases hc : cA = t
    · rw [if_pos hc] at h
      exact ⟨n, f, by rw [he, hc], h⟩
    · rw [if_neg hc] at h; cases h
  · cases h
def hast (ws : va_W) (t a : Nat) (i v : Int32) (K : va_W → Option α) : Option α := match hlk ws a with
  | some (.inl (cA, n, .inl f)) => if cA = t then ast n i (K (hup ws a (.inl (t, n, .inl (upd f i.toNatClampNeg v))))) else none
  | _ => none
theorem hast_some {K : va_W → Option α} {t : Nat} {i v : Int32} (h : hast ws t a i v K = some q) : ∃ (n : Nat) (f : Nat → Int32), hlk ws a = some (.inl (t, n, .inl f)) ∧ vp_in i n ∧ K (hup ws a (.inl (t, n, .inl (upd f i.toNatClampNeg v)))) = some q := by
  unfold hast at h
  split at h
  · rename_i cA n f he
    by_cases hc : cA = t
    · rw [if_pos hc] at h
      obtain ⟨h1, h2⟩ := ast_some h
      exact ⟨n, f, by rw [he, hc], h1, h2⟩
    · rw [if_neg hc] at h; cases h
  · cases h
def hlen (ws : va_W) (t a : Nat) (K : Int32 → Option α) : Option α := match hlk ws a with
  | some (.inl (cA, x)) => if cA = t then K (Int32.ofNat x.1) else none
  | _ => none
theorem hlen_some {K : Int32 → Option α} {t : Nat} (h : hlen ws t a K = some q) : ∃ x : vp_A, hlk ws a = some (.inl (t, x)) ∧ K (Int32.ofNat x.1) = some q := by
  unfold hlen at h
  split at h
  · rename_i cA x he
    by_cases hc : cA = t
    · rw [if_pos hc] at h
      exact ⟨x, by rw [he, hc], h⟩
    · rw [if_neg hc] at h; cases h
  · cases h
/-- room for what is made -/
def gck (c y C Y : Nat) (k : Option α) : Option α := if c ≤ C ∧ y ≤ Y then k else none
theorem gck_some {c y C Y : Nat} {k : Option α} (h : gck c y C Y k = some q) : (c ≤ C ∧ y ≤ Y) ∧ k = some q := by
  unfold gck at h
  by_cases hc : c ≤ C ∧ y ≤ Y
  · rw [if_pos hc] at h; exact ⟨hc, h⟩
  · rw [if_neg hc] at h; cases h
/-- n is no negative length, and not too great -/
def gsz (n : Int32) (k : Nat → Option α) : Option α := if n < 0 ∨ 100000 < n.toNatClampNeg then none else k n.toNatClampNeg
theorem gsz_some {n : Int32} {k : Nat → Option α} (h : gsz n k = some q) : ¬ n < 0 ∧ n.toNatClampNeg ≤ 100000 ∧ k n.toNatClampNeg = some q := by
  unfold gsz at h
  by_cases hc : n < 0 ∨ 100000 < n.toNatClampNeg
  · rw [if_pos hc] at h; cases h
  · rw [if_neg hc] at h
    exact ⟨fun z => hc (Or.inl z), by omega, h⟩
theorem o_bald (FX : CallFix p m c cc nL s args lw_all own) (hW : Wd D dA A s ws H locs) {i : Int32} {K : Int32 → Option α} (hf : hald ws (dA 1) a i K = some q) (hdg : decode cc pc = .ok (.baload, 1)) (kk : ∀ v : Int32, K v = some q → W p l e R s m args below meth c H locs cells slots Q (F0 m (pc + 1) ls (.int v :: rest))) : W p l e R s m args below meth c H locs cells slots Q (F0 m pc ls (.int i :: .ref a :: rest)) := by
  obtain ⟨n, f, he, hf⟩ := hald_some hf
  obtain ⟨k, hk⟩ := hlk_get he
  exact g_bald FX hW k hk hf hdg kk
theorem o_iald (FX : CallFix p m c cc nL s args lw_all own) (hW : Wd D dA A s ws H locs) {i : Int32} {K : Int32 → Option α} (hf : hald ws (dA 0) a i K = some q) (hdg : decode cc pc = .ok (.iaload, 1)) (kk : ∀ v : Int32, K v = some q → W p l e R s m args below meth c H locs cells slots Q (F0 m (pc + 1) ls (.int v :: rest))) : W p l e R s m args below meth c H locs cells slots Q (F0 m pc ls (.int i :: .ref a :: rest)) := by
  obtain ⟨n, f, he, hf⟩ := hald_some hf
  obtain ⟨k, hk⟩ := hlk_get he
  exact g_iald FX hW k hk hf hdg kk
theorem o_len (FX : CallFix p m c cc nL s args lw_all own) (hW : Wd D dA A s ws H locs) (t0 : Nat) {ty : FieldType} (ht : (tysG dA)[t0]? = some (dA t0, ty)) {K : Int32 → Option α} (hf : hlen ws (dA t0) a K = some q) (hdg : decode cc pc = .ok (.arraylength, 1)) (kk : ∀ v : Int32, K v = some q → W p l e R s m args below meth c H locs cells slots Q (F0 m (pc + 1) ls (.int v :: rest))) : W p l e R s m args below meth c H locs cells slots Q (F0 m pc ls (.ref a :: rest)) := by
  obtain ⟨x, he, hf⟩ := hlen_some hf
  obtain ⟨k, hk⟩ := hlk_get he
  exact va_alen FX.1 FX.2.1 hW.2.2.2.1 hW.1 k t0 hk ht rfl hdg (kk _ hf)
theorem o_bast {w : va_W} {z c0 y0 : Nat} (FX : CallFix p m c cc nL s args lw_all own) (hW : Wz D dA A s (w, z, c0, y0) H locs) {i x : Int32} {K : va_W → Option α} (hf : hast w (dA 1) a i (vp_nar .byte x) K = some q) (hdg : decode cc pc = .ok (.bastore, 1)) (kk : ∀ (w1 : va_W) (H1 : Heap) (locs1 : List Loc), Wz D dA A s (w1, z, c0, y0) H1 locs1 → K w1 = some q → W p l e R s m args below meth c H1 locs1 cells slots Q (F0 m (pc + 1) ls rest)) : W p l e R s m args below meth c H locs cells slots Q (F0 m pc ls (.int x :: .int i :: .ref a :: rest)) := by
  obtain ⟨n, f, he, h1, hf⟩ := hast_some hf
  exact z_bast FX hW he h1 hdg (fun H1 locs1 hW1 => kk _ H1 locs1 hW1 hf)
theorem o_newb {w : va_W} {z : Nat} (FX : CallFix p m c cc nL s args lw_all own) (hW : Wz D dA A s (w, z, cells, slots) H locs) {n : Int32} {K : Nat → Option α} (hf : gsz n K = some q) (hcells : cells + 1 ≤ R.cells) (hslots : slots + n.toNatClampNeg ≤ R.slots) (hdg : decode cc pc = .ok (.newarray .byte, 2))
    (kk : ∀ (N : Nat) (H1 : Heap), N = n.toNatClampNeg → Wz D dA A s (w ++ [(z, .inl (dA 1, N, .inl (fun _ => 0)))], z + 1, cells + 1, slots + N) H1 locs → K N = some q → W p l e R s m args below meth c H1 locs (cells + 1) (slots + N) Q (F0 m (pc + 2) ls (.ref z :: rest))) : W p l e R s m args below meth c H locs cells slots Q (F0 m pc ls (.int n :: rest)) := by
  obtain ⟨h1, h2, hf⟩ := gsz_some hf
  refine z_newb FX hW h1 (by omega) hcells hslots hdg (fun H1 hW1 => ?_)
  exact kk _ H1 rfl ⟨hW1.1, hW1.2⟩ hf
end OPS
