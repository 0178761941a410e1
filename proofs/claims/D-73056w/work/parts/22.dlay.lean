/-! the desk: ints and arrays by their fields' numbers (rows of the grids at 170, 180 and on); now, tried, spare; what is asked of the book -/
abbrev Dst : Type := (Nat → Int32) × (Nat → Nat → Int32) × Hst × Hst × Hst × (Nat → Int32)
def tF (σ : Dst) (k : Nat) : Int32 := σ.1 k
def tA (σ : Dst) (k : Nat) : Nat → Int32 := σ.2.1 k
def tN (σ : Dst) : Hst := σ.2.2.1
def tT (σ : Dst) : Hst := σ.2.2.2.1
def tS (σ : Dst) : Hst := σ.2.2.2.2.1
def tU (σ : Dst) : Nat → Int32 := σ.2.2.2.2.2
def xF (σ : Dst) (k : Nat) (v : Int32) : Dst := (va_up σ.1 k v, σ.2)
def xA (σ : Dst) (k : Nat) (i v : Int32) : Dst := (σ.1, va_up σ.2.1 k (upd (σ.2.1 k) i.toNatClampNeg v), σ.2.2)
def xW (σ : Dst) (k : Nat) (f : Nat → Int32) : Dst := (σ.1, va_up σ.2.1 k f, σ.2.2)
def xN (σ : Dst) (h : Hst) : Dst := (σ.1, σ.2.1, h, σ.2.2.2)
def xT (σ : Dst) (h : Hst) : Dst := (σ.1, σ.2.1, σ.2.2.1, h, σ.2.2.2.2)
def xS (σ : Dst) (h : Hst) : Dst := (σ.1, σ.2.1, σ.2.2.1, σ.2.2.2.1, h, σ.2.2.2.2.2)
def xU (σ : Dst) (u : Nat → Int32) : Dst := (σ.1, σ.2.1, σ.2.2.1, σ.2.2.2.1, σ.2.2.2.2.1, u)
def gR (ad : Nat → Nat) (o : Nat) : Nat → Option Nat := fun r => some (ad (o + r))
/-- a row of a grid -/
def gld {α : Type} (σ : Dst) (o : Nat) (x i : Int32) (k : Int32 → Option α) : Option α := if x < 0 ∨ 4 ≤ x.toNatClampNeg then none else ald 4 (tA σ (o + x.toNatClampNeg)) i k
def gst {α : Type} (x i : Int32) (k : Option α) : Option α := if x < 0 ∨ 4 ≤ x.toNatClampNeg then none else ast 4 i k
def Dx (dA : Nat → ClassId) (t0 : Nat) (ad : Nat → Nat) (B : Bk) (wr : va_W) (σ : Dst) : va_W := [(t0, .inr (0, [.ref (ad 0), .int (tF σ 1), .int (tF σ 2), .int (tF σ 3), .ref (bA B 0), .ref (ad 5), .ref (ad 6), .ref (ad 7), .int (tF σ 8), .ref (ad 9), .int (tF σ 10), .int (tF σ 11), .ref (ad 12), .ref (ad 13), .ref (ad 14), .int (tF σ 15), .int (tF σ 16), .ref (ad 17), .ref (ad 18), .int (tF σ 19), .int (tF σ 20), .ref (ad 21), .ref (ad 22), .ref (ad 23), .ref (ad 24), .ref (ad 25)])), ((ad 0), .inl (dA 1, 1600, .inl (tA σ 0))), ((ad 12), .inl (dA 0, 8, .inl (tA σ 12))), ((ad 13), .inl (dA 0, 8, .inl (tA σ 13))), ((ad 14), .inl (dA 0, 4, .inl (tA σ 14))), ((ad 22), .inl (dA 2, 64, .inl (tA σ 22))), ((ad 23), .inl (dA 0, 7, .inl (tA σ 23))), ((ad 25), .inl (dA 2, 3, .inl (tA σ 25))), ((ad 17), .inl (dA 6, 4, .inr (.inr (.inr (.inr (gR ad 170)))))), ((ad 170), .inl (dA 0, 4, .inl (tA σ 170))), ((ad 171), .inl (dA 0, 4, .inl (tA σ 171))), ((ad 172), .inl (dA 0, 4, .inl (tA σ 172))), ((ad 173), .inl (dA 0, 4, .inl (tA σ 173))), ((ad 18), .inl (dA 6, 4, .inr (.inr (.inr (.inr (gR ad 180)))))), ((ad 180), .inl (dA 0, 4, .inl (tA σ 180))), ((ad 181), .inl (dA 0, 4, .inl (tA σ 181))), ((ad 182), .inl (dA 0, 4, .inl (tA σ 182))), ((ad 183), .inl (dA 0, 4, .inl (tA σ 183))), ((ad 5), .inr (3, [.ref (ad 50), .ref (ad 51), .ref (ad 52), .ref (ad 53), .ref (ad 54), .ref (ad 55), .ref (ad 56), .ref (ad 57), .int (hF (tN σ) 8), .int (hF (tN σ) 9), .int (hF (tN σ) 10), .int (hF (tN σ) 11), .int (hF (tN σ) 12), .int (hF (tN σ) 13)])), ((ad 50), .inl (dA 0, 8, .inl (hA (tN σ) 0))), ((ad 51), .inl (dA 0, 8, .inl (hA (tN σ) 1))), ((ad 52), .inl (dA 0, 8, .inl (hA (tN σ) 2))), ((ad 53), .inl (dA 0, 8, .inl (hA (tN σ) 3))), ((ad 54), .inl (dA 0, 8, .inl (hA (tN σ) 4))), ((ad 55), .inl (dA 0, 8, .inl (hA (tN σ) 5))), ((ad 56), .inl (dA 0, 8, .inl (hA (tN σ) 6))), ((ad 57), .inl (dA 0, 8, .inl (hA (tN σ) 7))), ((ad 7), .inr (3, [.ref (ad 70), .ref (ad 71), .ref (ad 72), .ref (ad 73), .ref (ad 74), .ref (ad 75), .ref (ad 76), .ref (ad 77), .int (hF (tT σ) 8), .int (hF (tT σ) 9), .int (hF (tT σ) 10), .int (hF (tT σ) 11), .int (hF (tT σ) 12), .int (hF (tT σ) 13)])), ((ad 70), .inl (dA 0, 8, .inl (hA (tT σ) 0))), ((ad 71), .inl (dA 0, 8, .inl (hA (tT σ) 1))), ((ad 72), .inl (dA 0, 8, .inl (hA (tT σ) 2))), ((ad 73), .inl (dA 0, 8, .inl (hA (tT σ) 3))), ((ad 74), .inl (dA 0, 8, .inl (hA (tT σ) 4))), ((ad 75), .inl (dA 0, 8, .inl (hA (tT σ) 5))), ((ad 76), .inl (dA 0, 8, .inl (hA (tT σ) 6))), ((ad 77), .inl (dA 0, 8, .inl (hA (tT σ) 7))), ((ad 6), .inr (3, [.ref (ad 60), .ref (ad 61), .ref (ad 62), .ref (ad 63), .ref (ad 64), .ref (ad 65), .ref (ad 66), .ref (ad 67), .int (hF (tS σ) 8), .int (hF (tS σ) 9), .int (hF (tS σ) 10), .int (hF (tS σ) 11), .int (hF (tS σ) 12), .int (hF (tS σ) 13)])), ((ad 60), .inl (dA 0, 8, .inl (hA (tS σ) 0))), ((ad 61), .inl (dA 0, 8, .inl (hA (tS σ) 1))), ((ad 62), .inl (dA 0, 8, .inl (hA (tS σ) 2))), ((ad 63), .inl (dA 0, 8, .inl (hA (tS σ) 3))), ((ad 64), .inl (dA 0, 8, .inl (hA (tS σ) 4))), ((ad 65), .inl (dA 0, 8, .inl (hA (tS σ) 5))), ((ad 66), .inl (dA 0, 8, .inl (hA (tS σ) 6))), ((ad 67), .inl (dA 0, 8, .inl (hA (tS σ) 7))), ((bA B 0), .inr (1, [.ref (bA B 1), .ref (bA B 2), .ref (bA B 3), va_rf (bN B), .int (bI B 0), .int (bI B 1), .int (bI B 2), .int (bI B 3)])), ((bA B 3), .inr (2, [.int (tU σ 0), .int (tU σ 1), .int (tU σ 2), .int (tU σ 3), .int (tU σ 4)])), ((bA B 1), .inr (13, [.int (bI B 4), .ref (bA B 4), .int (bI B 5)])), ((bA B 4), .inl (dA 4, (bA B 6), .inr (.inr (.inr (.inr (bR B)))))), ((bA B 2), .inr (13, [.int (bI B 6), .ref (bA B 5), .int (bI B 7)])), ((bA B 5), .inl (dA 4, (bA B 7), .inr (.inr (.inr (.inr (bT B))))))] ++ (bP B ++ wr)
def Dsx (dA : Nat → ClassId) (t0 : Nat) (ad : Nat → Nat) (B : Bk) (σ : Dst) : va_W := [(t0, .inr (0, [.ref (ad 0), .int (tF σ 1), .int (tF σ 2), .int (tF σ 3), .ref (bA B 0), .ref (ad 5), .ref (ad 6), .ref (ad 7), .int (tF σ 8), .ref (ad 9), .int (tF σ 10), .int (tF σ 11), .ref (ad 12), .ref (ad 13), .ref (ad 14), .int (tF σ 15), .int (tF σ 16), .ref (ad 17), .ref (ad 18), .int (tF σ 19), .int (tF σ 20), .ref (ad 21), .ref (ad 22), .ref (ad 23), .ref (ad 24), .ref (ad 25)])), ((ad 0), .inl (dA 1, 1600, .inl (tA σ 0))), ((ad 12), .inl (dA 0, 8, .inl (tA σ 12))), ((ad 13), .inl (dA 0, 8, .inl (tA σ 13))), ((ad 14), .inl (dA 0, 4, .inl (tA σ 14))), ((ad 22), .inl (dA 2, 64, .inl (tA σ 22))), ((ad 23), .inl (dA 0, 7, .inl (tA σ 23))), ((ad 25), .inl (dA 2, 3, .inl (tA σ 25))), ((ad 17), .inl (dA 6, 4, .inr (.inr (.inr (.inr (gR ad 170)))))), ((ad 170), .inl (dA 0, 4, .inl (tA σ 170))), ((ad 171), .inl (dA 0, 4, .inl (tA σ 171))), ((ad 172), .inl (dA 0, 4, .inl (tA σ 172))), ((ad 173), .inl (dA 0, 4, .inl (tA σ 173))), ((ad 18), .inl (dA 6, 4, .inr (.inr (.inr (.inr (gR ad 180)))))), ((ad 180), .inl (dA 0, 4, .inl (tA σ 180))), ((ad 181), .inl (dA 0, 4, .inl (tA σ 181))), ((ad 182), .inl (dA 0, 4, .inl (tA σ 182))), ((ad 183), .inl (dA 0, 4, .inl (tA σ 183)))]
def Dsh (dA : Nat → ClassId) (a : Nat) (b : Nat → Nat) (h : Hst) : va_W := [(a, .inr (3, [.ref (b 0), .ref (b 1), .ref (b 2), .ref (b 3), .ref (b 4), .ref (b 5), .ref (b 6), .ref (b 7), .int (hF h 8), .int (hF h 9), .int (hF h 10), .int (hF h 11), .int (hF h 12), .int (hF h 13)])), ((b 0), .inl (dA 0, 8, .inl (hA h 0))), ((b 1), .inl (dA 0, 8, .inl (hA h 1))), ((b 2), .inl (dA 0, 8, .inl (hA h 2))), ((b 3), .inl (dA 0, 8, .inl (hA h 3))), ((b 4), .inl (dA 0, 8, .inl (hA h 4))), ((b 5), .inl (dA 0, 8, .inl (hA h 5))), ((b 6), .inl (dA 0, 8, .inl (hA h 6))), ((b 7), .inl (dA 0, 8, .inl (hA h 7)))]
abbrev adN (ad : Nat → Nat) : Nat → Nat := fun k => ad (50 + k)
abbrev adT (ad : Nat → Nat) : Nat → Nat := fun k => ad (70 + k)
abbrev adS (ad : Nat → Nat) : Nat → Nat := fun k => ad (60 + k)
def Dsk (dA : Nat → ClassId) (B : Bk) (u : Nat → Int32) : va_W := [((bA B 0), .inr (1, [.ref (bA B 1), .ref (bA B 2), .ref (bA B 3), va_rf (bN B), .int (bI B 0), .int (bI B 1), .int (bI B 2), .int (bI B 3)])), ((bA B 3), .inr (2, [.int (u 0), .int (u 1), .int (u 2), .int (u 3), .int (u 4)])), ((bA B 1), .inr (13, [.int (bI B 4), .ref (bA B 4), .int (bI B 5)])), ((bA B 4), .inl (dA 4, (bA B 6), .inr (.inr (.inr (.inr (bR B)))))), ((bA B 2), .inr (13, [.int (bI B 6), .ref (bA B 5), .int (bI B 7)])), ((bA B 5), .inl (dA 4, (bA B 7), .inr (.inr (.inr (.inr (bT B))))))]
section FOC
variable {p : Program} {l : Launch} {e : Env} {R : Room} {s : State} {m : MethodId} {args : Array Value} {below : List Frame} {meth : Method} {c : Code} {H : Heap} {locs : List Loc} {cells slots : Nat} {Q : State → Prop}
variable {own : String} {cc : ByteArray} {pc nL : Nat} {ls : Array Slot} {rest : List Value} {D : va_G} {dA : Nat → ClassId} {A : Nat → Prop}
variable {t0 : Nat} {ad : Nat → Nat} {B : Bk} {wr : va_W} {σ : Dst}
theorem Dx_eq : Dx dA t0 ad B wr σ = Dsx dA t0 ad B σ ++ (Dsh dA (ad 5) (adN ad) (tN σ) ++ (Dsh dA (ad 7) (adT ad) (tT σ) ++ (Dsh dA (ad 6) (adS ad) (tS σ) ++ (Dsk dA B (tU σ) ++ (bP B ++ wr))))) := rfl
theorem D_now_in (hW : Wd D dA A s (Dx dA t0 ad B wr σ) H locs) : Wd D dA A s (HBx dA (ad 5) (adN ad) B ((Dsx dA t0 ad B σ ++ (Dsh dA (ad 7) (adT ad) (tT σ) ++ Dsh dA (ad 6) (adS ad) (tS σ))) ++ wr) (tN σ, tU σ)) H locs := by
  rw [Dx_eq] at hW
  exact hW.perm (perm_now _ _ _ _ _ _ _)
theorem D_now_out {h : Hst × (Nat → Int32)} (hW : Wd D dA A s (HBx dA (ad 5) (adN ad) B ((Dsx dA t0 ad B σ ++ (Dsh dA (ad 7) (adT ad) (tT σ) ++ Dsh dA (ad 6) (adS ad) (tS σ))) ++ wr) h) H locs) : Wd D dA A s (Dx dA t0 ad B wr (xU (xN σ h.1) h.2)) H locs := by
  rw [Dx_eq]
  exact hW.perm (perm_now _ _ _ _ _ _ _).symm
theorem D_now_outH {h : Hst} (hW : Wd D dA A s (HBx dA (ad 5) (adN ad) B ((Dsx dA t0 ad B σ ++ (Dsh dA (ad 7) (adT ad) (tT σ) ++ Dsh dA (ad 6) (adS ad) (tS σ))) ++ wr) (h, tU σ)) H locs) : Wd D dA A s (Dx dA t0 ad B wr (xN σ h)) H locs := D_now_out (h := (h, tU σ)) hW
theorem D_now_outR (hW : Wd D dA A s (HBx dA (ad 5) (adN ad) B ((Dsx dA t0 ad B σ ++ (Dsh dA (ad 7) (adT ad) (tT σ) ++ Dsh dA (ad 6) (adS ad) (tS σ))) ++ wr) (tN σ, tU σ)) H locs) : Wd D dA A s (Dx dA t0 ad B wr σ) H locs := D_now_out (h := (tN σ, tU σ)) hW
theorem D_tried_in (hW : Wd D dA A s (Dx dA t0 ad B wr σ) H locs) : Wd D dA A s (HBx dA (ad 7) (adT ad) B ((Dsx dA t0 ad B σ ++ (Dsh dA (ad 5) (adN ad) (tN σ) ++ Dsh dA (ad 6) (adS ad) (tS σ))) ++ wr) (tT σ, tU σ)) H locs := by
  rw [Dx_eq] at hW
  exact hW.perm (perm_tried _ _ _ _ _ _ _)
theorem D_tried_out {h : Hst × (Nat → Int32)} (hW : Wd D dA A s (HBx dA (ad 7) (adT ad) B ((Dsx dA t0 ad B σ ++ (Dsh dA (ad 5) (adN ad) (tN σ) ++ Dsh dA (ad 6) (adS ad) (tS σ))) ++ wr) h) H locs) : Wd D dA A s (Dx dA t0 ad B wr (xU (xT σ h.1) h.2)) H locs := by
  rw [Dx_eq]
  exact hW.perm (perm_tried _ _ _ _ _ _ _).symm
theorem D_tried_outH {h : Hst} (hW : Wd D dA A s (HBx dA (ad 7) (adT ad) B ((Dsx dA t0 ad B σ ++ (Dsh dA (ad 5) (adN ad) (tN σ) ++ Dsh dA (ad 6) (adS ad) (tS σ))) ++ wr) (h, tU σ)) H locs) : Wd D dA A s (Dx dA t0 ad B wr (xT σ h)) H locs := D_tried_out (h := (h, tU σ)) hW
theorem D_tried_outR (hW : Wd D dA A s (HBx dA (ad 7) (adT ad) B ((Dsx dA t0 ad B σ ++ (Dsh dA (ad 5) (adN ad) (tN σ) ++ Dsh dA (ad 6) (adS ad) (tS σ))) ++ wr) (tT σ, tU σ)) H locs) : Wd D dA A s (Dx dA t0 ad B wr σ) H locs := D_tried_out (h := (tT σ, tU σ)) hW
theorem D_tried_now_in (hW : Wd D dA A s (Dx dA t0 ad B wr σ) H locs) : Wd D dA A s (H2x dA (ad 7) (adT ad) (ad 5) (adN ad) (Dsx dA t0 ad B σ ++ (Dsh dA (ad 6) (adS ad) (tS σ) ++ (Dsk dA B (tU σ) ++ (bP B ++ wr)))) (tT σ, tN σ)) H locs := by
  rw [Dx_eq] at hW
  exact hW.perm (perm_tn _ _ _ _ _ _ _)
theorem D_tried_now_out {h : Hst × Hst} (hW : Wd D dA A s (H2x dA (ad 7) (adT ad) (ad 5) (adN ad) (Dsx dA t0 ad B σ ++ (Dsh dA (ad 6) (adS ad) (tS σ) ++ (Dsk dA B (tU σ) ++ (bP B ++ wr)))) h) H locs) : Wd D dA A s (Dx dA t0 ad B wr (xN (xT σ h.1) h.2)) H locs := by
  rw [Dx_eq]
  exact hW.perm (perm_tn _ _ _ _ _ _ _).symm
theorem Dgrid170 {α : Type} {q : α} {x : Int32} {k : Option α} (FX : CallFix p m c cc nL s args lw_all own) (hW : Wd D dA A s (Dx dA t0 ad B wr σ) H locs) (hf : ast 4 x k = some q) (hdg : decode cc pc = .ok (.aaload, 1)) (kk : k = some q → W p l e R s m args below meth c H locs cells slots Q (F0 m (pc + 1) ls (.ref (ad (170 + x.toNatClampNeg)) :: rest))) : W p l e R s m args below meth c H locs cells slots Q (F0 m pc ls (.int x :: .ref (ad 17) :: rest)) := by
  have hq := ast_some hf
  have ha : (Dx dA t0 ad B wr σ)[8]? = some (ad 17, .inl (dA 6, 4, .inr (.inr (.inr (.inr (gR ad 170)))))) := rfl
  have hlt : x.toNatClampNeg < 4 := Nat.not_le.mp fun z => hq.1 (Or.inr z)
  exact W.aald (v := va_rf (gR ad 170 x.toNatClampNeg)) (ty := .array .int) FX.1 FX.2.1 (hW.1 8 _ ha) ((hW.2.2.2.1.2 6 _ rfl).1 4 (fun j => va_rf (gR ad 170 j))) rfl (fun z => by cases z) (by show ¬ (x < 0 ∨ (arrV _ _ _).slots.size ≤ _); rw [arrV_size]; exact hq.1) (by show (arrV _ _ _).slots[_]? = _; rw [arrV_read _ _ hlt]) rfl rfl hdg (kk hq.2)
theorem Dgp170 {r : Nat} (hr : r < 4) : (Dx dA t0 ad B wr σ)[9 + r]? = some (ad (170 + r), .inl (dA 0, 4, .inl (tA σ (170 + r)))) := by
  match r, hr with
  | 0, _ => rfl
  | 1, _ => rfl
  | 2, _ => rfl
  | 3, _ => rfl
theorem Dgt170 {r : Nat} (hr : r < 4) {i v : Int32} : (Dx dA t0 ad B wr σ).set (9 + r) (ad (170 + r), .inl (dA 0, 4, .inl (upd (tA σ (170 + r)) i.toNatClampNeg v))) = Dx dA t0 ad B wr (xA σ (170 + r) i v) := by
  match r, hr with
  | 0, _ => rfl
  | 1, _ => rfl
  | 2, _ => rfl
  | 3, _ => rfl
theorem Dgl170 {α : Type} {q : α} {x i : Int32} {k : Int32 → Option α} (FX : CallFix p m c cc nL s args lw_all own) (hW : Wd D dA A s (Dx dA t0 ad B wr σ) H locs) (hf : gld σ 170 x i k = some q) (hdg : decode cc pc = .ok (.iaload, 1)) (kk : ∀ v : Int32, k v = some q → W p l e R s m args below meth c H locs cells slots Q (F0 m (pc + 1) ls (.int v :: rest))) : W p l e R s m args below meth c H locs cells slots Q (F0 m pc ls (.int i :: .ref (ad (170 + x.toNatClampNeg)) :: rest)) := by
  unfold gld at hf
  by_cases cx : x < 0 ∨ 4 ≤ x.toNatClampNeg
  · rw [if_pos cx] at hf; cases hf
  · rw [if_neg cx] at hf
    exact g_iald FX hW _ (Dgp170 (Nat.not_le.mp fun z => cx (Or.inr z))) hf hdg kk
theorem Dgs170 {α : Type} {q : α} {x i v : Int32} {k : Dst → Option α} (FX : CallFix p m c cc nL s args lw_all own) (hW : Wd D dA A s (Dx dA t0 ad B wr σ) H locs) (hf : gst x i (stp (xA σ (170 + x.toNatClampNeg) i v) k) = some q) (hdg : decode cc pc = .ok (.iastore, 1)) (kk : ∀ (σ1 : Dst) (H1 : Heap) (locs1 : List Loc), Wd D dA A s (Dx dA t0 ad B wr σ1) H1 locs1 → k σ1 = some q → W p l e R s m args below meth c H1 locs1 cells slots Q (F0 m (pc + 1) ls rest)) : W p l e R s m args below meth c H locs cells slots Q (F0 m pc ls (.int v :: .int i :: .ref (ad (170 + x.toNatClampNeg)) :: rest)) := by
  unfold gst at hf
  by_cases cx : x < 0 ∨ 4 ≤ x.toNatClampNeg
  · rw [if_pos cx] at hf; cases hf
  · rw [if_neg cx] at hf
    have hr : x.toNatClampNeg < 4 := Nat.not_le.mp fun z => cx (Or.inr z)
    exact g_iast FX hW _ (Dgp170 hr) (L := Dx dA t0 ad B wr) (Dgt170 hr) hf hdg kk
theorem Dgrid180 {α : Type} {q : α} {x : Int32} {k : Option α} (FX : CallFix p m c cc nL s args lw_all own) (hW : Wd D dA A s (Dx dA t0 ad B wr σ) H locs) (hf : ast 4 x k = some q) (hdg : decode cc pc = .ok (.aaload, 1)) (kk : k = some q → W p l e R s m args below meth c H locs cells slots Q (F0 m (pc + 1) ls (.ref (ad (180 + x.toNatClampNeg)) :: rest))) : W p l e R s m args below meth c H locs cells slots Q (F0 m pc ls (.int x :: .ref (ad 18) :: rest)) := by
  have hq := ast_some hf
  have ha : (Dx dA t0 ad B wr σ)[13]? = some (ad 18, .inl (dA 6, 4, .inr (.inr (.inr (.inr (gR ad 180)))))) := rfl
  have hlt : x.toNatClampNeg < 4 := Nat.not_le.mp fun z => hq.1 (Or.inr z)
  exact W.aald (v := va_rf (gR ad 180 x.toNatClampNeg)) (ty := .array .int) FX.1 FX.2.1 (hW.1 13 _ ha) ((hW.2.2.2.1.2 6 _ rfl).1 4 (fun j => va_rf (gR ad 180 j))) rfl (fun z => by cases z) (by show ¬ (x < 0 ∨ (arrV _ _ _).slots.size ≤ _); rw [arrV_size]; exact hq.1) (by show (arrV _ _ _).slots[_]? = _; rw [arrV_read _ _ hlt]) rfl rfl hdg (kk hq.2)
theorem Dgp180 {r : Nat} (hr : r < 4) : (Dx dA t0 ad B wr σ)[14 + r]? = some (ad (180 + r), .inl (dA 0, 4, .inl (tA σ (180 + r)))) := by
  match r, hr with
  | 0, _ => rfl
  | 1, _ => rfl
  | 2, _ => rfl
  | 3, _ => rfl
theorem Dgt180 {r : Nat} (hr : r < 4) {i v : Int32} : (Dx dA t0 ad B wr σ).set (14 + r) (ad (180 + r), .inl (dA 0, 4, .inl (upd (tA σ (180 + r)) i.toNatClampNeg v))) = Dx dA t0 ad B wr (xA σ (180 + r) i v) := by
  match r, hr with
  | 0, _ => rfl
  | 1, _ => rfl
  | 2, _ => rfl
  | 3, _ => rfl
theorem Dgl180 {α : Type} {q : α} {x i : Int32} {k : Int32 → Option α} (FX : CallFix p m c cc nL s args lw_all own) (hW : Wd D dA A s (Dx dA t0 ad B wr σ) H locs) (hf : gld σ 180 x i k = some q) (hdg : decode cc pc = .ok (.iaload, 1)) (kk : ∀ v : Int32, k v = some q → W p l e R s m args below meth c H locs cells slots Q (F0 m (pc + 1) ls (.int v :: rest))) : W p l e R s m args below meth c H locs cells slots Q (F0 m pc ls (.int i :: .ref (ad (180 + x.toNatClampNeg)) :: rest)) := by
  unfold gld at hf
  by_cases cx : x < 0 ∨ 4 ≤ x.toNatClampNeg
  · rw [if_pos cx] at hf; cases hf
  · rw [if_neg cx] at hf
    exact g_iald FX hW _ (Dgp180 (Nat.not_le.mp fun z => cx (Or.inr z))) hf hdg kk
theorem Dgs180 {α : Type} {q : α} {x i v : Int32} {k : Dst → Option α} (FX : CallFix p m c cc nL s args lw_all own) (hW : Wd D dA A s (Dx dA t0 ad B wr σ) H locs) (hf : gst x i (stp (xA σ (180 + x.toNatClampNeg) i v) k) = some q) (hdg : decode cc pc = .ok (.iastore, 1)) (kk : ∀ (σ1 : Dst) (H1 : Heap) (locs1 : List Loc), Wd D dA A s (Dx dA t0 ad B wr σ1) H1 locs1 → k σ1 = some q → W p l e R s m args below meth c H1 locs1 cells slots Q (F0 m (pc + 1) ls rest)) : W p l e R s m args below meth c H locs cells slots Q (F0 m pc ls (.int v :: .int i :: .ref (ad (180 + x.toNatClampNeg)) :: rest)) := by
  unfold gst at hf
  by_cases cx : x < 0 ∨ 4 ≤ x.toNatClampNeg
  · rw [if_pos cx] at hf; cases hf
  · rw [if_neg cx] at hf
    have hr : x.toNatClampNeg < 4 := Nat.not_le.mp fun z => cx (Or.inr z)
    exact g_iast FX hW _ (Dgp180 hr) (L := Dx dA t0 ad B wr) (Dgt180 hr) hf hdg kk
end FOC
