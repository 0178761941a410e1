abbrev H2z : Nat := 0
abbrev H2st : Type := Hst × Hst
def H2x (dA : Nat → ClassId) (a : Nat) (b : Nat → Nat) (a2 : Nat) (b2 : Nat → Nat) (wr : va_W) (σ : H2st) : va_W := [(a, .inr (3, [.ref (b 0), .ref (b 1), .ref (b 2), .ref (b 3), .ref (b 4), .ref (b 5), .ref (b 6), .ref (b 7), .int (hF σ.1 8), .int (hF σ.1 9), .int (hF σ.1 10), .int (hF σ.1 11), .int (hF σ.1 12), .int (hF σ.1 13)])), ((b 0), .inl (dA 0, 8, .inl (hA σ.1 0))), ((b 1), .inl (dA 0, 8, .inl (hA σ.1 1))), ((b 2), .inl (dA 0, 8, .inl (hA σ.1 2))), ((b 3), .inl (dA 0, 8, .inl (hA σ.1 3))), ((b 4), .inl (dA 0, 8, .inl (hA σ.1 4))), ((b 5), .inl (dA 0, 8, .inl (hA σ.1 5))), ((b 6), .inl (dA 0, 8, .inl (hA σ.1 6))), ((b 7), .inl (dA 0, 8, .inl (hA σ.1 7))), (a2, .inr (3, [.ref (b2 0), .ref (b2 1), .ref (b2 2), .ref (b2 3), .ref (b2 4), .ref (b2 5), .ref (b2 6), .ref (b2 7), .int (hF σ.2 8), .int (hF σ.2 9), .int (hF σ.2 10), .int (hF σ.2 11), .int (hF σ.2 12), .int (hF σ.2 13)])), ((b2 0), .inl (dA 0, 8, .inl (hA σ.2 0))), ((b2 1), .inl (dA 0, 8, .inl (hA σ.2 1))), ((b2 2), .inl (dA 0, 8, .inl (hA σ.2 2))), ((b2 3), .inl (dA 0, 8, .inl (hA σ.2 3))), ((b2 4), .inl (dA 0, 8, .inl (hA σ.2 4))), ((b2 5), .inl (dA 0, 8, .inl (hA σ.2 5))), ((b2 6), .inl (dA 0, 8, .inl (hA σ.2 6))), ((b2 7), .inl (dA 0, 8, .inl (hA σ.2 7)))] ++ (wr)
section H2S
variable {p : Program} {l : Launch} {e : Env} {R : Room} {s : State} {m : MethodId} {args : Array Value} {below : List Frame} {meth : Method} {c : Code} {H : Heap} {locs : List Loc} {cells slots : Nat} {Q : State → Prop}
variable {cc : ByteArray} {pc nL : Nat} {ls : Array Slot} {rest : List Value} {D : va_G} {dA : Nat → ClassId} {A : Nat → Prop}
theorem EgX3_9_0 {a : Nat} {b : Nat → Nat} {a2 : Nat} {b2 : Nat → Nat} {wr : va_W} {σ : H2st} (FX : CallFix p m c cc nL s args lw_all RX3) (hW : Wd D dA A s (H2x dA a b a2 b2 wr σ) H locs) (hdg : decode cc pc = .ok (.getfield 9, 3)) (kk : W p l e R s m args below meth c H locs cells slots Q (F0 m (pc + 3) ls (.ref (b2 0) :: rest))) : W p l e R s m args below meth c H locs cells slots Q (F0 m pc ls (.ref a2 :: rest)) :=
  g_get FX hW (C := RX3) (T := TX3) (N := 14) (ci := 3) in_X3 9 rfl rfl 0 (by decide) q271 (fun _ h => h) rfl hdg kk
theorem EgX3_0_0 {a : Nat} {b : Nat → Nat} {a2 : Nat} {b2 : Nat → Nat} {wr : va_W} {σ : H2st} (FX : CallFix p m c cc nL s args lw_all RX3) (hW : Wd D dA A s (H2x dA a b a2 b2 wr σ) H locs) (hdg : decode cc pc = .ok (.getfield 9, 3)) (kk : W p l e R s m args below meth c H locs cells slots Q (F0 m (pc + 3) ls (.ref (b 0) :: rest))) : W p l e R s m args below meth c H locs cells slots Q (F0 m pc ls (.ref a :: rest)) :=
  g_get FX hW (C := RX3) (T := TX3) (N := 14) (ci := 3) in_X3 0 rfl rfl 0 (by decide) q271 (fun _ h => h) rfl hdg kk
theorem Ep10 {a : Nat} {b : Nat → Nat} {a2 : Nat} {b2 : Nat → Nat} {wr : va_W} {σ : H2st} : (H2x dA a b a2 b2 wr σ)[10]? = some ((b2 0), .inl (dA 0, 8, .inl (hA σ.2 0))) := rfl
theorem Ep1 {a : Nat} {b : Nat → Nat} {a2 : Nat} {b2 : Nat → Nat} {wr : va_W} {σ : H2st} : (H2x dA a b a2 b2 wr σ)[1]? = some ((b 0), .inl (dA 0, 8, .inl (hA σ.1 0))) := rfl
theorem Ec10_1 {a : Nat} {b : Nat → Nat} {a2 : Nat} {b2 : Nat → Nat} {wr : va_W} {σ : H2st} : (H2x dA a b a2 b2 wr σ).set 1 ((b 0), .inl (dA 0, 8, .inl (va_cpy (hA σ.2 0) (hA σ.1 0) (0 : Int32).toNatClampNeg (0 : Int32).toNatClampNeg (8 : Int32).toNatClampNeg))) = H2x dA a b a2 b2 wr (((wA σ.1 0 (va_cpy (hA σ.2 0) (hA σ.1 0) 0 0 8)), σ.2)) := rfl
theorem EgX3_9_1 {a : Nat} {b : Nat → Nat} {a2 : Nat} {b2 : Nat → Nat} {wr : va_W} {σ : H2st} (FX : CallFix p m c cc nL s args lw_all RX3) (hW : Wd D dA A s (H2x dA a b a2 b2 wr σ) H locs) (hdg : decode cc pc = .ok (.getfield 15, 3)) (kk : W p l e R s m args below meth c H locs cells slots Q (F0 m (pc + 3) ls (.ref (b2 1) :: rest))) : W p l e R s m args below meth c H locs cells slots Q (F0 m pc ls (.ref a2 :: rest)) :=
  g_get FX hW (C := RX3) (T := TX3) (N := 14) (ci := 3) in_X3 9 rfl rfl 1 (by decide) q273 (fun _ h => h) rfl hdg kk
theorem EgX3_0_1 {a : Nat} {b : Nat → Nat} {a2 : Nat} {b2 : Nat → Nat} {wr : va_W} {σ : H2st} (FX : CallFix p m c cc nL s args lw_all RX3) (hW : Wd D dA A s (H2x dA a b a2 b2 wr σ) H locs) (hdg : decode cc pc = .ok (.getfield 15, 3)) (kk : W p l e R s m args below meth c H locs cells slots Q (F0 m (pc + 3) ls (.ref (b 1) :: rest))) : W p l e R s m args below meth c H locs cells slots Q (F0 m pc ls (.ref a :: rest)) :=
  g_get FX hW (C := RX3) (T := TX3) (N := 14) (ci := 3) in_X3 0 rfl rfl 1 (by decide) q273 (fun _ h => h) rfl hdg kk
theorem Ep11 {a : Nat} {b : Nat → Nat} {a2 : Nat} {b2 : Nat → Nat} {wr : va_W} {σ : H2st} : (H2x dA a b a2 b2 wr σ)[11]? = some ((b2 1), .inl (dA 0, 8, .inl (hA σ.2 1))) := rfl
theorem Ep2 {a : Nat} {b : Nat → Nat} {a2 : Nat} {b2 : Nat → Nat} {wr : va_W} {σ : H2st} : (H2x dA a b a2 b2 wr σ)[2]? = some ((b 1), .inl (dA 0, 8, .inl (hA σ.1 1))) := rfl
theorem Ec11_2 {a : Nat} {b : Nat → Nat} {a2 : Nat} {b2 : Nat → Nat} {wr : va_W} {σ : H2st} : (H2x dA a b a2 b2 wr σ).set 2 ((b 1), .inl (dA 0, 8, .inl (va_cpy (hA σ.2 1) (hA σ.1 1) (0 : Int32).toNatClampNeg (0 : Int32).toNatClampNeg (8 : Int32).toNatClampNeg))) = H2x dA a b a2 b2 wr (((wA σ.1 1 (va_cpy (hA σ.2 1) (hA σ.1 1) 0 0 8)), σ.2)) := rfl
theorem EgX3_9_2 {a : Nat} {b : Nat → Nat} {a2 : Nat} {b2 : Nat → Nat} {wr : va_W} {σ : H2st} (FX : CallFix p m c cc nL s args lw_all RX3) (hW : Wd D dA A s (H2x dA a b a2 b2 wr σ) H locs) (hdg : decode cc pc = .ok (.getfield 18, 3)) (kk : W p l e R s m args below meth c H locs cells slots Q (F0 m (pc + 3) ls (.ref (b2 2) :: rest))) : W p l e R s m args below meth c H locs cells slots Q (F0 m pc ls (.ref a2 :: rest)) :=
  g_get FX hW (C := RX3) (T := TX3) (N := 14) (ci := 3) in_X3 9 rfl rfl 2 (by decide) q275 (fun _ h => h) rfl hdg kk
theorem EgX3_0_2 {a : Nat} {b : Nat → Nat} {a2 : Nat} {b2 : Nat → Nat} {wr : va_W} {σ : H2st} (FX : CallFix p m c cc nL s args lw_all RX3) (hW : Wd D dA A s (H2x dA a b a2 b2 wr σ) H locs) (hdg : decode cc pc = .ok (.getfield 18, 3)) (kk : W p l e R s m args below meth c H locs cells slots Q (F0 m (pc + 3) ls (.ref (b 2) :: rest))) : W p l e R s m args below meth c H locs cells slots Q (F0 m pc ls (.ref a :: rest)) :=
  g_get FX hW (C := RX3) (T := TX3) (N := 14) (ci := 3) in_X3 0 rfl rfl 2 (by decide) q275 (fun _ h => h) rfl hdg kk
theorem Ep12 {a : Nat} {b : Nat → Nat} {a2 : Nat} {b2 : Nat → Nat} {wr : va_W} {σ : H2st} : (H2x dA a b a2 b2 wr σ)[12]? = some ((b2 2), .inl (dA 0, 8, .inl (hA σ.2 2))) := rfl
theorem Ep3 {a : Nat} {b : Nat → Nat} {a2 : Nat} {b2 : Nat → Nat} {wr : va_W} {σ : H2st} : (H2x dA a b a2 b2 wr σ)[3]? = some ((b 2), .inl (dA 0, 8, .inl (hA σ.1 2))) := rfl
theorem Ec12_3 {a : Nat} {b : Nat → Nat} {a2 : Nat} {b2 : Nat → Nat} {wr : va_W} {σ : H2st} : (H2x dA a b a2 b2 wr σ).set 3 ((b 2), .inl (dA 0, 8, .inl (va_cpy (hA σ.2 2) (hA σ.1 2) (0 : Int32).toNatClampNeg (0 : Int32).toNatClampNeg (8 : Int32).toNatClampNeg))) = H2x dA a b a2 b2 wr (((wA σ.1 2 (va_cpy (hA σ.2 2) (hA σ.1 2) 0 0 8)), σ.2)) := rfl
theorem EgX3_9_3 {a : Nat} {b : Nat → Nat} {a2 : Nat} {b2 : Nat → Nat} {wr : va_W} {σ : H2st} (FX : CallFix p m c cc nL s args lw_all RX3) (hW : Wd D dA A s (H2x dA a b a2 b2 wr σ) H locs) (hdg : decode cc pc = .ok (.getfield 21, 3)) (kk : W p l e R s m args below meth c H locs cells slots Q (F0 m (pc + 3) ls (.ref (b2 3) :: rest))) : W p l e R s m args below meth c H locs cells slots Q (F0 m pc ls (.ref a2 :: rest)) :=
  g_get FX hW (C := RX3) (T := TX3) (N := 14) (ci := 3) in_X3 9 rfl rfl 3 (by decide) q277 (fun _ h => h) rfl hdg kk
theorem EgX3_0_3 {a : Nat} {b : Nat → Nat} {a2 : Nat} {b2 : Nat → Nat} {wr : va_W} {σ : H2st} (FX : CallFix p m c cc nL s args lw_all RX3) (hW : Wd D dA A s (H2x dA a b a2 b2 wr σ) H locs) (hdg : decode cc pc = .ok (.getfield 21, 3)) (kk : W p l e R s m args below meth c H locs cells slots Q (F0 m (pc + 3) ls (.ref (b 3) :: rest))) : W p l e R s m args below meth c H locs cells slots Q (F0 m pc ls (.ref a :: rest)) :=
  g_get FX hW (C := RX3) (T := TX3) (N := 14) (ci := 3) in_X3 0 rfl rfl 3 (by decide) q277 (fun _ h => h) rfl hdg kk
theorem Ep13 {a : Nat} {b : Nat → Nat} {a2 : Nat} {b2 : Nat → Nat} {wr : va_W} {σ : H2st} : (H2x dA a b a2 b2 wr σ)[13]? = some ((b2 3), .inl (dA 0, 8, .inl (hA σ.2 3))) := rfl
theorem Ep4 {a : Nat} {b : Nat → Nat} {a2 : Nat} {b2 : Nat → Nat} {wr : va_W} {σ : H2st} : (H2x dA a b a2 b2 wr σ)[4]? = some ((b 3), .inl (dA 0, 8, .inl (hA σ.1 3))) := rfl
theorem Ec13_4 {a : Nat} {b : Nat → Nat} {a2 : Nat} {b2 : Nat → Nat} {wr : va_W} {σ : H2st} : (H2x dA a b a2 b2 wr σ).set 4 ((b 3), .inl (dA 0, 8, .inl (va_cpy (hA σ.2 3) (hA σ.1 3) (0 : Int32).toNatClampNeg (0 : Int32).toNatClampNeg (8 : Int32).toNatClampNeg))) = H2x dA a b a2 b2 wr (((wA σ.1 3 (va_cpy (hA σ.2 3) (hA σ.1 3) 0 0 8)), σ.2)) := rfl
theorem EgX3_9_4 {a : Nat} {b : Nat → Nat} {a2 : Nat} {b2 : Nat → Nat} {wr : va_W} {σ : H2st} (FX : CallFix p m c cc nL s args lw_all RX3) (hW : Wd D dA A s (H2x dA a b a2 b2 wr σ) H locs) (hdg : decode cc pc = .ok (.getfield 24, 3)) (kk : W p l e R s m args below meth c H locs cells slots Q (F0 m (pc + 3) ls (.ref (b2 4) :: rest))) : W p l e R s m args below meth c H locs cells slots Q (F0 m pc ls (.ref a2 :: rest)) :=
  g_get FX hW (C := RX3) (T := TX3) (N := 14) (ci := 3) in_X3 9 rfl rfl 4 (by decide) q279 (fun _ h => h) rfl hdg kk
theorem EgX3_0_4 {a : Nat} {b : Nat → Nat} {a2 : Nat} {b2 : Nat → Nat} {wr : va_W} {σ : H2st} (FX : CallFix p m c cc nL s args lw_all RX3) (hW : Wd D dA A s (H2x dA a b a2 b2 wr σ) H locs) (hdg : decode cc pc = .ok (.getfield 24, 3)) (kk : W p l e R s m args below meth c H locs cells slots Q (F0 m (pc + 3) ls (.ref (b 4) :: rest))) : W p l e R s m args below meth c H locs cells slots Q (F0 m pc ls (.ref a :: rest)) :=
  g_get FX hW (C := RX3) (T := TX3) (N := 14) (ci := 3) in_X3 0 rfl rfl 4 (by decide) q279 (fun _ h => h) rfl hdg kk
theorem Ep14 {a : Nat} {b : Nat → Nat} {a2 : Nat} {b2 : Nat → Nat} {wr : va_W} {σ : H2st} : (H2x dA a b a2 b2 wr σ)[14]? = some ((b2 4), .inl (dA 0, 8, .inl (hA σ.2 4))) := rfl
theorem Ep5 {a : Nat} {b : Nat → Nat} {a2 : Nat} {b2 : Nat → Nat} {wr : va_W} {σ : H2st} : (H2x dA a b a2 b2 wr σ)[5]? = some ((b 4), .inl (dA 0, 8, .inl (hA σ.1 4))) := rfl
theorem Ec14_5 {a : Nat} {b : Nat → Nat} {a2 : Nat} {b2 : Nat → Nat} {wr : va_W} {σ : H2st} : (H2x dA a b a2 b2 wr σ).set 5 ((b 4), .inl (dA 0, 8, .inl (va_cpy (hA σ.2 4) (hA σ.1 4) (0 : Int32).toNatClampNeg (0 : Int32).toNatClampNeg (8 : Int32).toNatClampNeg))) = H2x dA a b a2 b2 wr (((wA σ.1 4 (va_cpy (hA σ.2 4) (hA σ.1 4) 0 0 8)), σ.2)) := rfl
theorem EgX3_9_5 {a : Nat} {b : Nat → Nat} {a2 : Nat} {b2 : Nat → Nat} {wr : va_W} {σ : H2st} (FX : CallFix p m c cc nL s args lw_all RX3) (hW : Wd D dA A s (H2x dA a b a2 b2 wr σ) H locs) (hdg : decode cc pc = .ok (.getfield 27, 3)) (kk : W p l e R s m args below meth c H locs cells slots Q (F0 m (pc + 3) ls (.ref (b2 5) :: rest))) : W p l e R s m args below meth c H locs cells slots Q (F0 m pc ls (.ref a2 :: rest)) :=
  g_get FX hW (C := RX3) (T := TX3) (N := 14) (ci := 3) in_X3 9 rfl rfl 5 (by decide) q281 (fun _ h => h) rfl hdg kk
theorem EgX3_0_5 {a : Nat} {b : Nat → Nat} {a2 : Nat} {b2 : Nat → Nat} {wr : va_W} {σ : H2st} (FX : CallFix p m c cc nL s args lw_all RX3) (hW : Wd D dA A s (H2x dA a b a2 b2 wr σ) H locs) (hdg : decode cc pc = .ok (.getfield 27, 3)) (kk : W p l e R s m args below meth c H locs cells slots Q (F0 m (pc + 3) ls (.ref (b 5) :: rest))) : W p l e R s m args below meth c H locs cells slots Q (F0 m pc ls (.ref a :: rest)) :=
  g_get FX hW (C := RX3) (T := TX3) (N := 14) (ci := 3) in_X3 0 rfl rfl 5 (by decide) q281 (fun _ h => h) rfl hdg kk
theorem Ep15 {a : Nat} {b : Nat → Nat} {a2 : Nat} {b2 : Nat → Nat} {wr : va_W} {σ : H2st} : (H2x dA a b a2 b2 wr σ)[15]? = some ((b2 5), .inl (dA 0, 8, .inl (hA σ.2 5))) := rfl
theorem Ep6 {a : Nat} {b : Nat → Nat} {a2 : Nat} {b2 : Nat → Nat} {wr : va_W} {σ : H2st} : (H2x dA a b a2 b2 wr σ)[6]? = some ((b 5), .inl (dA 0, 8, .inl (hA σ.1 5))) := rfl
theorem Ec15_6 {a : Nat} {b : Nat → Nat} {a2 : Nat} {b2 : Nat → Nat} {wr : va_W} {σ : H2st} : (H2x dA a b a2 b2 wr σ).set 6 ((b 5), .inl (dA 0, 8, .inl (va_cpy (hA σ.2 5) (hA σ.1 5) (0 : Int32).toNatClampNeg (0 : Int32).toNatClampNeg (8 : Int32).toNatClampNeg))) = H2x dA a b a2 b2 wr (((wA σ.1 5 (va_cpy (hA σ.2 5) (hA σ.1 5) 0 0 8)), σ.2)) := rfl
theorem EgX3_9_6 {a : Nat} {b : Nat → Nat} {a2 : Nat} {b2 : Nat → Nat} {wr : va_W} {σ : H2st} (FX : CallFix p m c cc nL s args lw_all RX3) (hW : Wd D dA A s (H2x dA a b a2 b2 wr σ) H locs) (hdg : decode cc pc = .ok (.getfield 30, 3)) (kk : W p l e R s m args below meth c H locs cells slots Q (F0 m (pc + 3) ls (.ref (b2 6) :: rest))) : W p l e R s m args below meth c H locs cells slots Q (F0 m pc ls (.ref a2 :: rest)) :=
  g_get FX hW (C := RX3) (T := TX3) (N := 14) (ci := 3) in_X3 9 rfl rfl 6 (by decide) q283 (fun _ h => h) rfl hdg kk
theorem EgX3_0_6 {a : Nat} {b : Nat → Nat} {a2 : Nat} {b2 : Nat → Nat} {wr : va_W} {σ : H2st} (FX : CallFix p m c cc nL s args lw_all RX3) (hW : Wd D dA A s (H2x dA a b a2 b2 wr σ) H locs) (hdg : decode cc pc = .ok (.getfield 30, 3)) (kk : W p l e R s m args below meth c H locs cells slots Q (F0 m (pc + 3) ls (.ref (b 6) :: rest))) : W p l e R s m args below meth c H locs cells slots Q (F0 m pc ls (.ref a :: rest)) :=
  g_get FX hW (C := RX3) (T := TX3) (N := 14) (ci := 3) in_X3 0 rfl rfl 6 (by decide) q283 (fun _ h => h) rfl hdg kk
theorem Ep16 {a : Nat} {b : Nat → Nat} {a2 : Nat} {b2 : Nat → Nat} {wr : va_W} {σ : H2st} : (H2x dA a b a2 b2 wr σ)[16]? = some ((b2 6), .inl (dA 0, 8, .inl (hA σ.2 6))) := rfl
theorem Ep7 {a : Nat} {b : Nat → Nat} {a2 : Nat} {b2 : Nat → Nat} {wr : va_W} {σ : H2st} : (H2x dA a b a2 b2 wr σ)[7]? = some ((b 6), .inl (dA 0, 8, .inl (hA σ.1 6))) := rfl
theorem Ec16_7 {a : Nat} {b : Nat → Nat} {a2 : Nat} {b2 : Nat → Nat} {wr : va_W} {σ : H2st} : (H2x dA a b a2 b2 wr σ).set 7 ((b 6), .inl (dA 0, 8, .inl (va_cpy (hA σ.2 6) (hA σ.1 6) (0 : Int32).toNatClampNeg (0 : Int32).toNatClampNeg (8 : Int32).toNatClampNeg))) = H2x dA a b a2 b2 wr (((wA σ.1 6 (va_cpy (hA σ.2 6) (hA σ.1 6) 0 0 8)), σ.2)) := rfl
theorem EgX3_9_7 {a : Nat} {b : Nat → Nat} {a2 : Nat} {b2 : Nat → Nat} {wr : va_W} {σ : H2st} (FX : CallFix p m c cc nL s args lw_all RX3) (hW : Wd D dA A s (H2x dA a b a2 b2 wr σ) H locs) (hdg : decode cc pc = .ok (.getfield 33, 3)) (kk : W p l e R s m args below meth c H locs cells slots Q (F0 m (pc + 3) ls (.ref (b2 7) :: rest))) : W p l e R s m args below meth c H locs cells slots Q (F0 m pc ls (.ref a2 :: rest)) :=
  g_get FX hW (C := RX3) (T := TX3) (N := 14) (ci := 3) in_X3 9 rfl rfl 7 (by decide) q285 (fun _ h => h) rfl hdg kk
theorem EgX3_0_7 {a : Nat} {b : Nat → Nat} {a2 : Nat} {b2 : Nat → Nat} {wr : va_W} {σ : H2st} (FX : CallFix p m c cc nL s args lw_all RX3) (hW : Wd D dA A s (H2x dA a b a2 b2 wr σ) H locs) (hdg : decode cc pc = .ok (.getfield 33, 3)) (kk : W p l e R s m args below meth c H locs cells slots Q (F0 m (pc + 3) ls (.ref (b 7) :: rest))) : W p l e R s m args below meth c H locs cells slots Q (F0 m pc ls (.ref a :: rest)) :=
  g_get FX hW (C := RX3) (T := TX3) (N := 14) (ci := 3) in_X3 0 rfl rfl 7 (by decide) q285 (fun _ h => h) rfl hdg kk
theorem Ep17 {a : Nat} {b : Nat → Nat} {a2 : Nat} {b2 : Nat → Nat} {wr : va_W} {σ : H2st} : (H2x dA a b a2 b2 wr σ)[17]? = some ((b2 7), .inl (dA 0, 8, .inl (hA σ.2 7))) := rfl
theorem Ep8 {a : Nat} {b : Nat → Nat} {a2 : Nat} {b2 : Nat → Nat} {wr : va_W} {σ : H2st} : (H2x dA a b a2 b2 wr σ)[8]? = some ((b 7), .inl (dA 0, 8, .inl (hA σ.1 7))) := rfl
theorem Ec17_8 {a : Nat} {b : Nat → Nat} {a2 : Nat} {b2 : Nat → Nat} {wr : va_W} {σ : H2st} : (H2x dA a b a2 b2 wr σ).set 8 ((b 7), .inl (dA 0, 8, .inl (va_cpy (hA σ.2 7) (hA σ.1 7) (0 : Int32).toNatClampNeg (0 : Int32).toNatClampNeg (8 : Int32).toNatClampNeg))) = H2x dA a b a2 b2 wr (((wA σ.1 7 (va_cpy (hA σ.2 7) (hA σ.1 7) 0 0 8)), σ.2)) := rfl
theorem EgX3_9_8 {a : Nat} {b : Nat → Nat} {a2 : Nat} {b2 : Nat → Nat} {wr : va_W} {σ : H2st} (FX : CallFix p m c cc nL s args lw_all RX3) (hW : Wd D dA A s (H2x dA a b a2 b2 wr σ) H locs) (hdg : decode cc pc = .ok (.getfield 52, 3)) (kk : W p l e R s m args below meth c H locs cells slots Q (F0 m (pc + 3) ls (.int (hF σ.2 8) :: rest))) : W p l e R s m args below meth c H locs cells slots Q (F0 m pc ls (.ref a2 :: rest)) :=
  g_get FX hW (C := RX3) (T := TX3) (N := 14) (ci := 3) in_X3 9 rfl rfl 8 (by decide) q287 (fun _ h => h) rfl hdg kk
theorem EsX3_0_8 {a : Nat} {b : Nat → Nat} {a2 : Nat} {b2 : Nat → Nat} {wr : va_W} {σ : H2st} {α : Type} {q : α} {v : Int32} {k : H2st → Option α} (FX : CallFix p m c cc nL s args lw_all RX3) (hW : Wd D dA A s (H2x dA a b a2 b2 wr σ) H locs) (hf : stp (((uF σ.1 8 v), σ.2)) k = some q) (hdg : decode cc pc = .ok (.putfield 52, 3)) (kk : ∀ (σ1 : H2st) (H1 : Heap) (locs1 : List Loc), Wd D dA A s (H2x dA a b a2 b2 wr σ1) H1 locs1 → k σ1 = some q → W p l e R s m args below meth c H1 locs1 cells slots Q (F0 m (pc + 3) ls rest)) : W p l e R s m args below meth c H locs cells slots Q (F0 m pc ls (.int v :: .ref a :: rest)) :=
  g_put FX hW (C := RX3) (T := TX3) (N := 14) (ci := 3) (ty := .int) in_X3 tyX3 tyX3_ok nmX3 0 rfl rfl 8 (by decide) q287 (fun _ h => h) rfl (by decide +kernel) rfl rfl (Nat.le_of_ble_eq_true rfl) (ws' := H2x dA a b a2 b2 wr (((uF σ.1 8 v), σ.2))) rfl hdg (fun H1 locs1 hW1 => kk _ H1 locs1 hW1 hf)
theorem EgX3_9_9 {a : Nat} {b : Nat → Nat} {a2 : Nat} {b2 : Nat → Nat} {wr : va_W} {σ : H2st} (FX : CallFix p m c cc nL s args lw_all RX3) (hW : Wd D dA A s (H2x dA a b a2 b2 wr σ) H locs) (hdg : decode cc pc = .ok (.getfield 83, 3)) (kk : W p l e R s m args below meth c H locs cells slots Q (F0 m (pc + 3) ls (.int (hF σ.2 9) :: rest))) : W p l e R s m args below meth c H locs cells slots Q (F0 m pc ls (.ref a2 :: rest)) :=
  g_get FX hW (C := RX3) (T := TX3) (N := 14) (ci := 3) in_X3 9 rfl rfl 9 (by decide) q289 (fun _ h => h) rfl hdg kk
theorem EsX3_0_9 {a : Nat} {b : Nat → Nat} {a2 : Nat} {b2 : Nat → Nat} {wr : va_W} {σ : H2st} {α : Type} {q : α} {v : Int32} {k : H2st → Option α} (FX : CallFix p m c cc nL s args lw_all RX3) (hW : Wd D dA A s (H2x dA a b a2 b2 wr σ) H locs) (hf : stp (((uF σ.1 9 v), σ.2)) k = some q) (hdg : decode cc pc = .ok (.putfield 83, 3)) (kk : ∀ (σ1 : H2st) (H1 : Heap) (locs1 : List Loc), Wd D dA A s (H2x dA a b a2 b2 wr σ1) H1 locs1 → k σ1 = some q → W p l e R s m args below meth c H1 locs1 cells slots Q (F0 m (pc + 3) ls rest)) : W p l e R s m args below meth c H locs cells slots Q (F0 m pc ls (.int v :: .ref a :: rest)) :=
  g_put FX hW (C := RX3) (T := TX3) (N := 14) (ci := 3) (ty := .int) in_X3 tyX3 tyX3_ok nmX3 0 rfl rfl 9 (by decide) q289 (fun _ h => h) rfl (by decide +kernel) rfl rfl (Nat.le_of_ble_eq_true rfl) (ws' := H2x dA a b a2 b2 wr (((uF σ.1 9 v), σ.2))) rfl hdg (fun H1 locs1 hW1 => kk _ H1 locs1 hW1 hf)
theorem EgX3_9_10 {a : Nat} {b : Nat → Nat} {a2 : Nat} {b2 : Nat → Nat} {wr : va_W} {σ : H2st} (FX : CallFix p m c cc nL s args lw_all RX3) (hW : Wd D dA A s (H2x dA a b a2 b2 wr σ) H locs) (hdg : decode cc pc = .ok (.getfield 84, 3)) (kk : W p l e R s m args below meth c H locs cells slots Q (F0 m (pc + 3) ls (.int (hF σ.2 10) :: rest))) : W p l e R s m args below meth c H locs cells slots Q (F0 m pc ls (.ref a2 :: rest)) :=
  g_get FX hW (C := RX3) (T := TX3) (N := 14) (ci := 3) in_X3 9 rfl rfl 10 (by decide) q291 (fun _ h => h) rfl hdg kk
theorem EsX3_0_10 {a : Nat} {b : Nat → Nat} {a2 : Nat} {b2 : Nat → Nat} {wr : va_W} {σ : H2st} {α : Type} {q : α} {v : Int32} {k : H2st → Option α} (FX : CallFix p m c cc nL s args lw_all RX3) (hW : Wd D dA A s (H2x dA a b a2 b2 wr σ) H locs) (hf : stp (((uF σ.1 10 v), σ.2)) k = some q) (hdg : decode cc pc = .ok (.putfield 84, 3)) (kk : ∀ (σ1 : H2st) (H1 : Heap) (locs1 : List Loc), Wd D dA A s (H2x dA a b a2 b2 wr σ1) H1 locs1 → k σ1 = some q → W p l e R s m args below meth c H1 locs1 cells slots Q (F0 m (pc + 3) ls rest)) : W p l e R s m args below meth c H locs cells slots Q (F0 m pc ls (.int v :: .ref a :: rest)) :=
  g_put FX hW (C := RX3) (T := TX3) (N := 14) (ci := 3) (ty := .int) in_X3 tyX3 tyX3_ok nmX3 0 rfl rfl 10 (by decide) q291 (fun _ h => h) rfl (by decide +kernel) rfl rfl (Nat.le_of_ble_eq_true rfl) (ws' := H2x dA a b a2 b2 wr (((uF σ.1 10 v), σ.2))) rfl hdg (fun H1 locs1 hW1 => kk _ H1 locs1 hW1 hf)
theorem EgX3_9_11 {a : Nat} {b : Nat → Nat} {a2 : Nat} {b2 : Nat → Nat} {wr : va_W} {σ : H2st} (FX : CallFix p m c cc nL s args lw_all RX3) (hW : Wd D dA A s (H2x dA a b a2 b2 wr σ) H locs) (hdg : decode cc pc = .ok (.getfield 90, 3)) (kk : W p l e R s m args below meth c H locs cells slots Q (F0 m (pc + 3) ls (.int (hF σ.2 11) :: rest))) : W p l e R s m args below meth c H locs cells slots Q (F0 m pc ls (.ref a2 :: rest)) :=
  g_get FX hW (C := RX3) (T := TX3) (N := 14) (ci := 3) in_X3 9 rfl rfl 11 (by decide) q293 (fun _ h => h) rfl hdg kk
theorem EsX3_0_11 {a : Nat} {b : Nat → Nat} {a2 : Nat} {b2 : Nat → Nat} {wr : va_W} {σ : H2st} {α : Type} {q : α} {v : Int32} {k : H2st → Option α} (FX : CallFix p m c cc nL s args lw_all RX3) (hW : Wd D dA A s (H2x dA a b a2 b2 wr σ) H locs) (hf : stp (((uF σ.1 11 v), σ.2)) k = some q) (hdg : decode cc pc = .ok (.putfield 90, 3)) (kk : ∀ (σ1 : H2st) (H1 : Heap) (locs1 : List Loc), Wd D dA A s (H2x dA a b a2 b2 wr σ1) H1 locs1 → k σ1 = some q → W p l e R s m args below meth c H1 locs1 cells slots Q (F0 m (pc + 3) ls rest)) : W p l e R s m args below meth c H locs cells slots Q (F0 m pc ls (.int v :: .ref a :: rest)) :=
  g_put FX hW (C := RX3) (T := TX3) (N := 14) (ci := 3) (ty := .int) in_X3 tyX3 tyX3_ok nmX3 0 rfl rfl 11 (by decide) q293 (fun _ h => h) rfl (by decide +kernel) rfl rfl (Nat.le_of_ble_eq_true rfl) (ws' := H2x dA a b a2 b2 wr (((uF σ.1 11 v), σ.2))) rfl hdg (fun H1 locs1 hW1 => kk _ H1 locs1 hW1 hf)
theorem EgX3_9_12 {a : Nat} {b : Nat → Nat} {a2 : Nat} {b2 : Nat → Nat} {wr : va_W} {σ : H2st} (FX : CallFix p m c cc nL s args lw_all RX3) (hW : Wd D dA A s (H2x dA a b a2 b2 wr σ) H locs) (hdg : decode cc pc = .ok (.getfield 77, 3)) (kk : W p l e R s m args below meth c H locs cells slots Q (F0 m (pc + 3) ls (.int (hF σ.2 12) :: rest))) : W p l e R s m args below meth c H locs cells slots Q (F0 m pc ls (.ref a2 :: rest)) :=
  g_get FX hW (C := RX3) (T := TX3) (N := 14) (ci := 3) in_X3 9 rfl rfl 12 (by decide) q295 (fun _ h => h) rfl hdg kk
theorem EsX3_0_12 {a : Nat} {b : Nat → Nat} {a2 : Nat} {b2 : Nat → Nat} {wr : va_W} {σ : H2st} {α : Type} {q : α} {v : Int32} {k : H2st → Option α} (FX : CallFix p m c cc nL s args lw_all RX3) (hW : Wd D dA A s (H2x dA a b a2 b2 wr σ) H locs) (hf : stp (((uF σ.1 12 v), σ.2)) k = some q) (hdg : decode cc pc = .ok (.putfield 77, 3)) (kk : ∀ (σ1 : H2st) (H1 : Heap) (locs1 : List Loc), Wd D dA A s (H2x dA a b a2 b2 wr σ1) H1 locs1 → k σ1 = some q → W p l e R s m args below meth c H1 locs1 cells slots Q (F0 m (pc + 3) ls rest)) : W p l e R s m args below meth c H locs cells slots Q (F0 m pc ls (.int v :: .ref a :: rest)) :=
  g_put FX hW (C := RX3) (T := TX3) (N := 14) (ci := 3) (ty := .int) in_X3 tyX3 tyX3_ok nmX3 0 rfl rfl 12 (by decide) q295 (fun _ h => h) rfl (by decide +kernel) rfl rfl (Nat.le_of_ble_eq_true rfl) (ws' := H2x dA a b a2 b2 wr (((uF σ.1 12 v), σ.2))) rfl hdg (fun H1 locs1 hW1 => kk _ H1 locs1 hW1 hf)
theorem EsX3_0_13 {a : Nat} {b : Nat → Nat} {a2 : Nat} {b2 : Nat → Nat} {wr : va_W} {σ : H2st} {α : Type} {q : α} {v : Int32} {k : H2st → Option α} (FX : CallFix p m c cc nL s args lw_all RX3) (hW : Wd D dA A s (H2x dA a b a2 b2 wr σ) H locs) (hf : stp (((uF σ.1 13 v), σ.2)) k = some q) (hdg : decode cc pc = .ok (.putfield 36, 3)) (kk : ∀ (σ1 : H2st) (H1 : Heap) (locs1 : List Loc), Wd D dA A s (H2x dA a b a2 b2 wr σ1) H1 locs1 → k σ1 = some q → W p l e R s m args below meth c H1 locs1 cells slots Q (F0 m (pc + 3) ls rest)) : W p l e R s m args below meth c H locs cells slots Q (F0 m pc ls (.int v :: .ref a :: rest)) :=
  g_put FX hW (C := RX3) (T := TX3) (N := 14) (ci := 3) (ty := .int) in_X3 tyX3 tyX3_ok nmX3 0 rfl rfl 13 (by decide) q296 (fun _ h => h) rfl (by decide +kernel) rfl rfl (Nat.le_of_ble_eq_true rfl) (ws' := H2x dA a b a2 b2 wr (((uF σ.1 13 v), σ.2))) rfl hdg (fun H1 locs1 hW1 => kk _ H1 locs1 hW1 hf)

/-! TrunkLitters$House.copy(LTrunkLitters$House;)LTrunkLitters$House;: kind W -/
def fX3_copy (σ : H2st) : Option H2st := stp (((wA σ.1 0 (va_cpy (hA σ.2 0) (hA σ.1 0) 0 0 8)), σ.2)) fun s1 => stp (((wA s1.1 1 (va_cpy (hA s1.2 1) (hA s1.1 1) 0 0 8)), s1.2)) fun s2 => stp (((wA s2.1 2 (va_cpy (hA s2.2 2) (hA s2.1 2) 0 0 8)), s2.2)) fun s3 => stp (((wA s3.1 3 (va_cpy (hA s3.2 3) (hA s3.1 3) 0 0 8)), s3.2)) fun s4 => stp (((wA s4.1 4 (va_cpy (hA s4.2 4) (hA s4.1 4) 0 0 8)), s4.2)) fun s5 => stp (((wA s5.1 5 (va_cpy (hA s5.2 5) (hA s5.1 5) 0 0 8)), s5.2)) fun s6 => stp (((wA s6.1 6 (va_cpy (hA s6.2 6) (hA s6.1 6) 0 0 8)), s6.2)) fun s7 => stp (((wA s7.1 7 (va_cpy (hA s7.2 7) (hA s7.1 7) 0 0 8)), s7.2)) fun s8 => stp (((uF s8.1 8 (hF s8.2 8)), s8.2)) fun s9 => stp (((uF s9.1 9 (hF s9.2 9)), s9.2)) fun s10 => stp (((uF s10.1 10 (hF s10.2 10)), s10.2)) fun s11 => stp (((uF s11.1 11 (hF s11.2 11)), s11.2)) fun s12 => stp (((uF s12.1 12 (hF s12.2 12)), s12.2)) fun s13 => stp (((uF s13.1 13 (-1 : Int32)), s13.2)) fun s14 => some s14
abbrev rX3_copy : Room := { frames := 1, cells := 0, slots := 0, locals := 26 }
set_option maxHeartbeats 4000000 in
set_option maxRecDepth 100000 in
theorem mX3_copy {a : Nat} {b : Nat → Nat} {a2 : Nat} {b2 : Nat → Nat} {wr : va_W}  {σ : H2st} {q : H2st} (hf : fX3_copy σ = some q) : CtR l yX3_copy cX3_copy 2 (some (Jvm.ClassFile.FieldType.object "TrunkLitters$House")) rX3_copy D dA [.ref a, .ref a2] (H2x dA a b a2 b2 wr σ) a (H2x dA a b a2 b2 wr q) := by
  refine e_R (by decide) (Nat.le_of_ble_eq_true rfl) ?_
  intro p e s m below meth c ls A FX hr hlk hl hW
  have hx := FX.1; have hb := FX.2.1; have hown := FX.2.2.2.1; have hts := FX.2.2.2.2
  have hl : lv_has ls 2 [(0, .ref a), (1, .ref a2)] := hl
  rw [fX3_copy] at hf
  refine lv_aload_n hx hb dX3_copy_0 rfl (lv_at hl 1 rfl) ?_
  refine EgX3_9_0 FX hW dX3_copy_1 ?_
  refine lv_iconst (v := 0) hx hb dX3_copy_4 (by decide) ?_
  refine lv_aload_n hx hb dX3_copy_5 rfl (lv_at hl 0 rfl) ?_
  refine EgX3_0_0 FX hW dX3_copy_6 ?_
  refine lv_iconst (v := 0) hx hb dX3_copy_9 (by decide) ?_
  refine lv_bipush (v := 8) hx hb dX3_copy_10 (by decide) ?_
  refine g_copyi FX hl.1 hW 10 1 Ep10 Ep1 q1277 (by decide) (by decide) (by decide) (Nat.le_of_ble_eq_true rfl) (Nat.le_of_ble_eq_true rfl) ⟨Nat.le_of_ble_eq_true rfl, Nat.le_of_ble_eq_true rfl⟩ (Nat.le_of_ble_eq_true rfl) (L := H2x dA a b a2 b2 wr) Ec10_1 hf dX3_copy_12 (fun s1 H locs hW hf => ?_)
  refine lv_aload_n hx hb dX3_copy_15 rfl (lv_at hl 1 rfl) ?_
  refine EgX3_9_1 FX hW dX3_copy_16 ?_
  refine lv_iconst (v := 0) hx hb dX3_copy_19 (by decide) ?_
  refine lv_aload_n hx hb dX3_copy_20 rfl (lv_at hl 0 rfl) ?_
  refine EgX3_0_1 FX hW dX3_copy_21 ?_
  refine lv_iconst (v := 0) hx hb dX3_copy_24 (by decide) ?_
  refine lv_bipush (v := 8) hx hb dX3_copy_25 (by decide) ?_
  refine g_copyi FX hl.1 hW 11 2 Ep11 Ep2 q1277 (by decide) (by decide) (by decide) (Nat.le_of_ble_eq_true rfl) (Nat.le_of_ble_eq_true rfl) ⟨Nat.le_of_ble_eq_true rfl, Nat.le_of_ble_eq_true rfl⟩ (Nat.le_of_ble_eq_true rfl) (L := H2x dA a b a2 b2 wr) Ec11_2 hf dX3_copy_27 (fun s2 H locs hW hf => ?_)
  refine lv_aload_n hx hb dX3_copy_30 rfl (lv_at hl 1 rfl) ?_
  refine EgX3_9_2 FX hW dX3_copy_31 ?_
  refine lv_iconst (v := 0) hx hb dX3_copy_34 (by decide) ?_
  refine lv_aload_n hx hb dX3_copy_35 rfl (lv_at hl 0 rfl) ?_
  refine EgX3_0_2 FX hW dX3_copy_36 ?_
  refine lv_iconst (v := 0) hx hb dX3_copy_39 (by decide) ?_
  refine lv_bipush (v := 8) hx hb dX3_copy_40 (by decide) ?_
  refine g_copyi FX hl.1 hW 12 3 Ep12 Ep3 q1277 (by decide) (by decide) (by decide) (Nat.le_of_ble_eq_true rfl) (Nat.le_of_ble_eq_true rfl) ⟨Nat.le_of_ble_eq_true rfl, Nat.le_of_ble_eq_true rfl⟩ (Nat.le_of_ble_eq_true rfl) (L := H2x dA a b a2 b2 wr) Ec12_3 hf dX3_copy_42 (fun s3 H locs hW hf => ?_)
  refine lv_aload_n hx hb dX3_copy_45 rfl (lv_at hl 1 rfl) ?_
  refine EgX3_9_3 FX hW dX3_copy_46 ?_
  refine lv_iconst (v := 0) hx hb dX3_copy_49 (by decide) ?_
  refine lv_aload_n hx hb dX3_copy_50 rfl (lv_at hl 0 rfl) ?_
  refine EgX3_0_3 FX hW dX3_copy_51 ?_
  refine lv_iconst (v := 0) hx hb dX3_copy_54 (by decide) ?_
  refine lv_bipush (v := 8) hx hb dX3_copy_55 (by decide) ?_
  refine g_copyi FX hl.1 hW 13 4 Ep13 Ep4 q1277 (by decide) (by decide) (by decide) (Nat.le_of_ble_eq_true rfl) (Nat.le_of_ble_eq_true rfl) ⟨Nat.le_of_ble_eq_true rfl, Nat.le_of_ble_eq_true rfl⟩ (Nat.le_of_ble_eq_true rfl) (L := H2x dA a b a2 b2 wr) Ec13_4 hf dX3_copy_57 (fun s4 H locs hW hf => ?_)
  refine lv_aload_n hx hb dX3_copy_60 rfl (lv_at hl 1 rfl) ?_
  refine EgX3_9_4 FX hW dX3_copy_61 ?_
  refine lv_iconst (v := 0) hx hb dX3_copy_64 (by decide) ?_
  refine lv_aload_n hx hb dX3_copy_65 rfl (lv_at hl 0 rfl) ?_
  refine EgX3_0_4 FX hW dX3_copy_66 ?_
  refine lv_iconst (v := 0) hx hb dX3_copy_69 (by decide) ?_
  refine lv_bipush (v := 8) hx hb dX3_copy_70 (by decide) ?_
  refine g_copyi FX hl.1 hW 14 5 Ep14 Ep5 q1277 (by decide) (by decide) (by decide) (Nat.le_of_ble_eq_true rfl) (Nat.le_of_ble_eq_true rfl) ⟨Nat.le_of_ble_eq_true rfl, Nat.le_of_ble_eq_true rfl⟩ (Nat.le_of_ble_eq_true rfl) (L := H2x dA a b a2 b2 wr) Ec14_5 hf dX3_copy_72 (fun s5 H locs hW hf => ?_)
  refine lv_aload_n hx hb dX3_copy_75 rfl (lv_at hl 1 rfl) ?_
  refine EgX3_9_5 FX hW dX3_copy_76 ?_
  refine lv_iconst (v := 0) hx hb dX3_copy_79 (by decide) ?_
  refine lv_aload_n hx hb dX3_copy_80 rfl (lv_at hl 0 rfl) ?_
  refine EgX3_0_5 FX hW dX3_copy_81 ?_
  refine lv_iconst (v := 0) hx hb dX3_copy_84 (by decide) ?_
  refine lv_bipush (v := 8) hx hb dX3_copy_85 (by decide) ?_
  refine g_copyi FX hl.1 hW 15 6 Ep15 Ep6 q1277 (by decide) (by decide) (by decide) (Nat.le_of_ble_eq_true rfl) (Nat.le_of_ble_eq_true rfl) ⟨Nat.le_of_ble_eq_true rfl, Nat.le_of_ble_eq_true rfl⟩ (Nat.le_of_ble_eq_true rfl) (L := H2x dA a b a2 b2 wr) Ec15_6 hf dX3_copy_87 (fun s6 H locs hW hf => ?_)
  refine lv_aload_n hx hb dX3_copy_90 rfl (lv_at hl 1 rfl) ?_
  refine EgX3_9_6 FX hW dX3_copy_91 ?_
  refine lv_iconst (v := 0) hx hb dX3_copy_94 (by decide) ?_
  refine lv_aload_n hx hb dX3_copy_95 rfl (lv_at hl 0 rfl) ?_
  refine EgX3_0_6 FX hW dX3_copy_96 ?_
  refine lv_iconst (v := 0) hx hb dX3_copy_99 (by decide) ?_
  refine lv_bipush (v := 8) hx hb dX3_copy_100 (by decide) ?_
  refine g_copyi FX hl.1 hW 16 7 Ep16 Ep7 q1277 (by decide) (by decide) (by decide) (Nat.le_of_ble_eq_true rfl) (Nat.le_of_ble_eq_true rfl) ⟨Nat.le_of_ble_eq_true rfl, Nat.le_of_ble_eq_true rfl⟩ (Nat.le_of_ble_eq_true rfl) (L := H2x dA a b a2 b2 wr) Ec16_7 hf dX3_copy_102 (fun s7 H locs hW hf => ?_)
  refine lv_aload_n hx hb dX3_copy_105 rfl (lv_at hl 1 rfl) ?_
  refine EgX3_9_7 FX hW dX3_copy_106 ?_
  refine lv_iconst (v := 0) hx hb dX3_copy_109 (by decide) ?_
  refine lv_aload_n hx hb dX3_copy_110 rfl (lv_at hl 0 rfl) ?_
  refine EgX3_0_7 FX hW dX3_copy_111 ?_
  refine lv_iconst (v := 0) hx hb dX3_copy_114 (by decide) ?_
  refine lv_bipush (v := 8) hx hb dX3_copy_115 (by decide) ?_
  refine g_copyi FX hl.1 hW 17 8 Ep17 Ep8 q1277 (by decide) (by decide) (by decide) (Nat.le_of_ble_eq_true rfl) (Nat.le_of_ble_eq_true rfl) ⟨Nat.le_of_ble_eq_true rfl, Nat.le_of_ble_eq_true rfl⟩ (Nat.le_of_ble_eq_true rfl) (L := H2x dA a b a2 b2 wr) Ec17_8 hf dX3_copy_117 (fun s8 H locs hW hf => ?_)
  refine lv_aload_n hx hb dX3_copy_120 rfl (lv_at hl 0 rfl) ?_
  refine lv_aload_n hx hb dX3_copy_121 rfl (lv_at hl 1 rfl) ?_
  refine EgX3_9_8 FX hW dX3_copy_122 ?_
  refine EsX3_0_8 FX hW hf dX3_copy_125 (fun s9 H locs hW hf => ?_)
  refine lv_aload_n hx hb dX3_copy_128 rfl (lv_at hl 0 rfl) ?_
  refine lv_aload_n hx hb dX3_copy_129 rfl (lv_at hl 1 rfl) ?_
  refine EgX3_9_9 FX hW dX3_copy_130 ?_
  refine EsX3_0_9 FX hW hf dX3_copy_133 (fun s10 H locs hW hf => ?_)
  refine lv_aload_n hx hb dX3_copy_136 rfl (lv_at hl 0 rfl) ?_
  refine lv_aload_n hx hb dX3_copy_137 rfl (lv_at hl 1 rfl) ?_
  refine EgX3_9_10 FX hW dX3_copy_138 ?_
  refine EsX3_0_10 FX hW hf dX3_copy_141 (fun s11 H locs hW hf => ?_)
  refine lv_aload_n hx hb dX3_copy_144 rfl (lv_at hl 0 rfl) ?_
  refine lv_aload_n hx hb dX3_copy_145 rfl (lv_at hl 1 rfl) ?_
  refine EgX3_9_11 FX hW dX3_copy_146 ?_
  refine EsX3_0_11 FX hW hf dX3_copy_149 (fun s12 H locs hW hf => ?_)
  refine lv_aload_n hx hb dX3_copy_152 rfl (lv_at hl 0 rfl) ?_
  refine lv_aload_n hx hb dX3_copy_153 rfl (lv_at hl 1 rfl) ?_
  refine EgX3_9_12 FX hW dX3_copy_154 ?_
  refine EsX3_0_12 FX hW hf dX3_copy_157 (fun s13 H locs hW hf => ?_)
  refine lv_aload_n hx hb dX3_copy_160 rfl (lv_at hl 0 rfl) ?_
  refine lv_iconst (v := -1) hx hb dX3_copy_161 (by decide) ?_
  refine EsX3_0_13 FX hW hf dX3_copy_162 (fun s14 H locs hW hf => ?_)
  refine lv_aload_n hx hb dX3_copy_165 rfl (lv_at hl 0 rfl) ?_
  obtain rfl := Option.some.inj hf
  exact g_aret FX hr hlk hW rfl dX3_copy_166
end H2S
section MK
variable {p : Program} {l : Launch} {e : Env} {R : Room} {s : State} {m : MethodId} {args : Array Value} {below : List Frame} {meth : Method} {c : Code} {H : Heap} {locs : List Loc} {cells slots : Nat} {Q : State → Prop}
variable {cc : ByteArray} {pc nL : Nat} {ls : Array Slot} {rest : List Value} {D : va_G} {dA : Nat → ClassId} {A : Nat → Prop}
theorem HgX0_0_2 {a : Nat} {b : Nat → Nat} {wr : va_W} {σ : Hst} (FX : CallFix p m c cc nL s args lw_all RX0) (hW : Wd D dA A s (Hx dA a b wr σ) H locs) (hdg : decode cc pc = .ok (.getfield 186, 3)) (kk : W p l e R s m args below meth c H locs cells slots Q (F0 m (pc + 3) ls (.ref (b 2) :: rest))) : W p l e R s m args below meth c H locs cells slots Q (F0 m pc ls (.ref a :: rest)) :=
  g_get FX hW (C := RX3) (T := TX3) (N := 14) (ci := 3) in_X3 0 rfl rfl 2 (by decide) q276 (fun _ h => h) rfl hdg kk
set_option maxHeartbeats 4000000 in
set_option maxRecDepth 100000 in
theorem kHX0_has {a : Nat} {b : Nat → Nat} {wr : va_W} {α : Type} {q : α} {k : Int32 → Option α} {x1 : Int32} {σ : Hst} (FX : CallFix p m c cc nL s args lw_all RX0) (hR : rX3_has.frames + 1 ≤ R.frames ∧ 8 + (2 + 11) + rX3_has.locals ≤ R.locals) (hcs : cells ≤ R.cells ∧ slots ≤ R.slots) (hl : ls.size = nL) (hrm : (rest.map fun v => v.category).sum ≤ 8) (hW : Wd D dA A s (Hx dA a b wr σ) H locs) (hf : (fX3_has x1 σ).bind k = some q) (hdg : decode cc pc = .ok (.invokevirtual 158, 3)) (kk : ∀ (r : Int32) (H1 : Heap) (locs1 : List Loc), Wd D dA A s (Hx dA a b wr σ) H1 locs1 → k r = some q → W p l e R s m args below meth c H1 locs1 cells slots Q (F0 m (pc + 3) ls (.int r :: rest))) : W p l e R s m args below meth c H locs cells slots Q (F0 m pc ls (.int x1 :: .ref a :: rest)) := by
  obtain ⟨r1, h1, hf⟩ := bnd hf
  have hW2 := hW
  refine w_Vi (C := RX3) (As := [.int x1]) (rest := rest) (n := 1) (wr := []) FX (mX3_has h1) (cwV 1 FX.2.2.2.2 (lw_V q1156 q337 q338 q129 q339) rfl rfl rfl (by decide +kernel) hR) (va_recv hW.2.2.2.1 hW.1 (ci := 3) (q0 := 0) rfl rfl) rfl hl rfl hrm ⟨Nat.le_trans (Nat.le_of_eq (Nat.add_zero cells)) hcs.1, Nat.le_trans (Nat.le_of_eq (Nat.add_zero slots)) hcs.2⟩ hdg hW2.nil ?_
  exact fun H1 locs1 hW1 => kk r1 H1 locs1 (hW1.nil') hf
/-! TrunkLitters.marksOf(LTrunkLitters$House;)I: kind R -/
def fX0_marksOf_4 (σ : Hst) : Nat → Int32 → Int32 → Option Int32
  | 0, _, _ => none
  | n + 1, x1, x2 => (if (8 : Int32) ≤ x2 then some x1 else (fX3_has x2 σ).bind fun r1 => (if r1 = 0 then fX0_marksOf_4 σ n (x1 ||| (0 : Int32)) (x2 + (1 : Int32)) else ald 8 (hA σ 2) x2 fun v2 => fX0_marksOf_4 σ n (x1 ||| v2) (x2 + (1 : Int32))))
def fX0_marksOf (σ : Hst) : Option Int32 := fX0_marksOf_4 σ FU (0 : Int32) (0 : Int32)
abbrev rX0_marksOf : Room := { frames := 1, cells := 0, slots := 0, locals := 21 }
set_option maxHeartbeats 4000000 in
set_option maxRecDepth 100000 in
theorem wX0_marksOf_4 {a : Nat} {b : Nat → Nat} {wr : va_W} {q : Int32} {σ : Hst} (FX : CallFix p m c cX0_marksOf 3 s args lw_all RX0) (hr : meth.sig.returnType = (some .int)) (hlk : meth.locks = false) : ∀ n : Nat, ∀ (x1 : Int32) (x2 : Int32) (H : Heap) (locs : List Loc) (ls : Array Slot), lv_has ls 3 [(0, .ref a), (1, .int x1), (2, .int x2)] → Wd D dA A s (Hx dA a b wr σ) H locs → fX0_marksOf_4 σ n x1 x2 = some q → W p l e rX0_marksOf s m args below meth c H locs 0 0 (QI D dA A below args s 0 0 q (Hx dA a b wr σ)) (F0 m 4 ls []) := by
  have hx := FX.1; have hb := FX.2.1; have hown := FX.2.2.2.1; have hts := FX.2.2.2.2
  intro n
  induction n with
  | zero =>
    intro x1 x2 H locs ls hl hW hf
    cases (show (none : Option Int32) = some q from hf)
  | succ n ih =>
    intro x1 x2 H locs ls hl hW hf
    rw [fX0_marksOf_4] at hf
    refine lv_iload_n hx hb dX0_marksOf_4 rfl (lv_at hl 2 rfl) ?_
    refine lv_bipush (v := 8) hx hb dX0_marksOf_5 (by decide) ?_
    refine lv_icmp_ge (tgt := 37) hx hb dX0_marksOf_7 (by decide) (fun c7 => ?_) (fun c7 => ?_)
    · have hf := ifp c7 hf
      refine lv_iload_n hx hb dX0_marksOf_37 rfl (lv_at hl 1 rfl) ?_
      exact g_iret FX hr hlk hW (Option.some.inj hf) dX0_marksOf_38
    · have hf := ifn c7 hf
      refine lv_iload_n hx hb dX0_marksOf_10 rfl (lv_at hl 1 rfl) ?_
      refine lv_aload_n hx hb dX0_marksOf_11 rfl (lv_at hl 0 rfl) ?_
      refine lv_iload_n hx hb dX0_marksOf_12 rfl (lv_at hl 2 rfl) ?_
      refine kHX0_has FX ⟨Nat.le_of_ble_eq_true rfl, Nat.le_of_ble_eq_true rfl⟩ ⟨Nat.zero_le _, Nat.zero_le _⟩ hl.1 (Nat.le_of_ble_eq_true rfl) hW hf dX0_marksOf_13 (fun r1 H locs hW hf => ?_)
      refine lv_if_eq (tgt := 28) hx hb dX0_marksOf_16 (by decide) (fun c16 => ?_) (fun c16 => ?_)
      · have hf := ifp c16 hf
        refine lv_iconst (v := 0) hx hb dX0_marksOf_28 (by decide) ?_
        refine lv_ior hx hb dX0_marksOf_29 ?_
        refine lv_istore_n (lv' := [(1, .int (x1 ||| (0 : Int32))), (0, .ref a), (2, .int x2)]) hx hb dX0_marksOf_30 rfl hl (by decide) rfl (fun ls hl => ?_)
        refine lv_iinc (v := (x2 + (1 : Int32))) (lv' := [(2, .int (x2 + (1 : Int32))), (1, .int (x1 ||| (0 : Int32))), (0, .ref a)]) hx hb dX0_marksOf_31 hl (k := 2) rfl rfl (by decide) rfl (fun ls hl => ?_)
        refine lv_goto (tgt := 4) hx hb dX0_marksOf_34 (by decide) ?_
        exact ih (x1 ||| (0 : Int32)) (x2 + (1 : Int32)) _ _ _ (lv_sub hl [2, 1, 0] rfl) hW hf
      · have hf := ifn c16 hf
        refine lv_aload_n hx hb dX0_marksOf_19 rfl (lv_at hl 0 rfl) ?_
        refine HgX0_0_2 FX hW dX0_marksOf_20 ?_
        refine lv_iload_n hx hb dX0_marksOf_23 rfl (lv_at hl 2 rfl) ?_
        refine g_iald FX hW 3 Hp3 hf dX0_marksOf_24 (fun v2 hf => ?_)
        refine lv_goto (tgt := 29) hx hb dX0_marksOf_25 (by decide) ?_
        refine lv_ior hx hb dX0_marksOf_29 ?_
        refine lv_istore_n (lv' := [(1, .int (x1 ||| v2)), (0, .ref a), (2, .int x2)]) hx hb dX0_marksOf_30 rfl hl (by decide) rfl (fun ls hl => ?_)
        refine lv_iinc (v := (x2 + (1 : Int32))) (lv' := [(2, .int (x2 + (1 : Int32))), (1, .int (x1 ||| v2)), (0, .ref a)]) hx hb dX0_marksOf_31 hl (k := 2) rfl rfl (by decide) rfl (fun ls hl => ?_)
        refine lv_goto (tgt := 4) hx hb dX0_marksOf_34 (by decide) ?_
        exact ih (x1 ||| v2) (x2 + (1 : Int32)) _ _ _ (lv_sub hl [2, 1, 0] rfl) hW hf
set_option maxHeartbeats 4000000 in
set_option maxRecDepth 100000 in
theorem mX0_marksOf {a : Nat} {b : Nat → Nat} {wr : va_W}  {σ : Hst} {q : Int32} (hf : fX0_marksOf σ = some q) : CtI l yX0_marksOf cX0_marksOf 3 (some .int) rX0_marksOf D dA [.ref a] (Hx dA a b wr σ) q (Hx dA a b wr σ) := by
  refine e_I (by decide) (Nat.le_of_ble_eq_true rfl) ?_
  intro p e s m below meth c ls A FX hr hlk hl hW
  have hx := FX.1; have hb := FX.2.1; have hown := FX.2.2.2.1; have hts := FX.2.2.2.2
  have hl : lv_has ls 3 [(0, .ref a)] := hl
  rw [fX0_marksOf] at hf
  refine lv_iconst (v := 0) hx hb dX0_marksOf_0 (by decide) ?_
  refine lv_istore_n (lv' := [(1, .int (0 : Int32)), (0, .ref a)]) hx hb dX0_marksOf_1 rfl hl (by decide) rfl (fun ls hl => ?_)
  refine lv_iconst (v := 0) hx hb dX0_marksOf_2 (by decide) ?_
  refine lv_istore_n (lv' := [(2, .int (0 : Int32)), (1, .int (0 : Int32)), (0, .ref a)]) hx hb dX0_marksOf_3 rfl hl (by decide) rfl (fun ls hl => ?_)
  exact wX0_marksOf_4 FX hr hlk _ (0 : Int32) (0 : Int32) _ _ _ (lv_sub hl [2, 1, 0] rfl) hW hf
end MK
