abbrev ndW (ws : va_W) (_ : Unit) : va_W := ws
section NDS
variable {p : Program} {l : Launch} {e : Env} {R : Room} {s : State} {m : MethodId} {args : Array Value} {below : List Frame} {meth : Method} {c : Code} {H : Heap} {locs : List Loc} {cells slots : Nat} {Q : State → Prop}
variable {cc : ByteArray} {pc nL : Nat} {ls : Array Slot} {rest : List Value} {D : va_G} {dA : Nat → ClassId} {A : Nat → Prop}
def fX12_of_235 (ev : Nat → Option Int32) (y z : Nat) (c0 : Int32) (σ : Unit) : Option Int32 := some (1 : Int32)
def fX12_of (ev : Nat → Option Int32) (y z : Nat) (c0 : Int32) (σ : Unit) : Option Int32 := (ev y).bind fun r1 => (ev z).bind fun r2 => (if c0 = (37 : Int32) then (if r2 = 0 then some (0 : Int32) else dvd r2 (some (r1 - r1 / r2 * r2))) else (if c0 = (38 : Int32) then (if r1 = 0 then some (0 : Int32) else (if r2 = 0 then some (0 : Int32) else some (1 : Int32))) else (if c0 = (39 : Int32) then (if r1 = 0 then (if r2 = 0 then some (0 : Int32) else fX12_of_235 ev y z c0 σ) else fX12_of_235 ev y z c0 σ) else (if c0 = (40 : Int32) then (if r1 = 0 then (if r2 = 0 then some (0 : Int32) else fX12_of_235 ev y z c0 σ) else fX12_of_235 ev y z c0 σ) else (if c0 = (41 : Int32) then (if r1 = 0 then (if r2 = 0 then some (0 : Int32) else fX12_of_235 ev y z c0 σ) else fX12_of_235 ev y z c0 σ) else (if c0 = (42 : Int32) then some (r1 * r2) else (if c0 = (43 : Int32) then some (r1 + r2) else (if c0 = (44 : Int32) then (if r1 = 0 then (if r2 = 0 then some (0 : Int32) else fX12_of_235 ev y z c0 σ) else fX12_of_235 ev y z c0 σ) else (if c0 = (45 : Int32) then some (r1 - r2) else (if c0 = (46 : Int32) then (if r1 = 0 then (if r2 = 0 then some (0 : Int32) else fX12_of_235 ev y z c0 σ) else fX12_of_235 ev y z c0 σ) else (if c0 = (47 : Int32) then (if r2 = 0 then some (0 : Int32) else dvd r2 (some (r1 / r2))) else (if c0 = (48 : Int32) then (if r1 = 0 then (if r2 = 0 then some (0 : Int32) else fX12_of_235 ev y z c0 σ) else fX12_of_235 ev y z c0 σ) else (if c0 = (49 : Int32) then (if r1 = 0 then (if r2 = 0 then some (0 : Int32) else fX12_of_235 ev y z c0 σ) else fX12_of_235 ev y z c0 σ) else (if c0 = (50 : Int32) then (if r1 = 0 then (if r2 = 0 then some (0 : Int32) else fX12_of_235 ev y z c0 σ) else fX12_of_235 ev y z c0 σ) else (if c0 = (51 : Int32) then (if r1 = 0 then (if r2 = 0 then some (0 : Int32) else fX12_of_235 ev y z c0 σ) else fX12_of_235 ev y z c0 σ) else (if c0 = (52 : Int32) then (if r1 = 0 then (if r2 = 0 then some (0 : Int32) else fX12_of_235 ev y z c0 σ) else fX12_of_235 ev y z c0 σ) else (if c0 = (53 : Int32) then (if r1 = 0 then (if r2 = 0 then some (0 : Int32) else fX12_of_235 ev y z c0 σ) else fX12_of_235 ev y z c0 σ) else (if c0 = (54 : Int32) then (if r1 = 0 then (if r2 = 0 then some (0 : Int32) else fX12_of_235 ev y z c0 σ) else fX12_of_235 ev y z c0 σ) else (if c0 = (55 : Int32) then (if r1 = 0 then (if r2 = 0 then some (0 : Int32) else fX12_of_235 ev y z c0 σ) else fX12_of_235 ev y z c0 σ) else (if c0 = (56 : Int32) then (if r1 = 0 then (if r2 = 0 then some (0 : Int32) else fX12_of_235 ev y z c0 σ) else fX12_of_235 ev y z c0 σ) else (if c0 = (57 : Int32) then (if r1 = 0 then (if r2 = 0 then some (0 : Int32) else fX12_of_235 ev y z c0 σ) else fX12_of_235 ev y z c0 σ) else (if c0 = (58 : Int32) then (if r1 = 0 then (if r2 = 0 then some (0 : Int32) else fX12_of_235 ev y z c0 σ) else fX12_of_235 ev y z c0 σ) else (if c0 = (59 : Int32) then (if r1 = 0 then (if r2 = 0 then some (0 : Int32) else fX12_of_235 ev y z c0 σ) else fX12_of_235 ev y z c0 σ) else (if c0 = (60 : Int32) then (if r2 ≤ r1 then some (0 : Int32) else some (1 : Int32)) else (if c0 = (61 : Int32) then (if r1 = r2 then some (1 : Int32) else some (0 : Int32)) else (if c0 = (62 : Int32) then (if r1 ≤ r2 then some (0 : Int32) else some (1 : Int32)) else (if r1 = 0 then (if r2 = 0 then some (0 : Int32) else fX12_of_235 ev y z c0 σ) else fX12_of_235 ev y z c0 σ)))))))))))))))))))))))))))
abbrev zX12_of : Nat := 0
set_option maxHeartbeats 4000000 in
set_option maxRecDepth 100000 in
theorem wX12_of_235 {ws pool : va_W} {x y z ka px n : Nat} {c0 : Int32} {ev : Nat → Option Int32} {hpx : ws[px]? = some (x, .inr (11, [.ref y, .ref z, .int c0]))} {hsub : ∀ (a : Nat) (z : va_E), hlk pool a = some z → ∃ k : Nat, ws[k]? = some (a, z)} {hev : NodeM l D dA ws pool ka n ev} {q : Int32} {σ : Unit} (FX : CallFix p m c cX12_of 4 s args lw_all RX12) (hr : meth.sig.returnType = (some .int)) (hlk : meth.locks = false) : ∀ (H : Heap) (locs : List Loc) (ls : Array Slot), lv_has ls 4 [] → Wd D dA A s (ndW ws σ) H locs → fX12_of_235 ev y z c0 σ = some q → W p l e (rNode (n + 1)) s m args below meth c H locs 0 0 (QI D dA A below args s 0 0 q (ndW ws σ)) (F0 m 235 ls []) := by
  have hx := FX.1; have hb := FX.2.1; have hown := FX.2.2.2.1; have hts := FX.2.2.2.2
  intro  H locs ls hl hW hf
  rw [fX12_of_235] at hf
  refine lv_iconst (v := 1) hx hb dX12_of_235 (by decide) ?_
  refine lv_goto (tgt := 240) hx hb dX12_of_236 (by decide) ?_
  exact g_iret FX hr hlk hW (Option.some.inj hf) dX12_of_240
set_option maxHeartbeats 4000000 in
set_option maxRecDepth 100000 in
theorem mX12_of {ws pool : va_W} {x y z ka px n : Nat} {c0 : Int32} {ev : Nat → Option Int32} {hpx : ws[px]? = some (x, .inr (11, [.ref y, .ref z, .int c0]))} {hsub : ∀ (a : Nat) (z : va_E), hlk pool a = some z → ∃ k : Nat, ws[k]? = some (a, z)} {hev : NodeM l D dA ws pool ka n ev}  {σ : Unit} {q : Int32} (hf : fX12_of ev y z c0 σ = some q) : BdI l yX12_of cX12_of 4 (rNode (n + 1)) D dA [.ref x, .ref ka] (ndW ws σ) q (ndW ws σ) := by
  intro p e s m below meth c ls A FX hr hlk hl hW
  have hx := FX.1; have hb := FX.2.1; have hown := FX.2.2.2.1; have hts := FX.2.2.2.2
  have hl : lv_has ls 4 [(0, .ref x), (1, .ref ka)] := hl
  rw [fX12_of] at hf
  refine lv_aload_n hx hb dX12_of_0 rfl (lv_at hl 0 rfl) ?_
  refine g_get FX hW (C := RX12) (T := TX12) (N := 3) (ci := 11) in_X12 px hpx rfl 0 (by decide) q1088 (fun _ h => h) rfl dX12_of_1 ?_
  refine lv_aload_n hx hb dX12_of_4 rfl (lv_at hl 1 rfl) ?_
  refine node_row (Or.inr (Or.inr ⟨rfl, rfl⟩)) hsub hev FX ⟨Nat.le_refl _, Nat.le_refl _⟩ ⟨Nat.zero_le _, Nat.zero_le _⟩ hl.1 (Nat.le_of_ble_eq_true rfl) hW hf dX12_of_5 (fun r1 H locs hW hf => ?_)
  refine lv_istore_n (lv' := [(2, .int r1), (0, .ref x), (1, .ref ka)]) hx hb dX12_of_10 rfl hl (by decide) rfl (fun ls hl => ?_)
  refine lv_aload_n hx hb dX12_of_11 rfl (lv_at hl 1 rfl) ?_
  refine g_get FX hW (C := RX12) (T := TX12) (N := 3) (ci := 11) in_X12 px hpx rfl 1 (by decide) q1089 (fun _ h => h) rfl dX12_of_12 ?_
  refine lv_aload_n hx hb dX12_of_15 rfl (lv_at hl 2 rfl) ?_
  refine node_row (Or.inr (Or.inr ⟨rfl, rfl⟩)) hsub hev FX ⟨Nat.le_refl _, Nat.le_refl _⟩ ⟨Nat.zero_le _, Nat.zero_le _⟩ hl.1 (Nat.le_of_ble_eq_true rfl) hW hf dX12_of_16 (fun r2 H locs hW hf => ?_)
  refine lv_istore_n (lv' := [(3, .int r2), (2, .int r1), (0, .ref x), (1, .ref ka)]) hx hb dX12_of_21 rfl hl (by decide) rfl (fun ls hl => ?_)
  refine lv_aload_n hx hb dX12_of_22 rfl (lv_at hl 2 rfl) ?_
  refine g_get FX hW (C := RX12) (T := TX12) (N := 3) (ci := 11) in_X12 px hpx rfl 2 (by decide) q1090 (fun _ h => h) rfl dX12_of_23 ?_
  by_cases c26_37 : c0 = (37 : Int32)
  · have hf := ifp c26_37 hf
    refine g_tabC (tgt := 168) FX (37 : Int32) c26_37 (by decide) (by decide) rfl (by decide) dX12_of_26 ?_
    refine lv_iload_n hx hb dX12_of_168 rfl (lv_at hl 0 rfl) ?_
    refine lv_if_ne (tgt := 176) hx hb dX12_of_169 (by decide) (fun c169 => ?_) (fun c169 => ?_)
    · have hf := ifn c169 hf
      refine lv_iload_n hx hb dX12_of_176 rfl (lv_at hl 1 rfl) ?_
      refine lv_iload_n hx hb dX12_of_177 rfl (lv_at hl 0 rfl) ?_
      refine lv_irem hx hb dX12_of_178 (dvd_some hf).1 ?_
      have hf := (dvd_some hf).2
      exact g_iret FX hr hlk hW (Option.some.inj hf) dX12_of_179
    · have hf := ifp c169 hf
      refine lv_iconst (v := 0) hx hb dX12_of_172 (by decide) ?_
      refine lv_goto (tgt := 179) hx hb dX12_of_173 (by decide) ?_
      exact g_iret FX hr hlk hW (Option.some.inj hf) dX12_of_179
  have hf := ifn c26_37 hf
  by_cases c26_38 : c0 = (38 : Int32)
  · have hf := ifp c26_38 hf
    refine g_tabC (tgt := 213) FX (38 : Int32) c26_38 (by decide) (by decide) rfl (by decide) dX12_of_26 ?_
    refine lv_iload_n hx hb dX12_of_213 rfl (lv_at hl 1 rfl) ?_
    refine lv_if_eq (tgt := 225) hx hb dX12_of_214 (by decide) (fun c214 => ?_) (fun c214 => ?_)
    · have hf := ifp c214 hf
      refine lv_iconst (v := 0) hx hb dX12_of_225 (by decide) ?_
      exact g_iret FX hr hlk hW (Option.some.inj hf) dX12_of_226
    · have hf := ifn c214 hf
      refine lv_iload_n hx hb dX12_of_217 rfl (lv_at hl 0 rfl) ?_
      refine lv_if_eq (tgt := 225) hx hb dX12_of_218 (by decide) (fun c218 => ?_) (fun c218 => ?_)
      · have hf := ifp c218 hf
        refine lv_iconst (v := 0) hx hb dX12_of_225 (by decide) ?_
        exact g_iret FX hr hlk hW (Option.some.inj hf) dX12_of_226
      · have hf := ifn c218 hf
        refine lv_iconst (v := 1) hx hb dX12_of_221 (by decide) ?_
        refine lv_goto (tgt := 226) hx hb dX12_of_222 (by decide) ?_
        exact g_iret FX hr hlk hW (Option.some.inj hf) dX12_of_226
  have hf := ifn c26_38 hf
  by_cases c26_39 : c0 = (39 : Int32)
  · have hf := ifp c26_39 hf
    refine g_tabC (tgt := 227) FX (39 : Int32) c26_39 (by decide) (by decide) rfl (by decide) dX12_of_26 ?_
    refine lv_iload_n hx hb dX12_of_227 rfl (lv_at hl 1 rfl) ?_
    refine lv_if_ne (tgt := 235) hx hb dX12_of_228 (by decide) (fun c228 => ?_) (fun c228 => ?_)
    · have hf := ifn c228 hf
      exact wX12_of_235 (hpx := hpx) (hsub := hsub) (hev := hev) FX hr hlk _ _ _ (lv_sub hl [] rfl) hW hf
    · have hf := ifp c228 hf
      refine lv_iload_n hx hb dX12_of_231 rfl (lv_at hl 0 rfl) ?_
      refine lv_if_eq (tgt := 239) hx hb dX12_of_232 (by decide) (fun c232 => ?_) (fun c232 => ?_)
      · have hf := ifp c232 hf
        refine lv_iconst (v := 0) hx hb dX12_of_239 (by decide) ?_
        exact g_iret FX hr hlk hW (Option.some.inj hf) dX12_of_240
      · have hf := ifn c232 hf
        exact wX12_of_235 (hpx := hpx) (hsub := hsub) (hev := hev) FX hr hlk _ _ _ (lv_sub hl [] rfl) hW hf
  have hf := ifn c26_39 hf
  by_cases c26_40 : c0 = (40 : Int32)
  · have hf := ifp c26_40 hf
    refine g_tabC (tgt := 227) FX (40 : Int32) c26_40 (by decide) (by decide) rfl (by decide) dX12_of_26 ?_
    refine lv_iload_n hx hb dX12_of_227 rfl (lv_at hl 1 rfl) ?_
    refine lv_if_ne (tgt := 235) hx hb dX12_of_228 (by decide) (fun c228 => ?_) (fun c228 => ?_)
    · have hf := ifn c228 hf
      exact wX12_of_235 (hpx := hpx) (hsub := hsub) (hev := hev) FX hr hlk _ _ _ (lv_sub hl [] rfl) hW hf
    · have hf := ifp c228 hf
      refine lv_iload_n hx hb dX12_of_231 rfl (lv_at hl 0 rfl) ?_
      refine lv_if_eq (tgt := 239) hx hb dX12_of_232 (by decide) (fun c232 => ?_) (fun c232 => ?_)
      · have hf := ifp c232 hf
        refine lv_iconst (v := 0) hx hb dX12_of_239 (by decide) ?_
        exact g_iret FX hr hlk hW (Option.some.inj hf) dX12_of_240
      · have hf := ifn c232 hf
        exact wX12_of_235 (hpx := hpx) (hsub := hsub) (hev := hev) FX hr hlk _ _ _ (lv_sub hl [] rfl) hW hf
  have hf := ifn c26_40 hf
  by_cases c26_41 : c0 = (41 : Int32)
  · have hf := ifp c26_41 hf
    refine g_tabC (tgt := 227) FX (41 : Int32) c26_41 (by decide) (by decide) rfl (by decide) dX12_of_26 ?_
    refine lv_iload_n hx hb dX12_of_227 rfl (lv_at hl 1 rfl) ?_
    refine lv_if_ne (tgt := 235) hx hb dX12_of_228 (by decide) (fun c228 => ?_) (fun c228 => ?_)
    · have hf := ifn c228 hf
      exact wX12_of_235 (hpx := hpx) (hsub := hsub) (hev := hev) FX hr hlk _ _ _ (lv_sub hl [] rfl) hW hf
    · have hf := ifp c228 hf
      refine lv_iload_n hx hb dX12_of_231 rfl (lv_at hl 0 rfl) ?_
      refine lv_if_eq (tgt := 239) hx hb dX12_of_232 (by decide) (fun c232 => ?_) (fun c232 => ?_)
      · have hf := ifp c232 hf
        refine lv_iconst (v := 0) hx hb dX12_of_239 (by decide) ?_
        exact g_iret FX hr hlk hW (Option.some.inj hf) dX12_of_240
      · have hf := ifn c232 hf
        exact wX12_of_235 (hpx := hpx) (hsub := hsub) (hev := hev) FX hr hlk _ _ _ (lv_sub hl [] rfl) hW hf
  have hf := ifn c26_41 hf
  by_cases c26_42 : c0 = (42 : Int32)
  · have hf := ifp c26_42 hf
    refine g_tabC (tgt := 152) FX (42 : Int32) c26_42 (by decide) (by decide) rfl (by decide) dX12_of_26 ?_
    refine lv_iload_n hx hb dX12_of_152 rfl (lv_at hl 1 rfl) ?_
    refine lv_iload_n hx hb dX12_of_153 rfl (lv_at hl 0 rfl) ?_
    refine lv_imul hx hb dX12_of_154 ?_
    exact g_iret FX hr hlk hW (Option.some.inj hf) dX12_of_155
  have hf := ifn c26_42 hf
  by_cases c26_43 : c0 = (43 : Int32)
  · have hf := ifp c26_43 hf
    refine g_tabC (tgt := 144) FX (43 : Int32) c26_43 (by decide) (by decide) rfl (by decide) dX12_of_26 ?_
    refine lv_iload_n hx hb dX12_of_144 rfl (lv_at hl 1 rfl) ?_
    refine lv_iload_n hx hb dX12_of_145 rfl (lv_at hl 0 rfl) ?_
    refine lv_iadd hx hb dX12_of_146 ?_
    exact g_iret FX hr hlk hW (Option.some.inj hf) dX12_of_147
  have hf := ifn c26_43 hf
  by_cases c26_44 : c0 = (44 : Int32)
  · have hf := ifp c26_44 hf
    refine g_tabC (tgt := 227) FX (44 : Int32) c26_44 (by decide) (by decide) rfl (by decide) dX12_of_26 ?_
    refine lv_iload_n hx hb dX12_of_227 rfl (lv_at hl 1 rfl) ?_
    refine lv_if_ne (tgt := 235) hx hb dX12_of_228 (by decide) (fun c228 => ?_) (fun c228 => ?_)
    · have hf := ifn c228 hf
      exact wX12_of_235 (hpx := hpx) (hsub := hsub) (hev := hev) FX hr hlk _ _ _ (lv_sub hl [] rfl) hW hf
    · have hf := ifp c228 hf
      refine lv_iload_n hx hb dX12_of_231 rfl (lv_at hl 0 rfl) ?_
      refine lv_if_eq (tgt := 239) hx hb dX12_of_232 (by decide) (fun c232 => ?_) (fun c232 => ?_)
      · have hf := ifp c232 hf
        refine lv_iconst (v := 0) hx hb dX12_of_239 (by decide) ?_
        exact g_iret FX hr hlk hW (Option.some.inj hf) dX12_of_240
      · have hf := ifn c232 hf
        exact wX12_of_235 (hpx := hpx) (hsub := hsub) (hev := hev) FX hr hlk _ _ _ (lv_sub hl [] rfl) hW hf
  have hf := ifn c26_44 hf
  by_cases c26_45 : c0 = (45 : Int32)
  · have hf := ifp c26_45 hf
    refine g_tabC (tgt := 148) FX (45 : Int32) c26_45 (by decide) (by decide) rfl (by decide) dX12_of_26 ?_
    refine lv_iload_n hx hb dX12_of_148 rfl (lv_at hl 1 rfl) ?_
    refine lv_iload_n hx hb dX12_of_149 rfl (lv_at hl 0 rfl) ?_
    refine lv_isub hx hb dX12_of_150 ?_
    exact g_iret FX hr hlk hW (Option.some.inj hf) dX12_of_151
  have hf := ifn c26_45 hf
  by_cases c26_46 : c0 = (46 : Int32)
  · have hf := ifp c26_46 hf
    refine g_tabC (tgt := 227) FX (46 : Int32) c26_46 (by decide) (by decide) rfl (by decide) dX12_of_26 ?_
    refine lv_iload_n hx hb dX12_of_227 rfl (lv_at hl 1 rfl) ?_
    refine lv_if_ne (tgt := 235) hx hb dX12_of_228 (by decide) (fun c228 => ?_) (fun c228 => ?_)
    · have hf := ifn c228 hf
      exact wX12_of_235 (hpx := hpx) (hsub := hsub) (hev := hev) FX hr hlk _ _ _ (lv_sub hl [] rfl) hW hf
    · have hf := ifp c228 hf
      refine lv_iload_n hx hb dX12_of_231 rfl (lv_at hl 0 rfl) ?_
      refine lv_if_eq (tgt := 239) hx hb dX12_of_232 (by decide) (fun c232 => ?_) (fun c232 => ?_)
      · have hf := ifp c232 hf
        refine lv_iconst (v := 0) hx hb dX12_of_239 (by decide) ?_
        exact g_iret FX hr hlk hW (Option.some.inj hf) dX12_of_240
      · have hf := ifn c232 hf
        exact wX12_of_235 (hpx := hpx) (hsub := hsub) (hev := hev) FX hr hlk _ _ _ (lv_sub hl [] rfl) hW hf
  have hf := ifn c26_46 hf
  by_cases c26_47 : c0 = (47 : Int32)
  · have hf := ifp c26_47 hf
    refine g_tabC (tgt := 156) FX (47 : Int32) c26_47 (by decide) (by decide) rfl (by decide) dX12_of_26 ?_
    refine lv_iload_n hx hb dX12_of_156 rfl (lv_at hl 0 rfl) ?_
    refine lv_if_ne (tgt := 164) hx hb dX12_of_157 (by decide) (fun c157 => ?_) (fun c157 => ?_)
    · have hf := ifn c157 hf
      refine lv_iload_n hx hb dX12_of_164 rfl (lv_at hl 1 rfl) ?_
      refine lv_iload_n hx hb dX12_of_165 rfl (lv_at hl 0 rfl) ?_
      refine lv_idiv hx hb dX12_of_166 (dvd_some hf).1 ?_
      have hf := (dvd_some hf).2
      exact g_iret FX hr hlk hW (Option.some.inj hf) dX12_of_167
    · have hf := ifp c157 hf
      refine lv_iconst (v := 0) hx hb dX12_of_160 (by decide) ?_
      refine lv_goto (tgt := 167) hx hb dX12_of_161 (by decide) ?_
      exact g_iret FX hr hlk hW (Option.some.inj hf) dX12_of_167
  have hf := ifn c26_47 hf
  by_cases c26_48 : c0 = (48 : Int32)
  · have hf := ifp c26_48 hf
    refine g_tabC (tgt := 227) FX (48 : Int32) c26_48 (by decide) (by decide) rfl (by decide) dX12_of_26 ?_
    refine lv_iload_n hx hb dX12_of_227 rfl (lv_at hl 1 rfl) ?_
    refine lv_if_ne (tgt := 235) hx hb dX12_of_228 (by decide) (fun c228 => ?_) (fun c228 => ?_)
    · have hf := ifn c228 hf
      exact wX12_of_235 (hpx := hpx) (hsub := hsub) (hev := hev) FX hr hlk _ _ _ (lv_sub hl [] rfl) hW hf
    · have hf := ifp c228 hf
      refine lv_iload_n hx hb dX12_of_231 rfl (lv_at hl 0 rfl) ?_
      refine lv_if_eq (tgt := 239) hx hb dX12_of_232 (by decide) (fun c232 => ?_) (fun c232 => ?_)
      · have hf := ifp c232 hf
        refine lv_iconst (v := 0) hx hb dX12_of_239 (by decide) ?_
        exact g_iret FX hr hlk hW (Option.some.inj hf) dX12_of_240
      · have hf := ifn c232 hf
        exact wX12_of_235 (hpx := hpx) (hsub := hsub) (hev := hev) FX hr hlk _ _ _ (lv_sub hl [] rfl) hW hf
  have hf := ifn c26_48 hf
  by_cases c26_49 : c0 = (49 : Int32)
  · have hf := ifp c26_49 hf
    refine g_tabC (tgt := 227) FX (49 : Int32) c26_49 (by decide) (by decide) rfl (by decide) dX12_of_26 ?_
    refine lv_iload_n hx hb dX12_of_227 rfl (lv_at hl 1 rfl) ?_
    refine lv_if_ne (tgt := 235) hx hb dX12_of_228 (by decide) (fun c228 => ?_) (fun c228 => ?_)
    · have hf := ifn c228 hf
      exact wX12_of_235 (hpx := hpx) (hsub := hsub) (hev := hev) FX hr hlk _ _ _ (lv_sub hl [] rfl) hW hf
    · have hf := ifp c228 hf
      refine lv_iload_n hx hb dX12_of_231 rfl (lv_at hl 0 rfl) ?_
      refine lv_if_eq (tgt := 239) hx hb dX12_of_232 (by decide) (fun c232 => ?_) (fun c232 => ?_)
      · have hf := ifp c232 hf
        refine lv_iconst (v := 0) hx hb dX12_of_239 (by decide) ?_
        exact g_iret FX hr hlk hW (Option.some.inj hf) dX12_of_240
      · have hf := ifn c232 hf
        exact wX12_of_235 (hpx := hpx) (hsub := hsub) (hev := hev) FX hr hlk _ _ _ (lv_sub hl [] rfl) hW hf
  have hf := ifn c26_49 hf
  by_cases c26_50 : c0 = (50 : Int32)
  · have hf := ifp c26_50 hf
    refine g_tabC (tgt := 227) FX (50 : Int32) c26_50 (by decide) (by decide) rfl (by decide) dX12_of_26 ?_
    refine lv_iload_n hx hb dX12_of_227 rfl (lv_at hl 1 rfl) ?_
    refine lv_if_ne (tgt := 235) hx hb dX12_of_228 (by decide) (fun c228 => ?_) (fun c228 => ?_)
    · have hf := ifn c228 hf
      exact wX12_of_235 (hpx := hpx) (hsub := hsub) (hev := hev) FX hr hlk _ _ _ (lv_sub hl [] rfl) hW hf
    · have hf := ifp c228 hf
      refine lv_iload_n hx hb dX12_of_231 rfl (lv_at hl 0 rfl) ?_
      refine lv_if_eq (tgt := 239) hx hb dX12_of_232 (by decide) (fun c232 => ?_) (fun c232 => ?_)
      · have hf := ifp c232 hf
        refine lv_iconst (v := 0) hx hb dX12_of_239 (by decide) ?_
        exact g_iret FX hr hlk hW (Option.some.inj hf) dX12_of_240
      · have hf := ifn c232 hf
        exact wX12_of_235 (hpx := hpx) (hsub := hsub) (hev := hev) FX hr hlk _ _ _ (lv_sub hl [] rfl) hW hf
  have hf := ifn c26_50 hf
  by_cases c26_51 : c0 = (51 : Int32)
  · have hf := ifp c26_51 hf
    refine g_tabC (tgt := 227) FX (51 : Int32) c26_51 (by decide) (by decide) rfl (by decide) dX12_of_26 ?_
    refine lv_iload_n hx hb dX12_of_227 rfl (lv_at hl 1 rfl) ?_
    refine lv_if_ne (tgt := 235) hx hb dX12_of_228 (by decide) (fun c228 => ?_) (fun c228 => ?_)
    · have hf := ifn c228 hf
      exact wX12_of_235 (hpx := hpx) (hsub := hsub) (hev := hev) FX hr hlk _ _ _ (lv_sub hl [] rfl) hW hf
    · have hf := ifp c228 hf
      refine lv_iload_n hx hb dX12_of_231 rfl (lv_at hl 0 rfl) ?_
      refine lv_if_eq (tgt := 239) hx hb dX12_of_232 (by decide) (fun c232 => ?_) (fun c232 => ?_)
      · have hf := ifp c232 hf
        refine lv_iconst (v := 0) hx hb dX12_of_239 (by decide) ?_
        exact g_iret FX hr hlk hW (Option.some.inj hf) dX12_of_240
      · have hf := ifn c232 hf
        exact wX12_of_235 (hpx := hpx) (hsub := hsub) (hev := hev) FX hr hlk _ _ _ (lv_sub hl [] rfl) hW hf
  have hf := ifn c26_51 hf
  by_cases c26_52 : c0 = (52 : Int32)
  · have hf := ifp c26_52 hf
    refine g_tabC (tgt := 227) FX (52 : Int32) c26_52 (by decide) (by decide) rfl (by decide) dX12_of_26 ?_
    refine lv_iload_n hx hb dX12_of_227 rfl (lv_at hl 1 rfl) ?_
    refine lv_if_ne (tgt := 235) hx hb dX12_of_228 (by decide) (fun c228 => ?_) (fun c228 => ?_)
    · have hf := ifn c228 hf
      exact wX12_of_235 (hpx := hpx) (hsub := hsub) (hev := hev) FX hr hlk _ _ _ (lv_sub hl [] rfl) hW hf
    · have hf := ifp c228 hf
      refine lv_iload_n hx hb dX12_of_231 rfl (lv_at hl 0 rfl) ?_
      refine lv_if_eq (tgt := 239) hx hb dX12_of_232 (by decide) (fun c232 => ?_) (fun c232 => ?_)
      · have hf := ifp c232 hf
        refine lv_iconst (v := 0) hx hb dX12_of_239 (by decide) ?_
        exact g_iret FX hr hlk hW (Option.some.inj hf) dX12_of_240
      · have hf := ifn c232 hf
        exact wX12_of_235 (hpx := hpx) (hsub := hsub) (hev := hev) FX hr hlk _ _ _ (lv_sub hl [] rfl) hW hf
  have hf := ifn c26_52 hf
  by_cases c26_53 : c0 = (53 : Int32)
  · have hf := ifp c26_53 hf
    refine g_tabC (tgt := 227) FX (53 : Int32) c26_53 (by decide) (by decide) rfl (by decide) dX12_of_26 ?_
    refine lv_iload_n hx hb dX12_of_227 rfl (lv_at hl 1 rfl) ?_
    refine lv_if_ne (tgt := 235) hx hb dX12_of_228 (by decide) (fun c228 => ?_) (fun c228 => ?_)
    · have hf := ifn c228 hf
      exact wX12_of_235 (hpx := hpx) (hsub := hsub) (hev := hev) FX hr hlk _ _ _ (lv_sub hl [] rfl) hW hf
    · have hf := ifp c228 hf
      refine lv_iload_n hx hb dX12_of_231 rfl (lv_at hl 0 rfl) ?_
      refine lv_if_eq (tgt := 239) hx hb dX12_of_232 (by decide) (fun c232 => ?_) (fun c232 => ?_)
      · have hf := ifp c232 hf
        refine lv_iconst (v := 0) hx hb dX12_of_239 (by decide) ?_
        exact g_iret FX hr hlk hW (Option.some.inj hf) dX12_of_240
      · have hf := ifn c232 hf
        exact wX12_of_235 (hpx := hpx) (hsub := hsub) (hev := hev) FX hr hlk _ _ _ (lv_sub hl [] rfl) hW hf
  have hf := ifn c26_53 hf
  by_cases c26_54 : c0 = (54 : Int32)
  · have hf := ifp c26_54 hf
    refine g_tabC (tgt := 227) FX (54 : Int32) c26_54 (by decide) (by decide) rfl (by decide) dX12_of_26 ?_
    refine lv_iload_n hx hb dX12_of_227 rfl (lv_at hl 1 rfl) ?_
    refine lv_if_ne (tgt := 235) hx hb dX12_of_228 (by decide) (fun c228 => ?_) (fun c228 => ?_)
    · have hf := ifn c228 hf
      exact wX12_of_235 (hpx := hpx) (hsub := hsub) (hev := hev) FX hr hlk _ _ _ (lv_sub hl [] rfl) hW hf
    · have hf := ifp c228 hf
      refine lv_iload_n hx hb dX12_of_231 rfl (lv_at hl 0 rfl) ?_
      refine lv_if_eq (tgt := 239) hx hb dX12_of_232 (by decide) (fun c232 => ?_) (fun c232 => ?_)
      · have hf := ifp c232 hf
        refine lv_iconst (v := 0) hx hb dX12_of_239 (by decide) ?_
        exact g_iret FX hr hlk hW (Option.some.inj hf) dX12_of_240
      · have hf := ifn c232 hf
        exact wX12_of_235 (hpx := hpx) (hsub := hsub) (hev := hev) FX hr hlk _ _ _ (lv_sub hl [] rfl) hW hf
  have hf := ifn c26_54 hf
  by_cases c26_55 : c0 = (55 : Int32)
  · have hf := ifp c26_55 hf
    refine g_tabC (tgt := 227) FX (55 : Int32) c26_55 (by decide) (by decide) rfl (by decide) dX12_of_26 ?_
    refine lv_iload_n hx hb dX12_of_227 rfl (lv_at hl 1 rfl) ?_
    refine lv_if_ne (tgt := 235) hx hb dX12_of_228 (by decide) (fun c228 => ?_) (fun c228 => ?_)
    · have hf := ifn c228 hf
      exact wX12_of_235 (hpx := hpx) (hsub := hsub) (hev := hev) FX hr hlk _ _ _ (lv_sub hl [] rfl) hW hf
    · have hf := ifp c228 hf
      refine lv_iload_n hx hb dX12_of_231 rfl (lv_at hl 0 rfl) ?_
      refine lv_if_eq (tgt := 239) hx hb dX12_of_232 (by decide) (fun c232 => ?_) (fun c232 => ?_)
      · have hf := ifp c232 hf
        refine lv_iconst (v := 0) hx hb dX12_of_239 (by decide) ?_
        exact g_iret FX hr hlk hW (Option.some.inj hf) dX12_of_240
      · have hf := ifn c232 hf
        exact wX12_of_235 (hpx := hpx) (hsub := hsub) (hev := hev) FX hr hlk _ _ _ (lv_sub hl [] rfl) hW hf
  have hf := ifn c26_55 hf
  by_cases c26_56 : c0 = (56 : Int32)
  · have hf := ifp c26_56 hf
    refine g_tabC (tgt := 227) FX (56 : Int32) c26_56 (by decide) (by decide) rfl (by decide) dX12_of_26 ?_
    refine lv_iload_n hx hb dX12_of_227 rfl (lv_at hl 1 rfl) ?_
    refine lv_if_ne (tgt := 235) hx hb dX12_of_228 (by decide) (fun c228 => ?_) (fun c228 => ?_)
    · have hf := ifn c228 hf
      exact wX12_of_235 (hpx := hpx) (hsub := hsub) (hev := hev) FX hr hlk _ _ _ (lv_sub hl [] rfl) hW hf
    · have hf := ifp c228 hf
      refine lv_iload_n hx hb dX12_of_231 rfl (lv_at hl 0 rfl) ?_
      refine lv_if_eq (tgt := 239) hx hb dX12_of_232 (by decide) (fun c232 => ?_) (fun c232 => ?_)
      · have hf := ifp c232 hf
        refine lv_iconst (v := 0) hx hb dX12_of_239 (by decide) ?_
        exact g_iret FX hr hlk hW (Option.some.inj hf) dX12_of_240
      · have hf := ifn c232 hf
        exact wX12_of_235 (hpx := hpx) (hsub := hsub) (hev := hev) FX hr hlk _ _ _ (lv_sub hl [] rfl) hW hf
  have hf := ifn c26_56 hf
  by_cases c26_57 : c0 = (57 : Int32)
  · have hf := ifp c26_57 hf
    refine g_tabC (tgt := 227) FX (57 : Int32) c26_57 (by decide) (by decide) rfl (by decide) dX12_of_26 ?_
    refine lv_iload_n hx hb dX12_of_227 rfl (lv_at hl 1 rfl) ?_
    refine lv_if_ne (tgt := 235) hx hb dX12_of_228 (by decide) (fun c228 => ?_) (fun c228 => ?_)
    · have hf := ifn c228 hf
      exact wX12_of_235 (hpx := hpx) (hsub := hsub) (hev := hev) FX hr hlk _ _ _ (lv_sub hl [] rfl) hW hf
    · have hf := ifp c228 hf
      refine lv_iload_n hx hb dX12_of_231 rfl (lv_at hl 0 rfl) ?_
      refine lv_if_eq (tgt := 239) hx hb dX12_of_232 (by decide) (fun c232 => ?_) (fun c232 => ?_)
      · have hf := ifp c232 hf
        refine lv_iconst (v := 0) hx hb dX12_of_239 (by decide) ?_
        exact g_iret FX hr hlk hW (Option.some.inj hf) dX12_of_240
      · have hf := ifn c232 hf
        exact wX12_of_235 (hpx := hpx) (hsub := hsub) (hev := hev) FX hr hlk _ _ _ (lv_sub hl [] rfl) hW hf
  have hf := ifn c26_57 hf
  by_cases c26_58 : c0 = (58 : Int32)
  · have hf := ifp c26_58 hf
    refine g_tabC (tgt := 227) FX (58 : Int32) c26_58 (by decide) (by decide) rfl (by decide) dX12_of_26 ?_
    refine lv_iload_n hx hb dX12_of_227 rfl (lv_at hl 1 rfl) ?_
    refine lv_if_ne (tgt := 235) hx hb dX12_of_228 (by decide) (fun c228 => ?_) (fun c228 => ?_)
    · have hf := ifn c228 hf
      exact wX12_of_235 (hpx := hpx) (hsub := hsub) (hev := hev) FX hr hlk _ _ _ (lv_sub hl [] rfl) hW hf
    · have hf := ifp c228 hf
      refine lv_iload_n hx hb dX12_of_231 rfl (lv_at hl 0 rfl) ?_
      refine lv_if_eq (tgt := 239) hx hb dX12_of_232 (by decide) (fun c232 => ?_) (fun c232 => ?_)
      · have hf := ifp c232 hf
        refine lv_iconst (v := 0) hx hb dX12_of_239 (by decide) ?_
        exact g_iret FX hr hlk hW (Option.some.inj hf) dX12_of_240
      · have hf := ifn c232 hf
        exact wX12_of_235 (hpx := hpx) (hsub := hsub) (hev := hev) FX hr hlk _ _ _ (lv_sub hl [] rfl) hW hf
  have hf := ifn c26_58 hf
  by_cases c26_59 : c0 = (59 : Int32)
  · have hf := ifp c26_59 hf
    refine g_tabC (tgt := 227) FX (59 : Int32) c26_59 (by decide) (by decide) rfl (by decide) dX12_of_26 ?_
    refine lv_iload_n hx hb dX12_of_227 rfl (lv_at hl 1 rfl) ?_
    refine lv_if_ne (tgt := 235) hx hb dX12_of_228 (by decide) (fun c228 => ?_) (fun c228 => ?_)
    · have hf := ifn c228 hf
      exact wX12_of_235 (hpx := hpx) (hsub := hsub) (hev := hev) FX hr hlk _ _ _ (lv_sub hl [] rfl) hW hf
    · have hf := ifp c228 hf
      refine lv_iload_n hx hb dX12_of_231 rfl (lv_at hl 0 rfl) ?_
      refine lv_if_eq (tgt := 239) hx hb dX12_of_232 (by decide) (fun c232 => ?_) (fun c232 => ?_)
      · have hf := ifp c232 hf
        refine lv_iconst (v := 0) hx hb dX12_of_239 (by decide) ?_
        exact g_iret FX hr hlk hW (Option.some.inj hf) dX12_of_240
      · have hf := ifn c232 hf
        exact wX12_of_235 (hpx := hpx) (hsub := hsub) (hev := hev) FX hr hlk _ _ _ (lv_sub hl [] rfl) hW hf
  have hf := ifn c26_59 hf
  by_cases c26_60 : c0 = (60 : Int32)
  · have hf := ifp c26_60 hf
    refine g_tabC (tgt := 180) FX (60 : Int32) c26_60 (by decide) (by decide) rfl (by decide) dX12_of_26 ?_
    refine lv_iload_n hx hb dX12_of_180 rfl (lv_at hl 1 rfl) ?_
    refine lv_iload_n hx hb dX12_of_181 rfl (lv_at hl 0 rfl) ?_
    refine lv_icmp_ge (tgt := 189) hx hb dX12_of_182 (by decide) (fun c182 => ?_) (fun c182 => ?_)
    · have hf := ifp c182 hf
      refine lv_iconst (v := 0) hx hb dX12_of_189 (by decide) ?_
      exact g_iret FX hr hlk hW (Option.some.inj hf) dX12_of_190
    · have hf := ifn c182 hf
      refine lv_iconst (v := 1) hx hb dX12_of_185 (by decide) ?_
      refine lv_goto (tgt := 190) hx hb dX12_of_186 (by decide) ?_
      exact g_iret FX hr hlk hW (Option.some.inj hf) dX12_of_190
  have hf := ifn c26_60 hf
  by_cases c26_61 : c0 = (61 : Int32)
  · have hf := ifp c26_61 hf
    refine g_tabC (tgt := 202) FX (61 : Int32) c26_61 (by decide) (by decide) rfl (by decide) dX12_of_26 ?_
    refine lv_iload_n hx hb dX12_of_202 rfl (lv_at hl 1 rfl) ?_
    refine lv_iload_n hx hb dX12_of_203 rfl (lv_at hl 0 rfl) ?_
    refine lv_icmp_ne (tgt := 211) hx hb dX12_of_204 (by decide) (fun c204 => ?_) (fun c204 => ?_)
    · have hf := ifn c204 hf
      refine lv_iconst (v := 0) hx hb dX12_of_211 (by decide) ?_
      exact g_iret FX hr hlk hW (Option.some.inj hf) dX12_of_212
    · have hf := ifp c204 hf
      refine lv_iconst (v := 1) hx hb dX12_of_207 (by decide) ?_
      refine lv_goto (tgt := 212) hx hb dX12_of_208 (by decide) ?_
      exact g_iret FX hr hlk hW (Option.some.inj hf) dX12_of_212
  have hf := ifn c26_61 hf
  by_cases c26_62 : c0 = (62 : Int32)
  · have hf := ifp c26_62 hf
    refine g_tabC (tgt := 191) FX (62 : Int32) c26_62 (by decide) (by decide) rfl (by decide) dX12_of_26 ?_
    refine lv_iload_n hx hb dX12_of_191 rfl (lv_at hl 1 rfl) ?_
    refine lv_iload_n hx hb dX12_of_192 rfl (lv_at hl 0 rfl) ?_
    refine lv_icmp_le (tgt := 200) hx hb dX12_of_193 (by decide) (fun c193 => ?_) (fun c193 => ?_)
    · have hf := ifp c193 hf
      refine lv_iconst (v := 0) hx hb dX12_of_200 (by decide) ?_
      exact g_iret FX hr hlk hW (Option.some.inj hf) dX12_of_201
    · have hf := ifn c193 hf
      refine lv_iconst (v := 1) hx hb dX12_of_196 (by decide) ?_
      refine lv_goto (tgt := 201) hx hb dX12_of_197 (by decide) ?_
      exact g_iret FX hr hlk hW (Option.some.inj hf) dX12_of_201
  have hf := ifn c26_62 hf
  have n26_37 := lv_neT (a := 37) c26_37 (by decide)
  have n26_38 := lv_neT (a := 38) c26_38 (by decide)
  have n26_39 := lv_neT (a := 39) c26_39 (by decide)
  have n26_40 := lv_neT (a := 40) c26_40 (by decide)
  have n26_41 := lv_neT (a := 41) c26_41 (by decide)
  have n26_42 := lv_neT (a := 42) c26_42 (by decide)
  have n26_43 := lv_neT (a := 43) c26_43 (by decide)
  have n26_44 := lv_neT (a := 44) c26_44 (by decide)
  have n26_45 := lv_neT (a := 45) c26_45 (by decide)
  have n26_46 := lv_neT (a := 46) c26_46 (by decide)
  have n26_47 := lv_neT (a := 47) c26_47 (by decide)
  have n26_48 := lv_neT (a := 48) c26_48 (by decide)
  have n26_49 := lv_neT (a := 49) c26_49 (by decide)
  have n26_50 := lv_neT (a := 50) c26_50 (by decide)
  have n26_51 := lv_neT (a := 51) c26_51 (by decide)
  have n26_52 := lv_neT (a := 52) c26_52 (by decide)
  have n26_53 := lv_neT (a := 53) c26_53 (by decide)
  have n26_54 := lv_neT (a := 54) c26_54 (by decide)
  have n26_55 := lv_neT (a := 55) c26_55 (by decide)
  have n26_56 := lv_neT (a := 56) c26_56 (by decide)
  have n26_57 := lv_neT (a := 57) c26_57 (by decide)
  have n26_58 := lv_neT (a := 58) c26_58 (by decide)
  have n26_59 := lv_neT (a := 59) c26_59 (by decide)
  have n26_60 := lv_neT (a := 60) c26_60 (by decide)
  have n26_61 := lv_neT (a := 61) c26_61 (by decide)
  have n26_62 := lv_neT (a := 62) c26_62 (by decide)
  refine lv_tableOut (tgt := 227) hx hb dX12_of_26 (by omega) (by decide) ?_
  refine lv_iload_n hx hb dX12_of_227 rfl (lv_at hl 1 rfl) ?_
  refine lv_if_ne (tgt := 235) hx hb dX12_of_228 (by decide) (fun c228 => ?_) (fun c228 => ?_)
  · have hf := ifn c228 hf
    exact wX12_of_235 (hpx := hpx) (hsub := hsub) (hev := hev) FX hr hlk _ _ _ (lv_sub hl [] rfl) hW hf
  · have hf := ifp c228 hf
    refine lv_iload_n hx hb dX12_of_231 rfl (lv_at hl 0 rfl) ?_
    refine lv_if_eq (tgt := 239) hx hb dX12_of_232 (by decide) (fun c232 => ?_) (fun c232 => ?_)
    · have hf := ifp c232 hf
      refine lv_iconst (v := 0) hx hb dX12_of_239 (by decide) ?_
      exact g_iret FX hr hlk hW (Option.some.inj hf) dX12_of_240
    · have hf := ifn c232 hf
      exact wX12_of_235 (hpx := hpx) (hsub := hsub) (hev := hev) FX hr hlk _ _ _ (lv_sub hl [] rfl) hW hf
theorem mX14_of {ws : va_W} {x ka pk n : Nat} {u : Nat → Int32} (hask : ws[pk]? = some (ka, .inr (2, [.int (u 0), .int (u 1), .int (u 2), .int (u 3), .int (u 4)]))) : BdI l yX14_of cX14_of 2 (rNode n) D dA [.ref x, .ref ka] ws (u 0) ws := by
  intro p e s m below meth c ls A FX hr hlk hl hW
  have hx := FX.1; have hb := FX.2.1
  have hl : lv_has ls 2 [(0, .ref x), (1, .ref ka)] := hl
  refine lv_aload_n hx hb dX14_of_0 rfl (lv_at hl 1 rfl) ?_
  refine g_get FX hW (C := RX2) (T := TX2) (N := 5) (ci := 2) in_X2 pk hask rfl 0 (by decide) q205 (fun _ h => h) rfl dX14_of_1 ?_
  exact g_iret FX hr hlk hW rfl dX14_of_4
theorem mX15_of {ws : va_W} {x ka pk n : Nat} {u : Nat → Int32} (hask : ws[pk]? = some (ka, .inr (2, [.int (u 0), .int (u 1), .int (u 2), .int (u 3), .int (u 4)]))) : BdI l yX15_of cX15_of 2 (rNode n) D dA [.ref x, .ref ka] ws (u 1) ws := by
  intro p e s m below meth c ls A FX hr hlk hl hW
  have hx := FX.1; have hb := FX.2.1
  have hl : lv_has ls 2 [(0, .ref x), (1, .ref ka)] := hl
  refine lv_aload_n hx hb dX15_of_0 rfl (lv_at hl 1 rfl) ?_
  refine g_get FX hW (C := RX2) (T := TX2) (N := 5) (ci := 2) in_X2 pk hask rfl 1 (by decide) q207 (fun _ h => h) rfl dX15_of_1 ?_
  exact g_iret FX hr hlk hW rfl dX15_of_4
theorem mX16_of {ws : va_W} {x ka pk n : Nat} {u : Nat → Int32} (hask : ws[pk]? = some (ka, .inr (2, [.int (u 0), .int (u 1), .int (u 2), .int (u 3), .int (u 4)]))) : BdI l yX16_of cX16_of 2 (rNode n) D dA [.ref x, .ref ka] ws (u 2) ws := by
  intro p e s m below meth c ls A FX hr hlk hl hW
  have hx := FX.1; have hb := FX.2.1
  have hl : lv_has ls 2 [(0, .ref x), (1, .ref ka)] := hl
  refine lv_aload_n hx hb dX16_of_0 rfl (lv_at hl 1 rfl) ?_
  refine g_get FX hW (C := RX2) (T := TX2) (N := 5) (ci := 2) in_X2 pk hask rfl 2 (by decide) q209 (fun _ h => h) rfl dX16_of_1 ?_
  exact g_iret FX hr hlk hW rfl dX16_of_4
theorem mX17_of {ws : va_W} {x ka pk n : Nat} {u : Nat → Int32} (hask : ws[pk]? = some (ka, .inr (2, [.int (u 0), .int (u 1), .int (u 2), .int (u 3), .int (u 4)]))) : BdI l yX17_of cX17_of 2 (rNode n) D dA [.ref x, .ref ka] ws (u 3) ws := by
  intro p e s m below meth c ls A FX hr hlk hl hW
  have hx := FX.1; have hb := FX.2.1
  have hl : lv_has ls 2 [(0, .ref x), (1, .ref ka)] := hl
  refine lv_aload_n hx hb dX17_of_0 rfl (lv_at hl 1 rfl) ?_
  refine g_get FX hW (C := RX2) (T := TX2) (N := 5) (ci := 2) in_X2 pk hask rfl 3 (by decide) q211 (fun _ h => h) rfl dX17_of_1 ?_
  exact g_iret FX hr hlk hW rfl dX17_of_4
theorem mX18_of {ws : va_W} {x ka pk n : Nat} {u : Nat → Int32} (hask : ws[pk]? = some (ka, .inr (2, [.int (u 0), .int (u 1), .int (u 2), .int (u 3), .int (u 4)]))) : BdI l yX18_of cX18_of 2 (rNode n) D dA [.ref x, .ref ka] ws (u 4) ws := by
  intro p e s m below meth c ls A FX hr hlk hl hW
  have hx := FX.1; have hb := FX.2.1
  have hl : lv_has ls 2 [(0, .ref x), (1, .ref ka)] := hl
  refine lv_aload_n hx hb dX18_of_0 rfl (lv_at hl 1 rfl) ?_
  refine g_get FX hW (C := RX2) (T := TX2) (N := 5) (ci := 2) in_X2 pk hask rfl 4 (by decide) q213 (fun _ h => h) rfl dX18_of_1 ?_
  exact g_iret FX hr hlk hW rfl dX18_of_4
theorem mX11_of {ws : va_W} {x ka px n : Nat} {v : Int32} (hpx : ws[px]? = some (x, .inr (10, [.int v]))) : BdI l yX11_of cX11_of 2 (rNode n) D dA [.ref x, .ref ka] ws v ws := by
  intro p e s m below meth c ls A FX hr hlk hl hW
  have hx := FX.1; have hb := FX.2.1
  have hl : lv_has ls 2 [(0, .ref x), (1, .ref ka)] := hl
  refine lv_aload_n hx hb dX11_of_0 rfl (lv_at hl 0 rfl) ?_
  refine g_get FX hW (C := RX11) (T := TX11) (N := 1) (ci := 10) in_X11 px hpx rfl 0 (by decide) q1078 (fun _ h => h) rfl dX11_of_1 ?_
  exact g_iret FX hr hlk hW rfl dX11_of_4
set_option maxHeartbeats 4000000 in
theorem mX10_of {ws pool : va_W} {x y ka px n : Nat} {r : Int32} {ev : Nat → Option Int32} (hpx : ws[px]? = some (x, .inr (9, [.ref y]))) (hsub : ∀ (a : Nat) (z : va_E), hlk pool a = some z → ∃ k : Nat, ws[k]? = some (a, z)) (hev : NodeM l D dA ws pool ka n ev) (hf : ((ev y).bind fun r => some (if r = 0 then (1 : Int32) else 0)) = some r) : BdI l yX10_of cX10_of 2 (rNode (n + 1)) D dA [.ref x, .ref ka] ws r ws := by
  intro p e s m below meth c ls A FX hr hlk hl hW
  have hx := FX.1; have hb := FX.2.1
  have hl : lv_has ls 2 [(0, .ref x), (1, .ref ka)] := hl
  refine lv_aload_n hx hb dX10_of_0 rfl (lv_at hl 0 rfl) ?_
  refine g_get FX hW (C := RX10) (T := TX10) (N := 1) (ci := 9) in_X10 px hpx rfl 0 (by decide) q1042 (fun _ h => h) rfl dX10_of_1 ?_
  refine lv_aload_n hx hb dX10_of_4 rfl (lv_at hl 1 rfl) ?_
  refine node_row (Or.inr (Or.inl ⟨rfl, rfl⟩)) hsub hev FX ⟨Nat.le_refl _, Nat.le_refl _⟩ ⟨Nat.zero_le _, Nat.zero_le _⟩ hl.1 (Nat.le_of_ble_eq_true rfl) hW hf dX10_of_5 (fun r1 H locs hW hf => ?_)
  refine lv_if_ne (tgt := 17) hx hb dX10_of_10 (by decide) (fun c1 => ?_) (fun c1 => ?_)
  · rw [if_neg c1] at hf
    refine lv_iconst (v := 0) hx hb dX10_of_17 (by decide) ?_
    exact g_iret FX hr hlk hW (Option.some.inj hf) dX10_of_18
  · rw [if_pos c1] at hf
    refine lv_iconst (v := 1) hx hb dX10_of_13 (by decide) ?_
    refine lv_goto (tgt := 18) hx hb dX10_of_14 (by decide) ?_
    exact g_iret FX hr hlk hW (Option.some.inj hf) dX10_of_18
theorem pair_pr2 {ev : Nat → Option Int32} {y z : Nat} {c0 r : Int32} (h : ((ev y).bind fun a => (ev z).bind fun b => some (pr2 c0 a b)) = some r) : fX12_of ev y z c0 () = some r := by
  obtain ⟨a, ha, h⟩ := bnd h
  obtain ⟨b, hb, h⟩ := bnd h
  rw [← h, fX12_of, ha, hb]
  simp only [Option.bind_some, fX12_of_235, dvd, pr2]
  by_cases h43 : c0 = 43
  · subst h43; rfl
  by_cases h45 : c0 = 45
  · subst h45; rfl
  by_cases h42 : c0 = 42
  · subst h42; rfl
  by_cases h47 : c0 = 47
  · subst h47
    by_cases e : b = 0
    · simp [e]
    · simp [e]
  by_cases h37 : c0 = 37
  · subst h37
    by_cases e : b = 0
    · simp [e]
    · simp [e]
  by_cases h60 : c0 = 60
  · subst h60
    by_cases e : a < b
    · simp [e, Int32.not_le.mpr e]
    · simp [e, Int32.not_lt.mp e]
  by_cases h62 : c0 = 62
  · subst h62
    by_cases e : b < a
    · simp [e, Int32.not_le.mpr e]
    · simp [e, Int32.not_lt.mp e]
  by_cases h61 : c0 = 61
  · subst h61
    by_cases e : a = b
    · simp [e]
    · simp [e]
  by_cases h38 : c0 = 38
  · subst h38
    by_cases e : a = 0
    · simp [e]
    · by_cases e2 : b = 0
      · simp [e, e2]
      · simp [e, e2]
  simp only [h43, h45, h42, h47, h37, h60, h62, h61, h38, if_false, ite_self]
  by_cases e : a = 0
  · by_cases e2 : b = 0
    · simp [e, e2]
    · simp [e, e2]
  · simp [e]
theorem node_meets {ws pool : va_W} {u : Nat → Int32} {ka pk : Nat} (hsub : ∀ (a : Nat) (z : va_E), hlk pool a = some z → ∃ k : Nat, ws[k]? = some (a, z)) (hask : ws[pk]? = some (ka, .inr (2, [.int (u 0), .int (u 1), .int (u 2), .int (u 3), .int (u 4)]))) : ∀ n, NodeM l D dA ws pool ka n (nEv dA pool u n) := by
  intro n
  induction n with
  | zero => intro x r h; cases (show (none : Option Int32) = some r from h)
  | succ n ih =>
    intro x r h
    rw [nEv] at h
    split at h
    · rename_i v hx
      obtain ⟨k, hk⟩ := hsub _ _ hx
      cases h
      exact ⟨1, by decide, Or.inr (Or.inl ⟨rfl, _, hx⟩), mX11_of hk⟩
    · rename_i y hx
      obtain ⟨k, hk⟩ := hsub _ _ hx
      exact ⟨0, by decide, Or.inl ⟨rfl, _, hx⟩, mX10_of hk hsub ih h⟩
    · rename_i y z c0 hx
      obtain ⟨k, hk⟩ := hsub _ _ hx
      exact ⟨2, by decide, Or.inr (Or.inr (Or.inl ⟨rfl, _, hx⟩)), mX12_of (hpx := hk) (hsub := hsub) (hev := ih) (pair_pr2 h)⟩
    · cases h
    · rename_i hx
      by_cases h0 : x = dA 100
      · rw [if_pos h0] at h; cases h
        exact ⟨3, by decide, Or.inr (Or.inr (Or.inr ⟨0, by decide, rfl, h0⟩)), mX14_of hask⟩
      rw [if_neg h0] at h
      by_cases h1 : x = dA 101
      · rw [if_pos h1] at h; cases h
        exact ⟨4, by decide, Or.inr (Or.inr (Or.inr ⟨1, by decide, rfl, h1⟩)), mX15_of hask⟩
      rw [if_neg h1] at h
      by_cases h2 : x = dA 102
      · rw [if_pos h2] at h; cases h
        exact ⟨5, by decide, Or.inr (Or.inr (Or.inr ⟨2, by decide, rfl, h2⟩)), mX16_of hask⟩
      rw [if_neg h2] at h
      by_cases h3 : x = dA 103
      · rw [if_pos h3] at h; cases h
        exact ⟨6, by decide, Or.inr (Or.inr (Or.inr ⟨3, by decide, rfl, h3⟩)), mX17_of hask⟩
      rw [if_neg h3] at h
      by_cases h4 : x = dA 104
      · rw [if_pos h4] at h; cases h
        exact ⟨7, by decide, Or.inr (Or.inr (Or.inr ⟨4, by decide, rfl, h4⟩)), mX18_of hask⟩
      rw [if_neg h4] at h; cases h
/-- the call of a formula, from any of the three places where one is called -/
theorem node_call {ws pool : va_W} {own : String} {α : Type} {q : α} {u : Nat → Int32} {ka pk n x index count : Nat} {k : Int32 → Option α} (hown : (own = "TrunkLitters$House" ∧ index = 145) ∨ (own = "TrunkLitters$Not" ∧ index = 13) ∨ (own = "TrunkLitters$Pair" ∧ index = 20)) (hsub : ∀ (a : Nat) (z : va_E), hlk pool a = some z → ∃ k : Nat, ws[k]? = some (a, z)) (hask : ws[pk]? = some (ka, .inr (2, [.int (u 0), .int (u 1), .int (u 2), .int (u 3), .int (u 4)])))
    (FX : CallFix p m c cc nL s args lw_all own) (hR : n + 1 ≤ R.frames ∧ 40 * n + 40 ≤ R.locals) (hcs : cells ≤ R.cells ∧ slots ≤ R.slots) (hl : ls.size = nL) (hrm : (rest.map fun v => v.category).sum ≤ 8) (hW : Wd D dA A s ws H locs) (hf : (nEv dA pool u n x).bind k = some q) (hdg : decode cc pc = .ok (.invokeinterface index count, 5))
    (kk : ∀ (r : Int32) (H1 : Heap) (locs1 : List Loc), Wd D dA A s ws H1 locs1 → k r = some q → W p l e R s m args below meth c H1 locs1 cells slots Q (F0 m (pc + 5) ls (.int r :: rest))) : W p l e R s m args below meth c H locs cells slots Q (F0 m pc ls (.ref ka :: .ref x :: rest)) :=
  node_row hown hsub (node_meets hsub hask n) FX hR hcs hl hrm hW hf hdg kk
end NDS
