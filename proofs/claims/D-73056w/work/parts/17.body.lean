/-! A CALL BY THE CALLEE's BODY: no word on the initialisation of its class is asked (an instance method's class) -/
theorem Steps.down {tb : Tables} {e : Env} {mid below : List Frame} {s t : State} (h : Steps tb e (mid ++ below) s t) : Steps tb e below s t := by
  obtain ⟨n, h1, h2⟩ := h
  exact ⟨n, h1, fun k hk => (h2 k hk).weaken⟩
theorem back_body {l : Launch} {R rm : Room} {p : Program} {e : Env} {below : List Frame} {s : State} {sargs : Array Value} {y : MethodName} {bytes : ByteArray} {maxL mc ms len : Nat} {ret : Option FieldType} {Pc : Array Value → State → Prop} {Qc : Array Value → State → Outcome → State → Prop} {free : Addr → Prop}
    (hy : plainName y.cls = true)
    (body : ∀ (s' : State) (mk : MethodId) (a : Array Value) (below' : List Frame) (methk : Method) (ck : Code), ck.code = bytes → ck.maxLocals = maxL → methk.sig.returnType = ret → methk.locks = false → s'.vm.findClass y.cls = some mk.cls → (∀ w ∈ lw_all, w.before a s' = true) → Pc a s' → W p l e rm s' mk a below' methk ck s'.heap [] 0 0 (MQ below' Qc a s' mc ms free) (entryFrame mk a maxL))
    (hts : ∀ w ∈ lw_all, w.before sargs s = true) (hcode : Cond.code y bytes maxL ret ∈ lw_all) (hblind : FrameBlind Pc) (hrc : rm.cells = mc) (hrs : rm.slots = ms) (hframes : rm.frames + 1 ≤ R.frames) (hlocals : 8 + (maxL + 11) + rm.locals ≤ R.locals) :
    Back l R p e below s sargs y len 8 (PreOf R mc ms Pc) (PostOf Qc mc ms free) := by
  intro m meth c A g ig mk a X hg hsize hdg hW hn hp
  obtain ⟨U, Ls, c0, s0⟩ := A
  obtain ⟨hp1, hp2, hp3⟩ := hp
  dsimp only [Pt.U, Pt.locs, Pt.cells, Pt.slots] at hp1 hp2 hp3 X hn ⊢
  have hall : ∀ (a' : Array Value) (V : State), s.WarmedH V.vm → ∀ w ∈ lw_all, w.before a' V = true := fun a' V hV w hw => pay_in hts lw_self w hw a' V hV
  have hc := hall a U X.warmed _ hcode
  obtain ⟨methY, cY, hmY, hcY, hbY, hlY, hrY, hkY, -, -⟩ := Cond.code_spec hn hc
  have hplain : U.plainMethod mk := by
    refine State.plainMethod.of_name (fun k hk => ?_)
    obtain ⟨k2, hk2, hname⟩ := className_of_methodNamed hn
    cases hk.symm.trans hk2
    rw [hname]; exact hy
  obtain ⟨X1, hdo⟩ := X.into hg hsize hdg a (R' := rm) hmY hcY hkY hplain hframes (by rw [hlY]; omega) (by rw [hrc]; exact hp1) (by rw [hrs]; exact hp2)
  have hfc : (U.calling g mk a).vm.findClass y.cls = some mk.cls := findClass_of_methodNamed (s := U) hn
  have hK := body (U.calling g mk a) mk a (.java g :: below) methY cY hbY hlY hrY hkY hfc (hall a (U.calling g mk a) X.warmed) (hblind a U g mk hp3)
  rw [← hlY] at hK
  obtain ⟨t, hst, o, hrun, hend, hq, L, hfe, hL⟩ := hK ((U.setTop g).pushFrame (.java (entryFrame mk a cY.maxLocals))) rfl X1
  obtain ⟨⟨v, rfl⟩, hW2, hsame⟩ := hfe
  obtain ⟨T', X', hw', hs', ht⟩ := X.outOf hg hdg hend hW2 hsame
  refine ⟨v, ⟨T', Ls ++ L, c0 + mc, s0 + ms⟩, X', ⟨g, mk, t, L, ?_, ?_, hq, rfl, hL, rfl, rfl⟩, ?_⟩
  · show T'.heap = t.heap
    rw [ht]; rfl
  · show T'.vm = t.vm
    rw [ht]; rfl
  · dsimp only [Pt.U]
    rw [hdo [], ← ht]
    exact Steps.down (mid := [.java g]) hst
