set_option maxRecDepth 100000
def gHs (Γ : gG) (hh : List (Nat × Nat × Nat × Nat)) : Prop := match Γ with
  | (_, _, _, _, _, _, _, _, _, c, _, _) => c.exceptionTable.toList.map (fun h => (h.startPc, h.endPc, h.handlerPc, h.catchType)) = hh
/-- a method with handlers that answers always -/
theorem gMetH {l : Launch} {y : MethodName} {cc : ByteArray} {nL : Nat} {ret : Option FieldType} {hh : List (Nat × Nat × Nat × Nat)} {rm : Room} {av : List Value} {E : gE} {w : va_W} {sz : Nat} {Qc : (Nat → Prop) → Array Value → State → Outcome → State → Prop} {mc ms : Nat} (hy : plainName y.cls = true) (hn : (lg_sl av).length ≤ nL)
    (body : ∀ Γ : gG, gCX Γ cc nL ret y.cls rm → gHs Γ hh → gl Γ = l → gEo Γ = E → gW Γ (gMQ Γ (Qc (gAo Γ)) mc ms) w nL 0 0 0 (lv_args 0 av) []) : Met l y (wsW_ y cc nL ret hh) rm (gPc av E w sz) (Qc (va_A w sz)) mc ms (va_A w sz) := by
  refine MetFree.of_bodyS (code := cc) (maxLocals := nL) (ret := ret) hy ?_ ?_
  · intro args s m h hn
    obtain ⟨m', meth, c, h0, h1, h2, h3, h4, -, h5, h6, -⟩ := Cond.codeWith_spec (atoms_spec (ws := wsW_ y cc nL ret hh) h _ List.mem_cons_self)
    cases hn.symm.trans h0
    exact ⟨meth, c, h1, h2, h3, h4, h5, h6⟩
  · intro p e s m args below meth c s₁ B hml hv _
    have hh0 : s₁.heap = s.heap := by rw [B.state]; rfl
    obtain ⟨rfl, hsz, hP, hK, hD0, hO⟩ := hv
    have hts0 := atoms_spec (ws := wsW_ y cc nL ret hh) B.pre
    have hts : ∀ w ∈ lw_all, w.before _ s = true := fun w h => hts0 w (List.mem_cons_of_mem _ h)
    have hhs : c.exceptionTable.toList.map (fun h => (h.startPc, h.endPc, h.handlerPc, h.catchType)) = hh := by
      obtain ⟨m', meth', c', h0, h1, h2, -, -, h3, -⟩ := Cond.codeWith_spec (hts0 _ List.mem_cons_self)
      cases B.named.symm.trans h0
      cases B.method.symm.trans h1
      cases (Stand.of_body B).code.symm.trans h2
      exact h3
    subst hsz
    have K := body (p, l, e, rm, s, m, av.toArray, below, meth, c, E, va_A w s.heap.size) ⟨B.exec, B.bytes, B.returns, B.notSynchronized, hml, findClass_of_methodNamed B.named, hts, hK, fun q h => Or.inr h, fun q h => by
      rcases h with ⟨k, e, h⟩ | h
      · exact hD0.2 k (q, e) h
      · exact Nat.le_trans hO.1 h, hO, rfl⟩ hhs rfl rfl s.heap [] _ hP (hD0.self (sz := s.heap.size)) va_S.rf (lv_entry av hn)
    have K : W p l e rm s m av.toArray below meth c s.heap [] 0 0 (MQ below (Qc (va_A w s.heap.size)) av.toArray s mc ms (va_A w s.heap.size)) (entryFrame m av.toArray nL) := by
      rw [lg_entry_eq]; exact K
    obtain ⟨t, a1, o, b1, b2, b3⟩ := K s₁ hh0 (Stand.of_body B)
    exact ⟨t, o, a1, b1, b2, ⟨b3.1, b3.2⟩⟩
/-- caught by the method's one handler -/
theorem g_catch1 {Γ : gG} {Q : State → Prop} {w : va_W} {nL cells slots pc : Nat} {lv : List (Nat × Value)} {st : List Value} {cc : ByteArray} {ret : Option FieldType} {own : String} {rm : Room} (X : gCX Γ cc nL ret own rm) {s0 e0 hp ct : Nat} (hH : gHs Γ [(s0, e0, hp, ct)]) (hcov : (decide (s0 ≤ pc) && decide (pc < e0)) = true) (h0 : ct ≠ 0) {name : String} (hlink : Cond.classLink own ct name ∈ lw_all) (q0 : Nat) {ci a : Nat} {fs : List Value} {C : String} {T0 : u_T} {N : Nat} (hw : w[q0]? = some (a, .inr (ci, fs))) (hc : vwCl[ci]? = some (C, T0, N)) (jc : Nat) (hjc : gNC[jc]? = some (C, name)) (kk : gW Γ Q w nL cells slots hp lv [.ref a]) : gT Γ Q w nL cells slots pc lv st a := by
  obtain ⟨p, l, e, R, s, m, args, below, meth, c, E, A⟩ := Γ
  obtain ⟨hx, hb, hr, hlk, hml, hown, hts, hK, hA, hA0, hO, hR⟩ := X
  intro H locs ls hP hD hS hl T hT XS
  obtain ⟨cell, hcell, hobj, hcls⟩ := va_recv hK.1 hP hc hw
  obtain ⟨cS, cT, hcS, hcT, hasg⟩ := Cond.castable_spec (hK.2.1.2.2.1 _ (List.mem_of_getElem? hjc))
  cases hcls.symm.trans hcS
  have hH : c.exceptionTable.toList.map (fun h => (h.startPc, h.endPc, h.handlerPc, h.catchType)) = [(s0, e0, hp, ct)] := hH
  obtain ⟨x, hxt⟩ : ∃ x, c.exceptionTable.toList = [x] := by
    cases hcx : c.exceptionTable.toList with
    | nil => rw [hcx] at hH; cases hH
    | cons x t =>
      rw [hcx] at hH
      cases t with
      | nil => exact ⟨x, rfl⟩
      | cons y t => simp at hH
  rw [hxt] at hH
  simp only [List.map_cons, List.map_nil, List.cons.injEq, Prod.mk.injEq, and_true] at hH
  obtain ⟨rfl, rfl, rfl, rfl⟩ := hH
  obtain ⟨vm', X', hgo⟩ := gx_hit XS (x := x) [] hown (hts _ hlink) hcT (g := F0 m pc ls st) rfl hcov h0 (a := a) (cell := cell) (by rw [hT]; exact hcell) hobj hasg
  obtain ⟨t, h1, h2⟩ := kk H locs ls hP hD hS hl (T.setVm vm') hT X'
  refine ⟨t, gx_caught XS (g := F0 m pc ls st) rfl (pc := x.handlerPc) (vm' := vm') (fun Q E d acts => ?_) h1, h2⟩
  rw [W.findHandler_eq (meth := meth) (code := c) (by rw [Stand.throwing_vm]; exact XS.method') XS.code, hxt]
  exact hgo Q E d acts
