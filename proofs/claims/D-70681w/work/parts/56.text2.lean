set_option maxRecDepth 100000
/-- a constructor that may throw: gXQ2 -/
theorem g_callXI {Γ : gG} {Q : State → Prop} {w : va_W} {nL cells slots pc : Nat} {lv : List (Nat × Value)} {cc : ByteArray} {ret : Option FieldType} {own : String} {rm : Room} {S1 U1 : Type} (X : gCX Γ cc nL ret own rm) {y : MethodName} {yc : ByteArray} {ynL idx : Nat} {rmc : Room} {As rest : List Value} {wc : va_W} {b k0 n0 : Nat} {wfc : U1 → S1 → va_W} {z1 : gR S1} (n : Nat) (hcode : Cond.code y yc ynL none ∈ lw_all) (hini : Cond.initialized y.cls ∈ lw_all) (hlink : Cond.methodLink own idx y ∈ lw_all) (hinst : Cond.instanceMethod y ∈ lw_all) (hy1 : y.name = "<init>") (hdd : y.cls ≠ "java/lang/invoke/MethodHandle" ∧ y.cls ≠ "java/lang/invoke/VarHandle" ∧ (parseMethodDescriptor y.desc).map (fun d => d.parameters.length) = some n)
    (hM : ∀ sz, MetX (gl Γ) y (ws_ y yc ynL none) rmc (gPc (.ref b :: As) (gEo Γ) wc sz) (gXQ2 (gEo Γ) wfc true z1 k0 n0 (va_A wc sz)) (va_A wc sz))
    (hRm : rmc.frames + 1 ≤ rm.frames ∧ 8 + (ynL + 11) + rmc.locals ≤ rm.locals) (hn : As.length = n) (hst : (rest.map fun v => v.category).sum ≤ 8) (hcs : cells + rmc.cells ≤ rm.cells ∧ slots + rmc.slots ≤ rm.slots)
    (isC isR is : List Nat) (w' : U1 → S1 → va_W) (hC : isC.map (fun i => w[i]?) = wc.map some) (hRr : isR.map (fun i => w[i]?) = (g_pick w isR).map some) (hnc : va_nd isC = true) (hnd : va_nd isR = true) (hdis : ∀ i ∈ isR, i ∉ isC) (hnd2 : va_nd is = true) (hw' : ∀ ad u1, is.map (fun i => (g_pick w isR ++ wfc ad u1)[i]?) = (w' ad u1).map some)
    (hd : decode cc pc = .ok (.invokespecial idx, 3))
    (kr : ∀ (r : Int32) (u : S1) (ad : U1), z1 = .inl (r, u) → gW Γ Q (w' ad u) nL (cells + k0) (slots + n0) (pc + 3) lv rest)
    (kt : ∀ (co pl : Int32) (u : S1) (ad : U1) (q : Nat) (fs : List Value), z1 = .inr (co, pl, u) → fs[6]? = some (.int co) → fs[7]? = some (.int pl) → gT Γ Q (w' ad u ++ [(q, .inr (9, fs))]) nL (cells + (k0 + 1)) (slots + (n0 + 8)) pc lv rest q) : gW Γ Q w nL cells slots pc lv (As.reverse ++ .ref b :: rest) := by
  obtain ⟨p, l, e, R, s, m, args, below, meth, c, E, A⟩ := Γ
  obtain ⟨hx, hb, hr, hlk, hml, hown, hts, hK, hA, hA0, hO, hR⟩ := X
  intro H locs ls hP hD hS hl T hT XS
  subst hR
  have hPc : va_P (E.1, E.2.1) vwCl wc H := g_subP hP hC
  have hDc := hD.sub (ws' := wc) isC hnc hC
  have hOc : gOld E H := g_old hS hA0 hO
  obtain ⟨⟨hrc, hrs, hfr, hlo, hws, hcw, hcode, hini, hy, hlen, hl0⟩, -, hin⟩ := cwI (R := R) (s := s) (args := args) (rm := rmc) (mc := rmc.cells) (ms := rmc.slots) (own := own) (index := idx) n hts (lw_meth hcode) rfl rfl rfl (hts _ hini) (hts _ hlink) (hts _ hinst) hy1 hdd ⟨hRm.1, hRm.2⟩
  have hpl : e.platform.magicAccessors = ({} : Platform).magicAccessors := by rw [XS.admits.platform]
  have hdg : decode c.code pc = .ok (.invokespecial idx, 3) := by rw [hb]; exact hd
  obtain ⟨mk, methM, cM, kP, vm₁, hnamed, hmethM, hcodeM, -, hlocalsM, -, hkP, -, hW₁, hstep₁⟩ := Steps.initColdArgs (e := e) XS.here hx XS.warmed hpl hown hy1 hy hl0 hin hcode (f := F0 m pc ls (As.reverse ++ .ref b :: rest)) rfl (fun sig h => hn.trans (hlen sig h)) rfl hdg
  have X₁ := XS.noted hW₁
  obtain ⟨o, t, T', L, k, n', X', hfree, hh, hvm, hQ, hsteps⟩ := gx_back (bytes := yc) (maxL := ynL) (ret := none) (hM H.size) hfr hlo X₁ (g := F0 m pc ls rest) (ig := .invokespecial idx) (mk := mk) (a := (Value.ref b :: As).toArray) rfl (hl.1.trans hml.symm) hdg (lv_room hst) (X₁.named hnamed)
    (atoms_intro fun w hw => hws w hw _ _ X₁.warmed) (hws _ hcw _ _ X₁.warmed) (word_at X₁.warmed (Or.inl (by first | rfl | simp [Cond.onTables, Cond.keeps, Cond.steady])) hini) hcs.1 hcs.2
    (gPc.blind _ (T.setVm vm₁) _ _ ⟨rfl, by show T.heap.size = _; rw [hT], by show va_P _ _ _ T.heap; rw [hT]; exact hPc, hK.warm X₁.warmed, hDc.weaken (fun _ _ _ h => hA0 _ h), by show gOld E T.heap; rw [hT]; exact hOc⟩)
  have hcall : ((T.setVm vm₁).calling (F0 m pc ls rest) mk (Value.ref b :: As).toArray).heap = H := hT
  obtain ⟨⟨hz, hkk⟩, ad, hQ⟩ := hQ
  rw [hcall] at hz hkk
  cases z1 with
  | inl ru =>
    obtain ⟨r, u⟩ := ru
    obtain ⟨rfl, ⟨hP1, hD1⟩, rfl, rfl⟩ := hQ
    obtain ⟨hP2, hD2, hS2⟩ := gx_join (w' := w' ad u) hP hD hS hA hC hRr hnd hdis hnd2 (hw' ad u) hz hkk hfree [] (by rw [List.append_nil]; exact hP1) (by rw [List.append_nil]; exact hD1)
    rw [List.append_nil] at hP2 hD2
    obtain ⟨t2, a1, b1⟩ := kr r u ad rfl t.heap (locs ++ L) ls hP2 hD2 hS2 hl T' hh X'
    refine ⟨t2, hstep₁ _ fun acts => ?_, b1⟩
    rw [doInvoke_state]
    exact hsteps.trans a1
  | inr cpu =>
    obtain ⟨co, pl, u⟩ := cpu
    obtain ⟨q, fs, rfl, ⟨hP1, hD1⟩, h6, h7, rfl, rfl⟩ := hQ
    obtain ⟨hP2, hD2, hS2⟩ := gx_join (w' := w' ad u) hP hD hS hA hC hRr hnd hdis hnd2 (hw' ad u) hz hkk hfree [(q, .inr (9, fs))] hP1 hD1
    obtain ⟨t2, a1, b1⟩ := kt co pl u ad q fs rfl h6 h7 t.heap (locs ++ L) ls hP2 hD2 hS2 hl T' hh X'
    refine ⟨t2, hstep₁ _ fun acts => ?_, b1⟩
    rw [doInvoke_state]
    exact hsteps.trans a1
