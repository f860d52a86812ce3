set_option maxRecDepth 100000
/-- a call that may throw, in the pure function -/
def gcx {S1 S : Type} (a : Option (gR S1)) (lift : S1 → S) (K : Int32 → S1 → Option (gR S)) : Option (gR S) := a.bind fun z => match z with
  | .inl (r, u) => K r u
  | .inr (co, pl, u) => some (.inr (co, pl, lift u))
theorem g_Dsplit {A : Nat → Prop} {w1 w2 : va_W} (h : va_D A (w1 ++ w2)) : va_D A w1 ∧ va_D A w2 ∧ ∀ (i j : Nat) (p q : Nat × va_E), w1[i]? = some p → w2[j]? = some q → p.1 ≠ q.1 := by
  have hl : ∀ {i : Nat} {p : Nat × va_E}, w1[i]? = some p → (w1 ++ w2)[i]? = some p := fun {i p} hi => by
    rw [List.getElem?_append_left (List.getElem?_eq_some_iff.mp hi).1]; exact hi
  have hr : ∀ {i : Nat} {p : Nat × va_E}, w2[i]? = some p → (w1 ++ w2)[w1.length + i]? = some p := fun {i p} hi => by
    rw [List.getElem?_append_right (by omega), Nat.add_sub_cancel_left]; exact hi
  refine ⟨⟨fun i j p q hi hj e => h.1 i j p q (hl hi) (hl hj) e, fun k q hk => h.2 k q (hl hk)⟩, ⟨fun i j p q hi hj e => ?_, fun k q hk => h.2 _ q (hr hk)⟩, fun i j p q hi hj e => ?_⟩
  · have := h.1 _ _ p q (hr hi) (hr hj) e; omega
  · have h1 := h.1 _ _ p q (hl hi) (hr hj) e
    have h2 := (List.getElem?_eq_some_iff.mp hi).1
    omega
theorem g_Psplit {D : va_G} {cl : List vw_C} {w1 w2 : va_W} {H : Heap} (h : va_P D cl (w1 ++ w2) H) : va_P D cl w1 H ∧ va_P D cl w2 H :=
  ⟨fun k q hk => h k q (by rw [List.getElem?_append_left (List.getElem?_eq_some_iff.mp hk).1]; exact hk), fun k q hk => h (w1.length + k) q (by rw [List.getElem?_append_right (by omega), Nat.add_sub_cancel_left]; exact hk)⟩
/-- behind a call: world, apartness, frame -/
theorem gx_join {E : gE} {A : Nat → Prop} {H0 H H1 : Heap} {locs L : List Loc} {w wc wf1 w' : va_W} {isC isR is : List Nat} (hP : va_P (E.1, E.2.1) vwCl w H) (hD : va_D A w) (hS : va_S A H0 H locs) (hA : ∀ q, H0.size ≤ q → A q) (hC : isC.map (fun i => w[i]?) = wc.map some) (hRr : isR.map (fun i => w[i]?) = (g_pick w isR).map some) (hnd : va_nd isR = true) (hdis : ∀ i ∈ isR, i ∉ isC) (hnd2 : va_nd is = true) (hw' : is.map (fun i => (g_pick w isR ++ wf1)[i]?) = w'.map some)
    (hz : H.size ≤ H1.size) (hk : ∀ q : Nat, q < H.size → ¬ va_A wc H.size q → H1[q]? = H[q]?) (hL : ∀ q ∈ L, va_A wc H.size q.base) (ex : va_W) (hP1 : va_P (E.1, E.2.1) vwCl (wf1 ++ ex) H1) (hD1 : va_D (va_A wc H.size) (wf1 ++ ex)) :
    va_P (E.1, E.2.1) vwCl (w' ++ ex) H1 ∧ va_D A (w' ++ ex) ∧ va_S A H0 H1 (locs ++ L) := by
  have hFc := va_free (wc := wc) hD hS hA isC hC
  obtain ⟨hP2, hD2⟩ := va_join (wr := g_pick w isR) hP hD isC isR hC hRr hnd hdis hk hFc hP1 hD1
  rw [← List.append_assoc] at hP2 hD2
  obtain ⟨hPa, hPb⟩ := g_Psplit hP2
  obtain ⟨hDa, hDb, hDx⟩ := g_Dsplit hD2
  have key : ∀ (k : Nat) (q : Nat × va_E), w'[k]? = some q → ∃ i : Nat, (g_pick w isR ++ wf1)[i]? = some q := by
    intro k q hq
    have h1 : (is.map (fun i => (g_pick w isR ++ wf1)[i]?))[k]? = some (some q) := by rw [hw', List.getElem?_map, hq]; rfl
    rw [List.getElem?_map] at h1
    cases hi : is[k]? with
    | none => rw [hi] at h1; cases h1
    | some i => rw [hi] at h1; exact ⟨i, Option.some.inj h1⟩
  refine ⟨va_P.app (g_subP hPa hw') hPb, va_D.app (hDa.sub is hnd2 hw') hDb (fun i j p q hi hj => ?_), ⟨Nat.le_trans hS.1 hz, fun q h1 h2 => ?_, fun q hq => ?_⟩⟩
  · obtain ⟨i', hi'⟩ := key i p hi
    exact hDx i' j p q hi' hj
  · rw [hk q (Nat.lt_of_lt_of_le h1 hS.1) (fun z => h2 (hFc q z))]
    exact hS.2.1 q h1 h2
  · rcases List.mem_append.mp hq with h | h
    · exact hS.2.2 q h
    · exact hFc _ (hL q h)
theorem g_callXV {Γ : gG} {Q : State → Prop} {w : va_W} {nL cells slots pc : Nat} {lv : List (Nat × Value)} {cc : ByteArray} {ret : Option FieldType} {own : String} {rm : Room} {S S1 : Type} {z : gR S} (X : gCX Γ cc nL ret own rm) {y : MethodName} {yc : ByteArray} {ynL idx : Nat} {yret : Option FieldType} {rmc : Room} {As rest : List Value} {wc : va_W} {b : Nat} {wfc : S1 → va_W} {fc : Option (gR S1)} {lift : S1 → S} {K : Int32 → S1 → Option (gR S)} (vd : Bool) (n : Nat) {C : String} (hg : GoodIn lw_all (wsV own idx C y (ws_ y yc ynL yret))) (hdd : y.cls = C ∧ y.cls ≠ "java/lang/invoke/MethodHandle" ∧ y.cls ≠ "java/lang/invoke/VarHandle" ∧ (parseMethodDescriptor y.desc).map (fun d => d.parameters.length) = some n)
    (hM : ∀ z1 : gR S1, fc = some z1 → ∀ sz, MetX (gl Γ) y (ws_ y yc ynL yret) rmc (gPc (.ref b :: As) (gEo Γ) wc sz) (gXQ (gEo Γ) wfc vd z1 (va_A wc sz)) (va_A wc sz)) {ci rq : Nat} {vc : vw_C} {vfs : List Value} (hrv : wc[rq]? = some (b, .inr (ci, vfs))) (hvc : vwCl[ci]? = some vc) (hvC : vc.1 = C)
    (hRm : rmc.frames + 1 ≤ rm.frames ∧ 8 + (ynL + 11) + rmc.locals ≤ rm.locals) (hn : As.length = n) (hst : (rest.map fun v => v.category).sum ≤ 8) (hcs : cells + rmc.cells ≤ rm.cells ∧ slots + rmc.slots ≤ rm.slots)
    (isC isR is : List Nat) (w' : S1 → va_W) (hC : isC.map (fun i => w[i]?) = wc.map some) (hRr : isR.map (fun i => w[i]?) = (g_pick w isR).map some) (hnc : va_nd isC = true) (hnd : va_nd isR = true) (hdis : ∀ i ∈ isR, i ∉ isC) (hnd2 : va_nd is = true) (hw' : ∀ u1, is.map (fun i => (g_pick w isR ++ wfc u1)[i]?) = (w' u1).map some)
    (hd : decode cc pc = .ok (.invokevirtual idx, 3)) (hf : gcx fc lift K = some z)
    (kr : ∀ (r : Int32) (u : S1), K r u = some z → gW Γ Q (w' u) nL cells slots (pc + 3) lv (if vd then rest else .int r :: rest))
    (kt : ∀ (co pl : Int32) (u : S1) (q : Nat) (fs : List Value), z = .inr (co, pl, lift u) → fs[6]? = some (.int co) → fs[7]? = some (.int pl) → gT Γ Q (w' u ++ [(q, .inr (9, fs))]) nL (cells + 1) (slots + 8) pc lv rest q) : gW Γ Q w nL cells slots pc lv (As.reverse ++ .ref b :: rest) := by
  obtain ⟨z1, hfc, hf⟩ := g_bd hf
  obtain ⟨p, l, e, R, s, m, args, below, meth, c, E, A⟩ := Γ
  obtain ⟨hx, hb, hr, hlk, hml, hown, hts, hK, hA, hA0, hO, hR⟩ := X
  intro H locs ls hP hD hS hl T hT XS
  subst hR
  have hPc : va_P (E.1, E.2.1) vwCl wc H := g_subP hP hC
  have hDc := hD.sub (ws' := wc) isC hnc hC
  have hOc : gOld E H := g_old hS hA0 hO
  obtain ⟨⟨hrc, hrs, hfr, hlo, hws, hcw, hcode, hini, hy, hlen, hl0⟩, hin, hse⟩ := cwV (R := R) (s := s) (args := args) (rm := rmc) (mc := rmc.cells) (ms := rmc.slots) n hts hg rfl rfl rfl hdd ⟨hRm.1, hRm.2⟩
  obtain ⟨cellB, hcB, hoB, hclB⟩ : ∃ cellB : Cell, H[b]? = some cellB ∧ cellB.vm.isStatics = false ∧ s.vm.findClass C = some cellB.cls := by
    rw [← hvC]
    exact va_recv hK.1 hPc hvc hrv
  obtain ⟨mk, methM, hnamed, hmethM, hstM, habM⟩ := Cond.instanceMethod_spec hin
  obtain ⟨methM', cM, hmethM', -, -, -, -, -, -, hsigM⟩ := Cond.code_spec hnamed hcode
  cases hmethM.symm.trans hmethM'
  obtain ⟨c2, r2, m2, q1, q2, q3, q4, kP, hkP, hkPi⟩ := Cond.selects_spec hse
  cases hclB.symm.trans q1
  cases (State.methodFound?_of_named hnamed hy).symm.trans q2
  cases hnamed.symm.trans q3
  have hselP : selectMethod e.platform s.vm cellB.cls mk = .method mk := by rw [Launch.admits_selectMethod XS.admits]; exact q4
  have hdg : decode c.code pc = .ok (.invokevirtual idx, 3) := by rw [hb]; exact hd
  obtain ⟨vm₁, X₁, hstep₁⟩ := XS.invokevirtual hx hown hl0 hnamed hmethM hstM hkP hkPi hy (a := b) (cell := cellB) (by rw [hT]; exact hcB)
    (fun z h => by rw [h] at hoB; cases hoB) hselP hmethM habM hkP hkPi (g := F0 m pc ls (As.reverse ++ .ref b :: rest)) rfl (argsL := As) (rest := rest) (hn.trans (hlen _ hsigM)) rfl hdg
  obtain ⟨o, t, T', L, k, n', X', hfree, hh, hvm, hQ, hsteps⟩ := gx_back (bytes := yc) (maxL := ynL) (ret := yret) (hM z1 hfc H.size) hfr hlo X₁ (g := F0 m pc ls rest) (ig := .invokevirtual idx) (mk := mk) (a := (Value.ref b :: As).toArray) rfl (hl.1.trans hml.symm) hdg (lv_room hst) (X₁.named hnamed)
    (atoms_intro fun w hw => hws w hw _ _ X₁.warmed) (hws _ hcw _ _ X₁.warmed) (word_at X₁.warmed (Or.inl (by first | rfl | simp [Cond.onTables, Cond.keeps, Cond.steady])) hini) hcs.1 hcs.2
    (gPc.blind _ (T.setVm vm₁) _ _ ⟨rfl, by show T.heap.size = _; rw [hT], by show va_P _ _ _ T.heap; rw [hT]; exact hPc, hK.warm X₁.warmed, hDc.weaken (fun _ _ _ h => hA0 _ h), by show gOld E T.heap; rw [hT]; exact hOc⟩)
  have hcall : ((T.setVm vm₁).calling (F0 m pc ls rest) mk (Value.ref b :: As).toArray).heap = H := hT
  obtain ⟨⟨hz, hkk⟩, hQ⟩ := hQ
  rw [hcall] at hz hkk
  cases z1 with
  | inl ru =>
    obtain ⟨r, u⟩ := ru
    obtain ⟨rfl, ⟨hP1, hD1⟩, rfl, rfl⟩ := hQ
    obtain ⟨hP2, hD2, hS2⟩ := gx_join (w' := w' u) hP hD hS hA hC hRr hnd hdis hnd2 (hw' u) hz hkk hfree [] (by rw [List.append_nil]; exact hP1) (by rw [List.append_nil]; exact hD1)
    rw [List.append_nil] at hP2 hD2
    have hk := kr r u hf t.heap (locs ++ L) ls hP2 hD2 hS2 hl T' hh X'
    obtain ⟨t2, a1, b1⟩ := hk
    refine ⟨t2, hstep₁ _ fun acts => ?_, b1⟩
    rw [doInvoke_state]
    refine hsteps.trans ?_
    cases vd with
    | true => exact a1
    | false => exact a1
  | inr cpu =>
    obtain ⟨co, pl, u⟩ := cpu
    obtain ⟨q, fs, rfl, ⟨hP1, hD1⟩, h6, h7, rfl, rfl⟩ := hQ
    obtain ⟨hP2, hD2, hS2⟩ := gx_join (w' := w' u) hP hD hS hA hC hRr hnd hdis hnd2 (hw' u) hz hkk hfree [(q, .inr (9, fs))] hP1 hD1
    obtain ⟨t2, a1, b1⟩ := kt co pl u q fs (Option.some.inj hf).symm h6 h7 t.heap (locs ++ L) ls hP2 hD2 hS2 hl T' hh X'
    refine ⟨t2, hstep₁ _ fun acts => ?_, b1⟩
    rw [doInvoke_state]
    exact hsteps.trans a1
