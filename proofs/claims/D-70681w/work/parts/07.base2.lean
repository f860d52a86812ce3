set_option maxRecDepth 100000
/-- a state gets a name -/
def gs {S : Type} (s : S) {α : Type} (K : S → Option α) : Option α := K s
theorem g_gs {Γ : gG} {Q : State → Prop} {nL cells slots pc : Nat} {lv : List (Nat × Value)} {st : List Value} {α S : Type} {z : α} {s1 : S} {F : S → Option α} (wf : S → va_W) (hf : gs s1 F = some z) (kk : ∀ s : S, F s = some z → gW Γ Q (wf s) nL cells slots pc lv st) : gW Γ Q (wf s1) nL cells slots pc lv st := kk s1 hf
theorem g_aald {Γ : gG} {Q : State → Prop} {w : va_W} {nL cells slots pc : Nat} {lv : List (Nat × Value)} {st : List Value} {cc : ByteArray} {ret : Option FieldType} {own : String} {rm : Room} (X : gCX Γ cc nL ret own rm) (q0 t0 : Nat) {a n : Nat} {f : Nat → Option Nat} {i : Int32} {C : String} (ha : w[q0]? = some (a, .inl ((gEo Γ).2.2.1 t0, n, .inr (.inr (.inr (.inr f)))))) (ht : (gTys (gEo Γ))[t0]? = some ((gEo Γ).2.2.1 t0, .object C)) (hin : ¬ (i < 0 ∨ n ≤ i.toNatClampNeg)) (hd : decode cc pc = .ok (.aaload, 1)) (kk : gW Γ Q w nL cells slots (pc + 1) lv (va_rf (f i.toNatClampNeg) :: st)) : gW Γ Q w nL cells slots pc lv (.int i :: .ref a :: st) := by
  obtain ⟨p, l, e, R, s, m, args, below, meth, c, E, A⟩ := Γ
  obtain ⟨hx, hb, hr, hlk, hml, hown, hts, hK, hA, hA0, hO, hR⟩ := X
  intro H locs ls hP hD hS hl
  exact va_aldq hx hb hK.1 hP q0 t0 ha ht hin hd (kk H locs ls hP hD hS hl)
/-- a place of a fixed array of references -/
def gix (n : Nat) (i : Int32) {α : Type} (F : Nat → Option α) : Option α := if i < 0 ∨ n ≤ i.toNatClampNeg then none else F i.toNatClampNeg
theorem g_aaldq {Γ : gG} {Q : State → Prop} {w : va_W} {nL cells slots pc : Nat} {lv : List (Nat × Value)} {st : List Value} {cc : ByteArray} {ret : Option FieldType} {own : String} {rm : Room} {α : Type} {z : α} (X : gCX Γ cc nL ret own rm) (q0 t0 : Nat) {a n : Nat} {f : Nat → Option Nat} {i : Int32} {C : String} {F : Nat → Option α} (ha : w[q0]? = some (a, .inl ((gEo Γ).2.2.1 t0, n, .inr (.inr (.inr (.inr f)))))) (ht : (gTys (gEo Γ))[t0]? = some ((gEo Γ).2.2.1 t0, .object C)) (hd : decode cc pc = .ok (.aaload, 1)) (hf : gix n i F = some z) (kk : ∀ k, k < n → F k = some z → gW Γ Q w nL cells slots (pc + 1) lv (va_rf (f k) :: st)) : gW Γ Q w nL cells slots pc lv (.int i :: .ref a :: st) := by
  obtain ⟨hc, hf⟩ := g_ob hf
  exact g_aald X q0 t0 ha ht hc hd (kk _ (Nat.lt_of_not_le (fun h => hc (Or.inr h))) hf)
theorem g_callUi {Γ : gG} {Q : State → Prop} {w : va_W} {nL cells slots pc : Nat} {lv : List (Nat × Value)} {cc : ByteArray} {ret : Option FieldType} {own : String} {rm : Room} {α : Type} {z : α} (X : gCX Γ cc nL ret own rm) {y : MethodName} {yc : ByteArray} {ynL idx : Nat} {yret : Option FieldType} {rmc : Room} {mc ms : Nat} {As rest : List Value} {wc : va_W} {b : Nat} {S1 : Type} {wfc : S1 → va_W} {fc : Option (Int32 × S1)} {K : (Int32 × S1) → Option α} (n : Nat) {C owner : String} {x : MethodName} {b0 : ByteArray} {m0 : Nat} {r0 : Option FieldType} (hg : GoodIn lw_all (va_wsO own idx C owner x y (ws_ y yc ynL yret))) (h0 : Cond.code ⟨owner, x.name, x.desc⟩ b0 m0 r0 ∈ lw_all) (hdd : owner ≠ "java/lang/invoke/MethodHandle" ∧ owner ≠ "java/lang/invoke/VarHandle" ∧ (parseMethodDescriptor x.desc).map (fun d => d.parameters.length) = some n)
    (hM : ∀ (r1 : Int32) (u1 : S1), fc = some (r1, u1) → ∀ sz, Met (gl Γ) y (ws_ y yc ynL yret) rmc (gPc (.ref b :: As) (gEo Γ) wc sz) (gPi (gEo Γ) wfc r1 u1 (va_A wc sz)) mc ms (va_A wc sz)) {ci rq : Nat} {vc : vw_C} {vfs : List Value} (hrv : wc[rq]? = some (b, .inr (ci, vfs))) (hvc : vwCl[ci]? = some vc) (hvC : vc.1 = C)
    (hrc : rmc.cells = mc) (hrs : rmc.slots = ms) (hRm : rmc.frames + 1 ≤ rm.frames ∧ 8 + (ynL + 11) + rmc.locals ≤ rm.locals) (hn : As.length = n) (hst : (rest.map fun v => v.category).sum ≤ 8) (hcs : cells + mc ≤ rm.cells ∧ slots + ms ≤ rm.slots)
    (isC isR is : List Nat) (w' : S1 → va_W) (hC : isC.map (fun i => w[i]?) = wc.map some) (hRr : isR.map (fun i => w[i]?) = (g_pick w isR).map some) (hnc : va_nd isC = true) (hnd : va_nd isR = true) (hdis : ∀ i ∈ isR, i ∉ isC) (hnd2 : va_nd is = true) (hw' : ∀ u1, is.map (fun i => (g_pick w isR ++ wfc u1)[i]?) = (w' u1).map some)
    (hd : decode cc pc = .ok (.invokevirtual idx, 3)) (hf : fc.bind K = some z) (kk : ∀ (r1 : Int32) (u1 : S1), fc = some (r1, u1) → K (r1, u1) = some z → gW Γ Q (w' u1) nL (cells + mc) (slots + ms) (pc + 3) lv (.int r1 :: rest)) : gW Γ Q w nL cells slots pc lv (As.reverse ++ .ref b :: rest) := by
  obtain ⟨x1, hfc, hf⟩ := g_bd hf
  obtain ⟨r1, u1⟩ := x1
  obtain ⟨p, l, e, R, s, m, args, below, meth, c, E, A⟩ := Γ
  obtain ⟨hx, hb, hr, hlk, hml, hown, hts, hK, hA, hA0, hO, hR⟩ := X
  intro H locs ls hP hD hS hl
  subst hR
  have hPc : va_P (E.1, E.2.1) vwCl wc H := g_subP hP hC
  have hDc := hD.sub (ws' := wc) isC hnc hC
  have hFc := va_free (wc := wc) hD hS hA isC hC
  have hOc : gOld E H := g_old hS hA0 hO
  have hrecv : ∃ cellB : Cell, H[b]? = some cellB ∧ cellB.vm.isStatics = false ∧ s.vm.findClass C = some cellB.cls := by
    rw [← hvC]
    exact va_recv hK.1 hPc hvc hrv
  refine va_calli (va_runU (As := As) (rest := rest) ⟨hx, hb, hml, hown, hts⟩ (hM r1 u1 hfc H.size) (va_cwO n hts hg rfl hrc hrs h0 hdd ⟨hRm.1, hRm.2⟩) ⟨gPc.blind, hrecv, fun U hU hW => ⟨rfl, by rw [hU], by rw [hU]; exact hPc, hK.warm hW, hDc.weaken (fun _ _ _ h => hA0 _ h), by rw [hU]; exact hOc⟩⟩ rfl hn hl.1 rfl (lv_room hst) hd hcs) hS (fun q _ h => hFc q h) hFc (fun r2 u2 t H1 locs1 ht hvm hw1 hB hz1 hk1 hS1 => ?_)
  obtain ⟨rfl, rfl⟩ := hw1
  obtain ⟨hP1, hD1⟩ := hB
  rw [ht] at hP1
  obtain ⟨hP2, hD2⟩ := va_join (wr := g_pick w isR) hP hD isC isR hC hRr hnd hdis hk1 hFc hP1 hD1
  exact kk _ _ hfc hf H1 locs1 ls (g_subP hP2 (hw' _)) (hD2.sub is hnd2 (hw' _)) hS1 hl
theorem g_callSUi {Γ : gG} {Q : State → Prop} {w : va_W} {nL cells slots pc : Nat} {lv : List (Nat × Value)} {cc : ByteArray} {ret : Option FieldType} {own : String} {rm : Room} {α : Type} {z : α} (X : gCX Γ cc nL ret own rm) {y : MethodName} {yc : ByteArray} {ynL idx : Nat} {yret : Option FieldType} {rmc : Room} {mc ms : Nat} {As rest : List Value} {wc : va_W} {b : Nat} {S1 : Type} {wfc : S1 → va_W} {fc : Option (Int32 × S1)} {K : (Int32 × S1) → Option α} (n : Nat) {C : String} (hg : GoodIn lw_all (va_wsSU own idx y (ws_ y yc ynL yret))) (hdd : y.name ≠ "<init>" ∧ (parseMethodDescriptor y.desc).map (fun d => d.parameters.length) = some n)
    (hM : ∀ (r1 : Int32) (u1 : S1), fc = some (r1, u1) → ∀ sz, Met (gl Γ) y (ws_ y yc ynL yret) rmc (gPc (.ref b :: As) (gEo Γ) wc sz) (gPi (gEo Γ) wfc r1 u1 (va_A wc sz)) mc ms (va_A wc sz)) {ci rq : Nat} {vc : vw_C} {vfs : List Value} (hrv : wc[rq]? = some (b, .inr (ci, vfs))) (hvc : vwCl[ci]? = some vc) (hvC : vc.1 = C)
    (hrc : rmc.cells = mc) (hrs : rmc.slots = ms) (hRm : rmc.frames + 1 ≤ rm.frames ∧ 8 + (ynL + 11) + rmc.locals ≤ rm.locals) (hn : As.length = n) (hst : (rest.map fun v => v.category).sum ≤ 8) (hcs : cells + mc ≤ rm.cells ∧ slots + ms ≤ rm.slots)
    (isC isR is : List Nat) (w' : S1 → va_W) (hC : isC.map (fun i => w[i]?) = wc.map some) (hRr : isR.map (fun i => w[i]?) = (g_pick w isR).map some) (hnc : va_nd isC = true) (hnd : va_nd isR = true) (hdis : ∀ i ∈ isR, i ∉ isC) (hnd2 : va_nd is = true) (hw' : ∀ u1, is.map (fun i => (g_pick w isR ++ wfc u1)[i]?) = (w' u1).map some)
    (hd : decode cc pc = .ok (.invokespecial idx, 3)) (hf : fc.bind K = some z) (kk : ∀ (r1 : Int32) (u1 : S1), fc = some (r1, u1) → K (r1, u1) = some z → gW Γ Q (w' u1) nL (cells + mc) (slots + ms) (pc + 3) lv (.int r1 :: rest)) : gW Γ Q w nL cells slots pc lv (As.reverse ++ .ref b :: rest) := by
  obtain ⟨x1, hfc, hf⟩ := g_bd hf
  obtain ⟨r1, u1⟩ := x1
  obtain ⟨p, l, e, R, s, m, args, below, meth, c, E, A⟩ := Γ
  obtain ⟨hx, hb, hr, hlk, hml, hown, hts, hK, hA, hA0, hO, hR⟩ := X
  intro H locs ls hP hD hS hl
  subst hR
  have hPc : va_P (E.1, E.2.1) vwCl wc H := g_subP hP hC
  have hDc := hD.sub (ws' := wc) isC hnc hC
  have hFc := va_free (wc := wc) hD hS hA isC hC
  have hOc : gOld E H := g_old hS hA0 hO
  have hrecv : ∃ cellB : Cell, H[b]? = some cellB ∧ cellB.vm.isStatics = false ∧ s.vm.findClass C = some cellB.cls := by
    rw [← hvC]
    exact va_recv hK.1 hPc hvc hrv
  refine va_calli (va_runSU (hvC ▸ (hK.1.1 _ _ hvc).2) (As := As) (rest := rest) ⟨hx, hb, hml, hown, hts⟩ (hM r1 u1 hfc H.size) (va_cwSU n hts hg rfl hrc hrs hdd ⟨hRm.1, hRm.2⟩) ⟨gPc.blind, hrecv, fun U hU hW => ⟨rfl, by rw [hU], by rw [hU]; exact hPc, hK.warm hW, hDc.weaken (fun _ _ _ h => hA0 _ h), by rw [hU]; exact hOc⟩⟩ rfl hn hl.1 rfl (lv_room hst) hd hcs) hS (fun q _ h => hFc q h) hFc (fun r2 u2 t H1 locs1 ht hvm hw1 hB hz1 hk1 hS1 => ?_)
  obtain ⟨rfl, rfl⟩ := hw1
  obtain ⟨hP1, hD1⟩ := hB
  rw [ht] at hP1
  obtain ⟨hP2, hD2⟩ := va_join (wr := g_pick w isR) hP hD isC isR hC hRr hnd hdis hk1 hFc hP1 hD1
  exact kk _ _ hfc hf H1 locs1 ls (g_subP hP2 (hw' _)) (hD2.sub is hnd2 (hw' _)) hS1 hl
