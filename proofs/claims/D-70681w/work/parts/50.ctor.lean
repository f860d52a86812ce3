set_option maxRecDepth 100000
/-! CONSTRUCTORS: rows for new arrays, arrays of references, and a constructor's contract told by a predicate -/
section GC
variable {Γ : gG} {Q : State → Prop} {w : va_W} {nL cells slots pc : Nat} {lv : List (Nat × Value)} {st : List Value} {cc : ByteArray} {ret : Option FieldType} {own : String} {rm : Room}
theorem g_newa (X : gCX Γ cc nL ret own rm) {atype : ArrayType} {ty : FieldType} (t0 N' : Nat) {n : Int32} (hty : newarray.typeOf atype = ty) (harr : Cond.arrayClass ty ∈ lw_all) (ht0 : (gTys (gEo Γ))[t0]? = some ((gEo Γ).2.2.1 t0, ty)) (hprim : ∀ U c, va_RA U c ty = (U.vm.findClass ("[" ++ ty.toString) = some c)) (hdef : defaultValue ty = .int 0) (hn : ¬ n < 0) (hN : n.toNatClampNeg = N') (hbytes : N' * componentBytes ty ≤ 536870912) (hcs : cells + 1 ≤ rm.cells ∧ slots + N' ≤ rm.slots) (hd : decode cc pc = .ok (.newarray atype, 2)) (kk : ∀ q : Nat, gW Γ Q (w ++ [(q, .inl ((gEo Γ).2.2.1 t0, N', .inl (fun _ => 0)))]) nL (cells + 1) (slots + N') (pc + 2) lv (.ref q :: st)) : gW Γ Q w nL cells slots pc lv (.int n :: st) := by
  obtain ⟨p, l, e, R, s, m, args, below, meth, c, E, A⟩ := Γ
  obtain ⟨hx, hb, hr, hlk, hml, hown, hts, hK, hA, hA0, hO, hR⟩ := X
  intro H locs ls hP hD hS hl
  subst hR; subst hty
  refine va_newa (a0 := (N', .inl (fun _ => 0))) hx hb (hts _ harr) rfl hK.1 hP hD hS hA (fun cA => ?_) hn hN hbytes hcs.1 hcs.2 hd (fun q cA H1 hK1 hP1 hD1 hS1 => ?_)
  · rw [hdef]; rfl
  · have h1 := (hK1.2 (gTys E).length (cA, newarray.typeOf atype) (by rw [List.getElem?_append_right (Nat.le_refl _), Nat.sub_self]; rfl)).2
    have h2 := (hK.1.2 t0 _ ht0).2
    rw [hprim] at h1 h2
    have e1 : cA = E.2.2.1 t0 := Option.some.inj (h1.symm.trans h2)
    subst e1
    exact kk q H1 locs ls hP1 hD1 hS1 hl
theorem g_newq (X : gCX Γ cc nL ret own rm) {C : String} {idx : Nat} (t0 N' : Nat) {n : Int32} (hcl : Cond.classLink own idx C ∈ lw_all) (ja : Nat) (hja : gNA[ja]? = some C) (ht0 : (gTys (gEo Γ))[t0]? = some ((gEo Γ).2.2.1 t0, .object C)) (hn : ¬ n < 0) (hN : n.toNatClampNeg = N') (hbytes : N' * 4 ≤ 536870912) (hcs : cells + 1 ≤ rm.cells ∧ slots + N' ≤ rm.slots) (hd : decode cc pc = .ok (.anewarray idx, 3)) (kk : ∀ q : Nat, gW Γ Q (w ++ [(q, .inl ((gEo Γ).2.2.1 t0, N', .inr (.inr (.inr (.inr (fun _ => none))))))]) nL (cells + 1) (slots + N') (pc + 3) lv (.ref q :: st)) : gW Γ Q w nL cells slots pc lv (.int n :: st) := by
  obtain ⟨p, l, e, R, s, m, args, below, meth, c, E, A⟩ := Γ
  obtain ⟨hx, hb, hr, hlk, hml, hown, hts, hK, hA, hA0, hO, hR⟩ := X
  intro H locs ls hP hD hS hl
  subst hR
  refine va_newq hx hb hown (hts _ hcl) (hK.2.1.2.2.2 C (List.mem_of_getElem? hja)) hK.1 hP hD hS hA hn hN hbytes hcs.1 hcs.2 hd (fun q cA H1 hK1 hP1 hD1 hS1 => ?_)
  obtain ⟨-, -, -, -, -, h1⟩ := (hK1.2 (gTys E).length (cA, .object C) (by rw [List.getElem?_append_right (Nat.le_refl _), Nat.sub_self]; rfl)).2
  obtain ⟨-, -, -, -, -, h2⟩ := (hK.1.2 t0 _ ht0).2
  have e1 : cA = E.2.2.1 t0 := Option.some.inj (h1.symm.trans h2)
  subst e1
  exact kk q H1 locs ls hP1 hD1 hS1 hl
theorem g_aast (X : gCX Γ cc nL ret own rm) (q0 t0 qk ci : Nat) {a n v : Nat} {r : vw_C} {vs : List Value} {f : Nat → Option Nat} {i : Int32} (w' : va_W) (ha : w[q0]? = some (a, .inl ((gEo Γ).2.2.1 t0, n, .inr (.inr (.inr (.inr f)))))) (ht : (gTys (gEo Γ))[t0]? = some ((gEo Γ).2.2.1 t0, .object r.1)) (hv : w[qk]? = some (v, .inr (ci, vs))) (hc : vwCl[ci]? = some r) (hin : vp_in i n) (hw : w.set q0 (a, .inl ((gEo Γ).2.2.1 t0, n, .inr (.inr (.inr (.inr (va_up f i.toNatClampNeg (some v))))))) = w') (hd : decode cc pc = .ok (.aastore, 1)) (kk : gW Γ Q w' nL cells slots (pc + 1) lv st) : gW Γ Q w nL cells slots pc lv (.ref v :: .int i :: .ref a :: st) := by
  obtain ⟨p, l, e, R, s, m, args, below, meth, c, E, A⟩ := Γ
  obtain ⟨hx, hb, hr, hlk, hml, hown, hts, hK, hA, hA0, hO, hR⟩ := X
  intro H locs ls hP hD hS hl
  subst hw
  exact va_astq hx hb hK.1 hP hD hS q0 t0 qk ci ha ht hv hc hin hd (fun H1 locs1 hP1 hD1 hS1 => kk H1 locs1 ls hP1 hD1 hS1 hl)
theorem g_aastO (X : gCX Γ cc nL ret own rm) (q0 t0 qk ci : Nat) {a n v : Nat} {B : String} {r : vw_C} {vs : List Value} {f : Nat → Option Nat} {i : Int32} (w' : va_W) (ha : w[q0]? = some (a, .inl ((gEo Γ).2.2.1 t0, n, .inr (.inr (.inr (.inr f)))))) (ht : (gTys (gEo Γ))[t0]? = some ((gEo Γ).2.2.1 t0, .object B)) (jc : Nat) (hjc : gNC[jc]? = some (r.1, B)) (hv : w[qk]? = some (v, .inr (ci, vs))) (hc : vwCl[ci]? = some r) (hin : vp_in i n) (hw : w.set q0 (a, .inl ((gEo Γ).2.2.1 t0, n, .inr (.inr (.inr (.inr (va_up f i.toNatClampNeg (some v))))))) = w') (hd : decode cc pc = .ok (.aastore, 1)) (kk : gW Γ Q w' nL cells slots (pc + 1) lv st) : gW Γ Q w nL cells slots pc lv (.ref v :: .int i :: .ref a :: st) := by
  obtain ⟨p, l, e, R, s, m, args, below, meth, c, E, A⟩ := Γ
  obtain ⟨hx, hb, hr, hlk, hml, hown, hts, hK, hA, hA0, hO, hR⟩ := X
  intro H locs ls hP hD hS hl
  subst hw
  exact va_astqO hx hb hK.1 hP hD hS q0 t0 qk ci ha ht (hK.2.1.2.2.1 _ (List.mem_of_getElem? hjc)) hv hc hin hd (fun H1 locs1 hP1 hD1 hS1 => kk H1 locs1 ls hP1 hD1 hS1 hl)
end GC
/-- a constructor's end: the world it leaves, told by a predicate on what is new -/
def gPp {S : Type} (E : gE) (wf : S → va_W) (P : S → Prop) (A : Nat → Prop) := va_Qv P (fun u' t => va_P (E.1, E.2.1) vwCl (wf u') t.heap ∧ va_D A (wf u')) A
theorem g_pret {Γ : gG} {w : va_W} {nL cells slots pc : Nat} {lv : List (Nat × Value)} {cc : ByteArray} {own : String} {rm : Room} {S : Type} {wf : S → va_W} {P : S → Prop} (X : gCX Γ cc nL none own rm) (u0 : S) (hu : P u0) (hw : w = wf u0) (hd : decode cc pc = .ok (.return_, 1)) : gW Γ (gMQ Γ (gPp (gEo Γ) wf P (gAo Γ)) cells slots) w nL cells slots pc lv [] := by
  subst hw
  obtain ⟨p, l, e, R, s, m, args, below, meth, c, E, A⟩ := Γ
  obtain ⟨hx, hb, hr, hlk, hml, hown, hts, hK, hA, hA0, hO, hR⟩ := X
  intro H locs ls hP hD hS hl
  exact W.vret hx hb hr (fun t ht hW => ⟨⟨u0, rfl, hu, by rw [ht]; exact hP, hD⟩, hS.F ht⟩) hS.2.2 hd
theorem g_callIp {Γ : gG} {Q : State → Prop} {w : va_W} {nL cells slots pc : Nat} {lv : List (Nat × Value)} {cc : ByteArray} {ret : Option FieldType} {own : String} {rm : Room} (X : gCX Γ cc nL ret own rm) {y : MethodName} {yc : ByteArray} {ynL idx : Nat} {yret : Option FieldType} {rmc : Room} {mc ms : Nat} {As rest : List Value} {wc : va_W} {b : Nat} {S1 : Type} {wfc : S1 → va_W} {Pp : S1 → Prop} (n : Nat) (hcode : Cond.code y yc ynL none ∈ lw_all) (hini : Cond.initialized y.cls ∈ lw_all) (hlink : Cond.methodLink own idx y ∈ lw_all) (hinst : Cond.instanceMethod y ∈ lw_all) (hy1 : y.name = "<init>") (hdd : y.cls ≠ "java/lang/invoke/MethodHandle" ∧ y.cls ≠ "java/lang/invoke/VarHandle" ∧ (parseMethodDescriptor y.desc).map (fun d => d.parameters.length) = some n)
    (hM : ∀ sz, Met (gl Γ) y (ws_ y yc ynL none) rmc (gPc (.ref b :: As) (gEo Γ) wc sz) (gPp (gEo Γ) wfc Pp (va_A wc sz)) mc ms (va_A wc sz))
    (hrc : rmc.cells = mc) (hrs : rmc.slots = ms) (hRm : rmc.frames + 1 ≤ rm.frames ∧ 8 + (ynL + 11) + rmc.locals ≤ rm.locals) (hn : As.length = n) (hst : (rest.map fun v => v.category).sum ≤ 8) (hcs : cells + mc ≤ rm.cells ∧ slots + ms ≤ rm.slots)
    (isC isR is : List Nat) (w' : S1 → va_W) (hC : isC.map (fun i => w[i]?) = wc.map some) (hRr : isR.map (fun i => w[i]?) = (g_pick w isR).map some) (hnc : va_nd isC = true) (hnd : va_nd isR = true) (hdis : ∀ i ∈ isR, i ∉ isC) (hnd2 : va_nd is = true) (hw' : ∀ u1, is.map (fun i => (g_pick w isR ++ wfc u1)[i]?) = (w' u1).map some)
    (hd : decode cc pc = .ok (.invokespecial idx, 3)) (kk : ∀ (u1 : S1), Pp u1 → gW Γ Q (w' u1) nL (cells + mc) (slots + ms) (pc + 3) lv rest) : gW Γ Q w nL cells slots pc lv (As.reverse ++ .ref b :: rest) := by
  obtain ⟨p, l, e, R, s, m, args, below, meth, c, E, A⟩ := Γ
  obtain ⟨hx, hb, hr, hlk, hml, hown, hts, hK, hA, hA0, hO, hR⟩ := X
  intro H locs ls hP hD hS hl
  subst hR
  have hPc : va_P (E.1, E.2.1) vwCl wc H := g_subP hP hC
  have hDc := hD.sub (ws' := wc) isC hnc hC
  have hFc := va_free (wc := wc) hD hS hA isC hC
  have hOc : gOld E H := g_old hS hA0 hO
  refine va_callv (va_runI (As := As) (rest := rest) ⟨hx, hb, hml, hown, hts⟩ (hM H.size) (cwI n hts (lw_meth hcode) rfl hrc hrs (hts _ hini) (hts _ hlink) (hts _ hinst) hy1 hdd ⟨hRm.1, hRm.2⟩) ⟨gPc.blind, fun U hU hW => ⟨rfl, by rw [hU], by rw [hU]; exact hPc, hK.warm hW, hDc.weaken (fun _ _ _ h => hA0 _ h), by rw [hU]; exact hOc⟩⟩ rfl hn hl.1 rfl (lv_room hst) hd hcs) hS (fun q _ h => hFc q h) hFc (fun u2 t H1 locs1 ht hvm hw1 hB hz1 hk1 hS1 => ?_)
  obtain ⟨hP1, hD1⟩ := hB
  rw [ht] at hP1
  obtain ⟨hP2, hD2⟩ := va_join (wr := g_pick w isR) hP hD isC isR hC hRr hnd hdis hk1 hFc hP1 hD1
  exact kk _ hw1 H1 locs1 ls (g_subP hP2 (hw' _)) (hD2.sub is hnd2 (hw' _)) hS1 hl
theorem g_callINp {Γ : gG} {Q : State → Prop} {w : va_W} {nL cells slots pc : Nat} {lv : List (Nat × Value)} {cc : ByteArray} {ret : Option FieldType} {own : String} {rm : Room} (X : gCX Γ cc nL ret own rm) {y : MethodName} {yc : ByteArray} {ynL idx : Nat} {yret : Option FieldType} {rmc : Room} {mc ms : Nat} {As rest : List Value} {wc : va_W} {b : Nat} {S1 : Type} {wfc : S1 → va_W} {Pp : S1 → Prop} (n : Nat) (hcode : Cond.code y yc ynL none ∈ lw_all) (j : Nat) (hj : gNM[j]? = some (own, idx, y)) (hini : Cond.initialized y.cls ∈ lw_all) (hinst : Cond.instanceMethod y ∈ lw_all) (hy1 : y.name = "<init>") (hdd : y.cls ≠ "java/lang/invoke/MethodHandle" ∧ y.cls ≠ "java/lang/invoke/VarHandle" ∧ (parseMethodDescriptor y.desc).map (fun d => d.parameters.length) = some n)
    (hM : ∀ sz, Met (gl Γ) y (ws_ y yc ynL none) rmc (gPc (.ref b :: As) (gEo Γ) wc sz) (gPp (gEo Γ) wfc Pp (va_A wc sz)) mc ms (va_A wc sz))
    (hrc : rmc.cells = mc) (hrs : rmc.slots = ms) (hRm : rmc.frames + 1 ≤ rm.frames ∧ 8 + (ynL + 11) + rmc.locals ≤ rm.locals) (hn : As.length = n) (hst : (rest.map fun v => v.category).sum ≤ 8) (hcs : cells + mc ≤ rm.cells ∧ slots + ms ≤ rm.slots)
    (isC isR is : List Nat) (w' : S1 → va_W) (hC : isC.map (fun i => w[i]?) = wc.map some) (hRr : isR.map (fun i => w[i]?) = (g_pick w isR).map some) (hnc : va_nd isC = true) (hnd : va_nd isR = true) (hdis : ∀ i ∈ isR, i ∉ isC) (hnd2 : va_nd is = true) (hw' : ∀ u1, is.map (fun i => (g_pick w isR ++ wfc u1)[i]?) = (w' u1).map some)
    (hd : decode cc pc = .ok (.invokespecial idx, 3)) (kk : ∀ (u1 : S1), Pp u1 → gW Γ Q (w' u1) nL (cells + mc) (slots + ms) (pc + 3) lv rest) : gW Γ Q w nL cells slots pc lv (As.reverse ++ .ref b :: rest) := by
  obtain ⟨p, l, e, R, s, m, args, below, meth, c, E, A⟩ := Γ
  obtain ⟨hx, hb, hr, hlk, hml, hown, hts, hK, hA, hA0, hO, hR⟩ := X
  intro H locs ls hP hD hS hl
  subst hR
  have hPc : va_P (E.1, E.2.1) vwCl wc H := g_subP hP hC
  have hDc := hD.sub (ws' := wc) isC hnc hC
  have hFc := va_free (wc := wc) hD hS hA isC hC
  have hOc : gOld E H := g_old hS hA0 hO
  refine va_callv (va_runIN (As := As) (rest := rest) ⟨hx, hb, hml, hown, hts⟩ (hM H.size) ⟨va_cnB n hts (lw_meth hcode) rfl hrc hrs (hK.2.1.2.1 _ (List.mem_of_getElem? hj)) (hts _ hini) hdd ⟨hRm.1, hRm.2⟩, hy1, hts _ hinst⟩ ⟨gPc.blind, fun U hU hW => ⟨rfl, by rw [hU], by rw [hU]; exact hPc, hK.warm hW, hDc.weaken (fun _ _ _ h => hA0 _ h), by rw [hU]; exact hOc⟩⟩ rfl hn hl.1 rfl (lv_room hst) hd hcs) hS (fun q _ h => hFc q h) hFc (fun u2 t H1 locs1 ht hvm hw1 hB hz1 hk1 hS1 => ?_)
  obtain ⟨hP1, hD1⟩ := hB
  rw [ht] at hP1
  obtain ⟨hP2, hD2⟩ := va_join (wr := g_pick w isR) hP hD isC isR hC hRr hnd hdis hk1 hFc hP1 hD1
  exact kk _ hw1 H1 locs1 ls (g_subP hP2 (hw' _)) (hD2.sub is hnd2 (hw' _)) hS1 hl
