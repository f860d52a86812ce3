set_option maxRecDepth 100000
theorem gMetXI {l : Launch} {y : MethodName} {cc : ByteArray} {nL : Nat} {ret : Option FieldType} {rm : Room} {av : List Value} {E : gE} {w : va_W} {sz : Nat} {Qx : (Nat → Prop) → Array Value → State → Outcome → State → Nat → Nat → Prop} (hy : plainName y.cls = true) (hi : y.name = "<init>") (hn : (lg_sl av).length ≤ nL)
    (body : ∀ Γ : gG, gCX Γ cc nL ret y.cls rm → gIn Γ → gNo Γ → gl Γ = l → gEo Γ = E → gW Γ (gMQX Γ (Qx (gAo Γ))) w nL 0 0 0 (lv_args 0 av) []) : MetX l y (ws_ y cc nL ret) rm (gPc av E w sz) (Qx (va_A w sz)) (va_A w sz) := by
  refine MetX.ofW (cc := cc) (maxL := nL) (ret := ret) hy rfl ?_
  intro p e s m args below meth c s₁ B hml hv
  obtain ⟨rfl, hsz, hP, hK, hD0, hO⟩ := hv
  have hts0 := atoms_spec (ws := ws_ y cc nL ret) B.pre
  have hts : ∀ w ∈ lw_all, w.before _ s = true := fun w h => hts0 w (List.mem_cons_of_mem _ h)
  have hno : c.exceptionTable.isEmpty = true := B.noHandlers (hts0 _ List.mem_cons_self)
  have hin : meth.name = "<init>" := (name_of_methodNamed B.named B.method).1.trans hi
  subst hsz
  rw [lg_entry_eq]
  exact body (p, l, e, rm, s, m, av.toArray, below, meth, c, E, va_A w s.heap.size) ⟨B.exec, B.bytes, B.returns, B.notSynchronized, hml, findClass_of_methodNamed B.named, hts, hK, fun q h => Or.inr h, fun q h => by
    rcases h with ⟨k, e, h⟩ | h
    · exact hD0.2 k (q, e) h
    · exact Nat.le_trans hO.1 h, hO, rfl⟩ hin hno rfl rfl s.heap [] _ hP (hD0.self (sz := s.heap.size)) va_S.rf (lv_entry av hn)
/-- the end of a constructor that may throw a Fault: some new cells (told by ad), and the Fault behind them -/
def gXQ2 {S U : Type} (E : gE) (wf : U → S → va_W) (vd : Bool) (z : gR S) (k0 n0 : Nat) (A : Nat → Prop) : Array Value → State → Outcome → State → Nat → Nat → Prop := fun _ st oc t k n => va_F A st t ∧ ∃ ad : U, match z with
  | .inl (r, u) => oc = .returned (if vd then none else some (.int r)) ∧ (va_P (E.1, E.2.1) vwCl (wf ad u) t.heap ∧ va_D A (wf ad u)) ∧ k = k0 ∧ n = n0
  | .inr (co, pl, u) => ∃ (q : Nat) (fs : List Value), oc = .threw q ∧ (va_P (E.1, E.2.1) vwCl (wf ad u ++ [(q, .inr (9, fs))]) t.heap ∧ va_D A (wf ad u ++ [(q, .inr (9, fs))])) ∧ fs[6]? = some (.int co) ∧ fs[7]? = some (.int pl) ∧ k = k0 + 1 ∧ n = n0 + 8
section GX2b
variable {Γ : gG} {w : va_W} {nL cells slots pc : Nat} {lv : List (Nat × Value)} {st : List Value} {cc : ByteArray} {ret : Option FieldType} {own : String} {rm : Room} {S U : Type} {wf : U → S → va_W} {z : gR S} {Q : State → Prop}
theorem g_x2vret {v : Int32} {u0 : S} (X : gCX Γ cc nL none own rm) (ad : U) (hw : w = wf ad u0) (hd : decode cc pc = .ok (.return_, 1)) (hf : (some (.inl (v, u0)) : Option (gR S)) = some z) : gW Γ (gMQX Γ (gXQ2 (gEo Γ) wf true z cells slots (gAo Γ))) w nL cells slots pc lv [] := by
  subst hw
  cases hf
  obtain ⟨p, l, e, R, s, m, args, below, meth, c, E, A⟩ := Γ
  obtain ⟨hx, hb, hr, hlk, hml, hown, hts, hK, hA, hA0, hO, hR⟩ := X
  intro H locs ls hP hD hS hl
  exact gx_mono (gx_MQ (Qc := fun a st oc t => gXQ2 E wf true (.inl (v, u0)) cells slots A a st oc t cells slots) (fun _ _ h => h)) (W.vret hx hb hr (fun t ht hW => ⟨hS.F ht, ad, rfl, ⟨by rw [ht]; exact hP, hD⟩, rfl, rfl⟩) hS.2.2 hd)
theorem g_x2leave (X : gCX Γ cc nL ret own rm) (hno : gNo Γ) {vd : Bool} {co pl : Int32} {u : S} {q : Nat} {fs : List Value} (ad : U) (h6 : fs[6]? = some (.int co)) (h7 : fs[7]? = some (.int pl)) (hz : z = .inr (co, pl, u)) (hw : w = wf ad u ++ [(q, .inr (9, fs))]) : gT Γ (gMQX Γ (gXQ2 (gEo Γ) wf vd z cells slots (gAo Γ))) w nL (cells + 1) (slots + 8) pc lv st q := by
  subst hz; subst hw
  obtain ⟨p, l, e, R, s, m, args, below, meth, c, E, A⟩ := Γ
  obtain ⟨hx, hb, hr, hlk, hml, hown, hts, hK, hA, hA0, hO, hR⟩ := X
  intro H locs ls hP hD hS hl T hT XS
  have hno : c.exceptionTable.isEmpty = true := hno
  obtain ⟨h1, h2, h3, h4, h5⟩ := XS.leaveThrown q (g := F0 m pc ls st) rfl rfl rfl (fun x hx => by
    rw [Array.isEmpty_iff] at hno
    rw [hno] at hx
    cases hx) hlk
  refine ⟨_, h1, .threw q, h2, h3, locs, cells + 1, slots + 8, ⟨h4, h5⟩, hS.2.2, hS.F (by show T.heap = H; exact hT), ad, q, fs, rfl, ⟨?_, hD⟩, h6, h7, rfl, rfl⟩
  show va_P (E.1, E.2.1) vwCl _ T.heap
  rw [hT]; exact hP
end GX2b
def gRad (r : Nat) (u b : Nat → Nat) : Nat → Nat := fun k => match k with
  | 0 => r
  | 1 => u 0
  | 2 => u 1
  | 3 => u 2
  | 4 => u 3
  | k + 5 => b k
def gRd0 (size : Int32) (xi : gXI) (tape : Nat → Int32) : gRd := (size, 0, -4, 0, 0, 0, 0, gS0, xi, tape)
abbrev gRx (b : Nat → Nat) (xi : gXI) : Nat × va_E := (b 0, .inr (0, [.ref (b 5), .ref (b 6), .ref (b 7), .ref (b 8), .int (I_kept xi), .ref (b 9), .int (I_seenMany xi), .int (I_weepers xi), .int (I_often xi), .int (I_firstOver xi), .ref (b 1), .int (I_taped xi), .int (I_fault xi), .ref (b 10), .long (I_goneSum xi), .long (I_manySum xi), .long (I_allWays xi), .ref (b 11), .int (I_torn xi)]))
abbrev gRt (E : gE) (b : Nat → Nat) (tape : Nat → Int32) : Nat × va_E := (b 1, .inl (E.2.2.1 0, 160, .inl tape))
abbrev gR8 : List Value := [.int 0, .null, .int 0, .int 0, .int 0, .int 0, .int 0, .int 0, .null]
abbrev rm_X8_init : Room := { frames := 8, cells := 5, slots := 44, locals := 260 }
set_option maxHeartbeats 4000000 in
theorem m_X8_init (l : Launch) (E : gE) (hE1 : gEx1 E) (r : Nat) (b : Nat → Nat) (size : Int32) (xi : gXI) (tape : Nat → Int32) (z : gR gRd) (hf : gcx (f_X8_next (gRd0 size xi tape)) id (fun _ u => some (.inl (0, u))) = some z) (sz : Nat) : MetX l yX8_init (ws_ yX8_init cX8_init 3 none) rm_X8_init (gPc [.ref r, .ref (b 0), .int size] E [(r, .inr (8, gR8)), gRx b xi, gRt E b tape] sz) (gXQ2 E (fun u σ => wR E (gRad r u b) σ) true z 4 36 (va_A [(r, .inr (8, gR8)), gRx b xi, gRt E b tape] sz)) (va_A [(r, .inr (8, gR8)), gRx b xi, gRt E b tape] sz) := by
  refine gMetXI (Qx := gXQ2 E (fun u σ => wR E (gRad r u b) σ) true z 4 36) (by decide) rfl (Nat.le_of_ble_eq_true rfl) (fun Γ X hI hno hl hE => ?_)
  subst hl; subst hE
  show gW Γ _ _ 3 0 0 0 [(0, .ref r), (1, .ref (b 0)), (2, .int size)] []
  refine g_aload_n X 0 dX8_init_0 rfl ?_
  refine g_aload_n X 1 dX8_init_1 rfl ?_
  refine g_putF X hI in_X8 tyX8_ok nmX8 0 8 [(r, .inr (8, [.int 0, .null, .int 0, .int 0, .int 0, .int 0, .int 0, .int 0, .ref (b 0)])), gRx b xi, gRt (gEo Γ) b tape] rfl rfl (by decide) q368 rfl rfl rfl rfl rfl (Nat.le_of_ble_eq_true rfl) rfl dX8_init_2 ?_
  refine g_aload_n X 0 dX8_init_5 rfl ?_
  refine g_objInit X q260 dX8_init_6 (by decide) (Nat.le_of_ble_eq_true rfl) ?_
  refine g_aload_n X 0 dX8_init_9 rfl ?_
  refine g_new X in_X5 tyX5_ok q261 q123 q65 (ci := 5) rfl [.int 0, .null, .null, .int 0, .int 0, .int 0, .int 0, .null] (by decide) (by decide) dX8_init_10 (fun q => ?_)
  show gW Γ _ [(r, .inr (8, [.int 0, .null, .int 0, .int 0, .int 0, .int 0, .int 0, .int 0, .ref (b 0)])), gRx b xi, gRt (gEo Γ) b tape, (q, .inr (5, [.int 0, .null, .null, .int 0, .int 0, .int 0, .int 0, .null]))] _ _ _ _ _ _
  refine g_dup X dX8_init_13 rfl ?_
  refine g_callIp X 0 (As := []) (rest := [.ref q, .ref r]) (yret := none) (wc := [(q, .inr (5, [.int 0, .null, .null, .int 0, .int 0, .int 0, .int 0, .null]))]) (wfc := fun ad => wS (gEo Γ) ad gS0) q126 q65 q262 q125 rfl (by decide +kernel) (fun sz_ => m_X5_init (gl Γ) (gEo Γ) q sz_) rfl rfl ⟨by decide, by decide⟩ rfl (Nat.le_of_ble_eq_true rfl) ⟨by decide, by decide⟩ [3] [0, 1, 2] [0, 1, 2, 3, 4, 5, 6] (fun u => [(r, .inr (8, [.int 0, .null, .int 0, .int 0, .int 0, .int 0, .int 0, .int 0, .ref (b 0)])), gRx b xi, gRt (gEo Γ) b tape, (u 0, .inr (5, [.int 0, .ref (u 1), .ref (u 2), .int 0, .int 2, .int 4, .int 0, .ref (u 3)])), (u 1, .inl ((gEo Γ).2.2.1 0, 15, .inl (S_one gS0))), (u 2, .inl ((gEo Γ).2.2.1 1, 5, .inl (S_wept gS0))), (u 3, .inl ((gEo Γ).2.2.1 0, 8, .inl (S_plan gS0)))]) rfl rfl rfl rfl (by decide) rfl (fun _ => rfl) dX8_init_14 (fun u h_ => ?_)
  have h_ := h_.symm
  subst h_
  show gW Γ _ [(r, .inr (8, [.int 0, .null, .int 0, .int 0, .int 0, .int 0, .int 0, .int 0, .ref (b 0)])), gRx b xi, gRt (gEo Γ) b tape, (u 0, .inr (5, [.int 0, .ref (u 1), .ref (u 2), .int 0, .int 2, .int 4, .int 0, .ref (u 3)])), (u 1, .inl ((gEo Γ).2.2.1 0, 15, .inl (S_one gS0))), (u 2, .inl ((gEo Γ).2.2.1 1, 5, .inl (S_wept gS0))), (u 3, .inl ((gEo Γ).2.2.1 0, 8, .inl (S_plan gS0)))] _ _ _ _ _ _
  refine g_putF X hI in_X8 tyX8_ok nmX8 0 1 [(r, .inr (8, [.int 0, .ref (u 0), .int 0, .int 0, .int 0, .int 0, .int 0, .int 0, .ref (b 0)])), gRx b xi, gRt (gEo Γ) b tape, (u 0, .inr (5, [.int 0, .ref (u 1), .ref (u 2), .int 0, .int 2, .int 4, .int 0, .ref (u 3)])), (u 1, .inl ((gEo Γ).2.2.1 0, 15, .inl (S_one gS0))), (u 2, .inl ((gEo Γ).2.2.1 1, 5, .inl (S_wept gS0))), (u 3, .inl ((gEo Γ).2.2.1 0, 8, .inl (S_plan gS0)))] rfl rfl (by decide) q360 rfl rfl rfl rfl rfl (Nat.le_of_ble_eq_true rfl) rfl dX8_init_17 ?_
  refine g_aload_n X 0 dX8_init_20 rfl ?_
  refine g_bipush X (-4) dX8_init_21 rfl ?_
  refine g_put X in_X8 tyX8_ok nmX8 0 3 [(r, .inr (8, [.int 0, .ref (u 0), .int 0, .int (-4), .int 0, .int 0, .int 0, .int 0, .ref (b 0)])), gRx b xi, gRt (gEo Γ) b tape, (u 0, .inr (5, [.int 0, .ref (u 1), .ref (u 2), .int 0, .int 2, .int 4, .int 0, .ref (u 3)])), (u 1, .inl ((gEo Γ).2.2.1 0, 15, .inl (S_one gS0))), (u 2, .inl ((gEo Γ).2.2.1 1, 5, .inl (S_wept gS0))), (u 3, .inl ((gEo Γ).2.2.1 0, 8, .inl (S_plan gS0)))] rfl rfl (by decide) q363 rfl rfl rfl rfl (Nat.le_of_ble_eq_true rfl) rfl dX8_init_23 ?_
  refine g_aload_n X 0 dX8_init_26 rfl ?_
  refine g_iload_n X 2 dX8_init_27 rfl ?_
  refine g_putF X hI in_X8 tyX8_ok nmX8 0 0 [(r, .inr (8, [.int size, .ref (u 0), .int 0, .int (-4), .int 0, .int 0, .int 0, .int 0, .ref (b 0)])), gRx b xi, gRt (gEo Γ) b tape, (u 0, .inr (5, [.int 0, .ref (u 1), .ref (u 2), .int 0, .int 2, .int 4, .int 0, .ref (u 3)])), (u 1, .inl ((gEo Γ).2.2.1 0, 15, .inl (S_one gS0))), (u 2, .inl ((gEo Γ).2.2.1 1, 5, .inl (S_wept gS0))), (u 3, .inl ((gEo Γ).2.2.1 0, 8, .inl (S_plan gS0)))] rfl rfl (by decide) q359 rfl rfl rfl rfl rfl (Nat.le_of_ble_eq_true rfl) rfl dX8_init_28 ?_
  refine g_aload_n X 0 dX8_init_31 rfl ?_
  refine g_perm [0, 3, 4, 5, 6, 1, 2] (wR (gEo Γ) (gRad r u b) (gRd0 size xi tape)) rfl rfl ?_
  refine g_callXV (lift := id) X true 0 (As := []) (rest := []) (wfc := wR (gEo Γ) (gRad r u b)) (lw_V q263 q265 qs0 q68 q266) (by decide +kernel) (fun z_ h_ sz_ => m_X8_next (gl Γ) (gEo Γ) hE1 (gRad r u b) (gRd0 size xi tape) z_ h_ sz_) (rq := 0) rfl rfl rfl ⟨by decide, by decide⟩ rfl (Nat.le_of_ble_eq_true rfl) ⟨by decide, by decide⟩ [0, 1, 2, 3, 4, 5, 6] [] [0, 1, 2, 3, 4, 5, 6] (fun u2 => wR (gEo Γ) (gRad r u b) u2) rfl rfl rfl rfl (by decide) rfl (fun _ => rfl) dX8_init_32 hf (fun r1 u2 hf => ?_) (fun _ _ _ _ _ hz h6 h7 => g_x2leave X hno u h6 h7 hz rfl)
  exact g_x2vret X u rfl dX8_init_35 hf
