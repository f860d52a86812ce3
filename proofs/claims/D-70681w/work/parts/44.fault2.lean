set_option maxRecDepth 100000
def gIn (Γ : gG) : Prop := match Γ with
  | (_, _, _, _, _, _, _, _, meth, _, _, _) => meth.name = "<init>"
theorem gMetI {l : Launch} {y : MethodName} {cc : ByteArray} {nL : Nat} {ret : Option FieldType} {rm : Room} {av : List Value} {E : gE} {w : va_W} {sz : Nat} {Qc : (Nat → Prop) → Array Value → State → Outcome → State → Prop} {mc ms : Nat} (hy : plainName y.cls = true) (hi : y.name = "<init>") (hn : (lg_sl av).length ≤ nL)
    (body : ∀ Γ : gG, gCX Γ cc nL ret y.cls rm → gIn Γ → gl Γ = l → gEo Γ = E → gW Γ (gMQ Γ (Qc (gAo Γ)) mc ms) w nL 0 0 0 (lv_args 0 av) []) : Met l y (ws_ y cc nL ret) rm (gPc av E w sz) (Qc (va_A w sz)) mc ms (va_A w sz) := by
  refine Met.ofW (cc := cc) (maxL := nL) (ret := ret) hy rfl ?_
  intro p e s m args below meth c s₁ B hml hv
  obtain ⟨rfl, hsz, hP, hK, hD0, hO⟩ := hv
  have hts := atoms_spec (ws := ws_ y cc nL ret) B.pre
  have hts : ∀ w ∈ lw_all, w.before _ s = true := fun w h => hts w (List.mem_cons_of_mem _ h)
  have hin : meth.name = "<init>" := (name_of_methodNamed B.named B.method).1.trans hi
  subst hsz
  rw [lg_entry_eq]
  exact body (p, l, e, rm, s, m, av.toArray, below, meth, c, E, va_A w s.heap.size) ⟨B.exec, B.bytes, B.returns, B.notSynchronized, hml, findClass_of_methodNamed B.named, hts, hK, fun q h => Or.inr h, fun q h => by
    rcases h with ⟨k, e, h⟩ | h
    · exact hD0.2 k (q, e) h
    · exact Nat.le_trans hO.1 h, hO, rfl⟩ hin rfl rfl s.heap [] _ hP (hD0.self (sz := s.heap.size)) va_S.rf (lv_entry av hn)
abbrev gEx1 (E : gE) : Prop := gZq E "java/lang/Throwable" "UNASSIGNED_STACK" "[Ljava/lang/StackTraceElement;" ∧ gZq E "java/lang/Throwable" "SUPPRESSED_SENTINEL" "Ljava/util/List;"
abbrev gF0 : List Value := [.null, .null, .null, .null, .null, .int 0, .int 0, .int 0]
abbrev rm_J0_init_2 : Room := { frames := 2, cells := 0, slots := 0, locals := 30 }
theorem m_J0_init_2 (l : Launch) (E : gE) (hE1 : gEx1 E) (q : Nat) (sz : Nat) : Met l yJ0_init_2 (ws_ yJ0_init_2 cJ0_init_2 5 none) rm_J0_init_2 (gPc [.ref q, .null, .null, .int 0, .int 0] E [(q, .inr (9, gF0))] sz) (gPv E (fun _ : Unit => [(q, .inr (9, gF0))]) () (va_A [(q, .inr (9, gF0))] sz)) 0 0 (va_A [(q, .inr (9, gF0))] sz) := by
  refine gMet (Qc := gPv E (fun _ : Unit => [(q, .inr (9, gF0))]) ()) (by decide) (Nat.le_of_ble_eq_true rfl) (fun Γ X hl hE => ?_)
  subst hl; subst hE
  show gW Γ _ _ 5 0 0 0 [(0, .ref q), (1, .null), (2, .null), (3, .int 0), (4, .int 0)] []
  refine g_aload_n X 0 dJ0_init_2_0 rfl ?_
  refine g_objInit X q298 dJ0_init_2_1 (by decide) (Nat.le_of_ble_eq_true rfl) ?_
  refine g_aload_n X 0 dJ0_init_2_4 rfl ?_
  refine g_aload_n X 0 dJ0_init_2_5 rfl ?_
  refine g_put X in_X9 tyX9_ok nmX9 0 0 [(q, .inr (9, [.ref q, .null, .null, .null, .null, .int 0, .int 0, .int 0]))] rfl rfl (by decide) q344 rfl rfl rfl rfl (Nat.le_of_ble_eq_true rfl) rfl dJ0_init_2_6 ?_
  refine g_aload_n X 0 dJ0_init_2_9 rfl ?_
  refine g_getsq X hE1.1 q299 dJ0_init_2_10 (fun v1 hv1 => ?_)
  refine g_put X in_X9 tyX9_ok nmX9 0 1 [(q, .inr (9, [.ref q, v1, .null, .null, .null, .int 0, .int 0, .int 0]))] rfl rfl (by decide) q345 rfl rfl (by rcases hv1 with rfl | ⟨t, rfl⟩ <;> rfl) (by rcases hv1 with rfl | ⟨t, rfl⟩ <;> rfl) (Nat.le_of_ble_eq_true rfl) rfl dJ0_init_2_13 ?_
  refine g_aload_n X 0 dJ0_init_2_16 rfl ?_
  refine g_getsq X hE1.2 q301 dJ0_init_2_17 (fun v2 hv2 => ?_)
  refine g_put X in_X9 tyX9_ok nmX9 0 2 [(q, .inr (9, [.ref q, v1, v2, .null, .null, .int 0, .int 0, .int 0]))] rfl rfl (by decide) q346 rfl rfl (by rcases hv2 with rfl | ⟨t, rfl⟩ <;> rfl) (by rcases hv2 with rfl | ⟨t, rfl⟩ <;> rfl) (Nat.le_of_ble_eq_true rfl) rfl dJ0_init_2_20 ?_
  refine g_iload X 4 dJ0_init_2_23 rfl ?_
  refine g_if_eq (α := Unit) (z := ()) (A := some ()) (B := none) X 36 dJ0_init_2_25 rfl rfl (fun _ => ?_) (fun h => by cases h)
  refine g_aload_n X 0 dJ0_init_2_36 rfl ?_
  refine g_null X dJ0_init_2_37 ?_
  refine g_put X in_X9 tyX9_ok nmX9 0 1 [(q, .inr (9, [.ref q, .null, v2, .null, .null, .int 0, .int 0, .int 0]))] rfl rfl (by decide) q345 rfl rfl rfl rfl (Nat.le_of_ble_eq_true rfl) rfl dJ0_init_2_38 ?_
  refine g_aload_n X 0 dJ0_init_2_41 rfl ?_
  refine g_aload_nN X 1 dJ0_init_2_42 rfl ?_
  refine g_put X in_X9 tyX9_ok nmX9 0 3 [(q, .inr (9, [.ref q, .null, v2, .null, .null, .int 0, .int 0, .int 0]))] rfl rfl (by decide) q343 rfl rfl rfl rfl (Nat.le_of_ble_eq_true rfl) rfl dJ0_init_2_43 ?_
  refine g_aload_n X 0 dJ0_init_2_46 rfl ?_
  refine g_aload_nN X 2 dJ0_init_2_47 rfl ?_
  refine g_put X in_X9 tyX9_ok nmX9 0 0 [(q, .inr (9, [.null, .null, v2, .null, .null, .int 0, .int 0, .int 0]))] rfl rfl (by decide) q344 rfl rfl rfl rfl (Nat.le_of_ble_eq_true rfl) rfl dJ0_init_2_48 ?_
  refine g_iload_n X 3 dJ0_init_2_51 rfl ?_
  refine g_if_ne (α := Unit) (z := ()) (A := some ()) (B := none) X 60 dJ0_init_2_52 rfl rfl (fun h => by cases h) (fun _ => ?_)
  refine g_aload_n X 0 dJ0_init_2_55 rfl ?_
  refine g_null X dJ0_init_2_56 ?_
  refine g_put X in_X9 tyX9_ok nmX9 0 2 [(q, .inr (9, [.null, .null, .null, .null, .null, .int 0, .int 0, .int 0]))] rfl rfl (by decide) q346 rfl rfl rfl rfl (Nat.le_of_ble_eq_true rfl) rfl dJ0_init_2_57 ?_
  exact g_vret X rfl dJ0_init_2_60 rfl
abbrev rm_J1_init : Room := { frames := 3, cells := 0, slots := 0, locals := 60 }
theorem m_J1_init (l : Launch) (E : gE) (hE1 : gEx1 E) (q : Nat) (sz : Nat) : Met l yJ1_init (ws_ yJ1_init cJ1_init 5 none) rm_J1_init (gPc [.ref q, .null, .null, .int 0, .int 0] E [(q, .inr (9, gF0))] sz) (gPv E (fun _ : Unit => [(q, .inr (9, gF0))]) () (va_A [(q, .inr (9, gF0))] sz)) 0 0 (va_A [(q, .inr (9, gF0))] sz) := by
  refine gMet (Qc := gPv E (fun _ : Unit => [(q, .inr (9, gF0))]) ()) (by decide) (Nat.le_of_ble_eq_true rfl) (fun Γ X hl hE => ?_)
  subst hl; subst hE
  show gW Γ _ _ 5 0 0 0 [(0, .ref q), (1, .null), (2, .null), (3, .int 0), (4, .int 0)] []
  refine g_aload_n X 0 dJ1_init_0 rfl ?_
  refine g_aload_nN X 1 dJ1_init_1 rfl ?_
  refine g_aload_nN X 2 dJ1_init_2 rfl ?_
  refine g_iload_n X 3 dJ1_init_3 rfl ?_
  refine g_iload X 4 dJ1_init_4 rfl ?_
  refine g_callIv (α := Unit) (z := ()) (K := fun q => some q) (fc := some ()) X 4 (As := [.null, .null, .int 0, .int 0]) (rest := []) (yret := none) (wfc := fun _ : Unit => [(q, .inr (9, gF0))]) q337 q69 q335 q336 rfl (by decide +kernel) (fun u_ h_ sz_ => m_J0_init_2 (gl Γ) (gEo Γ) hE1 q sz_) rfl rfl ⟨by decide, by decide⟩ rfl (Nat.le_of_ble_eq_true rfl) ⟨Nat.zero_le _, Nat.zero_le _⟩ [0] [] [0] (fun _ => [(q, .inr (9, gF0))]) rfl rfl rfl rfl (by decide) rfl (fun _ => rfl) dJ1_init_6 rfl (fun u_ _ _ => ?_)
  exact g_vret X rfl dJ1_init_9 rfl
abbrev rm_X9_init : Room := { frames := 4, cells := 0, slots := 0, locals := 90 }
abbrev gF1 (co pl : Int32) : List Value := [.null, .null, .null, .null, .null, .int 0, .int co, .int pl]
theorem m_X9_init (l : Launch) (E : gE) (hE1 : gEx1 E) (q : Nat) (co pl : Int32) (sz : Nat) : Met l yX9_init (ws_ yX9_init cX9_init 3 none) rm_X9_init (gPc [.ref q, .int co, .int pl] E [(q, .inr (9, gF0))] sz) (gPv E (fun _ : Unit => [(q, .inr (9, gF1 co pl))]) () (va_A [(q, .inr (9, gF0))] sz)) 0 0 (va_A [(q, .inr (9, gF0))] sz) := by
  refine gMetI (Qc := gPv E (fun _ : Unit => [(q, .inr (9, gF1 co pl))]) ()) (by decide) rfl (Nat.le_of_ble_eq_true rfl) (fun Γ X hI hl hE => ?_)
  subst hl; subst hE
  show gW Γ _ _ 3 0 0 0 [(0, .ref q), (1, .int co), (2, .int pl)] []
  refine g_aload_n X 0 dX9_init_0 rfl ?_
  refine g_null X dX9_init_1 ?_
  refine g_null X dX9_init_2 ?_
  refine g_iconst X 0 dX9_init_3 rfl ?_
  refine g_iconst X 0 dX9_init_4 rfl ?_
  refine g_callIv (α := Unit) (z := ()) (K := fun q => some q) (fc := some ()) X 4 (As := [.null, .null, .int 0, .int 0]) (rest := []) (yret := none) (wfc := fun _ : Unit => [(q, .inr (9, gF0))]) q334 q70 q332 q333 rfl (by decide +kernel) (fun u_ h_ sz_ => m_J1_init (gl Γ) (gEo Γ) hE1 q sz_) rfl rfl ⟨by decide, by decide⟩ rfl (Nat.le_of_ble_eq_true rfl) ⟨Nat.zero_le _, Nat.zero_le _⟩ [0] [] [0] (fun _ => [(q, .inr (9, gF0))]) rfl rfl rfl rfl (by decide) rfl (fun _ => rfl) dX9_init_5 rfl (fun u_ _ _ => ?_)
  refine g_aload_n X 0 dX9_init_8 rfl ?_
  refine g_iload_n X 1 dX9_init_9 rfl ?_
  refine g_putF X hI in_X9 tyX9_ok nmX9 0 6 [(q, .inr (9, gF1 co 0))] rfl rfl (by decide) q338 rfl rfl rfl rfl rfl (Nat.le_of_ble_eq_true rfl) rfl dX9_init_10 ?_
  refine g_aload_n X 0 dX9_init_13 rfl ?_
  refine g_iload_n X 2 dX9_init_14 rfl ?_
  refine g_putF X hI in_X9 tyX9_ok nmX9 0 7 [(q, .inr (9, gF1 co pl))] rfl rfl (by decide) q340 rfl rfl rfl rfl rfl (Nat.le_of_ble_eq_true rfl) rfl dX9_init_15 ?_
  exact g_vret X rfl dX9_init_18 rfl
