set_option maxRecDepth 100000
/-! the four kinds: brim, each at a receiver of any class of theirs -/
abbrev rm_X1_brim : Room := { frames := 1, cells := 0, slots := 0, locals := 12 }
theorem m_X1_brim (l : Launch) (E : gE) (a ci : Nat) (sz : Nat) : Met l yX1_brim (ws_ yX1_brim cX1_brim 1 (some .int)) rm_X1_brim (gPc [.ref a] E [(a, .inr (ci, []))] sz) (gPi E (fun _ : Unit => [(a, .inr (ci, []))]) 10 () (va_A [(a, .inr (ci, []))] sz)) 0 0 (va_A [(a, .inr (ci, []))] sz) := by
  refine gMet (Qc := gPi E (fun _ : Unit => [(a, .inr (ci, []))]) 10 ()) (by decide) (Nat.le_of_ble_eq_true rfl) (fun Γ X hl hE => ?_)
  subst hl; subst hE
  show gW Γ _ _ 1 0 0 0 [(0, .ref a)] []
  refine g_bipush X 10 dX1_brim_0 rfl ?_
  exact g_iret X rfl dX1_brim_2 rfl
abbrev rm_X2_brim : Room := { frames := 2, cells := 0, slots := 0, locals := 40 }
theorem m_X2_brim (l : Launch) (E : gE) (a ci : Nat) {C : String} {T : u_T} {N : Nat} (hci : vwCl[ci]? = some (C, T, N)) (sz : Nat) : Met l yX2_brim (ws_ yX2_brim cX2_brim 1 (some .int)) rm_X2_brim (gPc [.ref a] E [(a, .inr (ci, []))] sz) (gPi E (fun _ : Unit => [(a, .inr (ci, []))]) 5 () (va_A [(a, .inr (ci, []))] sz)) 0 0 (va_A [(a, .inr (ci, []))] sz) := by
  refine gMet (Qc := gPi E (fun _ : Unit => [(a, .inr (ci, []))]) 5 ()) (by decide) (Nat.le_of_ble_eq_true rfl) (fun Γ X hl hE => ?_)
  subst hl; subst hE
  show gW Γ _ _ 1 0 0 0 [(0, .ref a)] []
  refine g_aload_n X 0 dX2_brim_0 rfl ?_
  refine g_callSUi (α := Int32 × Unit) (z := (10, ())) (K := fun q => some q) (fc := some (10, ())) X 0 (As := []) (wfc := fun _ : Unit => [(a, .inr (ci, []))]) (lw_app (lw_in _ [544, 533, 107, 531, 61] (by decide +kernel) (by decide +kernel)) (lw_meth q546)) (by decide +kernel) (fun r_ u_ h_ sz_ => by cases h_; exact m_X1_brim (gl Γ) (gEo Γ) a ci sz_) (rq := 0) rfl hci rfl rfl rfl ⟨by decide, by decide⟩ rfl (Nat.le_of_ble_eq_true rfl) ⟨Nat.zero_le _, Nat.zero_le _⟩ [0] [] [0] (fun _ => [(a, .inr (ci, []))]) rfl rfl rfl rfl (by decide) rfl (fun _ => rfl) dX2_brim_1 rfl (fun r1 u1 h1 _ => ?_)
  cases h1
  refine g_iconst X 2 dX2_brim_4 rfl ?_
  refine g_idiv (α := Unit) (F := some ()) X dX2_brim_5 rfl (fun _ => ?_)
  exact g_iret X rfl dX2_brim_6 rfl
abbrev rm_X4_brim : Room := { frames := 2, cells := 0, slots := 0, locals := 40 }
theorem m_X4_brim (l : Launch) (E : gE) (a ci : Nat) {C : String} {T : u_T} {N : Nat} (hci : vwCl[ci]? = some (C, T, N)) (sz : Nat) : Met l yX4_brim (ws_ yX4_brim cX4_brim 1 (some .int)) rm_X4_brim (gPc [.ref a] E [(a, .inr (ci, []))] sz) (gPi E (fun _ : Unit => [(a, .inr (ci, []))]) 20 () (va_A [(a, .inr (ci, []))] sz)) 0 0 (va_A [(a, .inr (ci, []))] sz) := by
  refine gMet (Qc := gPi E (fun _ : Unit => [(a, .inr (ci, []))]) 20 ()) (by decide) (Nat.le_of_ble_eq_true rfl) (fun Γ X hl hE => ?_)
  subst hl; subst hE
  show gW Γ _ _ 1 0 0 0 [(0, .ref a)] []
  refine g_iconst X 2 dX4_brim_0 rfl ?_
  refine g_aload_n X 0 dX4_brim_1 rfl ?_
  refine g_callSUi (α := Int32 × Unit) (z := (10, ())) (K := fun q => some q) (fc := some (10, ())) X 0 (As := []) (wfc := fun _ : Unit => [(a, .inr (ci, []))]) (lw_app (lw_in _ [537, 533, 121, 531, 61] (by decide +kernel) (by decide +kernel)) (lw_meth q546)) (by decide +kernel) (fun r_ u_ h_ sz_ => by cases h_; exact m_X1_brim (gl Γ) (gEo Γ) a ci sz_) (rq := 0) rfl hci rfl rfl rfl ⟨by decide, by decide⟩ rfl (Nat.le_of_ble_eq_true rfl) ⟨Nat.zero_le _, Nat.zero_le _⟩ [0] [] [0] (fun _ => [(a, .inr (ci, []))]) rfl rfl rfl rfl (by decide) rfl (fun _ => rfl) dX4_brim_2 rfl (fun r1 u1 h1 _ => ?_)
  cases h1
  refine g_imul X dX4_brim_5 ?_
  exact g_iret X rfl dX4_brim_6 rfl
abbrev rm_X3_brim : Room := { frames := 3, cells := 0, slots := 0, locals := 70 }
theorem m_X3_brim (l : Launch) (E : gE) (a ci : Nat) {C : String} {T : u_T} {N : Nat} (hci : vwCl[ci]? = some (C, T, N)) (sz : Nat) : Met l yX3_brim (ws_ yX3_brim cX3_brim 1 (some .int)) rm_X3_brim (gPc [.ref a] E [(a, .inr (ci, []))] sz) (gPi E (fun _ : Unit => [(a, .inr (ci, []))]) 4 () (va_A [(a, .inr (ci, []))] sz)) 0 0 (va_A [(a, .inr (ci, []))] sz) := by
  refine gMet (Qc := gPi E (fun _ : Unit => [(a, .inr (ci, []))]) 4 ()) (by decide) (Nat.le_of_ble_eq_true rfl) (fun Γ X hl hE => ?_)
  subst hl; subst hE
  show gW Γ _ _ 1 0 0 0 [(0, .ref a)] []
  refine g_aload_n X 0 dX3_brim_0 rfl ?_
  refine g_callSUi (α := Int32 × Unit) (z := (5, ())) (K := fun q => some q) (fc := some (5, ())) X 0 (As := []) (wfc := fun _ : Unit => [(a, .inr (ci, []))]) (lw_app (lw_in _ [541, 1332, 114, 542, 62] (by decide +kernel) (by decide +kernel)) (lw_meth q543)) (by decide +kernel) (fun r_ u_ h_ sz_ => by cases h_; exact m_X2_brim (gl Γ) (gEo Γ) a ci hci sz_) (rq := 0) rfl hci rfl rfl rfl ⟨by decide, by decide⟩ rfl (Nat.le_of_ble_eq_true rfl) ⟨Nat.zero_le _, Nat.zero_le _⟩ [0] [] [0] (fun _ => [(a, .inr (ci, []))]) rfl rfl rfl rfl (by decide) rfl (fun _ => rfl) dX3_brim_1 rfl (fun r1 u1 h1 _ => ?_)
  cases h1
  refine g_iconst X 1 dX3_brim_4 rfl ?_
  refine g_isub X dX3_brim_5 ?_
  exact g_iret X rfl dX3_brim_6 rfl
