set_option maxRecDepth 100000
abbrev rm_X1_init : Room := { frames := 2, cells := 0, slots := 0, locals := 30 }
theorem m_X1_init (l : Launch) (E : gE) (a ci : Nat) (fs : List Value) (sz : Nat) : Met l yX1_init (ws_ yX1_init cX1_init 1 none) rm_X1_init (gPc [.ref a] E [(a, .inr (ci, fs))] sz) (gPv E (fun _ : Unit => [(a, .inr (ci, fs))]) () (va_A [(a, .inr (ci, fs))] sz)) 0 0 (va_A [(a, .inr (ci, fs))] sz) := by
  refine gMet (Qc := gPv E (fun _ : Unit => [(a, .inr (ci, fs))]) ()) (by decide) (Nat.le_of_ble_eq_true rfl) (fun Γ X hl hE => ?_)
  subst hl; subst hE
  show gW Γ _ _ 1 0 0 0 [(0, .ref a)] []
  refine g_aload_n X 0 dX1_init_0 rfl ?_
  refine g_objInit X q99 dX1_init_1 (by decide) (Nat.le_of_ble_eq_true rfl) ?_
  exact g_vret X rfl dX1_init_4 rfl
abbrev rm_X2_init : Room := { frames := 3, cells := 0, slots := 0, locals := 60 }
theorem m_X2_init (l : Launch) (E : gE) (a ci : Nat) (fs : List Value) (sz : Nat) : Met l yX2_init (ws_ yX2_init cX2_init 1 none) rm_X2_init (gPc [.ref a] E [(a, .inr (ci, fs))] sz) (gPv E (fun _ : Unit => [(a, .inr (ci, fs))]) () (va_A [(a, .inr (ci, fs))] sz)) 0 0 (va_A [(a, .inr (ci, fs))] sz) := by
  refine gMet (Qc := gPv E (fun _ : Unit => [(a, .inr (ci, fs))]) ()) (by decide) (Nat.le_of_ble_eq_true rfl) (fun Γ X hl hE => ?_)
  subst hl; subst hE
  show gW Γ _ _ 1 0 0 0 [(0, .ref a)] []
  refine g_aload_n X 0 dX2_init_0 rfl ?_
  refine g_callINv (α := Unit) (z := ()) (K := fun q => some q) (fc := some ()) X 0 (As := []) (rest := []) (yret := none) (wc := [(a, .inr (ci, fs))]) (wfc := fun _ : Unit => [(a, .inr (ci, fs))]) q98 5 rfl q61 q97 rfl (by decide +kernel) (fun u_ h_ sz_ => m_X1_init (gl Γ) (gEo Γ) a ci fs sz_) rfl rfl ⟨by decide, by decide⟩ rfl (Nat.le_of_ble_eq_true rfl) ⟨Nat.zero_le _, Nat.zero_le _⟩ [0] [] [0] (fun _ => [(a, .inr (ci, fs))]) rfl rfl rfl rfl (by decide) rfl (fun _ => rfl) dX2_init_1 rfl (fun u_ _ _ => ?_)
  exact g_vret X rfl dX2_init_4 rfl
abbrev rm_X3_init : Room := { frames := 4, cells := 0, slots := 0, locals := 90 }
theorem m_X3_init (l : Launch) (E : gE) (a ci : Nat) (fs : List Value) (sz : Nat) : Met l yX3_init (ws_ yX3_init cX3_init 1 none) rm_X3_init (gPc [.ref a] E [(a, .inr (ci, fs))] sz) (gPv E (fun _ : Unit => [(a, .inr (ci, fs))]) () (va_A [(a, .inr (ci, fs))] sz)) 0 0 (va_A [(a, .inr (ci, fs))] sz) := by
  refine gMet (Qc := gPv E (fun _ : Unit => [(a, .inr (ci, fs))]) ()) (by decide) (Nat.le_of_ble_eq_true rfl) (fun Γ X hl hE => ?_)
  subst hl; subst hE
  show gW Γ _ _ 1 0 0 0 [(0, .ref a)] []
  refine g_aload_n X 0 dX3_init_0 rfl ?_
  refine g_callINv (α := Unit) (z := ()) (K := fun q => some q) (fc := some ()) X 0 (As := []) (rest := []) (yret := none) (wc := [(a, .inr (ci, fs))]) (wfc := fun _ : Unit => [(a, .inr (ci, fs))]) q105 6 rfl q62 q104 rfl (by decide +kernel) (fun u_ h_ sz_ => m_X2_init (gl Γ) (gEo Γ) a ci fs sz_) rfl rfl ⟨by decide, by decide⟩ rfl (Nat.le_of_ble_eq_true rfl) ⟨Nat.zero_le _, Nat.zero_le _⟩ [0] [] [0] (fun _ => [(a, .inr (ci, fs))]) rfl rfl rfl rfl (by decide) rfl (fun _ => rfl) dX3_init_1 rfl (fun u_ _ _ => ?_)
  exact g_vret X rfl dX3_init_4 rfl
abbrev rm_X4_init : Room := { frames := 3, cells := 0, slots := 0, locals := 60 }
theorem m_X4_init (l : Launch) (E : gE) (a ci : Nat) (fs : List Value) (sz : Nat) : Met l yX4_init (ws_ yX4_init cX4_init 1 none) rm_X4_init (gPc [.ref a] E [(a, .inr (ci, fs))] sz) (gPv E (fun _ : Unit => [(a, .inr (ci, fs))]) () (va_A [(a, .inr (ci, fs))] sz)) 0 0 (va_A [(a, .inr (ci, fs))] sz) := by
  refine gMet (Qc := gPv E (fun _ : Unit => [(a, .inr (ci, fs))]) ()) (by decide) (Nat.le_of_ble_eq_true rfl) (fun Γ X hl hE => ?_)
  subst hl; subst hE
  show gW Γ _ _ 1 0 0 0 [(0, .ref a)] []
  refine g_aload_n X 0 dX4_init_0 rfl ?_
  refine g_callINv (α := Unit) (z := ()) (K := fun q => some q) (fc := some ()) X 0 (As := []) (rest := []) (yret := none) (wc := [(a, .inr (ci, fs))]) (wfc := fun _ : Unit => [(a, .inr (ci, fs))]) q98 7 rfl q61 q97 rfl (by decide +kernel) (fun u_ h_ sz_ => m_X1_init (gl Γ) (gEo Γ) a ci fs sz_) rfl rfl ⟨by decide, by decide⟩ rfl (Nat.le_of_ble_eq_true rfl) ⟨Nat.zero_le _, Nat.zero_le _⟩ [0] [] [0] (fun _ => [(a, .inr (ci, fs))]) rfl rfl rfl rfl (by decide) rfl (fun _ => rfl) dX4_init_1 rfl (fun u_ _ _ => ?_)
  exact g_vret X rfl dX4_init_4 rfl
abbrev rm_X6_init : Room := { frames := 2, cells := 0, slots := 0, locals := 30 }
theorem m_X6_init (l : Launch) (E : gE) (a ci : Nat) (fs : List Value) (sz : Nat) : Met l yX6_init (ws_ yX6_init cX6_init 1 none) rm_X6_init (gPc [.ref a] E [(a, .inr (ci, fs))] sz) (gPv E (fun _ : Unit => [(a, .inr (ci, fs))]) () (va_A [(a, .inr (ci, fs))] sz)) 0 0 (va_A [(a, .inr (ci, fs))] sz) := by
  refine gMet (Qc := gPv E (fun _ : Unit => [(a, .inr (ci, fs))]) ()) (by decide) (Nat.le_of_ble_eq_true rfl) (fun Γ X hl hE => ?_)
  subst hl; subst hE
  show gW Γ _ _ 1 0 0 0 [(0, .ref a)] []
  refine g_aload_n X 0 dX6_init_0 rfl ?_
  refine g_objInit X q174 dX6_init_1 (by decide) (Nat.le_of_ble_eq_true rfl) ?_
  exact g_vret X rfl dX6_init_4 rfl
def gS0 : gS := (0, 0, 2, 4, 0, fun _ => 0, (upd (upd (upd (upd (upd (fun _ => 0) 0 (vp_nar .short (-4))) 1 (vp_nar .short (-4))) 2 (vp_nar .short (-4))) 3 (vp_nar .short (-4))) 4 (vp_nar .short (-4))), fun _ => 0)
abbrev rm_X5_init : Room := { frames := 2, cells := 3, slots := 28, locals := 40 }
set_option maxHeartbeats 4000000 in
theorem m_X5_init (l : Launch) (E : gE) (a : Nat) (sz : Nat) : Met l yX5_init (ws_ yX5_init cX5_init 2 none) rm_X5_init (gPc [.ref a] E [(a, .inr (5, [.int 0, .null, .null, .int 0, .int 0, .int 0, .int 0, .null]))] sz) (gPp E (fun ad => wS E ad gS0) (fun ad => ad 0 = a) (va_A [(a, .inr (5, [.int 0, .null, .null, .int 0, .int 0, .int 0, .int 0, .null]))] sz)) 3 28 (va_A [(a, .inr (5, [.int 0, .null, .null, .int 0, .int 0, .int 0, .int 0, .null]))] sz) := by
  refine gMetI (Qc := gPp E (fun ad => wS E ad gS0) (fun ad => ad 0 = a)) (by decide) rfl (Nat.le_of_ble_eq_true rfl) (fun Γ X hI hl hE => ?_)
  subst hl; subst hE
  show gW Γ _ _ 2 0 0 0 [(0, .ref a)] []
  refine g_aload_n X 0 dX5_init_0 rfl ?_
  refine g_objInit X q127 dX5_init_1 (by decide) (Nat.le_of_ble_eq_true rfl) ?_
  refine g_aload_n X 0 dX5_init_4 rfl ?_
  refine g_bipush X 15 dX5_init_5 rfl ?_
  refine g_newa (atype := .byte) (ty := .byte) X 0 15 rfl q165 rfl (fun _ _ => rfl) rfl (by decide) rfl (by decide) (by decide) dX5_init_7 (fun q1 => ?_)
  show gW Γ _ [(a, .inr (5, [.int 0, .null, .null, .int 0, .int 0, .int 0, .int 0, .null])), (q1, .inl ((gEo Γ).2.2.1 0, 15, .inl (fun _ => 0)))] _ _ _ _ _ _
  refine g_putF X hI in_X5 tyX5_ok nmX5 0 1 [(a, .inr (5, [.int 0, .ref q1, .null, .int 0, .int 0, .int 0, .int 0, .null])), (q1, .inl ((gEo Γ).2.2.1 0, 15, .inl (fun _ => 0)))] rfl rfl (by decide) q131 rfl rfl rfl rfl rfl (Nat.le_of_ble_eq_true rfl) rfl dX5_init_9 ?_
  refine g_aload_n X 0 dX5_init_12 rfl ?_
  refine g_iconst X 5 dX5_init_13 rfl ?_
  refine g_newa (atype := .short) (ty := .short) X 1 5 rfl q166 rfl (fun _ _ => rfl) rfl (by decide) rfl (by decide) (by decide) dX5_init_14 (fun q2 => ?_)
  show gW Γ _ [(a, .inr (5, [.int 0, .ref q1, .null, .int 0, .int 0, .int 0, .int 0, .null])), (q1, .inl ((gEo Γ).2.2.1 0, 15, .inl (fun _ => 0))), (q2, .inl ((gEo Γ).2.2.1 1, 5, .inl (fun _ => 0)))] _ _ _ _ _ _
  refine g_putF X hI in_X5 tyX5_ok nmX5 0 2 [(a, .inr (5, [.int 0, .ref q1, .ref q2, .int 0, .int 0, .int 0, .int 0, .null])), (q1, .inl ((gEo Γ).2.2.1 0, 15, .inl (fun _ => 0))), (q2, .inl ((gEo Γ).2.2.1 1, 5, .inl (fun _ => 0)))] rfl rfl (by decide) q132 rfl rfl rfl rfl rfl (Nat.le_of_ble_eq_true rfl) rfl dX5_init_16 ?_
  refine g_aload_n X 0 dX5_init_19 rfl ?_
  refine g_iconst X 2 dX5_init_20 rfl ?_
  refine g_put X in_X5 tyX5_ok nmX5 0 4 [(a, .inr (5, [.int 0, .ref q1, .ref q2, .int 0, .int 2, .int 0, .int 0, .null])), (q1, .inl ((gEo Γ).2.2.1 0, 15, .inl (fun _ => 0))), (q2, .inl ((gEo Γ).2.2.1 1, 5, .inl (fun _ => 0)))] rfl rfl (by decide) q136 rfl rfl rfl rfl (Nat.le_of_ble_eq_true rfl) rfl dX5_init_21 ?_
  refine g_aload_n X 0 dX5_init_24 rfl ?_
  refine g_iconst X 4 dX5_init_25 rfl ?_
  refine g_put X in_X5 tyX5_ok nmX5 0 5 [(a, .inr (5, [.int 0, .ref q1, .ref q2, .int 0, .int 2, .int 4, .int 0, .null])), (q1, .inl ((gEo Γ).2.2.1 0, 15, .inl (fun _ => 0))), (q2, .inl ((gEo Γ).2.2.1 1, 5, .inl (fun _ => 0)))] rfl rfl (by decide) q139 rfl rfl rfl rfl (Nat.le_of_ble_eq_true rfl) rfl dX5_init_26 ?_
  refine g_aload_n X 0 dX5_init_29 rfl ?_
  refine g_bipush X 8 dX5_init_30 rfl ?_
  refine g_newa (atype := .byte) (ty := .byte) X 0 8 rfl q165 rfl (fun _ _ => rfl) rfl (by decide) rfl (by decide) (by decide) dX5_init_32 (fun q3 => ?_)
  show gW Γ _ [(a, .inr (5, [.int 0, .ref q1, .ref q2, .int 0, .int 2, .int 4, .int 0, .null])), (q1, .inl ((gEo Γ).2.2.1 0, 15, .inl (fun _ => 0))), (q2, .inl ((gEo Γ).2.2.1 1, 5, .inl (fun _ => 0))), (q3, .inl ((gEo Γ).2.2.1 0, 8, .inl (fun _ => 0)))] _ _ _ _ _ _
  refine g_putF X hI in_X5 tyX5_ok nmX5 0 7 [(a, .inr (5, [.int 0, .ref q1, .ref q2, .int 0, .int 2, .int 4, .int 0, .ref q3])), (q1, .inl ((gEo Γ).2.2.1 0, 15, .inl (fun _ => 0))), (q2, .inl ((gEo Γ).2.2.1 1, 5, .inl (fun _ => 0))), (q3, .inl ((gEo Γ).2.2.1 0, 8, .inl (fun _ => 0)))] rfl rfl (by decide) q145 rfl rfl rfl rfl rfl (Nat.le_of_ble_eq_true rfl) rfl dX5_init_34 ?_
  refine g_iconst X 0 dX5_init_37 rfl ?_
  refine g_istore_n X [(1, .int 0), (0, .ref a)] dX5_init_38 (by decide) rfl ?_
  refine g_iload_n X 0 dX5_init_39 rfl ?_
  refine g_iconst X 5 dX5_init_40 rfl ?_
  refine g_icmp_ge (α := Unit) (z := ()) (A := none) (B := some ()) X 58 dX5_init_41 rfl rfl (fun h => by cases h) (fun _ => ?_)
  refine g_aload_n X 1 dX5_init_44 rfl ?_
  refine g_get X in_X5 0 2 rfl rfl (by decide) q132 rfl dX5_init_45 ?_
  refine g_iload_n X 0 dX5_init_48 rfl ?_
  refine g_bipush X (-4) dX5_init_49 rfl ?_
  refine g_sast (α := Nat → Int32) (F := fun g => some g) (z := (upd (fun _ => 0) 0 (vp_nar .short (-4)))) X 2 (fun g_ => [(a, .inr (5, [.int 0, .ref q1, .ref q2, .int 0, .int 2, .int 4, .int 0, .ref q3])), (q1, .inl ((gEo Γ).2.2.1 0, 15, .inl (fun _ => 0))), (q2, .inl ((gEo Γ).2.2.1 1, 5, .inl g_)), (q3, .inl ((gEo Γ).2.2.1 0, 8, .inl (fun _ => 0)))]) rfl (fun _ => rfl) dX5_init_51 rfl (fun g_ h_ => ?_)
  cases h_
  refine g_iinc X 1 0 [(1, .int 1), (0, .ref a)] dX5_init_52 rfl rfl (by decide) rfl ?_
  refine g_goto X 39 dX5_init_55 rfl ?_
  refine g_iload_n X 0 dX5_init_39 rfl ?_
  refine g_iconst X 5 dX5_init_40 rfl ?_
  refine g_icmp_ge (α := Unit) (z := ()) (A := none) (B := some ()) X 58 dX5_init_41 rfl rfl (fun h => by cases h) (fun _ => ?_)
  refine g_aload_n X 1 dX5_init_44 rfl ?_
  refine g_get X in_X5 0 2 rfl rfl (by decide) q132 rfl dX5_init_45 ?_
  refine g_iload_n X 0 dX5_init_48 rfl ?_
  refine g_bipush X (-4) dX5_init_49 rfl ?_
  refine g_sast (α := Nat → Int32) (F := fun g => some g) (z := (upd (upd (fun _ => 0) 0 (vp_nar .short (-4))) 1 (vp_nar .short (-4)))) X 2 (fun g_ => [(a, .inr (5, [.int 0, .ref q1, .ref q2, .int 0, .int 2, .int 4, .int 0, .ref q3])), (q1, .inl ((gEo Γ).2.2.1 0, 15, .inl (fun _ => 0))), (q2, .inl ((gEo Γ).2.2.1 1, 5, .inl g_)), (q3, .inl ((gEo Γ).2.2.1 0, 8, .inl (fun _ => 0)))]) rfl (fun _ => rfl) dX5_init_51 rfl (fun g_ h_ => ?_)
  cases h_
  refine g_iinc X 2 0 [(1, .int 2), (0, .ref a)] dX5_init_52 rfl rfl (by decide) rfl ?_
  refine g_goto X 39 dX5_init_55 rfl ?_
  refine g_iload_n X 0 dX5_init_39 rfl ?_
  refine g_iconst X 5 dX5_init_40 rfl ?_
  refine g_icmp_ge (α := Unit) (z := ()) (A := none) (B := some ()) X 58 dX5_init_41 rfl rfl (fun h => by cases h) (fun _ => ?_)
  refine g_aload_n X 1 dX5_init_44 rfl ?_
  refine g_get X in_X5 0 2 rfl rfl (by decide) q132 rfl dX5_init_45 ?_
  refine g_iload_n X 0 dX5_init_48 rfl ?_
  refine g_bipush X (-4) dX5_init_49 rfl ?_
  refine g_sast (α := Nat → Int32) (F := fun g => some g) (z := (upd (upd (upd (fun _ => 0) 0 (vp_nar .short (-4))) 1 (vp_nar .short (-4))) 2 (vp_nar .short (-4)))) X 2 (fun g_ => [(a, .inr (5, [.int 0, .ref q1, .ref q2, .int 0, .int 2, .int 4, .int 0, .ref q3])), (q1, .inl ((gEo Γ).2.2.1 0, 15, .inl (fun _ => 0))), (q2, .inl ((gEo Γ).2.2.1 1, 5, .inl g_)), (q3, .inl ((gEo Γ).2.2.1 0, 8, .inl (fun _ => 0)))]) rfl (fun _ => rfl) dX5_init_51 rfl (fun g_ h_ => ?_)
  cases h_
  refine g_iinc X 3 0 [(1, .int 3), (0, .ref a)] dX5_init_52 rfl rfl (by decide) rfl ?_
  refine g_goto X 39 dX5_init_55 rfl ?_
  refine g_iload_n X 0 dX5_init_39 rfl ?_
  refine g_iconst X 5 dX5_init_40 rfl ?_
  refine g_icmp_ge (α := Unit) (z := ()) (A := none) (B := some ()) X 58 dX5_init_41 rfl rfl (fun h => by cases h) (fun _ => ?_)
  refine g_aload_n X 1 dX5_init_44 rfl ?_
  refine g_get X in_X5 0 2 rfl rfl (by decide) q132 rfl dX5_init_45 ?_
  refine g_iload_n X 0 dX5_init_48 rfl ?_
  refine g_bipush X (-4) dX5_init_49 rfl ?_
  refine g_sast (α := Nat → Int32) (F := fun g => some g) (z := (upd (upd (upd (upd (fun _ => 0) 0 (vp_nar .short (-4))) 1 (vp_nar .short (-4))) 2 (vp_nar .short (-4))) 3 (vp_nar .short (-4)))) X 2 (fun g_ => [(a, .inr (5, [.int 0, .ref q1, .ref q2, .int 0, .int 2, .int 4, .int 0, .ref q3])), (q1, .inl ((gEo Γ).2.2.1 0, 15, .inl (fun _ => 0))), (q2, .inl ((gEo Γ).2.2.1 1, 5, .inl g_)), (q3, .inl ((gEo Γ).2.2.1 0, 8, .inl (fun _ => 0)))]) rfl (fun _ => rfl) dX5_init_51 rfl (fun g_ h_ => ?_)
  cases h_
  refine g_iinc X 4 0 [(1, .int 4), (0, .ref a)] dX5_init_52 rfl rfl (by decide) rfl ?_
  refine g_goto X 39 dX5_init_55 rfl ?_
  refine g_iload_n X 0 dX5_init_39 rfl ?_
  refine g_iconst X 5 dX5_init_40 rfl ?_
  refine g_icmp_ge (α := Unit) (z := ()) (A := none) (B := some ()) X 58 dX5_init_41 rfl rfl (fun h => by cases h) (fun _ => ?_)
  refine g_aload_n X 1 dX5_init_44 rfl ?_
  refine g_get X in_X5 0 2 rfl rfl (by decide) q132 rfl dX5_init_45 ?_
  refine g_iload_n X 0 dX5_init_48 rfl ?_
  refine g_bipush X (-4) dX5_init_49 rfl ?_
  refine g_sast (α := Nat → Int32) (F := fun g => some g) (z := (upd (upd (upd (upd (upd (fun _ => 0) 0 (vp_nar .short (-4))) 1 (vp_nar .short (-4))) 2 (vp_nar .short (-4))) 3 (vp_nar .short (-4))) 4 (vp_nar .short (-4)))) X 2 (fun g_ => [(a, .inr (5, [.int 0, .ref q1, .ref q2, .int 0, .int 2, .int 4, .int 0, .ref q3])), (q1, .inl ((gEo Γ).2.2.1 0, 15, .inl (fun _ => 0))), (q2, .inl ((gEo Γ).2.2.1 1, 5, .inl g_)), (q3, .inl ((gEo Γ).2.2.1 0, 8, .inl (fun _ => 0)))]) rfl (fun _ => rfl) dX5_init_51 rfl (fun g_ h_ => ?_)
  cases h_
  refine g_iinc X 5 0 [(1, .int 5), (0, .ref a)] dX5_init_52 rfl rfl (by decide) rfl ?_
  refine g_goto X 39 dX5_init_55 rfl ?_
  refine g_iload_n X 0 dX5_init_39 rfl ?_
  refine g_iconst X 5 dX5_init_40 rfl ?_
  refine g_icmp_ge (α := Unit) (z := ()) (A := some ()) (B := none) X 58 dX5_init_41 rfl rfl (fun _ => ?_) (fun h => by cases h)
  exact g_pret X (fun k => match k with | 0 => a | 1 => q1 | 2 => q2 | _ => q3) rfl rfl dX5_init_58
