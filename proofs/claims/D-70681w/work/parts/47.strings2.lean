set_option maxRecDepth 100000
abbrev rm_J2_coder : Room := { frames := 1, cells := 0, slots := 0, locals := 12 }
theorem m_J2_coder (l : Launch) (E : gE) (aK aV : Nat → Nat) (hZ : gSt E aK aV) (i : Nat) (hi : i < 7) (sz : Nat) : Met l yJ2_coder (ws_ yJ2_coder cJ2_coder 1 (some .byte)) rm_J2_coder (gPc [.ref (aK i)] E [] sz) (gPi E (fun _ : Unit => []) 0 () (va_A [] sz)) 0 0 (va_A [] sz) := by
  refine gMet (Qc := gPi E (fun _ : Unit => []) 0 ()) (by decide) (Nat.le_of_ble_eq_true rfl) (fun Γ X hl hE => ?_)
  subst hl; subst hE
  show gW Γ _ _ 1 0 0 0 [(0, .ref (aK i))] []
  refine g_compact X hZ q419 dJ2_coder_0 ?_
  refine g_if_eq (α := Unit) (z := ()) (A := none) (B := some ()) X 13 dJ2_coder_3 rfl rfl (fun h => by cases h) (fun _ => ?_)
  refine g_aload_n X 0 dJ2_coder_6 rfl ?_
  refine g_getOC X hZ hi q1338 dJ2_coder_7 ?_
  refine g_goto X 14 dJ2_coder_10 rfl ?_
  exact g_tret X rfl rfl dJ2_coder_14 rfl
abbrev rm_J2_isLatin1 : Room := { frames := 1, cells := 0, slots := 0, locals := 12 }
theorem m_J2_isLatin1 (l : Launch) (E : gE) (aK aV : Nat → Nat) (hZ : gSt E aK aV) (i : Nat) (hi : i < 7) (sz : Nat) : Met l yJ2_isLatin1 (ws_ yJ2_isLatin1 cJ2_isLatin1 1 (some .boolean)) rm_J2_isLatin1 (gPc [.ref (aK i)] E [] sz) (gPi E (fun _ : Unit => []) 1 () (va_A [] sz)) 0 0 (va_A [] sz) := by
  refine gMet (Qc := gPi E (fun _ : Unit => []) 1 ()) (by decide) (Nat.le_of_ble_eq_true rfl) (fun Γ X hl hE => ?_)
  subst hl; subst hE
  show gW Γ _ _ 1 0 0 0 [(0, .ref (aK i))] []
  refine g_compact X hZ q419 dJ2_isLatin1_0 ?_
  refine g_if_eq (α := Unit) (z := ()) (A := none) (B := some ()) X 17 dJ2_isLatin1_3 rfl rfl (fun h => by cases h) (fun _ => ?_)
  refine g_aload_n X 0 dJ2_isLatin1_6 rfl ?_
  refine g_getOC X hZ hi q1338 dJ2_isLatin1_7 ?_
  refine g_if_ne (α := Unit) (z := ()) (A := some ()) (B := none) X 17 dJ2_isLatin1_10 rfl rfl (fun h => by cases h) (fun _ => ?_)
  refine g_iconst X 1 dJ2_isLatin1_13 rfl ?_
  refine g_goto X 18 dJ2_isLatin1_14 rfl ?_
  exact g_zret X rfl dJ2_isLatin1_18 rfl
abbrev rm_J2_length : Room := { frames := 2, cells := 0, slots := 0, locals := 40 }
theorem m_J2_length (l : Launch) (E : gE) (aK aV : Nat → Nat) (hZ : gSt E aK aV) (i : Nat) (hi : i < 7) (sz : Nat) : Met l yJ2_length (ws_ yJ2_length cJ2_length 1 (some .int)) rm_J2_length (gPc [.ref (aK i)] E [] sz) (gPi E (fun _ : Unit => []) (Int32.ofNat (gsLen.getD i 0)) () (va_A [] sz)) 0 0 (va_A [] sz) := by
  refine gMet (Qc := gPi E (fun _ : Unit => []) (Int32.ofNat (gsLen.getD i 0)) ()) (by decide) (Nat.le_of_ble_eq_true rfl) (fun Γ X hl hE => ?_)
  subst hl; subst hE
  show gW Γ _ _ 1 0 0 0 [(0, .ref (aK i))] []
  refine g_aload_n X 0 dJ2_length_0 rfl ?_
  refine g_getOV X hZ hi q1337 dJ2_length_1 ?_
  refine g_lenO X hZ hi dJ2_length_4 ?_
  refine g_aload_n X 0 dJ2_length_5 rfl ?_
  refine g_callV0i X hZ hi 0 (As := []) (lw_V q415 q416 q417 q72 q418) (by decide +kernel) (fun sz_ => m_J2_coder (gl Γ) (gEo Γ) aK aV hZ i hi sz_) rfl rfl ⟨by decide, by decide⟩ rfl (Nat.le_of_ble_eq_true rfl) ⟨Nat.zero_le _, Nat.zero_le _⟩ dJ2_length_6 ?_
  refine g_ishr X dJ2_length_9 ?_
  exact g_iret X rfl dJ2_length_10 (by rw [sb_shr0])
abbrev rm_J4_checkIndex : Room := { frames := 1, cells := 0, slots := 0, locals := 12 }
theorem m_J4_checkIndex (l : Launch) (E : gE) (a b : Int32) (v : Value) (hv : v = .null ∨ ∃ t, v = .ref t) (h0 : ¬ a < 0) (h1 : a < b) (sz : Nat) : Met l yJ4_checkIndex (ws_ yJ4_checkIndex cJ4_checkIndex 3 (some .int)) rm_J4_checkIndex (gPc [.int a, .int b, v] E [] sz) (gPi E (fun _ : Unit => []) a () (va_A [] sz)) 0 0 (va_A [] sz) := by
  rcases hv with rfl | ⟨t, rfl⟩
  · refine gMet (Qc := gPi E (fun _ : Unit => []) a ()) (by decide) (Nat.le_of_ble_eq_true rfl) (fun Γ X hl hE => ?_)
    subst hl; subst hE
    show gW Γ _ _ 3 0 0 0 [(0, .int a), (1, .int b), (2, .null)] []
    refine g_iload_n X 0 dJ4_checkIndex_0 rfl ?_
    refine g_if_lt (α := Unit) (z := ()) (A := none) (B := some ()) X 9 dJ4_checkIndex_1 rfl (if_neg h0) (fun h => by cases h) (fun _ => ?_)
    refine g_iload_n X 0 dJ4_checkIndex_4 rfl ?_
    refine g_iload_n X 1 dJ4_checkIndex_5 rfl ?_
    refine g_icmp_lt (α := Unit) (z := ()) (A := some ()) (B := none) X 16 dJ4_checkIndex_6 rfl (if_pos h1) (fun _ => ?_) (fun h => by cases h)
    refine g_iload_n X 0 dJ4_checkIndex_16 rfl ?_
    exact g_iret X rfl dJ4_checkIndex_17 rfl
  · refine gMet (Qc := gPi E (fun _ : Unit => []) a ()) (by decide) (Nat.le_of_ble_eq_true rfl) (fun Γ X hl hE => ?_)
    subst hl; subst hE
    show gW Γ _ _ 3 0 0 0 [(0, .int a), (1, .int b), (2, .ref t)] []
    refine g_iload_n X 0 dJ4_checkIndex_0 rfl ?_
    refine g_if_lt (α := Unit) (z := ()) (A := none) (B := some ()) X 9 dJ4_checkIndex_1 rfl (if_neg h0) (fun h => by cases h) (fun _ => ?_)
    refine g_iload_n X 0 dJ4_checkIndex_4 rfl ?_
    refine g_iload_n X 1 dJ4_checkIndex_5 rfl ?_
    refine g_icmp_lt (α := Unit) (z := ()) (A := some ()) (B := none) X 16 dJ4_checkIndex_6 rfl (if_pos h1) (fun _ => ?_) (fun h => by cases h)
    refine g_iload_n X 0 dJ4_checkIndex_16 rfl ?_
    exact g_iret X rfl dJ4_checkIndex_17 rfl
abbrev rm_J2_checkIndex : Room := { frames := 2, cells := 0, slots := 0, locals := 50 }
theorem m_J2_checkIndex (l : Launch) (E : gE) (aK aV : Nat → Nat) (hZ : gSt E aK aV) (a b : Int32) (h0 : ¬ a < 0) (h1 : a < b) (sz : Nat) : Met l yJ2_checkIndex (ws_ yJ2_checkIndex cJ2_checkIndex 2 none) rm_J2_checkIndex (gPc [.int a, .int b] E [] sz) (gPv E (fun _ : Unit => []) () (va_A [] sz)) 0 0 (va_A [] sz) := by
  refine gMet (Qc := gPv E (fun _ : Unit => []) ()) (by decide) (Nat.le_of_ble_eq_true rfl) (fun Γ X hl hE => ?_)
  subst hl; subst hE
  show gW Γ _ _ 2 0 0 0 [(0, .int a), (1, .int b)] []
  refine g_iload_n X 0 dJ2_checkIndex_0 rfl ?_
  refine g_iload_n X 1 dJ2_checkIndex_1 rfl ?_
  refine g_getsq X (fun U hU => (hZ U hU).2.2.2) q435 dJ2_checkIndex_2 (fun v hv => ?_)
  refine g_call0i (α := Int32 × Unit) (z := (a, ())) (K := fun q => some q) (fc := some (a, ())) X 3 (As := [.int a, .int b, v]) (rest := []) (lw_S q437 q438 q74 q439) (by decide +kernel) (fun r_ u_ h_ sz_ => by cases h_; exact m_J4_checkIndex (gl Γ) (gEo Γ) a b v hv h0 h1 sz_) rfl rfl ⟨by decide, by decide⟩ rfl (Nat.le_of_ble_eq_true rfl) ⟨Nat.zero_le _, Nat.zero_le _⟩ dJ2_checkIndex_5 rfl (fun r_ _ _ => ?_)
  refine g_pop X dJ2_checkIndex_8 rfl ?_
  exact g_vret X rfl dJ2_checkIndex_9 rfl
theorem gs_ascii : ∀ i : Fin 7, ∀ k : Fin 5, (((((gsByt.getD i.val []).getD k.val 0) &&& 255).toUInt32 % 65536).toInt32 = (gsByt.getD i.val []).getD k.val 0) ∧ narrow .char (.int ((gsByt.getD i.val []).getD k.val 0)) = .int ((gsByt.getD i.val []).getD k.val 0) := by decide
theorem gs_len5 : ∀ i : Fin 7, gsLen.getD i.val 0 ≤ 5 := by decide
abbrev rm_J3_charAt : Room := { frames := 3, cells := 0, slots := 0, locals := 80 }
theorem m_J3_charAt (l : Launch) (E : gE) (aK aV : Nat → Nat) (hZ : gSt E aK aV) (i : Nat) (hi : i < 7) (j : Int32) (hj : vp_in j (gsLen.getD i 0)) (sz : Nat) : Met l yJ3_charAt (ws_ yJ3_charAt cJ3_charAt 2 (some .char)) rm_J3_charAt (gPc [.ref (aV i), .int j] E [] sz) (gPi E (fun _ : Unit => []) ((gsByt.getD i []).getD j.toNatClampNeg 0) () (va_A [] sz)) 0 0 (va_A [] sz) := by
  have hl5 : gsLen.getD i 0 ≤ 5 := gs_len5 ⟨i, hi⟩
  obtain ⟨k, hk, rfl⟩ := vp_in_of hj (by omega)
  have hcl : (nI k).toNatClampNeg = k := nI_clamp (by omega)
  have hac := gs_ascii ⟨i, hi⟩ ⟨k, by omega⟩
  refine gMet (Qc := gPi E (fun _ : Unit => []) ((gsByt.getD i []).getD (nI k).toNatClampNeg 0) ()) (by decide) (Nat.le_of_ble_eq_true rfl) (fun Γ X hl hE => ?_)
  subst hl; subst hE
  rw [hcl]
  show gW Γ _ _ 2 0 0 0 [(0, .ref (aV i)), (1, .int (nI k))] []
  refine g_iload_n X 1 dJ3_charAt_0 rfl ?_
  refine g_aload_n X 0 dJ3_charAt_1 rfl ?_
  refine g_lenO X hZ hi dJ3_charAt_2 ?_
  refine g_callSv (α := Unit) (z := ()) (K := fun q => some q) (fc := some ()) (wfc := fun _ : Unit => []) (wc := []) X 2 (As := [.int (nI k), .int (Int32.ofNat (gsLen.getD i 0))]) (rest := []) (lw_S q432 q433 q72 q434) (by decide +kernel) (fun u_ h_ sz_ => m_J2_checkIndex (gl Γ) (gEo Γ) aK aV hZ (nI k) (Int32.ofNat (gsLen.getD i 0)) (nI_pos (by omega)) (nI_lt hk (by omega)) sz_) rfl rfl ⟨by decide, by decide⟩ rfl (Nat.le_of_ble_eq_true rfl) ⟨Nat.zero_le _, Nat.zero_le _⟩ [] [] [] (fun _ => []) rfl rfl rfl rfl (by decide) rfl (fun _ => rfl) dJ3_charAt_3 rfl (fun u_ _ _ => ?_)
  refine g_aload_n X 0 dJ3_charAt_6 rfl ?_
  refine g_iload_n X 1 dJ3_charAt_7 rfl ?_
  refine g_baldO X hZ hi hj dJ3_charAt_8 ?_
  rw [hcl]
  refine g_sipush X 255 dJ3_charAt_9 rfl ?_
  refine g_iand X dJ3_charAt_12 ?_
  refine g_i2c X dJ3_charAt_13 hac.1 ?_
  exact g_tret X hac.2 rfl dJ3_charAt_14 rfl
abbrev rm_J2_charAt : Room := { frames := 4, cells := 0, slots := 0, locals := 110 }
theorem m_J2_charAt (l : Launch) (E : gE) (aK aV : Nat → Nat) (hZ : gSt E aK aV) (i : Nat) (hi : i < 7) (j : Int32) (hj : vp_in j (gsLen.getD i 0)) (sz : Nat) : Met l yJ2_charAt (ws_ yJ2_charAt cJ2_charAt 2 (some .char)) rm_J2_charAt (gPc [.ref (aK i), .int j] E [] sz) (gPi E (fun _ : Unit => []) ((gsByt.getD i []).getD j.toNatClampNeg 0) () (va_A [] sz)) 0 0 (va_A [] sz) := by
  have hl5 : gsLen.getD i 0 ≤ 5 := gs_len5 ⟨i, hi⟩
  have hac : narrow .char (.int ((gsByt.getD i []).getD j.toNatClampNeg 0)) = .int ((gsByt.getD i []).getD j.toNatClampNeg 0) := by
    obtain ⟨k, hk, rfl⟩ := vp_in_of hj (by omega)
    rw [nI_clamp (show k < 2 ^ 31 by omega)]
    exact (gs_ascii ⟨i, hi⟩ ⟨k, by omega⟩).2
  refine gMet (Qc := gPi E (fun _ : Unit => []) ((gsByt.getD i []).getD j.toNatClampNeg 0) ()) (by decide) (Nat.le_of_ble_eq_true rfl) (fun Γ X hl hE => ?_)
  subst hl; subst hE
  show gW Γ _ _ 2 0 0 0 [(0, .ref (aK i)), (1, .int j)] []
  refine g_aload_n X 0 dJ2_charAt_0 rfl ?_
  refine g_callV0i X hZ hi 0 (As := []) (lw_V q425 q426 q427 q72 q428) (by decide +kernel) (fun sz_ => m_J2_isLatin1 (gl Γ) (gEo Γ) aK aV hZ i hi sz_) rfl rfl ⟨by decide, by decide⟩ rfl (Nat.le_of_ble_eq_true rfl) ⟨Nat.zero_le _, Nat.zero_le _⟩ dJ2_charAt_1 ?_
  refine g_if_eq (α := Unit) (z := ()) (A := none) (B := some ()) X 16 dJ2_charAt_4 rfl rfl (fun h => by cases h) (fun _ => ?_)
  refine g_aload_n X 0 dJ2_charAt_7 rfl ?_
  refine g_getOV X hZ hi q1337 dJ2_charAt_8 ?_
  refine g_iload_n X 1 dJ2_charAt_11 rfl ?_
  refine g_call0i (α := Int32 × Unit) (z := ((gsByt.getD i []).getD j.toNatClampNeg 0, ())) (K := fun q => some q) (fc := some ((gsByt.getD i []).getD j.toNatClampNeg 0, ())) X 2 (As := [.ref (aV i), .int j]) (rest := []) (lw_S q429 q430 q73 q431) (by decide +kernel) (fun r_ u_ h_ sz_ => by cases h_; exact m_J3_charAt (gl Γ) (gEo Γ) aK aV hZ i hi j hj sz_) rfl rfl ⟨by decide, by decide⟩ rfl (Nat.le_of_ble_eq_true rfl) ⟨Nat.zero_le _, Nat.zero_le _⟩ dJ2_charAt_12 rfl (fun r_ h1 _ => ?_)
  cases h1
  exact g_tret X hac rfl dJ2_charAt_15 rfl
