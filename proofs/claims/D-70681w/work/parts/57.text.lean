set_option maxRecDepth 100000
def gtx (σ : gX) (u : gRd) : gX := X_xi_s (X_tape_s σ (R_tape u)) (R_xi u)
abbrev gtb (ad : Nat → Nat) : Nat → Nat := fun k => ad ([0, 24, 0, 0, 0, 1, 6, 10, 14, 23, 25, 26].getD k 0)
def gtR (E : gE) (r : Nat) (u b : Nat → Nat) (ρ : gRd) : va_W := (wR E (gRad r u b) ρ).take 5
def f_X0_text (σ : gX) : Option (Int32 × gX) :=
  gs (X_xi_s σ (I_taped_s (X_xi σ) 0)) fun σ1 => gs (X_xi_s σ1 (I_fault_s (X_xi σ1) 0)) fun σ2 =>
  (gcx (f_X8_next (gRd0 (I_taped (X_xi σ)) (X_xi σ2) (X_tape σ2))) id (fun _ u => some (.inl (0, u)))).bind fun z1 => match z1 with
  | .inr (co, pl, u) => some (-10 - pl, X_xi_s (gtx σ2 u) (I_fault_s (X_xi (gtx σ2 u)) co))
  | .inl (_, u) => (f_X8_lines u).bind fun z2 => match z2 with
    | .inr (co, pl, u2) => some (-10 - pl, X_xi_s (gtx (gtx σ2 u) u2) (I_fault_s (X_xi (gtx (gtx σ2 u) u2)) co))
    | .inl (many, u2) => gs (gtx (gtx σ2 u) u2) fun σ4 => (f_X5_as (X_now σ4, R_made u2)).bind fun s2 => gs (X_now_s σ4 s2.1) fun σ5 => gs (X_xi_s σ5 (I_seenMany_s (X_xi σ5) 0)) fun σ6 => gs (X_xi_s σ6 (I_kept_s (X_xi σ6) 0)) fun σ7 => some (many, σ7)
abbrev rm_X0_text : Room := { frames := 14, cells := 6, slots := 53, locals := 330 }
set_option maxHeartbeats 8000000 in
theorem m_X0_text (l : Launch) (E : gE) (hE1 : gEx1 E) (aK aV : Nat → Nat) (hZ : gSt E aK aV) (ad : Nat → Nat) (σ : gX) (r : Int32) (u0 : gX) (hf : f_X0_text σ = some (r, u0)) (sz : Nat) : Met l yX0_text (wsW_ yX0_text cX0_text 4 (some .int) [(15, 52, 53, 173)]) rm_X0_text (gPc [.ref (ad 0)] E (wX E ad σ) sz) (gPi E (wX E ad) r u0 (va_A (wX E ad σ) sz)) 6 53 (va_A (wX E ad σ) sz) := by
  refine gMetH (Qc := gPi E (wX E ad) r u0) (by decide) (Nat.le_of_ble_eq_true rfl) (fun Γ X hH hl hE => ?_)
  subst hl; subst hE
  unfold f_X0_text at hf
  show gW Γ _ (wX (gEo Γ) ad σ) 4 0 0 0 [(0, .ref (ad 0))] []
  refine g_aload_n X 0 dX0_text_0 rfl ?_
  refine g_get X in_X0 0 11 rfl rfl (by decide) q191 rfl dX0_text_1 ?_
  refine g_istore_n X [(1, .int (I_taped (X_xi σ))), (0, .ref (ad 0))] dX0_text_4 (by decide) rfl ?_
  refine g_aload_n X 1 dX0_text_5 rfl ?_
  refine g_iconst X 0 dX0_text_6 rfl ?_
  refine g_put X in_X0 tyX0_ok nmX0 0 11 (wX (gEo Γ) ad (X_xi_s σ (I_taped_s (X_xi σ) 0))) rfl rfl (by decide) q191 rfl rfl rfl rfl (Nat.le_of_ble_eq_true rfl) rfl dX0_text_7 ?_
  refine g_gs (wX (gEo Γ) ad) hf (fun σ1 hf => ?_)
  refine g_aload_n X 1 dX0_text_10 rfl ?_
  refine g_iconst X 0 dX0_text_11 rfl ?_
  refine g_put X in_X0 tyX0_ok nmX0 0 12 (wX (gEo Γ) ad (X_xi_s σ1 (I_fault_s (X_xi σ1) 0))) rfl rfl (by decide) q192 rfl rfl rfl rfl (Nat.le_of_ble_eq_true rfl) rfl dX0_text_12 ?_
  refine g_gs (wX (gEo Γ) ad) hf (fun σ2 hf => ?_)
  generalize I_taped (X_xi σ) = size at hf ⊢
  obtain ⟨z1, hz1, hf⟩ := g_bd hf
  refine g_new X in_X8 tyX8_ok q255 q256 q68 (ci := 8) rfl gR8 (by decide) (by decide) dX0_text_15 (fun q => ?_)
  refine g_dup X dX0_text_18 rfl ?_
  refine g_aload_n X 1 dX0_text_19 rfl ?_
  refine g_iload_n X 0 dX0_text_20 rfl ?_
  refine g_callXI X 2 (As := [.ref (ad 0), .int size]) (rest := [.ref q]) (z1 := z1) (wc := [(q, .inr (8, gR8)), gRx (gtb ad) (X_xi σ2), gRt (gEo Γ) (gtb ad) (X_tape σ2)]) (wfc := fun u ρ => wR (gEo Γ) (gRad q u (gtb ad)) ρ) q259 q68 q257 q258 rfl (by decide +kernel) (fun sz_ => m_X8_init (gl Γ) (gEo Γ) hE1 q (gtb ad) size (X_xi σ2) (X_tape σ2) z1 hz1 sz_) ⟨by decide, by decide⟩ rfl (Nat.le_of_ble_eq_true rfl) ⟨by decide, by decide⟩ [31, 0, 24] [1, 2, 3, 4, 5, 6, 7, 8, 9, 10, 11, 12, 13, 14, 15, 16, 17, 18, 19, 20, 21, 22, 23, 25, 26, 27, 28, 29, 30] [34, 0, 1, 2, 3, 4, 5, 6, 7, 8, 9, 10, 11, 12, 13, 14, 15, 16, 17, 18, 19, 20, 21, 22, 35, 23, 24, 25, 26, 27, 28, 29, 30, 31, 32, 33] (fun u ρ => wX (gEo Γ) ad (gtx σ2 ρ) ++ gtR (gEo Γ) q u (gtb ad) ρ) rfl rfl rfl rfl (by decide) rfl (fun _ _ => rfl) dX0_text_21 (fun r1 ρ u hz => ?_) (fun co pl ρ u q2 fs hz h6 h7 => ?_)
  · subst hz
    obtain ⟨z2, hz2, hf⟩ := g_bd hf
    refine g_astore_n X [(2, .ref q), (1, .int size), (0, .ref (ad 0))] dX0_text_24 (by decide) rfl ?_
    refine g_aload_n X 0 dX0_text_25 rfl ?_
    refine g_callXV (S := gRd) (z := z2) (lift := id) (K := fun r u => some (.inl (r, u))) X false 0 (As := []) (rest := []) (wfc := wR (gEo Γ) (gRad q u (gtb ad))) (lw_V q388 q389 q390 q68 q391) (by decide +kernel) (fun z_ h_ sz_ => m_X8_lines (gl Γ) (gEo Γ) hE1 aK aV hZ (gRad q u (gtb ad)) ρ z_ h_ sz_) (rq := 0) rfl rfl rfl ⟨by decide, by decide⟩ rfl (Nat.le_of_ble_eq_true rfl) ⟨by decide, by decide⟩ [31, 32, 33, 34, 35, 0, 24] [1, 2, 3, 4, 5, 6, 7, 8, 9, 10, 11, 12, 13, 14, 15, 16, 17, 18, 19, 20, 21, 22, 23, 25, 26, 27, 28, 29, 30] [34, 0, 1, 2, 3, 4, 5, 6, 7, 8, 9, 10, 11, 12, 13, 14, 15, 16, 17, 18, 19, 20, 21, 22, 35, 23, 24, 25, 26, 27, 28, 29, 30, 31, 32, 33] (fun ρ2 => wX (gEo Γ) ad (gtx (gtx σ2 ρ) ρ2) ++ gtR (gEo Γ) q u (gtb ad) ρ2) rfl rfl rfl rfl (by decide) rfl (fun _ => rfl) dX0_text_26 (by rw [hz2]; cases z2 <;> rfl) (fun many ρ2 hz => ?_) (fun co pl ρ2 q2 fs hz h6 h7 => ?_)
    · have hz : z2 = .inl (many, ρ2) := (Option.some.inj hz).symm
      subst hz
      refine g_gs (fun s => wX (gEo Γ) ad s ++ gtR (gEo Γ) q u (gtb ad) ρ2) hf (fun σ4 hf => ?_)
      refine g_istore_n X [(3, .int many), (2, .ref q), (1, .int size), (0, .ref (ad 0))] dX0_text_29 (by decide) rfl ?_
      refine g_aload_n X 3 dX0_text_30 rfl ?_
      refine g_get X in_X0 0 1 rfl rfl (by decide) q180 rfl dX0_text_31 ?_
      refine g_aload_n X 1 dX0_text_34 rfl ?_
      refine g_getN X in_X8 31 1 rfl rfl (by decide) 10 rfl rfl dX0_text_35 ?_
      refine g_callVv X 1 (As := [.ref (u 0)]) (rest := []) (wfc := wSS (gEo Γ) (fun k => [ad 6, ad 7, ad 8, ad 9, u 0, u 1, u 2, u 3].getD k 0)) (lw_V q486 q487 q488 q65 q489) (by decide +kernel) (fun u_ h_ sz_ => m_X5_as (gl Γ) (gEo Γ) (fun k => [ad 6, ad 7, ad 8, ad 9, u 0, u 1, u 2, u 3].getD k 0) (X_now σ4, R_made ρ2) u_ h_ sz_) (rq := 0) rfl rfl rfl rfl rfl ⟨by decide, by decide⟩ rfl (Nat.le_of_ble_eq_true rfl) ⟨by decide, by decide⟩ [6, 7, 8, 9, 32, 33, 34, 35] [0, 1, 2, 3, 4, 5, 10, 11, 12, 13, 14, 15, 16, 17, 18, 19, 20, 21, 22, 23, 24, 25, 26, 27, 28, 29, 30, 31] [0, 1, 2, 3, 4, 5, 28, 29, 30, 31, 6, 7, 8, 9, 10, 11, 12, 13, 14, 15, 16, 17, 18, 19, 20, 21, 22, 23, 24, 25, 26, 27, 32, 33, 34, 35] (fun s2 => wX (gEo Γ) ad (X_now_s σ4 s2.1) ++ gtR (gEo Γ) q u (gtb ad) (R_made_s ρ2 s2.2)) rfl rfl rfl rfl (by decide) rfl (fun _ => rfl) dX0_text_38 hf (fun s2 _ hf => ?_)
      refine g_perm (List.range 31) (wX (gEo Γ) ad (X_now_s σ4 s2.1)) rfl rfl ?_
      refine g_gs (wX (gEo Γ) ad) hf (fun σ5 hf => ?_)
      refine g_aload_n X 3 dX0_text_41 rfl ?_
      refine g_iconst X 0 dX0_text_42 rfl ?_
      refine g_put X in_X0 tyX0_ok nmX0 0 6 (wX (gEo Γ) ad (X_xi_s σ5 (I_seenMany_s (X_xi σ5) 0))) rfl rfl (by decide) q185 rfl rfl rfl rfl (Nat.le_of_ble_eq_true rfl) rfl dX0_text_43 ?_
      refine g_gs (wX (gEo Γ) ad) hf (fun σ6 hf => ?_)
      refine g_aload_n X 3 dX0_text_46 rfl ?_
      refine g_iconst X 0 dX0_text_47 rfl ?_
      refine g_put X in_X0 tyX0_ok nmX0 0 4 (wX (gEo Γ) ad (X_xi_s σ6 (I_kept_s (X_xi σ6) 0))) rfl rfl (by decide) q183 rfl rfl rfl rfl (Nat.le_of_ble_eq_true rfl) rfl dX0_text_48 ?_
      refine g_gs (wX (gEo Γ) ad) hf (fun σ7 hf => ?_)
      refine g_iload_n X 0 dX0_text_51 rfl ?_
      refine g_widen 6 53 (by decide) (by decide) ?_
      exact g_iret X rfl dX0_text_52 hf
    · have hz : z2 = .inr (co, pl, ρ2) := hz
      subst hz
      refine g_catch1 X hH rfl (by decide) q254 36 rfl rfl 9 rfl ?_
      refine g_astore_n X [(2, .ref q2), (1, .int size), (0, .ref (ad 0))] dX0_text_53 (by decide) rfl ?_
      refine g_aload_n X 2 dX0_text_54 rfl ?_
      refine g_aload_n X 0 dX0_text_55 rfl ?_
      refine g_getN X in_X9 36 6 rfl rfl (by decide) 8 rfl h6 dX0_text_56 ?_
      refine g_put X in_X0 tyX0_ok nmX0 0 12 (wX (gEo Γ) ad (X_xi_s (gtx (gtx σ2 ρ) ρ2) (I_fault_s (X_xi (gtx (gtx σ2 ρ) ρ2)) co)) ++ gtR (gEo Γ) q u (gtb ad) ρ2 ++ [(q2, .inr (9, fs))]) rfl rfl (by decide) q192 rfl rfl rfl rfl (Nat.le_of_ble_eq_true rfl) rfl dX0_text_59 ?_
      refine g_bipush X (-10) dX0_text_62 rfl ?_
      refine g_aload_n X 0 dX0_text_64 rfl ?_
      refine g_getN X in_X9 36 7 rfl rfl (by decide) 9 rfl h7 dX0_text_65 ?_
      refine g_isub X dX0_text_68 ?_
      refine g_widen 6 53 (by decide) (by decide) ?_
      refine g_perm (List.range 31) (wX (gEo Γ) ad (X_xi_s (gtx (gtx σ2 ρ) ρ2) (I_fault_s (X_xi (gtx (gtx σ2 ρ) ρ2)) co))) rfl rfl ?_
      exact g_iret X rfl dX0_text_69 hf
  · subst hz
    refine g_catch1 X hH rfl (by decide) q254 36 rfl rfl 9 rfl ?_
    refine g_astore_n X [(2, .ref q2), (1, .int size), (0, .ref (ad 0))] dX0_text_53 (by decide) rfl ?_
    refine g_aload_n X 2 dX0_text_54 rfl ?_
    refine g_aload_n X 0 dX0_text_55 rfl ?_
    refine g_getN X in_X9 36 6 rfl rfl (by decide) 8 rfl h6 dX0_text_56 ?_
    refine g_put X in_X0 tyX0_ok nmX0 0 12 (wX (gEo Γ) ad (X_xi_s (gtx σ2 ρ) (I_fault_s (X_xi (gtx σ2 ρ)) co)) ++ gtR (gEo Γ) q u (gtb ad) ρ ++ [(q2, .inr (9, fs))]) rfl rfl (by decide) q192 rfl rfl rfl rfl (Nat.le_of_ble_eq_true rfl) rfl dX0_text_59 ?_
    refine g_bipush X (-10) dX0_text_62 rfl ?_
    refine g_aload_n X 0 dX0_text_64 rfl ?_
    refine g_getN X in_X9 36 7 rfl rfl (by decide) 9 rfl h7 dX0_text_65 ?_
    refine g_isub X dX0_text_68 ?_
    refine g_widen 6 53 (by decide) (by decide) ?_
    refine g_perm (List.range 31) (wX (gEo Γ) ad (X_xi_s (gtx σ2 ρ) (I_fault_s (X_xi (gtx σ2 ρ)) co))) rfl rfl ?_
    exact g_iret X rfl dX0_text_69 hf
