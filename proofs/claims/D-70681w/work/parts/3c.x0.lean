set_option maxRecDepth 100000
def f_X0_minutes_b16 : Nat → gX → Int32 → Int32 → Option (Int32 × gX)
  | 0 => fun _ _ _ => none
  | n_ + 1 => fun σ x1 x2 =>
    if x1 ≤ x2 then ((f_X5_sorrow (X_now σ)).bind fun (r3, u4) => gs (X_now_s σ u4) fun s5 => some (r3, s5)) else ((f_X5_minuteGoes (X_now σ)).bind fun u7 => gs (X_now_s σ u7) fun s8 => gv (x2 + 1) fun v9 => (f_X0_minutes_b16 n_) s8 x1 v9)
def f_X0_minutes (σ : gX) (x1 : Int32) : Option (Int32 × gX) :=
  (f_X0_in (x1.toInt64) 0 60).bind fun (r1, _) => if r1 = 0 then (some ((-1), σ)) else (f_X0_minutes_b16 2000 σ x1 0)
abbrev rm_X0_minutes : Room := { frames := 4, cells := 0, slots := 0, locals := 77 }
set_option maxHeartbeats 4000000 in
theorem w_X0_minutes_b16 {Γ : gG} {ad : Nat → Nat} {r : Int32} {u : gX} (X : gCX Γ cX0_minutes 3 (some .int) RX0 rm_X0_minutes) : ∀ (n_ : Nat) (σ : gX) (x1 : Int32) (x2 : Int32), f_X0_minutes_b16 n_ σ x1 x2 = some (r, u) → gW Γ (gMQ Γ (gPi (gEo Γ) (wX (gEo Γ) ad) r u (gAo Γ)) 0 0) (wX (gEo Γ) ad σ) 3 0 0 16 [(0, .ref (ad 0)), (1, .int x1), (2, .int x2)] [] := by
  intro n_
  induction n_ with
  | zero => intro σ x1 x2 hf; cases hf
  | succ n_ ih =>
    intro σ x1 x2 hf
    simp only [f_X0_minutes_b16] at hf
    refine g_iload_n X 2 dX0_minutes_16 rfl ?_
    refine g_iload_n X 1 dX0_minutes_17 rfl ?_
    refine g_icmp_ge X 34 dX0_minutes_18 rfl hf (fun hf => ?_) (fun hf => ?_)
    · refine g_aload_n X 0 dX0_minutes_34 rfl ?_
      refine g_get X in_X0 0 1 rfl rfl (by decide) q180 rfl dX0_minutes_35 ?_
      refine g_callVi X 0 (As := []) (wfc := wS (gEo Γ) (fun i => ad (i + 6))) (lw_V q513 q514 q515 q65 q516) (by decide +kernel) (fun r_ u_ h_ sz_ => m_X5_sorrow (gl Γ) (gEo Γ) (fun i => ad (i + 6)) (X_now σ) r_ u_ h_ sz_) (rq := 0) rfl rfl rfl rfl rfl ⟨by decide, by decide⟩ rfl (Nat.le_of_ble_eq_true rfl) ⟨Nat.zero_le _, Nat.zero_le _⟩ [6, 7, 8, 9] [0, 1, 2, 3, 4, 5, 10, 11, 12, 13, 14, 15, 16, 17, 18, 19, 20, 21, 22, 23, 24, 25, 26, 27, 28, 29, 30] [0, 1, 2, 3, 4, 5, 27, 28, 29, 30, 6, 7, 8, 9, 10, 11, 12, 13, 14, 15, 16, 17, 18, 19, 20, 21, 22, 23, 24, 25, 26] (fun u4 => wX (gEo Γ) ad (X_now_s σ u4)) rfl rfl rfl rfl (by decide) rfl (fun _ => rfl) dX0_minutes_38 hf (fun r3 u4 _ hf => ?_)
      refine g_gs (wX (gEo Γ) ad) hf (fun s5 hf => ?_)
      exact g_iret X rfl dX0_minutes_41 hf
    · refine g_aload_n X 0 dX0_minutes_21 rfl ?_
      refine g_get X in_X0 0 1 rfl rfl (by decide) q180 rfl dX0_minutes_22 ?_
      refine g_callVv X 0 (As := []) (wfc := wS (gEo Γ) (fun i => ad (i + 6))) (lw_V q639 q640 q641 q65 q642) (by decide +kernel) (fun u_ h_ sz_ => m_X5_minuteGoes (gl Γ) (gEo Γ) (fun i => ad (i + 6)) (X_now σ) u_ h_ sz_) (rq := 0) rfl rfl rfl rfl rfl ⟨by decide, by decide⟩ rfl (Nat.le_of_ble_eq_true rfl) ⟨Nat.zero_le _, Nat.zero_le _⟩ [6, 7, 8, 9] [0, 1, 2, 3, 4, 5, 10, 11, 12, 13, 14, 15, 16, 17, 18, 19, 20, 21, 22, 23, 24, 25, 26, 27, 28, 29, 30] [0, 1, 2, 3, 4, 5, 27, 28, 29, 30, 6, 7, 8, 9, 10, 11, 12, 13, 14, 15, 16, 17, 18, 19, 20, 21, 22, 23, 24, 25, 26] (fun u7 => wX (gEo Γ) ad (X_now_s σ u7)) rfl rfl rfl rfl (by decide) rfl (fun _ => rfl) dX0_minutes_25 hf (fun u7 _ hf => ?_)
      refine g_gs (wX (gEo Γ) ad) hf (fun s8 hf => ?_)
      refine g_iincV X 1 2 (fun v9 => [(2, .int v9), (0, .ref (ad 0)), (1, .int x1)]) dX0_minutes_28 rfl rfl (by decide) (fun _ => rfl) hf (fun v9 hf => ?_)
      refine g_goto X 16 dX0_minutes_31 rfl ?_
      refine g_sub [1, 2, 0] [(0, .ref (ad 0)), (1, .int x1), (2, .int v9)] rfl ?_
      exact ih s8 x1 v9 hf
set_option maxHeartbeats 4000000 in
theorem m_X0_minutes (l : Launch) (E : gE) (ad : Nat → Nat) (σ : gX) (x1 : Int32) (r : Int32) (u : gX) (hf : f_X0_minutes σ x1 = some (r, u)) (sz : Nat) : Met l yX0_minutes (ws_ yX0_minutes cX0_minutes 3 (some .int)) rm_X0_minutes (gPc [.ref (ad 0), .int x1] E (wX E ad σ) sz) (gPi E (wX E ad) r u (va_A (wX E ad σ) sz)) 0 0 (va_A (wX E ad σ) sz) := by
  refine gMet (Qc := gPi E (wX E ad) r u) (by decide) (Nat.le_of_ble_eq_true rfl) (fun Γ X hl hE => ?_)
  subst hl; subst hE
  unfold f_X0_minutes at hf
  show gW Γ (gMQ Γ (gPi (gEo Γ) (wX (gEo Γ) ad) r u (gAo Γ)) 0 0) (wX (gEo Γ) ad σ) 3 0 0 0 [(0, .ref (ad 0)), (1, .int x1)] []
  refine g_iload_n X 1 dX0_minutes_0 rfl ?_
  refine g_i2l X dX0_minutes_1 ?_
  refine g_lconst X 0 dX0_minutes_2 rfl ?_
  refine g_ldc2 X dX0_minutes_3 q638 ?_
  refine g_call0i X 3 (As := [.long (x1.toInt64), .long 0, .long 60]) (lw_S q243 q244 q60 q245) (by decide +kernel) (fun r_ u_ h_ sz_ => m_X0_in (gl Γ) (gEo Γ) (x1.toInt64) 0 60 r_ u_ h_ sz_) rfl rfl ⟨by decide, by decide⟩ rfl (Nat.le_of_ble_eq_true rfl) ⟨Nat.zero_le _, Nat.zero_le _⟩ dX0_minutes_6 hf (fun r1 _ hf => ?_)
  refine g_if_ne X 14 dX0_minutes_9 rfl hf (fun hf => ?_) (fun hf => ?_)
  · refine g_iconst X 0 dX0_minutes_14 rfl ?_
    refine g_istore_n X [(2, .int 0), (0, .ref (ad 0)), (1, .int x1)] dX0_minutes_15 (by decide) rfl ?_
    refine g_sub [1, 2, 0] [(0, .ref (ad 0)), (1, .int x1), (2, .int 0)] rfl ?_
    exact w_X0_minutes_b16 X 2000 σ x1 0 hf
  · refine g_iconst X (-1) dX0_minutes_12 rfl ?_
    exact g_iret X rfl dX0_minutes_13 hf
def f_X0_tram (σ : gX) : Option (Int32 × gX) :=
  (f_X5_tramComes (X_now σ)).bind fun (r1, u2) => gs (X_now_s σ u2) fun s3 => some (r1, s3)
abbrev rm_X0_tram : Room := { frames := 7, cells := 0, slots := 0, locals := 145 }
set_option maxHeartbeats 4000000 in
theorem m_X0_tram (l : Launch) (E : gE) (ad : Nat → Nat) (σ : gX) (r : Int32) (u : gX) (hf : f_X0_tram σ = some (r, u)) (sz : Nat) : Met l yX0_tram (ws_ yX0_tram cX0_tram 1 (some .int)) rm_X0_tram (gPc [.ref (ad 0)] E (wX E ad σ) sz) (gPi E (wX E ad) r u (va_A (wX E ad σ) sz)) 0 0 (va_A (wX E ad σ) sz) := by
  refine gMet (Qc := gPi E (wX E ad) r u) (by decide) (Nat.le_of_ble_eq_true rfl) (fun Γ X hl hE => ?_)
  subst hl; subst hE
  unfold f_X0_tram at hf
  show gW Γ (gMQ Γ (gPi (gEo Γ) (wX (gEo Γ) ad) r u (gAo Γ)) 0 0) (wX (gEo Γ) ad σ) 1 0 0 0 [(0, .ref (ad 0))] []
  refine g_aload_n X 0 dX0_tram_0 rfl ?_
  refine g_get X in_X0 0 1 rfl rfl (by decide) q180 rfl dX0_tram_1 ?_
  refine g_callVi X 0 (As := []) (wfc := wS (gEo Γ) (fun i => ad (i + 6))) (lw_V q648 q649 q650 q65 q651) (by decide +kernel) (fun r_ u_ h_ sz_ => m_X5_tramComes (gl Γ) (gEo Γ) (fun i => ad (i + 6)) (X_now σ) r_ u_ h_ sz_) (rq := 0) rfl rfl rfl rfl rfl ⟨by decide, by decide⟩ rfl (Nat.le_of_ble_eq_true rfl) ⟨Nat.zero_le _, Nat.zero_le _⟩ [6, 7, 8, 9] [0, 1, 2, 3, 4, 5, 10, 11, 12, 13, 14, 15, 16, 17, 18, 19, 20, 21, 22, 23, 24, 25, 26, 27, 28, 29, 30] [0, 1, 2, 3, 4, 5, 27, 28, 29, 30, 6, 7, 8, 9, 10, 11, 12, 13, 14, 15, 16, 17, 18, 19, 20, 21, 22, 23, 24, 25, 26] (fun u2 => wX (gEo Γ) ad (X_now_s σ u2)) rfl rfl rfl rfl (by decide) rfl (fun _ => rfl) dX0_tram_4 hf (fun r1 u2 _ hf => ?_)
  refine g_gs (wX (gEo Γ) ad) hf (fun s3 hf => ?_)
  exact g_iret X rfl dX0_tram_7 hf
def f_X0_joy (σ : gX) (x1 : Int32) : Option (Int32 × gX) :=
  (f_X0_isOne σ x1).bind fun (r1, u2) => if r1 = 0 then (some ((-1), u2)) else ((f_X5_waits (X_now u2) x1).bind fun (r3, u4) => gs (X_now_s u2 u4) fun s5 => if r3 = 0 then (some ((-2), s5)) else ((f_X5_of (X_now s5) x1 1).bind fun (r6, u7) => gs (X_now_s s5 u7) fun s8 => (f_X5_becomes (X_now s8) x1 1 0).bind fun u10 => gs (X_now_s s8 u10) fun s11 => gst 5 (S_wept (X_now s11)) x1 (vp_nar .short (-4)) fun g12 => gs (X_now_s s11 (S_wept_s (X_now s11) g12)) fun s13 => some (r6, s13)))
abbrev rm_X0_joy : Room := { frames := 3, cells := 0, slots := 0, locals := 58 }
set_option maxHeartbeats 4000000 in
theorem m_X0_joy (l : Launch) (E : gE) (ad : Nat → Nat) (σ : gX) (x1 : Int32) (r : Int32) (u : gX) (hf : f_X0_joy σ x1 = some (r, u)) (sz : Nat) : Met l yX0_joy (ws_ yX0_joy cX0_joy 3 (some .int)) rm_X0_joy (gPc [.ref (ad 0), .int x1] E (wX E ad σ) sz) (gPi E (wX E ad) r u (va_A (wX E ad σ) sz)) 0 0 (va_A (wX E ad σ) sz) := by
  refine gMet (Qc := gPi E (wX E ad) r u) (by decide) (Nat.le_of_ble_eq_true rfl) (fun Γ X hl hE => ?_)
  subst hl; subst hE
  unfold f_X0_joy at hf
  show gW Γ (gMQ Γ (gPi (gEo Γ) (wX (gEo Γ) ad) r u (gAo Γ)) 0 0) (wX (gEo Γ) ad σ) 3 0 0 0 [(0, .ref (ad 0)), (1, .int x1)] []
  refine g_aload_n X 0 dX0_joy_0 rfl ?_
  refine g_iload_n X 1 dX0_joy_1 rfl ?_
  refine g_callVi X 1 (As := [.int x1]) (wfc := wX (gEo Γ) ad) (lw_V q521 q523 qs12 q60 q524) (by decide +kernel) (fun r_ u_ h_ sz_ => m_X0_isOne (gl Γ) (gEo Γ) ad σ x1 r_ u_ h_ sz_) (rq := 0) rfl rfl rfl rfl rfl ⟨by decide, by decide⟩ rfl (Nat.le_of_ble_eq_true rfl) ⟨Nat.zero_le _, Nat.zero_le _⟩ [0, 1, 2, 3, 4, 5, 6, 7, 8, 9, 10, 11, 12, 13, 14, 15, 16, 17, 18, 19, 20, 21, 22, 23, 24, 25, 26, 27, 28, 29, 30] [] [0, 1, 2, 3, 4, 5, 6, 7, 8, 9, 10, 11, 12, 13, 14, 15, 16, 17, 18, 19, 20, 21, 22, 23, 24, 25, 26, 27, 28, 29, 30] (fun u2 => wX (gEo Γ) ad u2) rfl rfl rfl rfl (by decide) rfl (fun _ => rfl) dX0_joy_2 hf (fun r1 u2 _ hf => ?_)
  refine g_if_ne X 10 dX0_joy_5 rfl hf (fun hf => ?_) (fun hf => ?_)
  · refine g_aload_n X 0 dX0_joy_10 rfl ?_
    refine g_get X in_X0 0 1 rfl rfl (by decide) q180 rfl dX0_joy_11 ?_
    refine g_iload_n X 1 dX0_joy_14 rfl ?_
    refine g_callVi X 1 (As := [.int x1]) (wfc := wS (gEo Γ) (fun i => ad (i + 6))) (lw_V q611 q506 q507 q65 q508) (by decide +kernel) (fun r_ u_ h_ sz_ => m_X5_waits (gl Γ) (gEo Γ) (fun i => ad (i + 6)) (X_now u2) x1 r_ u_ h_ sz_) (rq := 0) rfl rfl rfl rfl rfl ⟨by decide, by decide⟩ rfl (Nat.le_of_ble_eq_true rfl) ⟨Nat.zero_le _, Nat.zero_le _⟩ [6, 7, 8, 9] [0, 1, 2, 3, 4, 5, 10, 11, 12, 13, 14, 15, 16, 17, 18, 19, 20, 21, 22, 23, 24, 25, 26, 27, 28, 29, 30] [0, 1, 2, 3, 4, 5, 27, 28, 29, 30, 6, 7, 8, 9, 10, 11, 12, 13, 14, 15, 16, 17, 18, 19, 20, 21, 22, 23, 24, 25, 26] (fun u4 => wX (gEo Γ) ad (X_now_s u2 u4)) rfl rfl rfl rfl (by decide) rfl (fun _ => rfl) dX0_joy_15 hf (fun r3 u4 _ hf => ?_)
    refine g_gs (wX (gEo Γ) ad) hf (fun s5 hf => ?_)
    refine g_if_ne X 24 dX0_joy_18 rfl hf (fun hf => ?_) (fun hf => ?_)
    · refine g_aload_n X 0 dX0_joy_24 rfl ?_
      refine g_get X in_X0 0 1 rfl rfl (by decide) q180 rfl dX0_joy_25 ?_
      refine g_iload_n X 1 dX0_joy_28 rfl ?_
      refine g_iconst X 1 dX0_joy_29 rfl ?_
      refine g_callVi X 2 (As := [.int x1, .int 1]) (wfc := wS (gEo Γ) (fun i => ad (i + 6))) (lw_V q525 q510 q511 q65 q512) (by decide +kernel) (fun r_ u_ h_ sz_ => m_X5_of (gl Γ) (gEo Γ) (fun i => ad (i + 6)) (X_now s5) x1 1 r_ u_ h_ sz_) (rq := 0) rfl rfl rfl rfl rfl ⟨by decide, by decide⟩ rfl (Nat.le_of_ble_eq_true rfl) ⟨Nat.zero_le _, Nat.zero_le _⟩ [6, 7, 8, 9] [0, 1, 2, 3, 4, 5, 10, 11, 12, 13, 14, 15, 16, 17, 18, 19, 20, 21, 22, 23, 24, 25, 26, 27, 28, 29, 30] [0, 1, 2, 3, 4, 5, 27, 28, 29, 30, 6, 7, 8, 9, 10, 11, 12, 13, 14, 15, 16, 17, 18, 19, 20, 21, 22, 23, 24, 25, 26] (fun u7 => wX (gEo Γ) ad (X_now_s s5 u7)) rfl rfl rfl rfl (by decide) rfl (fun _ => rfl) dX0_joy_30 hf (fun r6 u7 _ hf => ?_)
      refine g_gs (wX (gEo Γ) ad) hf (fun s8 hf => ?_)
      refine g_istore_n X [(2, .int r6), (0, .ref (ad 0)), (1, .int x1)] dX0_joy_33 (by decide) rfl ?_
      refine g_aload_n X 1 dX0_joy_34 rfl ?_
      refine g_get X in_X0 0 1 rfl rfl (by decide) q180 rfl dX0_joy_35 ?_
      refine g_iload_n X 2 dX0_joy_38 rfl ?_
      refine g_iconst X 1 dX0_joy_39 rfl ?_
      refine g_iconst X 0 dX0_joy_40 rfl ?_
      refine g_callVv X 3 (As := [.int x1, .int 1, .int 0]) (wfc := wS (gEo Γ) (fun i => ad (i + 6))) (lw_V q584 q483 q484 q65 q485) (by decide +kernel) (fun u_ h_ sz_ => m_X5_becomes (gl Γ) (gEo Γ) (fun i => ad (i + 6)) (X_now s8) x1 1 0 u_ h_ sz_) (rq := 0) rfl rfl rfl rfl rfl ⟨by decide, by decide⟩ rfl (Nat.le_of_ble_eq_true rfl) ⟨Nat.zero_le _, Nat.zero_le _⟩ [6, 7, 8, 9] [0, 1, 2, 3, 4, 5, 10, 11, 12, 13, 14, 15, 16, 17, 18, 19, 20, 21, 22, 23, 24, 25, 26, 27, 28, 29, 30] [0, 1, 2, 3, 4, 5, 27, 28, 29, 30, 6, 7, 8, 9, 10, 11, 12, 13, 14, 15, 16, 17, 18, 19, 20, 21, 22, 23, 24, 25, 26] (fun u10 => wX (gEo Γ) ad (X_now_s s8 u10)) rfl rfl rfl rfl (by decide) rfl (fun _ => rfl) dX0_joy_41 hf (fun u10 _ hf => ?_)
      refine g_gs (wX (gEo Γ) ad) hf (fun s11 hf => ?_)
      refine g_aload_n X 1 dX0_joy_44 rfl ?_
      refine g_get X in_X0 0 1 rfl rfl (by decide) q180 rfl dX0_joy_45 ?_
      refine g_getN X in_X5 6 2 rfl rfl (by decide) 1 rfl rfl dX0_joy_48 ?_
      refine g_iload_n X 2 dX0_joy_51 rfl ?_
      refine g_bipush X (-4) dX0_joy_52 rfl ?_
      refine g_sast X 8 (fun g12 => wX (gEo Γ) ad (X_now_s s11 (S_wept_s (X_now s11) g12))) rfl (fun _ => rfl) dX0_joy_54 hf (fun g12 hf => ?_)
      refine g_gs (wX (gEo Γ) ad) hf (fun s13 hf => ?_)
      refine g_iload_n X 0 dX0_joy_55 rfl ?_
      exact g_iret X rfl dX0_joy_56 hf
    · refine g_bipush X (-2) dX0_joy_21 rfl ?_
      exact g_iret X rfl dX0_joy_23 hf
  · refine g_iconst X (-1) dX0_joy_8 rfl ?_
    exact g_iret X rfl dX0_joy_9 hf
def f_X0_second_b13 : Nat → gX → Int32 → Int32 → Option (Int32 × gX)
  | 0 => fun _ _ _ => none
  | n_ + 1 => fun σ x1 x2 =>
    if ((S_people (X_now σ))) ≤ x2 then (some (x1, σ)) else ((f_X5_becomes (X_now σ) x2 2 0).bind fun u7 => gs (X_now_s σ u7) fun s8 => gv (x2 + 1) fun v9 => (f_X0_second_b13 n_) s8 x1 v9)
def f_X0_second (σ : gX) : Option (Int32 × gX) :=
  (f_X5_gone (X_now σ)).bind fun (r1, u2) => gs (X_now_s σ u2) fun s3 => (f_J7_bitCount r1).bind fun (r4, _) => f_X0_second_b13 2000 s3 r4 0
abbrev rm_X0_second : Room := { frames := 5, cells := 0, slots := 0, locals := 97 }
set_option maxHeartbeats 4000000 in
theorem w_X0_second_b13 {Γ : gG} {ad : Nat → Nat} {r : Int32} {u : gX} (X : gCX Γ cX0_second 3 (some .int) RX0 rm_X0_second) : ∀ (n_ : Nat) (σ : gX) (x1 : Int32) (x2 : Int32), f_X0_second_b13 n_ σ x1 x2 = some (r, u) → gW Γ (gMQ Γ (gPi (gEo Γ) (wX (gEo Γ) ad) r u (gAo Γ)) 0 0) (wX (gEo Γ) ad σ) 3 0 0 13 [(0, .ref (ad 0)), (1, .int x1), (2, .int x2)] [] := by
  intro n_
  induction n_ with
  | zero => intro σ x1 x2 hf; cases hf
  | succ n_ ih =>
    intro σ x1 x2 hf
    simp only [f_X0_second_b13] at hf
    refine g_iload_n X 2 dX0_second_13 rfl ?_
    refine g_aload_n X 0 dX0_second_14 rfl ?_
    refine g_get X in_X0 0 1 rfl rfl (by decide) q180 rfl dX0_second_15 ?_
    refine g_getN X in_X5 6 0 rfl rfl (by decide) 0 rfl rfl dX0_second_18 ?_
    refine g_icmp_ge X 40 dX0_second_21 rfl hf (fun hf => ?_) (fun hf => ?_)
    · refine g_iload_n X 1 dX0_second_40 rfl ?_
      exact g_iret X rfl dX0_second_41 hf
    · refine g_aload_n X 0 dX0_second_24 rfl ?_
      refine g_get X in_X0 0 1 rfl rfl (by decide) q180 rfl dX0_second_25 ?_
      refine g_iload_n X 2 dX0_second_28 rfl ?_
      refine g_iconst X 2 dX0_second_29 rfl ?_
      refine g_iconst X 0 dX0_second_30 rfl ?_
      refine g_callVv X 3 (As := [.int x2, .int 2, .int 0]) (wfc := wS (gEo Γ) (fun i => ad (i + 6))) (lw_V q584 q483 q484 q65 q485) (by decide +kernel) (fun u_ h_ sz_ => m_X5_becomes (gl Γ) (gEo Γ) (fun i => ad (i + 6)) (X_now σ) x2 2 0 u_ h_ sz_) (rq := 0) rfl rfl rfl rfl rfl ⟨by decide, by decide⟩ rfl (Nat.le_of_ble_eq_true rfl) ⟨Nat.zero_le _, Nat.zero_le _⟩ [6, 7, 8, 9] [0, 1, 2, 3, 4, 5, 10, 11, 12, 13, 14, 15, 16, 17, 18, 19, 20, 21, 22, 23, 24, 25, 26, 27, 28, 29, 30] [0, 1, 2, 3, 4, 5, 27, 28, 29, 30, 6, 7, 8, 9, 10, 11, 12, 13, 14, 15, 16, 17, 18, 19, 20, 21, 22, 23, 24, 25, 26] (fun u7 => wX (gEo Γ) ad (X_now_s σ u7)) rfl rfl rfl rfl (by decide) rfl (fun _ => rfl) dX0_second_31 hf (fun u7 _ hf => ?_)
      refine g_gs (wX (gEo Γ) ad) hf (fun s8 hf => ?_)
      refine g_iincV X 1 2 (fun v9 => [(2, .int v9), (0, .ref (ad 0)), (1, .int x1)]) dX0_second_34 rfl rfl (by decide) (fun _ => rfl) hf (fun v9 hf => ?_)
      refine g_goto X 13 dX0_second_37 rfl ?_
      refine g_sub [1, 2, 0] [(0, .ref (ad 0)), (1, .int x1), (2, .int v9)] rfl ?_
      exact ih s8 x1 v9 hf
set_option maxHeartbeats 4000000 in
theorem m_X0_second (l : Launch) (E : gE) (ad : Nat → Nat) (σ : gX) (r : Int32) (u : gX) (hf : f_X0_second σ = some (r, u)) (sz : Nat) : Met l yX0_second (ws_ yX0_second cX0_second 3 (some .int)) rm_X0_second (gPc [.ref (ad 0)] E (wX E ad σ) sz) (gPi E (wX E ad) r u (va_A (wX E ad σ) sz)) 0 0 (va_A (wX E ad σ) sz) := by
  refine gMet (Qc := gPi E (wX E ad) r u) (by decide) (Nat.le_of_ble_eq_true rfl) (fun Γ X hl hE => ?_)
  subst hl; subst hE
  unfold f_X0_second at hf
  show gW Γ (gMQ Γ (gPi (gEo Γ) (wX (gEo Γ) ad) r u (gAo Γ)) 0 0) (wX (gEo Γ) ad σ) 3 0 0 0 [(0, .ref (ad 0))] []
  refine g_aload_n X 0 dX0_second_0 rfl ?_
  refine g_get X in_X0 0 1 rfl rfl (by decide) q180 rfl dX0_second_1 ?_
  refine g_callVi X 0 (As := []) (wfc := wS (gEo Γ) (fun i => ad (i + 6))) (lw_V q661 q662 q663 q65 q664) (by decide +kernel) (fun r_ u_ h_ sz_ => m_X5_gone (gl Γ) (gEo Γ) (fun i => ad (i + 6)) (X_now σ) r_ u_ h_ sz_) (rq := 0) rfl rfl rfl rfl rfl ⟨by decide, by decide⟩ rfl (Nat.le_of_ble_eq_true rfl) ⟨Nat.zero_le _, Nat.zero_le _⟩ [6, 7, 8, 9] [0, 1, 2, 3, 4, 5, 10, 11, 12, 13, 14, 15, 16, 17, 18, 19, 20, 21, 22, 23, 24, 25, 26, 27, 28, 29, 30] [0, 1, 2, 3, 4, 5, 27, 28, 29, 30, 6, 7, 8, 9, 10, 11, 12, 13, 14, 15, 16, 17, 18, 19, 20, 21, 22, 23, 24, 25, 26] (fun u2 => wX (gEo Γ) ad (X_now_s σ u2)) rfl rfl rfl rfl (by decide) rfl (fun _ => rfl) dX0_second_4 hf (fun r1 u2 _ hf => ?_)
  refine g_gs (wX (gEo Γ) ad) hf (fun s3 hf => ?_)
  refine g_call0i X 1 (As := [.int r1]) (lw_S q665 q666 q78 q667) (by decide +kernel) (fun r_ u_ h_ sz_ => m_J7_bitCount (gl Γ) (gEo Γ) r1 r_ u_ h_ sz_) rfl rfl ⟨by decide, by decide⟩ rfl (Nat.le_of_ble_eq_true rfl) ⟨Nat.zero_le _, Nat.zero_le _⟩ dX0_second_7 hf (fun r4 _ hf => ?_)
  refine g_istore_n X [(1, .int r4), (0, .ref (ad 0))] dX0_second_10 (by decide) rfl ?_
  refine g_iconst X 0 dX0_second_11 rfl ?_
  refine g_istore_n X [(2, .int 0), (1, .int r4), (0, .ref (ad 0))] dX0_second_12 (by decide) rfl ?_
  refine g_sub [2, 1, 0] [(0, .ref (ad 0)), (1, .int r4), (2, .int 0)] rfl ?_
  exact w_X0_second_b13 X 2000 s3 r4 0 hf
def f_X0_acts (σ : gA) (x2 : Int32) : Option (Int32 × gA) :=
  if x2 = 5 then ((f_X5_minuteGoes (A_s σ)).bind fun u16 => gs (A_s_s σ u16) fun s17 => gzr 1 s17) else (if x2 = 6 then ((f_X5_tramComes (A_s σ)).bind fun (r12, u13) => gs (A_s_s σ u13) fun s14 => gzr 1 s14) else ((f_X5_waits (A_s σ) x2).bind fun (r1, u2) => gs (A_s_s σ u2) fun s3 => if r1 = 0 then (gzr 0 s3) else ((f_X0_thinking s3 x2).bind fun (r4, u5) => gv (((I_weepers (A_xi u5))) ||| r4) fun v6 => gs (A_xi_s u5 (I_weepers_s (A_xi u5) v6)) fun s7 => (f_J7_bitCount r4).bind fun (r8, _) => gv (((I_often (A_xi s7))) + r8) fun v10 => gs (A_xi_s s7 (I_often_s (A_xi s7) v10)) fun s11 => gzr 1 s11)))
abbrev rm_X0_acts : Room := { frames := 7, cells := 0, slots := 0, locals := 160 }
set_option maxHeartbeats 4000000 in
theorem m_X0_acts (l : Launch) (E : gE) (ad : Nat → Nat) (σ : gA) (x2 : Int32) (r : Int32) (u : gA) (hf : f_X0_acts σ x2 = some (r, u)) (sz : Nat) : Met l yX0_acts (ws_ yX0_acts cX0_acts 4 (some .boolean)) rm_X0_acts (gPc [.ref (ad 0), .ref (ad 6), .int x2] E (wA E ad σ) sz) (gPi E (wA E ad) r u (va_A (wA E ad σ) sz)) 0 0 (va_A (wA E ad σ) sz) := by
  refine gMet (Qc := gPi E (wA E ad) r u) (by decide) (Nat.le_of_ble_eq_true rfl) (fun Γ X hl hE => ?_)
  subst hl; subst hE
  unfold f_X0_acts at hf
  show gW Γ (gMQ Γ (gPi (gEo Γ) (wA (gEo Γ) ad) r u (gAo Γ)) 0 0) (wA (gEo Γ) ad σ) 4 0 0 0 [(0, .ref (ad 0)), (1, .ref (ad 6)), (2, .int x2)] []
  refine g_iload_n X 2 dX0_acts_0 rfl ?_
  refine g_iconst X 5 dX0_acts_1 rfl ?_
  refine g_icmp_ne X 12 dX0_acts_2 rfl hf (fun hf => ?_) (fun hf => ?_)
  · refine g_iload_n X 2 dX0_acts_12 rfl ?_
    refine g_bipush X 6 dX0_acts_13 rfl ?_
    refine g_icmp_ne X 26 dX0_acts_15 rfl hf (fun hf => ?_) (fun hf => ?_)
    · refine g_aload_n X 1 dX0_acts_26 rfl ?_
      refine g_iload_n X 2 dX0_acts_27 rfl ?_
      refine g_callVi X 1 (As := [.int x2]) (wfc := wS (gEo Γ) (fun i => ad (i + 6))) (lw_V q611 q506 q507 q65 q508) (by decide +kernel) (fun r_ u_ h_ sz_ => m_X5_waits (gl Γ) (gEo Γ) (fun i => ad (i + 6)) (A_s σ) x2 r_ u_ h_ sz_) (rq := 0) rfl rfl rfl rfl rfl ⟨by decide, by decide⟩ rfl (Nat.le_of_ble_eq_true rfl) ⟨Nat.zero_le _, Nat.zero_le _⟩ [6, 7, 8, 9] [0, 1, 2, 3, 4, 5] [0, 1, 2, 3, 4, 5, 6, 7, 8, 9] (fun u2 => wA (gEo Γ) ad (A_s_s σ u2)) rfl rfl rfl rfl (by decide) rfl (fun _ => rfl) dX0_acts_28 hf (fun r1 u2 _ hf => ?_)
      refine g_gs (wA (gEo Γ) ad) hf (fun s3 hf => ?_)
      refine g_if_ne X 36 dX0_acts_31 rfl hf (fun hf => ?_) (fun hf => ?_)
      · refine g_aload_n X 0 dX0_acts_36 rfl ?_
        refine g_aload_n X 1 dX0_acts_37 rfl ?_
        refine g_iload_n X 2 dX0_acts_38 rfl ?_
        refine g_callVi X 2 (As := [.ref (ad 6), .int x2]) (wfc := wA (gEo Γ) ad) (lw_V q612 q614 qs15 q60 q615) (by decide +kernel) (fun r_ u_ h_ sz_ => m_X0_thinking (gl Γ) (gEo Γ) ad s3 x2 r_ u_ h_ sz_) (rq := 0) rfl rfl rfl rfl rfl ⟨by decide, by decide⟩ rfl (Nat.le_of_ble_eq_true rfl) ⟨Nat.zero_le _, Nat.zero_le _⟩ [0, 1, 2, 3, 4, 5, 6, 7, 8, 9] [] [0, 1, 2, 3, 4, 5, 6, 7, 8, 9] (fun u5 => wA (gEo Γ) ad u5) rfl rfl rfl rfl (by decide) rfl (fun _ => rfl) dX0_acts_39 hf (fun r4 u5 _ hf => ?_)
        refine g_istore_n X [(3, .int r4), (0, .ref (ad 0)), (1, .ref (ad 6)), (2, .int x2)] dX0_acts_42 (by decide) rfl ?_
        refine g_aload_n X 1 dX0_acts_43 rfl ?_
        refine g_dup X dX0_acts_44 rfl ?_
        refine g_get X in_X0 0 7 rfl rfl (by decide) q186 rfl dX0_acts_45 ?_
        refine g_iload_n X 0 dX0_acts_48 rfl ?_
        refine g_ior X dX0_acts_49 ?_
        refine g_topi hf (fun v6 hf => ?_)
        refine g_put X in_X0 tyX0_ok nmX0 0 7 (wA (gEo Γ) ad (A_xi_s u5 (I_weepers_s (A_xi u5) v6))) rfl rfl (by decide) q186 rfl rfl rfl rfl (Nat.le_of_ble_eq_true rfl) rfl dX0_acts_50 ?_
        refine g_gs (wA (gEo Γ) ad) hf (fun s7 hf => ?_)
        refine g_aload_n X 1 dX0_acts_53 rfl ?_
        refine g_dup X dX0_acts_54 rfl ?_
        refine g_get X in_X0 0 8 rfl rfl (by decide) q187 rfl dX0_acts_55 ?_
        refine g_iload_n X 0 dX0_acts_58 rfl ?_
        refine g_call0i X 1 (As := [.int r4]) (lw_S q665 q666 q78 q667) (by decide +kernel) (fun r_ u_ h_ sz_ => m_J7_bitCount (gl Γ) (gEo Γ) r4 r_ u_ h_ sz_) rfl rfl ⟨by decide, by decide⟩ rfl (Nat.le_of_ble_eq_true rfl) ⟨Nat.zero_le _, Nat.zero_le _⟩ dX0_acts_59 hf (fun r8 _ hf => ?_)
        refine g_iadd X dX0_acts_62 ?_
        refine g_topi hf (fun v10 hf => ?_)
        refine g_put X in_X0 tyX0_ok nmX0 0 8 (wA (gEo Γ) ad (A_xi_s s7 (I_often_s (A_xi s7) v10))) rfl rfl (by decide) q187 rfl rfl rfl rfl (Nat.le_of_ble_eq_true rfl) rfl dX0_acts_63 ?_
        refine g_gs (wA (gEo Γ) ad) hf (fun s11 hf => ?_)
        refine g_iconst X 1 dX0_acts_66 rfl ?_
        exact g_zret X rfl dX0_acts_67 hf
      · refine g_iconst X 0 dX0_acts_34 rfl ?_
        exact g_zret X rfl dX0_acts_35 hf
    · refine g_aload_n X 1 dX0_acts_18 rfl ?_
      refine g_callVi X 0 (As := []) (wfc := wS (gEo Γ) (fun i => ad (i + 6))) (lw_V q648 q649 q650 q65 q651) (by decide +kernel) (fun r_ u_ h_ sz_ => m_X5_tramComes (gl Γ) (gEo Γ) (fun i => ad (i + 6)) (A_s σ) r_ u_ h_ sz_) (rq := 0) rfl rfl rfl rfl rfl ⟨by decide, by decide⟩ rfl (Nat.le_of_ble_eq_true rfl) ⟨Nat.zero_le _, Nat.zero_le _⟩ [6, 7, 8, 9] [0, 1, 2, 3, 4, 5] [0, 1, 2, 3, 4, 5, 6, 7, 8, 9] (fun u13 => wA (gEo Γ) ad (A_s_s σ u13)) rfl rfl rfl rfl (by decide) rfl (fun _ => rfl) dX0_acts_19 hf (fun r12 u13 _ hf => ?_)
      refine g_gs (wA (gEo Γ) ad) hf (fun s14 hf => ?_)
      refine g_pop X dX0_acts_22 rfl ?_
      refine g_goto X 66 dX0_acts_23 rfl ?_
      refine g_iconst X 1 dX0_acts_66 rfl ?_
      exact g_zret X rfl dX0_acts_67 hf
  · refine g_aload_n X 1 dX0_acts_5 rfl ?_
    refine g_callVv X 0 (As := []) (wfc := wS (gEo Γ) (fun i => ad (i + 6))) (lw_V q639 q640 q641 q65 q642) (by decide +kernel) (fun u_ h_ sz_ => m_X5_minuteGoes (gl Γ) (gEo Γ) (fun i => ad (i + 6)) (A_s σ) u_ h_ sz_) (rq := 0) rfl rfl rfl rfl rfl ⟨by decide, by decide⟩ rfl (Nat.le_of_ble_eq_true rfl) ⟨Nat.zero_le _, Nat.zero_le _⟩ [6, 7, 8, 9] [0, 1, 2, 3, 4, 5] [0, 1, 2, 3, 4, 5, 6, 7, 8, 9] (fun u16 => wA (gEo Γ) ad (A_s_s σ u16)) rfl rfl rfl rfl (by decide) rfl (fun _ => rfl) dX0_acts_6 hf (fun u16 _ hf => ?_)
    refine g_gs (wA (gEo Γ) ad) hf (fun s17 hf => ?_)
    refine g_goto X 66 dX0_acts_9 rfl ?_
    refine g_iconst X 1 dX0_acts_66 rfl ?_
    exact g_zret X rfl dX0_acts_67 hf
def f_X0_begins (σ : gO) : Option (gO) :=
  gs (O_xi_s σ (I_weepers_s (O_xi σ) 0)) fun s1 => gs (O_xi_s s1 (I_often_s (O_xi s1) 0)) fun s2 => gs (O_xi_s s2 (I_firstOver_s (O_xi s2) (-4))) fun s3 => some s3
abbrev rm_X0_begins : Room := { frames := 1, cells := 0, slots := 0, locals := 12 }
set_option maxHeartbeats 4000000 in
theorem m_X0_begins (l : Launch) (E : gE) (ad : Nat → Nat) (σ : gO) (u : gO) (hf : f_X0_begins σ = some u) (sz : Nat) : Met l yX0_begins (ws_ yX0_begins cX0_begins 1 none) rm_X0_begins (gPc [.ref (ad 0)] E (wO E ad σ) sz) (gPv E (wO E ad) u (va_A (wO E ad σ) sz)) 0 0 (va_A (wO E ad σ) sz) := by
  refine gMet (Qc := gPv E (wO E ad) u) (by decide) (Nat.le_of_ble_eq_true rfl) (fun Γ X hl hE => ?_)
  subst hl; subst hE
  unfold f_X0_begins at hf
  show gW Γ (gMQ Γ (gPv (gEo Γ) (wO (gEo Γ) ad) u (gAo Γ)) 0 0) (wO (gEo Γ) ad σ) 1 0 0 0 [(0, .ref (ad 0))] []
  refine g_aload_n X 0 dX0_begins_0 rfl ?_
  refine g_iconst X 0 dX0_begins_1 rfl ?_
  refine g_put X in_X0 tyX0_ok nmX0 0 7 (wO (gEo Γ) ad (O_xi_s σ (I_weepers_s (O_xi σ) 0))) rfl rfl (by decide) q186 rfl rfl rfl rfl (Nat.le_of_ble_eq_true rfl) rfl dX0_begins_2 ?_
  refine g_gs (wO (gEo Γ) ad) hf (fun s1 hf => ?_)
  refine g_aload_n X 0 dX0_begins_5 rfl ?_
  refine g_iconst X 0 dX0_begins_6 rfl ?_
  refine g_put X in_X0 tyX0_ok nmX0 0 8 (wO (gEo Γ) ad (O_xi_s s1 (I_often_s (O_xi s1) 0))) rfl rfl (by decide) q187 rfl rfl rfl rfl (Nat.le_of_ble_eq_true rfl) rfl dX0_begins_7 ?_
  refine g_gs (wO (gEo Γ) ad) hf (fun s2 hf => ?_)
  refine g_aload_n X 0 dX0_begins_10 rfl ?_
  refine g_bipush X (-4) dX0_begins_11 rfl ?_
  refine g_put X in_X0 tyX0_ok nmX0 0 9 (wO (gEo Γ) ad (O_xi_s s2 (I_firstOver_s (O_xi s2) (-4)))) rfl rfl (by decide) q188 rfl rfl rfl rfl (Nat.le_of_ble_eq_true rfl) rfl dX0_begins_13 ?_
  refine g_gs (wO (gEo Γ) ad) hf (fun s3 hf => ?_)
  exact g_vret X rfl dX0_begins_16 hf
def f_X0_goes_b66 (k6 : gA → Int32 → Int32 → Option (gA)) (σ : gA) (x2 : Int32) (x3 : Int32) (t0 : Int32) : Option (gA) :=
  gs (A_xi_s σ (I_firstOver_s (A_xi σ) t0)) fun s9 => gv (x3 + 1) fun v10 => k6 s9 x2 v10
def f_X0_goes_b62 (k6 : gA → Int32 → Int32 → Option (gA)) (σ : gA) (x2 : Int32) (x3 : Int32) : Option (gA) :=
  f_X0_goes_b66 k6 σ x2 x3 ((I_firstOver (A_xi σ)))
def f_X0_goes_b41 (k6 : gA → Int32 → Int32 → Option (gA)) (σ : gA) (x2 : Int32) (x3 : Int32) (t0 : Int32) : Option (gA) :=
  if t0 = 0 then (if ((I_firstOver (A_xi σ))) = (-4) then (f_X0_goes_b66 k6 σ x2 x3 x3) else (f_X0_goes_b62 k6 σ x2 x3)) else (f_X0_goes_b62 k6 σ x2 x3)
def f_X0_goes_b36 (k6 : gA → Int32 → Int32 → Option (gA)) (σ : gA) (x2 : Int32) (x3 : Int32) : Option (gA) :=
  f_X0_goes_b41 k6 σ x2 x3 1
def f_X0_goes_b6 : Nat → gA → Int32 → Int32 → Option (gA)
  | 0 => fun _ _ _ => none
  | n_ + 1 => fun σ x2 x3 =>
    if ((S_planned (A_s σ))) ≤ x3 then (some σ) else ((f_X0_has x2 x3).bind fun (r4, _) => if r4 = 0 then (gld 8 (S_plan (A_s σ)) x3 fun v6 => (f_X0_acts σ v6).bind fun (r7, u8) => if r7 = 0 then (f_X0_goes_b41 (f_X0_goes_b6 n_) u8 x2 x3 0) else (f_X0_goes_b36 (f_X0_goes_b6 n_) u8 x2 x3)) else (f_X0_goes_b36 (f_X0_goes_b6 n_) σ x2 x3))
def f_X0_goes (σ : gA) (x2 : Int32) : Option (gA) :=
  (f_X0_begins ((A_xi σ))).bind fun u2 => gs (A_xi_s σ u2) fun s3 => f_X0_goes_b6 20 s3 x2 0
abbrev rm_X0_goes : Room := { frames := 8, cells := 0, slots := 0, locals := 183 }
set_option maxHeartbeats 4000000 in
theorem w_X0_goes_b66 {Γ : gG} {ad : Nat → Nat} {u : gA} (X : gCX Γ cX0_goes 5 none RX0 rm_X0_goes) {k6 : gA → Int32 → Int32 → Option (gA)} (H6 : ∀ (σ : gA) (x2 : Int32) (x3 : Int32), k6 σ x2 x3 = some u → gW Γ (gMQ Γ (gPv (gEo Γ) (wA (gEo Γ) ad) u (gAo Γ)) 0 0) (wA (gEo Γ) ad σ) 5 0 0 6 [(0, .ref (ad 0)), (1, .ref (ad 6)), (2, .int x2), (3, .int x3)] []) : ∀ (σ : gA) (x2 : Int32) (x3 : Int32) (t0 : Int32), f_X0_goes_b66 k6 σ x2 x3 t0 = some u → gW Γ (gMQ Γ (gPv (gEo Γ) (wA (gEo Γ) ad) u (gAo Γ)) 0 0) (wA (gEo Γ) ad σ) 5 0 0 66 [(0, .ref (ad 0)), (1, .ref (ad 6)), (2, .int x2), (3, .int x3)] [.int t0, .ref (ad 0)] := by
  intro σ x2 x3 t0 hf
  unfold f_X0_goes_b66 at hf
  refine g_put X in_X0 tyX0_ok nmX0 0 9 (wA (gEo Γ) ad (A_xi_s σ (I_firstOver_s (A_xi σ) t0))) rfl rfl (by decide) q188 rfl rfl rfl rfl (Nat.le_of_ble_eq_true rfl) rfl dX0_goes_66 ?_
  refine g_gs (wA (gEo Γ) ad) hf (fun s9 hf => ?_)
  refine g_iincV X 1 3 (fun v10 => [(3, .int v10), (0, .ref (ad 0)), (1, .ref (ad 6)), (2, .int x2)]) dX0_goes_69 rfl rfl (by decide) (fun _ => rfl) hf (fun v10 hf => ?_)
  refine g_goto X 6 dX0_goes_72 rfl ?_
  refine g_sub [1, 2, 3, 0] [(0, .ref (ad 0)), (1, .ref (ad 6)), (2, .int x2), (3, .int v10)] rfl ?_
  exact H6 s9 x2 v10 hf
set_option maxHeartbeats 4000000 in
theorem w_X0_goes_b62 {Γ : gG} {ad : Nat → Nat} {u : gA} (X : gCX Γ cX0_goes 5 none RX0 rm_X0_goes) {k6 : gA → Int32 → Int32 → Option (gA)} (H6 : ∀ (σ : gA) (x2 : Int32) (x3 : Int32), k6 σ x2 x3 = some u → gW Γ (gMQ Γ (gPv (gEo Γ) (wA (gEo Γ) ad) u (gAo Γ)) 0 0) (wA (gEo Γ) ad σ) 5 0 0 6 [(0, .ref (ad 0)), (1, .ref (ad 6)), (2, .int x2), (3, .int x3)] []) : ∀ (σ : gA) (x2 : Int32) (x3 : Int32), f_X0_goes_b62 k6 σ x2 x3 = some u → gW Γ (gMQ Γ (gPv (gEo Γ) (wA (gEo Γ) ad) u (gAo Γ)) 0 0) (wA (gEo Γ) ad σ) 5 0 0 62 [(0, .ref (ad 0)), (1, .ref (ad 6)), (2, .int x2), (3, .int x3)] [.ref (ad 0)] := by
  intro σ x2 x3 hf
  unfold f_X0_goes_b62 at hf
  refine g_aload_n X 0 dX0_goes_62 rfl ?_
  refine g_get X in_X0 0 9 rfl rfl (by decide) q188 rfl dX0_goes_63 ?_
  exact w_X0_goes_b66 X H6 σ x2 x3 ((I_firstOver (A_xi σ))) hf
set_option maxHeartbeats 4000000 in
theorem w_X0_goes_b41 {Γ : gG} {ad : Nat → Nat} {u : gA} (X : gCX Γ cX0_goes 5 none RX0 rm_X0_goes) {k6 : gA → Int32 → Int32 → Option (gA)} (H6 : ∀ (σ : gA) (x2 : Int32) (x3 : Int32), k6 σ x2 x3 = some u → gW Γ (gMQ Γ (gPv (gEo Γ) (wA (gEo Γ) ad) u (gAo Γ)) 0 0) (wA (gEo Γ) ad σ) 5 0 0 6 [(0, .ref (ad 0)), (1, .ref (ad 6)), (2, .int x2), (3, .int x3)] []) : ∀ (σ : gA) (x2 : Int32) (x3 : Int32) (t0 : Int32), f_X0_goes_b41 k6 σ x2 x3 t0 = some u → gW Γ (gMQ Γ (gPv (gEo Γ) (wA (gEo Γ) ad) u (gAo Γ)) 0 0) (wA (gEo Γ) ad σ) 5 0 0 41 [(0, .ref (ad 0)), (1, .ref (ad 6)), (2, .int x2), (3, .int x3)] [.int t0] := by
  intro σ x2 x3 t0 hf
  unfold f_X0_goes_b41 at hf
  refine g_istore X [(4, .int t0), (0, .ref (ad 0)), (1, .ref (ad 6)), (2, .int x2), (3, .int x3)] dX0_goes_41 (by decide) rfl ?_
  refine g_aload_n X 1 dX0_goes_43 rfl ?_
  refine g_iload X 0 dX0_goes_44 rfl ?_
  refine g_if_ne X 62 dX0_goes_46 rfl hf (fun hf => ?_) (fun hf => ?_)
  · refine g_sub [1, 2, 3, 4] [(0, .ref (ad 0)), (1, .ref (ad 6)), (2, .int x2), (3, .int x3)] rfl ?_
    exact w_X0_goes_b62 X H6 σ x2 x3 hf
  · refine g_aload_n X 1 dX0_goes_49 rfl ?_
    refine g_get X in_X0 0 9 rfl rfl (by decide) q188 rfl dX0_goes_50 ?_
    refine g_bipush X (-4) dX0_goes_53 rfl ?_
    refine g_icmp_ne X 62 dX0_goes_55 rfl hf (fun hf => ?_) (fun hf => ?_)
    · refine g_sub [1, 2, 3, 4] [(0, .ref (ad 0)), (1, .ref (ad 6)), (2, .int x2), (3, .int x3)] rfl ?_
      exact w_X0_goes_b62 X H6 σ x2 x3 hf
    · refine g_iload_n X 4 dX0_goes_58 rfl ?_
      refine g_goto X 66 dX0_goes_59 rfl ?_
      refine g_sub [1, 2, 3, 4] [(0, .ref (ad 0)), (1, .ref (ad 6)), (2, .int x2), (3, .int x3)] rfl ?_
      exact w_X0_goes_b66 X H6 σ x2 x3 x3 hf
set_option maxHeartbeats 4000000 in
theorem w_X0_goes_b36 {Γ : gG} {ad : Nat → Nat} {u : gA} (X : gCX Γ cX0_goes 5 none RX0 rm_X0_goes) {k6 : gA → Int32 → Int32 → Option (gA)} (H6 : ∀ (σ : gA) (x2 : Int32) (x3 : Int32), k6 σ x2 x3 = some u → gW Γ (gMQ Γ (gPv (gEo Γ) (wA (gEo Γ) ad) u (gAo Γ)) 0 0) (wA (gEo Γ) ad σ) 5 0 0 6 [(0, .ref (ad 0)), (1, .ref (ad 6)), (2, .int x2), (3, .int x3)] []) : ∀ (σ : gA) (x2 : Int32) (x3 : Int32), f_X0_goes_b36 k6 σ x2 x3 = some u → gW Γ (gMQ Γ (gPv (gEo Γ) (wA (gEo Γ) ad) u (gAo Γ)) 0 0) (wA (gEo Γ) ad σ) 5 0 0 36 [(0, .ref (ad 0)), (1, .ref (ad 6)), (2, .int x2), (3, .int x3)] [] := by
  intro σ x2 x3 hf
  unfold f_X0_goes_b36 at hf
  refine g_iconst X 1 dX0_goes_36 rfl ?_
  refine g_goto X 41 dX0_goes_37 rfl ?_
  exact w_X0_goes_b41 X H6 σ x2 x3 1 hf
set_option maxHeartbeats 4000000 in
theorem w_X0_goes_b6 {Γ : gG} {ad : Nat → Nat} {u : gA} (X : gCX Γ cX0_goes 5 none RX0 rm_X0_goes) : ∀ (n_ : Nat) (σ : gA) (x2 : Int32) (x3 : Int32), f_X0_goes_b6 n_ σ x2 x3 = some u → gW Γ (gMQ Γ (gPv (gEo Γ) (wA (gEo Γ) ad) u (gAo Γ)) 0 0) (wA (gEo Γ) ad σ) 5 0 0 6 [(0, .ref (ad 0)), (1, .ref (ad 6)), (2, .int x2), (3, .int x3)] [] := by
  intro n_
  induction n_ with
  | zero => intro σ x2 x3 hf; cases hf
  | succ n_ ih =>
    intro σ x2 x3 hf
    simp only [f_X0_goes_b6] at hf
    refine g_iload_n X 3 dX0_goes_6 rfl ?_
    refine g_aload_n X 1 dX0_goes_7 rfl ?_
    refine g_getN X in_X5 6 6 rfl rfl (by decide) 5 rfl rfl dX0_goes_8 ?_
    refine g_icmp_ge X 75 dX0_goes_11 rfl hf (fun hf => ?_) (fun hf => ?_)
    · exact g_vret X rfl dX0_goes_75 hf
    · refine g_iload_n X 2 dX0_goes_14 rfl ?_
      refine g_iload_n X 3 dX0_goes_15 rfl ?_
      refine g_call0i X 2 (As := [.int x2, .int x3]) (lw_S q628 q460 q60 q461) (by decide +kernel) (fun r_ u_ h_ sz_ => m_X0_has (gl Γ) (gEo Γ) x2 x3 r_ u_ h_ sz_) rfl rfl ⟨by decide, by decide⟩ rfl (Nat.le_of_ble_eq_true rfl) ⟨Nat.zero_le _, Nat.zero_le _⟩ dX0_goes_16 hf (fun r4 _ hf => ?_)
      refine g_if_ne X 36 dX0_goes_19 rfl hf (fun hf => ?_) (fun hf => ?_)
      · exact w_X0_goes_b36 X ih σ x2 x3 hf
      · refine g_aload_n X 0 dX0_goes_22 rfl ?_
        refine g_aload_n X 1 dX0_goes_23 rfl ?_
        refine g_aload_n X 1 dX0_goes_24 rfl ?_
        refine g_getN X in_X5 6 7 rfl rfl (by decide) 6 rfl rfl dX0_goes_25 ?_
        refine g_iload_n X 3 dX0_goes_28 rfl ?_
        refine g_bald X 9 rfl dX0_goes_29 hf (fun v6 hf => ?_)
        refine g_callVi X 2 (As := [.ref (ad 6), .int v6]) (wfc := wA (gEo Γ) ad) (lw_V q683 q685 qs19 q60 q686) (by decide +kernel) (fun r_ u_ h_ sz_ => m_X0_acts (gl Γ) (gEo Γ) ad σ v6 r_ u_ h_ sz_) (rq := 0) rfl rfl rfl rfl rfl ⟨by decide, by decide⟩ rfl (Nat.le_of_ble_eq_true rfl) ⟨Nat.zero_le _, Nat.zero_le _⟩ [0, 1, 2, 3, 4, 5, 6, 7, 8, 9] [] [0, 1, 2, 3, 4, 5, 6, 7, 8, 9] (fun u8 => wA (gEo Γ) ad u8) rfl rfl rfl rfl (by decide) rfl (fun _ => rfl) dX0_goes_30 hf (fun r7 u8 _ hf => ?_)
        refine g_if_eq X 40 dX0_goes_33 rfl hf (fun hf => ?_) (fun hf => ?_)
        · refine g_iconst X 0 dX0_goes_40 rfl ?_
          exact w_X0_goes_b41 X ih u8 x2 x3 0 hf
        · exact w_X0_goes_b36 X ih u8 x2 x3 hf
set_option maxHeartbeats 4000000 in
theorem m_X0_goes (l : Launch) (E : gE) (ad : Nat → Nat) (σ : gA) (x2 : Int32) (u : gA) (hf : f_X0_goes σ x2 = some u) (sz : Nat) : Met l yX0_goes (ws_ yX0_goes cX0_goes 5 none) rm_X0_goes (gPc [.ref (ad 0), .ref (ad 6), .int x2] E (wA E ad σ) sz) (gPv E (wA E ad) u (va_A (wA E ad σ) sz)) 0 0 (va_A (wA E ad σ) sz) := by
  refine gMet (Qc := gPv E (wA E ad) u) (by decide) (Nat.le_of_ble_eq_true rfl) (fun Γ X hl hE => ?_)
  subst hl; subst hE
  unfold f_X0_goes at hf
  show gW Γ (gMQ Γ (gPv (gEo Γ) (wA (gEo Γ) ad) u (gAo Γ)) 0 0) (wA (gEo Γ) ad σ) 5 0 0 0 [(0, .ref (ad 0)), (1, .ref (ad 6)), (2, .int x2)] []
  refine g_aload_n X 0 dX0_goes_0 rfl ?_
  refine g_callVv X 0 (As := []) (wfc := wO (gEo Γ) (fun i => ad ([0, 1, 10, 11, 12, 13, 14, 15, 16].getD i 0))) (lw_V q679 q681 qs18 q60 q682) (by decide +kernel) (fun u_ h_ sz_ => m_X0_begins (gl Γ) (gEo Γ) (fun i => ad ([0, 1, 10, 11, 12, 13, 14, 15, 16].getD i 0)) ((A_xi σ)) u_ h_ sz_) (rq := 0) rfl rfl rfl rfl rfl ⟨by decide, by decide⟩ rfl (Nat.le_of_ble_eq_true rfl) ⟨Nat.zero_le _, Nat.zero_le _⟩ [0] [1, 2, 3, 4, 5, 6, 7, 8, 9] [9, 0, 1, 2, 3, 4, 5, 6, 7, 8] (fun u2 => wA (gEo Γ) ad (A_xi_s σ u2)) rfl rfl rfl rfl (by decide) rfl (fun _ => rfl) dX0_goes_1 hf (fun u2 _ hf => ?_)
  refine g_gs (wA (gEo Γ) ad) hf (fun s3 hf => ?_)
  refine g_iconst X 0 dX0_goes_4 rfl ?_
  refine g_istore_n X [(3, .int 0), (0, .ref (ad 0)), (1, .ref (ad 6)), (2, .int x2)] dX0_goes_5 (by decide) rfl ?_
  refine g_sub [1, 2, 3, 0] [(0, .ref (ad 0)), (1, .ref (ad 6)), (2, .int x2), (3, .int 0)] rfl ?_
  exact w_X0_goes_b6 X 20 s3 x2 0 hf
def f_X0_runs (σ : gX) (x1 : Int32) : Option (Int32 × gX) :=
  (f_X0_in (x1.toInt64) 0 4).bind fun (r1, _) => if r1 = 0 then (some ((-1), σ)) else ((f_X5_as ((X_tried σ), (X_now σ))).bind fun u4 => gs (X_now_s (X_tried_s σ u4.1) u4.2) fun s5 => (f_X0_goes ((X_xi s5), (X_tried s5)) 0).bind fun u7 => gs (X_tried_s (X_xi_s s5 u7.1) u7.2) fun s8 => if x1 = 0 then ((f_X5_gone (X_tried s8)).bind fun (r12, u13) => gs (X_tried_s s8 u13) fun s14 => some (r12, s14)) else (if x1 = 1 then (some ((I_weepers (X_xi s8)), s8)) else (if x1 = 2 then (some ((I_often (X_xi s8)), s8)) else (if x1 = 3 then (some ((I_firstOver (X_xi s8)), s8)) else ((f_X5_sorrow (X_tried s8)).bind fun (r9, u10) => gs (X_tried_s s8 u10) fun s11 => some (r9, s11))))))
abbrev rm_X0_runs : Room := { frames := 9, cells := 0, slots := 0, locals := 207 }
set_option maxHeartbeats 4000000 in
theorem m_X0_runs (l : Launch) (E : gE) (ad : Nat → Nat) (σ : gX) (x1 : Int32) (r : Int32) (u : gX) (hf : f_X0_runs σ x1 = some (r, u)) (sz : Nat) : Met l yX0_runs (ws_ yX0_runs cX0_runs 2 (some .int)) rm_X0_runs (gPc [.ref (ad 0), .int x1] E (wX E ad σ) sz) (gPi E (wX E ad) r u (va_A (wX E ad σ) sz)) 0 0 (va_A (wX E ad σ) sz) := by
  refine gMet (Qc := gPi E (wX E ad) r u) (by decide) (Nat.le_of_ble_eq_true rfl) (fun Γ X hl hE => ?_)
  subst hl; subst hE
  unfold f_X0_runs at hf
  show gW Γ (gMQ Γ (gPi (gEo Γ) (wX (gEo Γ) ad) r u (gAo Γ)) 0 0) (wX (gEo Γ) ad σ) 2 0 0 0 [(0, .ref (ad 0)), (1, .int x1)] []
  refine g_iload_n X 1 dX0_runs_0 rfl ?_
  refine g_i2l X dX0_runs_1 ?_
  refine g_lconst X 0 dX0_runs_2 rfl ?_
  refine g_ldc2 X dX0_runs_3 q555 ?_
  refine g_call0i X 3 (As := [.long (x1.toInt64), .long 0, .long 4]) (lw_S q243 q244 q60 q245) (by decide +kernel) (fun r_ u_ h_ sz_ => m_X0_in (gl Γ) (gEo Γ) (x1.toInt64) 0 4 r_ u_ h_ sz_) rfl rfl ⟨by decide, by decide⟩ rfl (Nat.le_of_ble_eq_true rfl) ⟨Nat.zero_le _, Nat.zero_le _⟩ dX0_runs_6 hf (fun r1 _ hf => ?_)
  refine g_if_ne X 14 dX0_runs_9 rfl hf (fun hf => ?_) (fun hf => ?_)
  · refine g_aload_n X 0 dX0_runs_14 rfl ?_
    refine g_get X in_X0 0 2 rfl rfl (by decide) q181 rfl dX0_runs_15 ?_
    refine g_aload_n X 0 dX0_runs_18 rfl ?_
    refine g_get X in_X0 0 1 rfl rfl (by decide) q180 rfl dX0_runs_19 ?_
    refine g_callVv X 1 (As := [.ref (ad 6)]) (wfc := wSS (gEo Γ) (fun i => ad ([10, 11, 12, 13, 6, 7, 8, 9].getD i 0))) (lw_V q486 q487 q488 q65 q489) (by decide +kernel) (fun u_ h_ sz_ => m_X5_as (gl Γ) (gEo Γ) (fun i => ad ([10, 11, 12, 13, 6, 7, 8, 9].getD i 0)) ((X_tried σ), (X_now σ)) u_ h_ sz_) (rq := 0) rfl rfl rfl rfl rfl ⟨by decide, by decide⟩ rfl (Nat.le_of_ble_eq_true rfl) ⟨Nat.zero_le _, Nat.zero_le _⟩ [10, 11, 12, 13, 6, 7, 8, 9] [0, 1, 2, 3, 4, 5, 14, 15, 16, 17, 18, 19, 20, 21, 22, 23, 24, 25, 26, 27, 28, 29, 30] [0, 1, 2, 3, 4, 5, 27, 28, 29, 30, 23, 24, 25, 26, 6, 7, 8, 9, 10, 11, 12, 13, 14, 15, 16, 17, 18, 19, 20, 21, 22] (fun u4 => wX (gEo Γ) ad (X_now_s (X_tried_s σ u4.1) u4.2)) rfl rfl rfl rfl (by decide) rfl (fun _ => rfl) dX0_runs_22 hf (fun u4 _ hf => ?_)
    refine g_gs (wX (gEo Γ) ad) hf (fun s5 hf => ?_)
    refine g_aload_n X 0 dX0_runs_25 rfl ?_
    refine g_aload_n X 0 dX0_runs_26 rfl ?_
    refine g_get X in_X0 0 2 rfl rfl (by decide) q181 rfl dX0_runs_27 ?_
    refine g_iconst X 0 dX0_runs_30 rfl ?_
    refine g_callVv X 2 (As := [.ref (ad 10), .int 0]) (wfc := wA (gEo Γ) (fun i => ad ([0, 1, 2, 3, 4, 5, 10, 11, 12, 13, 6, 10, 14, 23, 24, 25, 26].getD i 0))) (lw_V q675 q677 qs17 q60 q678) (by decide +kernel) (fun u_ h_ sz_ => m_X0_goes (gl Γ) (gEo Γ) (fun i => ad ([0, 1, 2, 3, 4, 5, 10, 11, 12, 13, 6, 10, 14, 23, 24, 25, 26].getD i 0)) ((X_xi s5), (X_tried s5)) 0 u_ h_ sz_) (rq := 0) rfl rfl rfl rfl rfl ⟨by decide, by decide⟩ rfl (Nat.le_of_ble_eq_true rfl) ⟨Nat.zero_le _, Nat.zero_le _⟩ [0, 1, 2, 3, 4, 5, 10, 11, 12, 13] [6, 7, 8, 9, 14, 15, 16, 17, 18, 19, 20, 21, 22, 23, 24, 25, 26, 27, 28, 29, 30] [21, 22, 23, 24, 25, 26, 0, 1, 2, 3, 27, 28, 29, 30, 4, 5, 6, 7, 8, 9, 10, 11, 12, 13, 14, 15, 16, 17, 18, 19, 20] (fun u7 => wX (gEo Γ) ad (X_tried_s (X_xi_s s5 u7.1) u7.2)) rfl rfl rfl rfl (by decide) rfl (fun _ => rfl) dX0_runs_31 hf (fun u7 _ hf => ?_)
    refine g_gs (wX (gEo Γ) ad) hf (fun s8 hf => ?_)
    refine g_iload_n X 1 dX0_runs_34 rfl ?_
    refine g_if_ne X 48 dX0_runs_35 rfl hf (fun hf => ?_) (fun hf => ?_)
    · refine g_iload_n X 1 dX0_runs_48 rfl ?_
      refine g_iconst X 1 dX0_runs_49 rfl ?_
      refine g_icmp_ne X 60 dX0_runs_50 rfl hf (fun hf => ?_) (fun hf => ?_)
      · refine g_iload_n X 1 dX0_runs_60 rfl ?_
        refine g_iconst X 2 dX0_runs_61 rfl ?_
        refine g_icmp_ne X 72 dX0_runs_62 rfl hf (fun hf => ?_) (fun hf => ?_)
        · refine g_iload_n X 1 dX0_runs_72 rfl ?_
          refine g_iconst X 3 dX0_runs_73 rfl ?_
          refine g_icmp_ne X 84 dX0_runs_74 rfl hf (fun hf => ?_) (fun hf => ?_)
          · refine g_aload_n X 0 dX0_runs_84 rfl ?_
            refine g_get X in_X0 0 2 rfl rfl (by decide) q181 rfl dX0_runs_85 ?_
            refine g_callVi X 0 (As := []) (wfc := wS (gEo Γ) (fun i => ad (i + 10))) (lw_V q513 q514 q515 q65 q516) (by decide +kernel) (fun r_ u_ h_ sz_ => m_X5_sorrow (gl Γ) (gEo Γ) (fun i => ad (i + 10)) (X_tried s8) r_ u_ h_ sz_) (rq := 0) rfl rfl rfl rfl rfl ⟨by decide, by decide⟩ rfl (Nat.le_of_ble_eq_true rfl) ⟨Nat.zero_le _, Nat.zero_le _⟩ [10, 11, 12, 13] [0, 1, 2, 3, 4, 5, 6, 7, 8, 9, 14, 15, 16, 17, 18, 19, 20, 21, 22, 23, 24, 25, 26, 27, 28, 29, 30] [0, 1, 2, 3, 4, 5, 6, 7, 8, 9, 27, 28, 29, 30, 10, 11, 12, 13, 14, 15, 16, 17, 18, 19, 20, 21, 22, 23, 24, 25, 26] (fun u10 => wX (gEo Γ) ad (X_tried_s s8 u10)) rfl rfl rfl rfl (by decide) rfl (fun _ => rfl) dX0_runs_88 hf (fun r9 u10 _ hf => ?_)
            refine g_gs (wX (gEo Γ) ad) hf (fun s11 hf => ?_)
            exact g_iret X rfl dX0_runs_91 hf
          · refine g_aload_n X 0 dX0_runs_77 rfl ?_
            refine g_get X in_X0 0 9 rfl rfl (by decide) q188 rfl dX0_runs_78 ?_
            refine g_goto X 91 dX0_runs_81 rfl ?_
            exact g_iret X rfl dX0_runs_91 hf
        · refine g_aload_n X 0 dX0_runs_65 rfl ?_
          refine g_get X in_X0 0 8 rfl rfl (by decide) q187 rfl dX0_runs_66 ?_
          refine g_goto X 91 dX0_runs_69 rfl ?_
          exact g_iret X rfl dX0_runs_91 hf
      · refine g_aload_n X 0 dX0_runs_53 rfl ?_
        refine g_get X in_X0 0 7 rfl rfl (by decide) q186 rfl dX0_runs_54 ?_
        refine g_goto X 91 dX0_runs_57 rfl ?_
        exact g_iret X rfl dX0_runs_91 hf
    · refine g_aload_n X 0 dX0_runs_38 rfl ?_
      refine g_get X in_X0 0 2 rfl rfl (by decide) q181 rfl dX0_runs_39 ?_
      refine g_callVi X 0 (As := []) (wfc := wS (gEo Γ) (fun i => ad (i + 10))) (lw_V q661 q662 q663 q65 q664) (by decide +kernel) (fun r_ u_ h_ sz_ => m_X5_gone (gl Γ) (gEo Γ) (fun i => ad (i + 10)) (X_tried s8) r_ u_ h_ sz_) (rq := 0) rfl rfl rfl rfl rfl ⟨by decide, by decide⟩ rfl (Nat.le_of_ble_eq_true rfl) ⟨Nat.zero_le _, Nat.zero_le _⟩ [10, 11, 12, 13] [0, 1, 2, 3, 4, 5, 6, 7, 8, 9, 14, 15, 16, 17, 18, 19, 20, 21, 22, 23, 24, 25, 26, 27, 28, 29, 30] [0, 1, 2, 3, 4, 5, 6, 7, 8, 9, 27, 28, 29, 30, 10, 11, 12, 13, 14, 15, 16, 17, 18, 19, 20, 21, 22, 23, 24, 25, 26] (fun u13 => wX (gEo Γ) ad (X_tried_s s8 u13)) rfl rfl rfl rfl (by decide) rfl (fun _ => rfl) dX0_runs_42 hf (fun r12 u13 _ hf => ?_)
      refine g_gs (wX (gEo Γ) ad) hf (fun s14 hf => ?_)
      refine g_goto X 91 dX0_runs_45 rfl ?_
      exact g_iret X rfl dX0_runs_91 hf
  · refine g_iconst X (-1) dX0_runs_12 rfl ?_
    exact g_iret X rfl dX0_runs_13 hf
def f_X0_ahead (σ : gX) (x1 : Int32) (x2 : Int32) : Option (Int32 × gX) :=
  (f_X0_isOne σ x1).bind fun (r1, u2) => if r1 = 0 then (some ((-1), u2)) else ((f_X0_isPart x2).bind fun (r3, _) => if r3 = 0 then (some ((-1), u2)) else ((f_X5_as ((X_tried u2), (X_now u2))).bind fun u6 => gs (X_now_s (X_tried_s u2 u6.1) u6.2) fun s7 => (f_X0_goes ((X_xi s7), (X_tried s7)) 0).bind fun u9 => gs (X_tried_s (X_xi_s s7 u9.1) u9.2) fun s10 => if x2 = 0 then ((f_X5_of (X_tried s10) x1 1).bind fun (r12, u13) => gs (X_tried_s s10 u13) fun s14 => some (r12, s14)) else (gld 5 (S_wept (X_tried s10)) x1 fun v11 => some (v11, s10))))
abbrev rm_X0_ahead : Room := { frames := 9, cells := 0, slots := 0, locals := 207 }
set_option maxHeartbeats 4000000 in
theorem m_X0_ahead (l : Launch) (E : gE) (ad : Nat → Nat) (σ : gX) (x1 : Int32) (x2 : Int32) (r : Int32) (u : gX) (hf : f_X0_ahead σ x1 x2 = some (r, u)) (sz : Nat) : Met l yX0_ahead (ws_ yX0_ahead cX0_ahead 3 (some .int)) rm_X0_ahead (gPc [.ref (ad 0), .int x1, .int x2] E (wX E ad σ) sz) (gPi E (wX E ad) r u (va_A (wX E ad σ) sz)) 0 0 (va_A (wX E ad σ) sz) := by
  refine gMet (Qc := gPi E (wX E ad) r u) (by decide) (Nat.le_of_ble_eq_true rfl) (fun Γ X hl hE => ?_)
  subst hl; subst hE
  unfold f_X0_ahead at hf
  show gW Γ (gMQ Γ (gPi (gEo Γ) (wX (gEo Γ) ad) r u (gAo Γ)) 0 0) (wX (gEo Γ) ad σ) 3 0 0 0 [(0, .ref (ad 0)), (1, .int x1), (2, .int x2)] []
  refine g_aload_n X 0 dX0_ahead_0 rfl ?_
  refine g_iload_n X 1 dX0_ahead_1 rfl ?_
  refine g_callVi X 1 (As := [.int x1]) (wfc := wX (gEo Γ) ad) (lw_V q521 q523 qs12 q60 q524) (by decide +kernel) (fun r_ u_ h_ sz_ => m_X0_isOne (gl Γ) (gEo Γ) ad σ x1 r_ u_ h_ sz_) (rq := 0) rfl rfl rfl rfl rfl ⟨by decide, by decide⟩ rfl (Nat.le_of_ble_eq_true rfl) ⟨Nat.zero_le _, Nat.zero_le _⟩ [0, 1, 2, 3, 4, 5, 6, 7, 8, 9, 10, 11, 12, 13, 14, 15, 16, 17, 18, 19, 20, 21, 22, 23, 24, 25, 26, 27, 28, 29, 30] [] [0, 1, 2, 3, 4, 5, 6, 7, 8, 9, 10, 11, 12, 13, 14, 15, 16, 17, 18, 19, 20, 21, 22, 23, 24, 25, 26, 27, 28, 29, 30] (fun u2 => wX (gEo Γ) ad u2) rfl rfl rfl rfl (by decide) rfl (fun _ => rfl) dX0_ahead_2 hf (fun r1 u2 _ hf => ?_)
  refine g_if_eq X 15 dX0_ahead_5 rfl hf (fun hf => ?_) (fun hf => ?_)
  · refine g_iconst X (-1) dX0_ahead_15 rfl ?_
    exact g_iret X rfl dX0_ahead_16 hf
  · refine g_iload_n X 2 dX0_ahead_8 rfl ?_
    refine g_call0i X 1 (As := [.int x2]) (lw_S q579 q580 q60 q581) (by decide +kernel) (fun r_ u_ h_ sz_ => m_X0_isPart (gl Γ) (gEo Γ) x2 r_ u_ h_ sz_) rfl rfl ⟨by decide, by decide⟩ rfl (Nat.le_of_ble_eq_true rfl) ⟨Nat.zero_le _, Nat.zero_le _⟩ dX0_ahead_9 hf (fun r3 _ hf => ?_)
    refine g_if_ne X 17 dX0_ahead_12 rfl hf (fun hf => ?_) (fun hf => ?_)
    · refine g_aload_n X 0 dX0_ahead_17 rfl ?_
      refine g_get X in_X0 0 2 rfl rfl (by decide) q181 rfl dX0_ahead_18 ?_
      refine g_aload_n X 0 dX0_ahead_21 rfl ?_
      refine g_get X in_X0 0 1 rfl rfl (by decide) q180 rfl dX0_ahead_22 ?_
      refine g_callVv X 1 (As := [.ref (ad 6)]) (wfc := wSS (gEo Γ) (fun i => ad ([10, 11, 12, 13, 6, 7, 8, 9].getD i 0))) (lw_V q486 q487 q488 q65 q489) (by decide +kernel) (fun u_ h_ sz_ => m_X5_as (gl Γ) (gEo Γ) (fun i => ad ([10, 11, 12, 13, 6, 7, 8, 9].getD i 0)) ((X_tried u2), (X_now u2)) u_ h_ sz_) (rq := 0) rfl rfl rfl rfl rfl ⟨by decide, by decide⟩ rfl (Nat.le_of_ble_eq_true rfl) ⟨Nat.zero_le _, Nat.zero_le _⟩ [10, 11, 12, 13, 6, 7, 8, 9] [0, 1, 2, 3, 4, 5, 14, 15, 16, 17, 18, 19, 20, 21, 22, 23, 24, 25, 26, 27, 28, 29, 30] [0, 1, 2, 3, 4, 5, 27, 28, 29, 30, 23, 24, 25, 26, 6, 7, 8, 9, 10, 11, 12, 13, 14, 15, 16, 17, 18, 19, 20, 21, 22] (fun u6 => wX (gEo Γ) ad (X_now_s (X_tried_s u2 u6.1) u6.2)) rfl rfl rfl rfl (by decide) rfl (fun _ => rfl) dX0_ahead_25 hf (fun u6 _ hf => ?_)
      refine g_gs (wX (gEo Γ) ad) hf (fun s7 hf => ?_)
      refine g_aload_n X 0 dX0_ahead_28 rfl ?_
      refine g_aload_n X 0 dX0_ahead_29 rfl ?_
      refine g_get X in_X0 0 2 rfl rfl (by decide) q181 rfl dX0_ahead_30 ?_
      refine g_iconst X 0 dX0_ahead_33 rfl ?_
      refine g_callVv X 2 (As := [.ref (ad 10), .int 0]) (wfc := wA (gEo Γ) (fun i => ad ([0, 1, 2, 3, 4, 5, 10, 11, 12, 13, 6, 10, 14, 23, 24, 25, 26].getD i 0))) (lw_V q675 q677 qs17 q60 q678) (by decide +kernel) (fun u_ h_ sz_ => m_X0_goes (gl Γ) (gEo Γ) (fun i => ad ([0, 1, 2, 3, 4, 5, 10, 11, 12, 13, 6, 10, 14, 23, 24, 25, 26].getD i 0)) ((X_xi s7), (X_tried s7)) 0 u_ h_ sz_) (rq := 0) rfl rfl rfl rfl rfl ⟨by decide, by decide⟩ rfl (Nat.le_of_ble_eq_true rfl) ⟨Nat.zero_le _, Nat.zero_le _⟩ [0, 1, 2, 3, 4, 5, 10, 11, 12, 13] [6, 7, 8, 9, 14, 15, 16, 17, 18, 19, 20, 21, 22, 23, 24, 25, 26, 27, 28, 29, 30] [21, 22, 23, 24, 25, 26, 0, 1, 2, 3, 27, 28, 29, 30, 4, 5, 6, 7, 8, 9, 10, 11, 12, 13, 14, 15, 16, 17, 18, 19, 20] (fun u9 => wX (gEo Γ) ad (X_tried_s (X_xi_s s7 u9.1) u9.2)) rfl rfl rfl rfl (by decide) rfl (fun _ => rfl) dX0_ahead_34 hf (fun u9 _ hf => ?_)
      refine g_gs (wX (gEo Γ) ad) hf (fun s10 hf => ?_)
      refine g_iload_n X 2 dX0_ahead_37 rfl ?_
      refine g_if_ne X 53 dX0_ahead_38 rfl hf (fun hf => ?_) (fun hf => ?_)
      · refine g_aload_n X 0 dX0_ahead_53 rfl ?_
        refine g_get X in_X0 0 2 rfl rfl (by decide) q181 rfl dX0_ahead_54 ?_
        refine g_getN X in_X5 10 2 rfl rfl (by decide) 1 rfl rfl dX0_ahead_57 ?_
        refine g_iload_n X 1 dX0_ahead_60 rfl ?_
        refine g_sald X 12 rfl dX0_ahead_61 hf (fun v11 hf => ?_)
        exact g_iret X rfl dX0_ahead_62 hf
      · refine g_aload_n X 0 dX0_ahead_41 rfl ?_
        refine g_get X in_X0 0 2 rfl rfl (by decide) q181 rfl dX0_ahead_42 ?_
        refine g_iload_n X 1 dX0_ahead_45 rfl ?_
        refine g_iconst X 1 dX0_ahead_46 rfl ?_
        refine g_callVi X 2 (As := [.int x1, .int 1]) (wfc := wS (gEo Γ) (fun i => ad (i + 10))) (lw_V q525 q510 q511 q65 q512) (by decide +kernel) (fun r_ u_ h_ sz_ => m_X5_of (gl Γ) (gEo Γ) (fun i => ad (i + 10)) (X_tried s10) x1 1 r_ u_ h_ sz_) (rq := 0) rfl rfl rfl rfl rfl ⟨by decide, by decide⟩ rfl (Nat.le_of_ble_eq_true rfl) ⟨Nat.zero_le _, Nat.zero_le _⟩ [10, 11, 12, 13] [0, 1, 2, 3, 4, 5, 6, 7, 8, 9, 14, 15, 16, 17, 18, 19, 20, 21, 22, 23, 24, 25, 26, 27, 28, 29, 30] [0, 1, 2, 3, 4, 5, 6, 7, 8, 9, 27, 28, 29, 30, 10, 11, 12, 13, 14, 15, 16, 17, 18, 19, 20, 21, 22, 23, 24, 25, 26] (fun u13 => wX (gEo Γ) ad (X_tried_s s10 u13)) rfl rfl rfl rfl (by decide) rfl (fun _ => rfl) dX0_ahead_47 hf (fun r12 u13 _ hf => ?_)
        refine g_gs (wX (gEo Γ) ad) hf (fun s14 hf => ?_)
        refine g_goto X 62 dX0_ahead_50 rfl ?_
        exact g_iret X rfl dX0_ahead_62 hf
    · refine g_iconst X (-1) dX0_ahead_15 rfl ?_
      exact g_iret X rfl dX0_ahead_16 hf
def f_X0_soon_b23 : Nat → gX → Int32 → Int32 → Option (Int32 × gX)
  | 0 => fun _ _ _ => none
  | n_ + 1 => fun σ x1 x2 =>
    if 9 < x2 then (some ((-4), σ)) else ((f_X5_waits (X_tried σ) x1).bind fun (r6, u7) => gs (X_tried_s σ u7) fun s8 => if r6 = 0 then (some ((-4), s8)) else ((f_X5_waiting (X_tried s8)).bind fun (r9, u10) => gs (X_tried_s s8 u10) fun s11 => (f_X5_firstOf (X_tried s11) r9).bind fun (r12, u13) => gs (X_tried_s s11 u13) fun s14 => if r12 = x1 then (some (x2, s14)) else ((f_X0_thinking ((X_xi s14), (X_tried s14)) x1).bind fun (r15, u16) => gs (X_tried_s (X_xi_s s14 u16.1) u16.2) fun s17 => gv (x2 + 1) fun v18 => (f_X0_soon_b23 n_) s17 x1 v18)))
def f_X0_soon (σ : gX) (x1 : Int32) : Option (Int32 × gX) :=
  (f_X0_isOne σ x1).bind fun (r1, u2) => if r1 = 0 then (some ((-1), u2)) else ((f_X5_as ((X_tried u2), (X_now u2))).bind fun u4 => gs (X_now_s (X_tried_s u2 u4.1) u4.2) fun s5 => f_X0_soon_b23 2000 s5 x1 0)
abbrev rm_X0_soon : Room := { frames := 7, cells := 0, slots := 0, locals := 160 }
set_option maxHeartbeats 4000000 in
theorem w_X0_soon_b23 {Γ : gG} {ad : Nat → Nat} {r : Int32} {u : gX} (X : gCX Γ cX0_soon 3 (some .int) RX0 rm_X0_soon) : ∀ (n_ : Nat) (σ : gX) (x1 : Int32) (x2 : Int32), f_X0_soon_b23 n_ σ x1 x2 = some (r, u) → gW Γ (gMQ Γ (gPi (gEo Γ) (wX (gEo Γ) ad) r u (gAo Γ)) 0 0) (wX (gEo Γ) ad σ) 3 0 0 23 [(0, .ref (ad 0)), (1, .int x1), (2, .int x2)] [] := by
  intro n_
  induction n_ with
  | zero => intro σ x1 x2 hf; cases hf
  | succ n_ ih =>
    intro σ x1 x2 hf
    simp only [f_X0_soon_b23] at hf
    refine g_iload_n X 2 dX0_soon_23 rfl ?_
    refine g_bipush X 9 dX0_soon_24 rfl ?_
    refine g_icmp_gt X 76 dX0_soon_26 rfl hf (fun hf => ?_) (fun hf => ?_)
    · refine g_bipush X (-4) dX0_soon_76 rfl ?_
      exact g_iret X rfl dX0_soon_78 hf
    · refine g_aload_n X 0 dX0_soon_29 rfl ?_
      refine g_get X in_X0 0 2 rfl rfl (by decide) q181 rfl dX0_soon_30 ?_
      refine g_iload_n X 1 dX0_soon_33 rfl ?_
      refine g_callVi X 1 (As := [.int x1]) (wfc := wS (gEo Γ) (fun i => ad (i + 10))) (lw_V q611 q506 q507 q65 q508) (by decide +kernel) (fun r_ u_ h_ sz_ => m_X5_waits (gl Γ) (gEo Γ) (fun i => ad (i + 10)) (X_tried σ) x1 r_ u_ h_ sz_) (rq := 0) rfl rfl rfl rfl rfl ⟨by decide, by decide⟩ rfl (Nat.le_of_ble_eq_true rfl) ⟨Nat.zero_le _, Nat.zero_le _⟩ [10, 11, 12, 13] [0, 1, 2, 3, 4, 5, 6, 7, 8, 9, 14, 15, 16, 17, 18, 19, 20, 21, 22, 23, 24, 25, 26, 27, 28, 29, 30] [0, 1, 2, 3, 4, 5, 6, 7, 8, 9, 27, 28, 29, 30, 10, 11, 12, 13, 14, 15, 16, 17, 18, 19, 20, 21, 22, 23, 24, 25, 26] (fun u7 => wX (gEo Γ) ad (X_tried_s σ u7)) rfl rfl rfl rfl (by decide) rfl (fun _ => rfl) dX0_soon_34 hf (fun r6 u7 _ hf => ?_)
      refine g_gs (wX (gEo Γ) ad) hf (fun s8 hf => ?_)
      refine g_if_eq X 76 dX0_soon_37 rfl hf (fun hf => ?_) (fun hf => ?_)
      · refine g_bipush X (-4) dX0_soon_76 rfl ?_
        exact g_iret X rfl dX0_soon_78 hf
      · refine g_aload_n X 0 dX0_soon_40 rfl ?_
        refine g_get X in_X0 0 2 rfl rfl (by decide) q181 rfl dX0_soon_41 ?_
        refine g_aload_n X 0 dX0_soon_44 rfl ?_
        refine g_get X in_X0 0 2 rfl rfl (by decide) q181 rfl dX0_soon_45 ?_
        refine g_callVi X 0 (As := []) (wfc := wS (gEo Γ) (fun i => ad (i + 10))) (lw_V q501 q502 q503 q65 q504) (by decide +kernel) (fun r_ u_ h_ sz_ => m_X5_waiting (gl Γ) (gEo Γ) (fun i => ad (i + 10)) (X_tried s8) r_ u_ h_ sz_) (rq := 0) rfl rfl rfl rfl rfl ⟨by decide, by decide⟩ rfl (Nat.le_of_ble_eq_true rfl) ⟨Nat.zero_le _, Nat.zero_le _⟩ [10, 11, 12, 13] [0, 1, 2, 3, 4, 5, 6, 7, 8, 9, 14, 15, 16, 17, 18, 19, 20, 21, 22, 23, 24, 25, 26, 27, 28, 29, 30] [0, 1, 2, 3, 4, 5, 6, 7, 8, 9, 27, 28, 29, 30, 10, 11, 12, 13, 14, 15, 16, 17, 18, 19, 20, 21, 22, 23, 24, 25, 26] (fun u10 => wX (gEo Γ) ad (X_tried_s s8 u10)) rfl rfl rfl rfl (by decide) rfl (fun _ => rfl) dX0_soon_48 hf (fun r9 u10 _ hf => ?_)
        refine g_gs (wX (gEo Γ) ad) hf (fun s11 hf => ?_)
        refine g_callVi X 1 (As := [.int r9]) (wfc := wS (gEo Γ) (fun i => ad (i + 10))) (lw_V q574 q562 q563 q65 q564) (by decide +kernel) (fun r_ u_ h_ sz_ => m_X5_firstOf (gl Γ) (gEo Γ) (fun i => ad (i + 10)) (X_tried s11) r9 r_ u_ h_ sz_) (rq := 0) rfl rfl rfl rfl rfl ⟨by decide, by decide⟩ rfl (Nat.le_of_ble_eq_true rfl) ⟨Nat.zero_le _, Nat.zero_le _⟩ [10, 11, 12, 13] [0, 1, 2, 3, 4, 5, 6, 7, 8, 9, 14, 15, 16, 17, 18, 19, 20, 21, 22, 23, 24, 25, 26, 27, 28, 29, 30] [0, 1, 2, 3, 4, 5, 6, 7, 8, 9, 27, 28, 29, 30, 10, 11, 12, 13, 14, 15, 16, 17, 18, 19, 20, 21, 22, 23, 24, 25, 26] (fun u13 => wX (gEo Γ) ad (X_tried_s s11 u13)) rfl rfl rfl rfl (by decide) rfl (fun _ => rfl) dX0_soon_51 hf (fun r12 u13 _ hf => ?_)
        refine g_gs (wX (gEo Γ) ad) hf (fun s14 hf => ?_)
        refine g_iload_n X 1 dX0_soon_54 rfl ?_
        refine g_icmp_ne X 60 dX0_soon_55 rfl hf (fun hf => ?_) (fun hf => ?_)
        · refine g_aload_n X 0 dX0_soon_60 rfl ?_
          refine g_aload_n X 0 dX0_soon_61 rfl ?_
          refine g_get X in_X0 0 2 rfl rfl (by decide) q181 rfl dX0_soon_62 ?_
          refine g_iload_n X 1 dX0_soon_65 rfl ?_
          refine g_callVi X 2 (As := [.ref (ad 10), .int x1]) (wfc := wA (gEo Γ) (fun i => ad ([0, 1, 2, 3, 4, 5, 10, 11, 12, 13, 6, 10, 14, 23, 24, 25, 26].getD i 0))) (lw_V q612 q614 qs15 q60 q615) (by decide +kernel) (fun r_ u_ h_ sz_ => m_X0_thinking (gl Γ) (gEo Γ) (fun i => ad ([0, 1, 2, 3, 4, 5, 10, 11, 12, 13, 6, 10, 14, 23, 24, 25, 26].getD i 0)) ((X_xi s14), (X_tried s14)) x1 r_ u_ h_ sz_) (rq := 0) rfl rfl rfl rfl rfl ⟨by decide, by decide⟩ rfl (Nat.le_of_ble_eq_true rfl) ⟨Nat.zero_le _, Nat.zero_le _⟩ [0, 1, 2, 3, 4, 5, 10, 11, 12, 13] [6, 7, 8, 9, 14, 15, 16, 17, 18, 19, 20, 21, 22, 23, 24, 25, 26, 27, 28, 29, 30] [21, 22, 23, 24, 25, 26, 0, 1, 2, 3, 27, 28, 29, 30, 4, 5, 6, 7, 8, 9, 10, 11, 12, 13, 14, 15, 16, 17, 18, 19, 20] (fun u16 => wX (gEo Γ) ad (X_tried_s (X_xi_s s14 u16.1) u16.2)) rfl rfl rfl rfl (by decide) rfl (fun _ => rfl) dX0_soon_66 hf (fun r15 u16 _ hf => ?_)
          refine g_gs (wX (gEo Γ) ad) hf (fun s17 hf => ?_)
          refine g_pop X dX0_soon_69 rfl ?_
          refine g_iincV X 1 2 (fun v18 => [(2, .int v18), (0, .ref (ad 0)), (1, .int x1)]) dX0_soon_70 rfl rfl (by decide) (fun _ => rfl) hf (fun v18 hf => ?_)
          refine g_goto X 23 dX0_soon_73 rfl ?_
          refine g_sub [1, 2, 0] [(0, .ref (ad 0)), (1, .int x1), (2, .int v18)] rfl ?_
          exact ih s17 x1 v18 hf
        · refine g_iload_n X 2 dX0_soon_58 rfl ?_
          exact g_iret X rfl dX0_soon_59 hf
set_option maxHeartbeats 4000000 in
theorem m_X0_soon (l : Launch) (E : gE) (ad : Nat → Nat) (σ : gX) (x1 : Int32) (r : Int32) (u : gX) (hf : f_X0_soon σ x1 = some (r, u)) (sz : Nat) : Met l yX0_soon (ws_ yX0_soon cX0_soon 3 (some .int)) rm_X0_soon (gPc [.ref (ad 0), .int x1] E (wX E ad σ) sz) (gPi E (wX E ad) r u (va_A (wX E ad σ) sz)) 0 0 (va_A (wX E ad σ) sz) := by
  refine gMet (Qc := gPi E (wX E ad) r u) (by decide) (Nat.le_of_ble_eq_true rfl) (fun Γ X hl hE => ?_)
  subst hl; subst hE
  unfold f_X0_soon at hf
  show gW Γ (gMQ Γ (gPi (gEo Γ) (wX (gEo Γ) ad) r u (gAo Γ)) 0 0) (wX (gEo Γ) ad σ) 3 0 0 0 [(0, .ref (ad 0)), (1, .int x1)] []
  refine g_aload_n X 0 dX0_soon_0 rfl ?_
  refine g_iload_n X 1 dX0_soon_1 rfl ?_
  refine g_callVi X 1 (As := [.int x1]) (wfc := wX (gEo Γ) ad) (lw_V q521 q523 qs12 q60 q524) (by decide +kernel) (fun r_ u_ h_ sz_ => m_X0_isOne (gl Γ) (gEo Γ) ad σ x1 r_ u_ h_ sz_) (rq := 0) rfl rfl rfl rfl rfl ⟨by decide, by decide⟩ rfl (Nat.le_of_ble_eq_true rfl) ⟨Nat.zero_le _, Nat.zero_le _⟩ [0, 1, 2, 3, 4, 5, 6, 7, 8, 9, 10, 11, 12, 13, 14, 15, 16, 17, 18, 19, 20, 21, 22, 23, 24, 25, 26, 27, 28, 29, 30] [] [0, 1, 2, 3, 4, 5, 6, 7, 8, 9, 10, 11, 12, 13, 14, 15, 16, 17, 18, 19, 20, 21, 22, 23, 24, 25, 26, 27, 28, 29, 30] (fun u2 => wX (gEo Γ) ad u2) rfl rfl rfl rfl (by decide) rfl (fun _ => rfl) dX0_soon_2 hf (fun r1 u2 _ hf => ?_)
  refine g_if_ne X 10 dX0_soon_5 rfl hf (fun hf => ?_) (fun hf => ?_)
  · refine g_aload_n X 0 dX0_soon_10 rfl ?_
    refine g_get X in_X0 0 2 rfl rfl (by decide) q181 rfl dX0_soon_11 ?_
    refine g_aload_n X 0 dX0_soon_14 rfl ?_
    refine g_get X in_X0 0 1 rfl rfl (by decide) q180 rfl dX0_soon_15 ?_
    refine g_callVv X 1 (As := [.ref (ad 6)]) (wfc := wSS (gEo Γ) (fun i => ad ([10, 11, 12, 13, 6, 7, 8, 9].getD i 0))) (lw_V q486 q487 q488 q65 q489) (by decide +kernel) (fun u_ h_ sz_ => m_X5_as (gl Γ) (gEo Γ) (fun i => ad ([10, 11, 12, 13, 6, 7, 8, 9].getD i 0)) ((X_tried u2), (X_now u2)) u_ h_ sz_) (rq := 0) rfl rfl rfl rfl rfl ⟨by decide, by decide⟩ rfl (Nat.le_of_ble_eq_true rfl) ⟨Nat.zero_le _, Nat.zero_le _⟩ [10, 11, 12, 13, 6, 7, 8, 9] [0, 1, 2, 3, 4, 5, 14, 15, 16, 17, 18, 19, 20, 21, 22, 23, 24, 25, 26, 27, 28, 29, 30] [0, 1, 2, 3, 4, 5, 27, 28, 29, 30, 23, 24, 25, 26, 6, 7, 8, 9, 10, 11, 12, 13, 14, 15, 16, 17, 18, 19, 20, 21, 22] (fun u4 => wX (gEo Γ) ad (X_now_s (X_tried_s u2 u4.1) u4.2)) rfl rfl rfl rfl (by decide) rfl (fun _ => rfl) dX0_soon_18 hf (fun u4 _ hf => ?_)
    refine g_gs (wX (gEo Γ) ad) hf (fun s5 hf => ?_)
    refine g_iconst X 0 dX0_soon_21 rfl ?_
    refine g_istore_n X [(2, .int 0), (0, .ref (ad 0)), (1, .int x1)] dX0_soon_22 (by decide) rfl ?_
    refine g_sub [1, 2, 0] [(0, .ref (ad 0)), (1, .int x1), (2, .int 0)] rfl ?_
    exact w_X0_soon_b23 X 2000 s5 x1 0 hf
  · refine g_iconst X (-1) dX0_soon_8 rfl ?_
    exact g_iret X rfl dX0_soon_9 hf
