set_option maxRecDepth 100000
def f_X0_isPart (x0 : Int32) : Option (Int32 × Unit) :=
  (f_X0_in (x0.toInt64) 0 1).bind fun (r1, _) => gzr r1 ()
abbrev rm_X0_isPart : Room := { frames := 2, cells := 0, slots := 0, locals := 37 }
set_option maxHeartbeats 4000000 in
theorem m_X0_isPart (l : Launch) (E : gE) (x0 : Int32) (r : Int32) (u : Unit) (hf : f_X0_isPart x0 = some (r, u)) (sz : Nat) : Met l yX0_isPart (ws_ yX0_isPart cX0_isPart 1 (some .boolean)) rm_X0_isPart (gPc [.int x0] E [] sz) (gPi E (fun _ => []) r u (va_A [] sz)) 0 0 (va_A [] sz) := by
  refine gMet (Qc := gPi E (fun _ => []) r u) (by decide) (Nat.le_of_ble_eq_true rfl) (fun Γ X hl hE => ?_)
  subst hl; subst hE
  unfold f_X0_isPart at hf
  show gW Γ (gMQ Γ (gPi (gEo Γ) (fun _ => []) r u (gAo Γ)) 0 0) [] 1 0 0 0 [(0, .int x0)] []
  refine g_iload_n X 0 dX0_isPart_0 rfl ?_
  refine g_i2l X dX0_isPart_1 ?_
  refine g_lconst X 0 dX0_isPart_2 rfl ?_
  refine g_lconst X 1 dX0_isPart_3 rfl ?_
  refine g_call0i X 3 (As := [.long (x0.toInt64), .long 0, .long 1]) (lw_S q243 q244 q60 q245) (by decide +kernel) (fun r_ u_ h_ sz_ => m_X0_in (gl Γ) (gEo Γ) (x0.toInt64) 0 1 r_ u_ h_ sz_) rfl rfl ⟨by decide, by decide⟩ rfl (Nat.le_of_ble_eq_true rfl) ⟨Nat.zero_le _, Nat.zero_le _⟩ dX0_isPart_4 hf (fun r1 _ hf => ?_)
  exact g_zret X rfl dX0_isPart_7 hf
def f_X0_alter_b31 (σ : gX) (x1 : Int32) (x2 : Int32) (x3 : Int32) (t0 : Int64) (t1 : Int64) (t2 : Int64) : Option (Int32 × gX) :=
  (f_X0_in t2 t1 t0).bind fun (r5, _) => if r5 = 0 then (some ((-1), σ)) else ((f_X5_of (X_now σ) x1 x2).bind fun (r7, u8) => gs (X_now_s σ u8) fun s9 => (f_X5_becomes (X_now s9) x1 x2 x3).bind fun u11 => gs (X_now_s s9 u11) fun s12 => some (r7, s12))
def f_X0_alter (σ : gX) (x1 : Int32) (x2 : Int32) (x3 : Int32) : Option (Int32 × gX) :=
  (f_X0_isOne σ x1).bind fun (r1, u2) => if r1 = 0 then (some ((-1), u2)) else ((f_X0_isPart x2).bind fun (r3, _) => if r3 = 0 then (some ((-1), u2)) else (if x2 = 0 then (f_X0_alter_b31 u2 x1 x2 x3 3 0 (x3.toInt64)) else (f_X0_alter_b31 u2 x1 x2 x3 40 0 (x3.toInt64))))
abbrev rm_X0_alter : Room := { frames := 3, cells := 0, slots := 0, locals := 58 }
set_option maxHeartbeats 4000000 in
theorem w_X0_alter_b31 {Γ : gG} {ad : Nat → Nat} {r : Int32} {u : gX} (X : gCX Γ cX0_alter 5 (some .int) RX0 rm_X0_alter) : ∀ (σ : gX) (x1 : Int32) (x2 : Int32) (x3 : Int32) (t0 : Int64) (t1 : Int64) (t2 : Int64), f_X0_alter_b31 σ x1 x2 x3 t0 t1 t2 = some (r, u) → gW Γ (gMQ Γ (gPi (gEo Γ) (wX (gEo Γ) ad) r u (gAo Γ)) 0 0) (wX (gEo Γ) ad σ) 5 0 0 31 [(0, .ref (ad 0)), (1, .int x1), (2, .int x2), (3, .int x3)] [.long t0, .long t1, .long t2] := by
  intro σ x1 x2 x3 t0 t1 t2 hf
  unfold f_X0_alter_b31 at hf
  refine g_call0i X 3 (As := [.long t2, .long t1, .long t0]) (lw_S q243 q244 q60 q245) (by decide +kernel) (fun r_ u_ h_ sz_ => m_X0_in (gl Γ) (gEo Γ) t2 t1 t0 r_ u_ h_ sz_) rfl rfl ⟨by decide, by decide⟩ rfl (Nat.le_of_ble_eq_true rfl) ⟨Nat.zero_le _, Nat.zero_le _⟩ dX0_alter_31 hf (fun r5 _ hf => ?_)
  refine g_if_ne X 39 dX0_alter_34 rfl hf (fun hf => ?_) (fun hf => ?_)
  · refine g_aload_n X 0 dX0_alter_39 rfl ?_
    refine g_get X in_X0 0 1 rfl rfl (by decide) q180 rfl dX0_alter_40 ?_
    refine g_iload_n X 1 dX0_alter_43 rfl ?_
    refine g_iload_n X 2 dX0_alter_44 rfl ?_
    refine g_callVi X 2 (As := [.int x1, .int x2]) (wfc := wS (gEo Γ) (fun i => ad (i + 6))) (lw_V q525 q510 q511 q65 q512) (by decide +kernel) (fun r_ u_ h_ sz_ => m_X5_of (gl Γ) (gEo Γ) (fun i => ad (i + 6)) (X_now σ) x1 x2 r_ u_ h_ sz_) (rq := 0) rfl rfl rfl rfl rfl ⟨by decide, by decide⟩ rfl (Nat.le_of_ble_eq_true rfl) ⟨Nat.zero_le _, Nat.zero_le _⟩ [6, 7, 8, 9] [0, 1, 2, 3, 4, 5, 10, 11, 12, 13, 14, 15, 16, 17, 18, 19, 20, 21, 22, 23, 24, 25, 26, 27, 28, 29, 30] [0, 1, 2, 3, 4, 5, 27, 28, 29, 30, 6, 7, 8, 9, 10, 11, 12, 13, 14, 15, 16, 17, 18, 19, 20, 21, 22, 23, 24, 25, 26] (fun u8 => wX (gEo Γ) ad (X_now_s σ u8)) rfl rfl rfl rfl (by decide) rfl (fun _ => rfl) dX0_alter_45 hf (fun r7 u8 _ hf => ?_)
    refine g_gs (wX (gEo Γ) ad) hf (fun s9 hf => ?_)
    refine g_istore X [(4, .int r7), (0, .ref (ad 0)), (1, .int x1), (2, .int x2), (3, .int x3)] dX0_alter_48 (by decide) rfl ?_
    refine g_aload_n X 1 dX0_alter_50 rfl ?_
    refine g_get X in_X0 0 1 rfl rfl (by decide) q180 rfl dX0_alter_51 ?_
    refine g_iload_n X 2 dX0_alter_54 rfl ?_
    refine g_iload_n X 3 dX0_alter_55 rfl ?_
    refine g_iload_n X 4 dX0_alter_56 rfl ?_
    refine g_callVv X 3 (As := [.int x1, .int x2, .int x3]) (wfc := wS (gEo Γ) (fun i => ad (i + 6))) (lw_V q584 q483 q484 q65 q485) (by decide +kernel) (fun u_ h_ sz_ => m_X5_becomes (gl Γ) (gEo Γ) (fun i => ad (i + 6)) (X_now s9) x1 x2 x3 u_ h_ sz_) (rq := 0) rfl rfl rfl rfl rfl ⟨by decide, by decide⟩ rfl (Nat.le_of_ble_eq_true rfl) ⟨Nat.zero_le _, Nat.zero_le _⟩ [6, 7, 8, 9] [0, 1, 2, 3, 4, 5, 10, 11, 12, 13, 14, 15, 16, 17, 18, 19, 20, 21, 22, 23, 24, 25, 26, 27, 28, 29, 30] [0, 1, 2, 3, 4, 5, 27, 28, 29, 30, 6, 7, 8, 9, 10, 11, 12, 13, 14, 15, 16, 17, 18, 19, 20, 21, 22, 23, 24, 25, 26] (fun u11 => wX (gEo Γ) ad (X_now_s s9 u11)) rfl rfl rfl rfl (by decide) rfl (fun _ => rfl) dX0_alter_57 hf (fun u11 _ hf => ?_)
    refine g_gs (wX (gEo Γ) ad) hf (fun s12 hf => ?_)
    refine g_iload X 0 dX0_alter_60 rfl ?_
    exact g_iret X rfl dX0_alter_62 hf
  · refine g_iconst X (-1) dX0_alter_37 rfl ?_
    exact g_iret X rfl dX0_alter_38 hf
set_option maxHeartbeats 4000000 in
theorem m_X0_alter (l : Launch) (E : gE) (ad : Nat → Nat) (σ : gX) (x1 : Int32) (x2 : Int32) (x3 : Int32) (r : Int32) (u : gX) (hf : f_X0_alter σ x1 x2 x3 = some (r, u)) (sz : Nat) : Met l yX0_alter (ws_ yX0_alter cX0_alter 5 (some .int)) rm_X0_alter (gPc [.ref (ad 0), .int x1, .int x2, .int x3] E (wX E ad σ) sz) (gPi E (wX E ad) r u (va_A (wX E ad σ) sz)) 0 0 (va_A (wX E ad σ) sz) := by
  refine gMet (Qc := gPi E (wX E ad) r u) (by decide) (Nat.le_of_ble_eq_true rfl) (fun Γ X hl hE => ?_)
  subst hl; subst hE
  unfold f_X0_alter at hf
  show gW Γ (gMQ Γ (gPi (gEo Γ) (wX (gEo Γ) ad) r u (gAo Γ)) 0 0) (wX (gEo Γ) ad σ) 5 0 0 0 [(0, .ref (ad 0)), (1, .int x1), (2, .int x2), (3, .int x3)] []
  refine g_aload_n X 0 dX0_alter_0 rfl ?_
  refine g_iload_n X 1 dX0_alter_1 rfl ?_
  refine g_callVi X 1 (As := [.int x1]) (wfc := wX (gEo Γ) ad) (lw_V q521 q523 qs12 q60 q524) (by decide +kernel) (fun r_ u_ h_ sz_ => m_X0_isOne (gl Γ) (gEo Γ) ad σ x1 r_ u_ h_ sz_) (rq := 0) rfl rfl rfl rfl rfl ⟨by decide, by decide⟩ rfl (Nat.le_of_ble_eq_true rfl) ⟨Nat.zero_le _, Nat.zero_le _⟩ [0, 1, 2, 3, 4, 5, 6, 7, 8, 9, 10, 11, 12, 13, 14, 15, 16, 17, 18, 19, 20, 21, 22, 23, 24, 25, 26, 27, 28, 29, 30] [] [0, 1, 2, 3, 4, 5, 6, 7, 8, 9, 10, 11, 12, 13, 14, 15, 16, 17, 18, 19, 20, 21, 22, 23, 24, 25, 26, 27, 28, 29, 30] (fun u2 => wX (gEo Γ) ad u2) rfl rfl rfl rfl (by decide) rfl (fun _ => rfl) dX0_alter_2 hf (fun r1 u2 _ hf => ?_)
  refine g_if_eq X 37 dX0_alter_5 rfl hf (fun hf => ?_) (fun hf => ?_)
  · refine g_iconst X (-1) dX0_alter_37 rfl ?_
    exact g_iret X rfl dX0_alter_38 hf
  · refine g_iload_n X 2 dX0_alter_8 rfl ?_
    refine g_call0i X 1 (As := [.int x2]) (lw_S q579 q580 q60 q581) (by decide +kernel) (fun r_ u_ h_ sz_ => m_X0_isPart (gl Γ) (gEo Γ) x2 r_ u_ h_ sz_) rfl rfl ⟨by decide, by decide⟩ rfl (Nat.le_of_ble_eq_true rfl) ⟨Nat.zero_le _, Nat.zero_le _⟩ dX0_alter_9 hf (fun r3 _ hf => ?_)
    refine g_if_eq X 37 dX0_alter_12 rfl hf (fun hf => ?_) (fun hf => ?_)
    · refine g_iconst X (-1) dX0_alter_37 rfl ?_
      exact g_iret X rfl dX0_alter_38 hf
    · refine g_iload_n X 3 dX0_alter_15 rfl ?_
      refine g_i2l X dX0_alter_16 ?_
      refine g_lconst X 0 dX0_alter_17 rfl ?_
      refine g_iload_n X 2 dX0_alter_18 rfl ?_
      refine g_if_ne X 28 dX0_alter_19 rfl hf (fun hf => ?_) (fun hf => ?_)
      · refine g_ldc2 X dX0_alter_28 q583 ?_
        exact w_X0_alter_b31 X u2 x1 x2 x3 40 0 (x3.toInt64) hf
      · refine g_ldc2 X dX0_alter_22 q582 ?_
        refine g_goto X 31 dX0_alter_25 rfl ?_
        exact w_X0_alter_b31 X u2 x1 x2 x3 3 0 (x3.toInt64) hf
def f_X0_room (σ : gX) (x1 : Int32) : Option (Int32 × gX) :=
  (f_X0_in (x1.toInt64) 1 5).bind fun (r1, _) => if r1 = 0 then (some ((-1), σ)) else (gv ((S_room (X_now σ))) fun v3 => gs (X_now_s σ (S_room_s (X_now σ) x1)) fun s4 => some (v3, s4))
abbrev rm_X0_room : Room := { frames := 2, cells := 0, slots := 0, locals := 37 }
set_option maxHeartbeats 4000000 in
theorem m_X0_room (l : Launch) (E : gE) (ad : Nat → Nat) (σ : gX) (x1 : Int32) (r : Int32) (u : gX) (hf : f_X0_room σ x1 = some (r, u)) (sz : Nat) : Met l yX0_room (ws_ yX0_room cX0_room 3 (some .int)) rm_X0_room (gPc [.ref (ad 0), .int x1] E (wX E ad σ) sz) (gPi E (wX E ad) r u (va_A (wX E ad σ) sz)) 0 0 (va_A (wX E ad σ) sz) := by
  refine gMet (Qc := gPi E (wX E ad) r u) (by decide) (Nat.le_of_ble_eq_true rfl) (fun Γ X hl hE => ?_)
  subst hl; subst hE
  unfold f_X0_room at hf
  show gW Γ (gMQ Γ (gPi (gEo Γ) (wX (gEo Γ) ad) r u (gAo Γ)) 0 0) (wX (gEo Γ) ad σ) 3 0 0 0 [(0, .ref (ad 0)), (1, .int x1)] []
  refine g_iload_n X 1 dX0_room_0 rfl ?_
  refine g_i2l X dX0_room_1 ?_
  refine g_lconst X 1 dX0_room_2 rfl ?_
  refine g_ldc2 X dX0_room_3 q589 ?_
  refine g_call0i X 3 (As := [.long (x1.toInt64), .long 1, .long 5]) (lw_S q243 q244 q60 q245) (by decide +kernel) (fun r_ u_ h_ sz_ => m_X0_in (gl Γ) (gEo Γ) (x1.toInt64) 1 5 r_ u_ h_ sz_) rfl rfl ⟨by decide, by decide⟩ rfl (Nat.le_of_ble_eq_true rfl) ⟨Nat.zero_le _, Nat.zero_le _⟩ dX0_room_6 hf (fun r1 _ hf => ?_)
  refine g_if_ne X 14 dX0_room_9 rfl hf (fun hf => ?_) (fun hf => ?_)
  · refine g_aload_n X 0 dX0_room_14 rfl ?_
    refine g_get X in_X0 0 1 rfl rfl (by decide) q180 rfl dX0_room_15 ?_
    refine g_getN X in_X5 6 4 rfl rfl (by decide) 3 rfl rfl dX0_room_18 ?_
    refine g_topi hf (fun v3 hf => ?_)
    refine g_istore_n X [(2, .int v3), (0, .ref (ad 0)), (1, .int x1)] dX0_room_21 (by decide) rfl ?_
    refine g_aload_n X 1 dX0_room_22 rfl ?_
    refine g_get X in_X0 0 1 rfl rfl (by decide) q180 rfl dX0_room_23 ?_
    refine g_iload_n X 2 dX0_room_26 rfl ?_
    refine g_putN X in_X5 tyX5_ok nmX5 6 4 (wX (gEo Γ) ad (X_now_s σ (S_room_s (X_now σ) x1))) rfl rfl (by decide) 3 rfl rfl rfl rfl rfl (Nat.le_of_ble_eq_true rfl) rfl dX0_room_27 ?_
    refine g_gs (wX (gEo Γ) ad) hf (fun s4 hf => ?_)
    refine g_iload_n X 0 dX0_room_30 rfl ?_
    exact g_iret X rfl dX0_room_31 hf
  · refine g_iconst X (-1) dX0_room_12 rfl ?_
    exact g_iret X rfl dX0_room_13 hf
def f_X0_think (σ : gX) (x1 : Int32) : Option (Int32 × gX) :=
  (f_X0_in (x1.toInt64) 1 9).bind fun (r1, _) => if r1 = 0 then (some ((-1), σ)) else (gv ((S_think (X_now σ))) fun v3 => gs (X_now_s σ (S_think_s (X_now σ) x1)) fun s4 => some (v3, s4))
abbrev rm_X0_think : Room := { frames := 2, cells := 0, slots := 0, locals := 37 }
set_option maxHeartbeats 4000000 in
theorem m_X0_think (l : Launch) (E : gE) (ad : Nat → Nat) (σ : gX) (x1 : Int32) (r : Int32) (u : gX) (hf : f_X0_think σ x1 = some (r, u)) (sz : Nat) : Met l yX0_think (ws_ yX0_think cX0_think 3 (some .int)) rm_X0_think (gPc [.ref (ad 0), .int x1] E (wX E ad σ) sz) (gPi E (wX E ad) r u (va_A (wX E ad σ) sz)) 0 0 (va_A (wX E ad σ) sz) := by
  refine gMet (Qc := gPi E (wX E ad) r u) (by decide) (Nat.le_of_ble_eq_true rfl) (fun Γ X hl hE => ?_)
  subst hl; subst hE
  unfold f_X0_think at hf
  show gW Γ (gMQ Γ (gPi (gEo Γ) (wX (gEo Γ) ad) r u (gAo Γ)) 0 0) (wX (gEo Γ) ad σ) 3 0 0 0 [(0, .ref (ad 0)), (1, .int x1)] []
  refine g_iload_n X 1 dX0_think_0 rfl ?_
  refine g_i2l X dX0_think_1 ?_
  refine g_lconst X 1 dX0_think_2 rfl ?_
  refine g_ldc2 X dX0_think_3 q594 ?_
  refine g_call0i X 3 (As := [.long (x1.toInt64), .long 1, .long 9]) (lw_S q243 q244 q60 q245) (by decide +kernel) (fun r_ u_ h_ sz_ => m_X0_in (gl Γ) (gEo Γ) (x1.toInt64) 1 9 r_ u_ h_ sz_) rfl rfl ⟨by decide, by decide⟩ rfl (Nat.le_of_ble_eq_true rfl) ⟨Nat.zero_le _, Nat.zero_le _⟩ dX0_think_6 hf (fun r1 _ hf => ?_)
  refine g_if_ne X 14 dX0_think_9 rfl hf (fun hf => ?_) (fun hf => ?_)
  · refine g_aload_n X 0 dX0_think_14 rfl ?_
    refine g_get X in_X0 0 1 rfl rfl (by decide) q180 rfl dX0_think_15 ?_
    refine g_getN X in_X5 6 5 rfl rfl (by decide) 4 rfl rfl dX0_think_18 ?_
    refine g_topi hf (fun v3 hf => ?_)
    refine g_istore_n X [(2, .int v3), (0, .ref (ad 0)), (1, .int x1)] dX0_think_21 (by decide) rfl ?_
    refine g_aload_n X 1 dX0_think_22 rfl ?_
    refine g_get X in_X0 0 1 rfl rfl (by decide) q180 rfl dX0_think_23 ?_
    refine g_iload_n X 2 dX0_think_26 rfl ?_
    refine g_putN X in_X5 tyX5_ok nmX5 6 5 (wX (gEo Γ) ad (X_now_s σ (S_think_s (X_now σ) x1))) rfl rfl (by decide) 4 rfl rfl rfl rfl rfl (Nat.le_of_ble_eq_true rfl) rfl dX0_think_27 ?_
    refine g_gs (wX (gEo Γ) ad) hf (fun s4 hf => ?_)
    refine g_iload_n X 0 dX0_think_30 rfl ?_
    exact g_iret X rfl dX0_think_31 hf
  · refine g_iconst X (-1) dX0_think_12 rfl ?_
    exact g_iret X rfl dX0_think_13 hf
def f_X0_isAct_b19 (σ : gX) : Option (Int32 × gX) :=
  gzr 1 σ
def f_X0_isAct (σ : gX) (x1 : Int32) : Option (Int32 × gX) :=
  (f_X0_isOne σ x1).bind fun (r1, u2) => if r1 = 0 then (if x1 = 5 then (f_X0_isAct_b19 u2) else (if x1 = 6 then (f_X0_isAct_b19 u2) else (gzr 0 u2))) else (f_X0_isAct_b19 u2)
abbrev rm_X0_isAct : Room := { frames := 3, cells := 0, slots := 0, locals := 58 }
set_option maxHeartbeats 4000000 in
theorem w_X0_isAct_b19 {Γ : gG} {ad : Nat → Nat} {r : Int32} {u : gX} (X : gCX Γ cX0_isAct 2 (some .boolean) RX0 rm_X0_isAct) : ∀ (σ : gX), f_X0_isAct_b19 σ  = some (r, u) → gW Γ (gMQ Γ (gPi (gEo Γ) (wX (gEo Γ) ad) r u (gAo Γ)) 0 0) (wX (gEo Γ) ad σ) 2 0 0 19 [] [] := by
  intro σ  hf
  unfold f_X0_isAct_b19 at hf
  refine g_iconst X 1 dX0_isAct_19 rfl ?_
  refine g_goto X 24 dX0_isAct_20 rfl ?_
  exact g_zret X rfl dX0_isAct_24 hf
set_option maxHeartbeats 4000000 in
theorem m_X0_isAct (l : Launch) (E : gE) (ad : Nat → Nat) (σ : gX) (x1 : Int32) (r : Int32) (u : gX) (hf : f_X0_isAct σ x1 = some (r, u)) (sz : Nat) : Met l yX0_isAct (ws_ yX0_isAct cX0_isAct 2 (some .boolean)) rm_X0_isAct (gPc [.ref (ad 0), .int x1] E (wX E ad σ) sz) (gPi E (wX E ad) r u (va_A (wX E ad σ) sz)) 0 0 (va_A (wX E ad σ) sz) := by
  refine gMet (Qc := gPi E (wX E ad) r u) (by decide) (Nat.le_of_ble_eq_true rfl) (fun Γ X hl hE => ?_)
  subst hl; subst hE
  unfold f_X0_isAct at hf
  show gW Γ (gMQ Γ (gPi (gEo Γ) (wX (gEo Γ) ad) r u (gAo Γ)) 0 0) (wX (gEo Γ) ad σ) 2 0 0 0 [(0, .ref (ad 0)), (1, .int x1)] []
  refine g_aload_n X 0 dX0_isAct_0 rfl ?_
  refine g_iload_n X 1 dX0_isAct_1 rfl ?_
  refine g_callVi X 1 (As := [.int x1]) (wfc := wX (gEo Γ) ad) (lw_V q521 q523 qs12 q60 q524) (by decide +kernel) (fun r_ u_ h_ sz_ => m_X0_isOne (gl Γ) (gEo Γ) ad σ x1 r_ u_ h_ sz_) (rq := 0) rfl rfl rfl rfl rfl ⟨by decide, by decide⟩ rfl (Nat.le_of_ble_eq_true rfl) ⟨Nat.zero_le _, Nat.zero_le _⟩ [0, 1, 2, 3, 4, 5, 6, 7, 8, 9, 10, 11, 12, 13, 14, 15, 16, 17, 18, 19, 20, 21, 22, 23, 24, 25, 26, 27, 28, 29, 30] [] [0, 1, 2, 3, 4, 5, 6, 7, 8, 9, 10, 11, 12, 13, 14, 15, 16, 17, 18, 19, 20, 21, 22, 23, 24, 25, 26, 27, 28, 29, 30] (fun u2 => wX (gEo Γ) ad u2) rfl rfl rfl rfl (by decide) rfl (fun _ => rfl) dX0_isAct_2 hf (fun r1 u2 _ hf => ?_)
  refine g_if_ne X 19 dX0_isAct_5 rfl hf (fun hf => ?_) (fun hf => ?_)
  · refine g_sub [] [] rfl ?_
    exact w_X0_isAct_b19 X u2 hf
  · refine g_iload_n X 1 dX0_isAct_8 rfl ?_
    refine g_iconst X 5 dX0_isAct_9 rfl ?_
    refine g_icmp_eq X 19 dX0_isAct_10 rfl hf (fun hf => ?_) (fun hf => ?_)
    · refine g_sub [] [] rfl ?_
      exact w_X0_isAct_b19 X u2 hf
    · refine g_iload_n X 1 dX0_isAct_13 rfl ?_
      refine g_bipush X 6 dX0_isAct_14 rfl ?_
      refine g_icmp_ne X 23 dX0_isAct_16 rfl hf (fun hf => ?_) (fun hf => ?_)
      · refine g_iconst X 0 dX0_isAct_23 rfl ?_
        exact g_zret X rfl dX0_isAct_24 hf
      · refine g_sub [] [] rfl ?_
        exact w_X0_isAct_b19 X u2 hf
def f_X0_plan (σ : gX) (x1 : Int32) : Option (Int32 × gX) :=
  (f_X0_isAct σ x1).bind fun (r1, u2) => if r1 = 0 then (some ((-1), u2)) else (if ((S_planned (X_now u2))) = 8 then (some ((-3), u2)) else (gst 8 (S_plan (X_now u2)) ((S_planned (X_now u2))) (vp_nar .byte (x1.toInt8.toInt32)) fun g3 => gs (X_now_s u2 (S_plan_s (X_now u2) g3)) fun s4 => gv (((S_planned (X_now s4))) + 1) fun v5 => gs (X_now_s s4 (S_planned_s (X_now s4) v5)) fun s6 => some ((S_planned (X_now s6)), s6)))
abbrev rm_X0_plan : Room := { frames := 4, cells := 0, slots := 0, locals := 79 }
set_option maxHeartbeats 4000000 in
theorem m_X0_plan (l : Launch) (E : gE) (ad : Nat → Nat) (σ : gX) (x1 : Int32) (r : Int32) (u : gX) (hf : f_X0_plan σ x1 = some (r, u)) (sz : Nat) : Met l yX0_plan (ws_ yX0_plan cX0_plan 2 (some .int)) rm_X0_plan (gPc [.ref (ad 0), .int x1] E (wX E ad σ) sz) (gPi E (wX E ad) r u (va_A (wX E ad σ) sz)) 0 0 (va_A (wX E ad σ) sz) := by
  refine gMet (Qc := gPi E (wX E ad) r u) (by decide) (Nat.le_of_ble_eq_true rfl) (fun Γ X hl hE => ?_)
  subst hl; subst hE
  unfold f_X0_plan at hf
  show gW Γ (gMQ Γ (gPi (gEo Γ) (wX (gEo Γ) ad) r u (gAo Γ)) 0 0) (wX (gEo Γ) ad σ) 2 0 0 0 [(0, .ref (ad 0)), (1, .int x1)] []
  refine g_aload_n X 0 dX0_plan_0 rfl ?_
  refine g_iload_n X 1 dX0_plan_1 rfl ?_
  refine g_callVi X 1 (As := [.int x1]) (wfc := wX (gEo Γ) ad) (lw_V q599 q601 qs14 q60 q602) (by decide +kernel) (fun r_ u_ h_ sz_ => m_X0_isAct (gl Γ) (gEo Γ) ad σ x1 r_ u_ h_ sz_) (rq := 0) rfl rfl rfl rfl rfl ⟨by decide, by decide⟩ rfl (Nat.le_of_ble_eq_true rfl) ⟨Nat.zero_le _, Nat.zero_le _⟩ [0, 1, 2, 3, 4, 5, 6, 7, 8, 9, 10, 11, 12, 13, 14, 15, 16, 17, 18, 19, 20, 21, 22, 23, 24, 25, 26, 27, 28, 29, 30] [] [0, 1, 2, 3, 4, 5, 6, 7, 8, 9, 10, 11, 12, 13, 14, 15, 16, 17, 18, 19, 20, 21, 22, 23, 24, 25, 26, 27, 28, 29, 30] (fun u2 => wX (gEo Γ) ad u2) rfl rfl rfl rfl (by decide) rfl (fun _ => rfl) dX0_plan_2 hf (fun r1 u2 _ hf => ?_)
  refine g_if_ne X 10 dX0_plan_5 rfl hf (fun hf => ?_) (fun hf => ?_)
  · refine g_aload_n X 0 dX0_plan_10 rfl ?_
    refine g_get X in_X0 0 1 rfl rfl (by decide) q180 rfl dX0_plan_11 ?_
    refine g_getN X in_X5 6 6 rfl rfl (by decide) 5 rfl rfl dX0_plan_14 ?_
    refine g_bipush X 8 dX0_plan_17 rfl ?_
    refine g_icmp_ne X 25 dX0_plan_19 rfl hf (fun hf => ?_) (fun hf => ?_)
    · refine g_aload_n X 0 dX0_plan_25 rfl ?_
      refine g_get X in_X0 0 1 rfl rfl (by decide) q180 rfl dX0_plan_26 ?_
      refine g_getN X in_X5 6 7 rfl rfl (by decide) 6 rfl rfl dX0_plan_29 ?_
      refine g_aload_n X 0 dX0_plan_32 rfl ?_
      refine g_get X in_X0 0 1 rfl rfl (by decide) q180 rfl dX0_plan_33 ?_
      refine g_getN X in_X5 6 6 rfl rfl (by decide) 5 rfl rfl dX0_plan_36 ?_
      refine g_iload_n X 1 dX0_plan_39 rfl ?_
      refine g_i2b X dX0_plan_40 ?_
      refine g_bast X 9 (fun g3 => wX (gEo Γ) ad (X_now_s u2 (S_plan_s (X_now u2) g3))) rfl (fun _ => rfl) dX0_plan_41 hf (fun g3 hf => ?_)
      refine g_gs (wX (gEo Γ) ad) hf (fun s4 hf => ?_)
      refine g_aload_n X 0 dX0_plan_42 rfl ?_
      refine g_get X in_X0 0 1 rfl rfl (by decide) q180 rfl dX0_plan_43 ?_
      refine g_dup X dX0_plan_46 rfl ?_
      refine g_getN X in_X5 6 6 rfl rfl (by decide) 5 rfl rfl dX0_plan_47 ?_
      refine g_iconst X 1 dX0_plan_50 rfl ?_
      refine g_iadd X dX0_plan_51 ?_
      refine g_topi hf (fun v5 hf => ?_)
      refine g_putN X in_X5 tyX5_ok nmX5 6 6 (wX (gEo Γ) ad (X_now_s s4 (S_planned_s (X_now s4) v5))) rfl rfl (by decide) 5 rfl rfl rfl rfl rfl (Nat.le_of_ble_eq_true rfl) rfl dX0_plan_52 ?_
      refine g_gs (wX (gEo Γ) ad) hf (fun s6 hf => ?_)
      refine g_aload_n X 0 dX0_plan_55 rfl ?_
      refine g_get X in_X0 0 1 rfl rfl (by decide) q180 rfl dX0_plan_56 ?_
      refine g_getN X in_X5 6 6 rfl rfl (by decide) 5 rfl rfl dX0_plan_59 ?_
      exact g_iret X rfl dX0_plan_62 hf
    · refine g_bipush X (-3) dX0_plan_22 rfl ?_
      exact g_iret X rfl dX0_plan_24 hf
  · refine g_iconst X (-1) dX0_plan_8 rfl ?_
    exact g_iret X rfl dX0_plan_9 hf
def f_X0_cut (σ : gX) (x1 : Int32) : Option (Int32 × gX) :=
  (f_X0_in (x1.toInt64) 0 (((S_planned (X_now σ))).toInt64)).bind fun (r1, _) => if r1 = 0 then (some ((-1), σ)) else (gv ((S_planned (X_now σ))) fun v3 => gs (X_now_s σ (S_planned_s (X_now σ) x1)) fun s4 => some (v3, s4))
abbrev rm_X0_cut : Room := { frames := 2, cells := 0, slots := 0, locals := 37 }
set_option maxHeartbeats 4000000 in
theorem m_X0_cut (l : Launch) (E : gE) (ad : Nat → Nat) (σ : gX) (x1 : Int32) (r : Int32) (u : gX) (hf : f_X0_cut σ x1 = some (r, u)) (sz : Nat) : Met l yX0_cut (ws_ yX0_cut cX0_cut 3 (some .int)) rm_X0_cut (gPc [.ref (ad 0), .int x1] E (wX E ad σ) sz) (gPi E (wX E ad) r u (va_A (wX E ad σ) sz)) 0 0 (va_A (wX E ad σ) sz) := by
  refine gMet (Qc := gPi E (wX E ad) r u) (by decide) (Nat.le_of_ble_eq_true rfl) (fun Γ X hl hE => ?_)
  subst hl; subst hE
  unfold f_X0_cut at hf
  show gW Γ (gMQ Γ (gPi (gEo Γ) (wX (gEo Γ) ad) r u (gAo Γ)) 0 0) (wX (gEo Γ) ad σ) 3 0 0 0 [(0, .ref (ad 0)), (1, .int x1)] []
  refine g_iload_n X 1 dX0_cut_0 rfl ?_
  refine g_i2l X dX0_cut_1 ?_
  refine g_lconst X 0 dX0_cut_2 rfl ?_
  refine g_aload_n X 0 dX0_cut_3 rfl ?_
  refine g_get X in_X0 0 1 rfl rfl (by decide) q180 rfl dX0_cut_4 ?_
  refine g_getN X in_X5 6 6 rfl rfl (by decide) 5 rfl rfl dX0_cut_7 ?_
  refine g_i2l X dX0_cut_10 ?_
  refine g_call0i X 3 (As := [.long (x1.toInt64), .long 0, .long (((S_planned (X_now σ))).toInt64)]) (lw_S q243 q244 q60 q245) (by decide +kernel) (fun r_ u_ h_ sz_ => m_X0_in (gl Γ) (gEo Γ) (x1.toInt64) 0 (((S_planned (X_now σ))).toInt64) r_ u_ h_ sz_) rfl rfl ⟨by decide, by decide⟩ rfl (Nat.le_of_ble_eq_true rfl) ⟨Nat.zero_le _, Nat.zero_le _⟩ dX0_cut_11 hf (fun r1 _ hf => ?_)
  refine g_if_ne X 19 dX0_cut_14 rfl hf (fun hf => ?_) (fun hf => ?_)
  · refine g_aload_n X 0 dX0_cut_19 rfl ?_
    refine g_get X in_X0 0 1 rfl rfl (by decide) q180 rfl dX0_cut_20 ?_
    refine g_getN X in_X5 6 6 rfl rfl (by decide) 5 rfl rfl dX0_cut_23 ?_
    refine g_topi hf (fun v3 hf => ?_)
    refine g_istore_n X [(2, .int v3), (0, .ref (ad 0)), (1, .int x1)] dX0_cut_26 (by decide) rfl ?_
    refine g_aload_n X 1 dX0_cut_27 rfl ?_
    refine g_get X in_X0 0 1 rfl rfl (by decide) q180 rfl dX0_cut_28 ?_
    refine g_iload_n X 2 dX0_cut_31 rfl ?_
    refine g_putN X in_X5 tyX5_ok nmX5 6 6 (wX (gEo Γ) ad (X_now_s σ (S_planned_s (X_now σ) x1))) rfl rfl (by decide) 5 rfl rfl rfl rfl rfl (Nat.le_of_ble_eq_true rfl) rfl dX0_cut_32 ?_
    refine g_gs (wX (gEo Γ) ad) hf (fun s4 hf => ?_)
    refine g_iload_n X 0 dX0_cut_35 rfl ?_
    exact g_iret X rfl dX0_cut_36 hf
  · refine g_iconst X (-1) dX0_cut_17 rfl ?_
    exact g_iret X rfl dX0_cut_18 hf
def f_X0_nextWeeper_b57 (k11 : gA → Int32 → Int32 → Int32 → Option (Int32 × gA)) (σ : gA) (x2 : Int32) (x4 : Int32) (t0 : Int32) : Option (Int32 × gA) :=
  gv (x4 + (-1)) fun v12 => k11 σ x2 t0 v12
def f_X0_nextWeeper_b56 (k11 : gA → Int32 → Int32 → Int32 → Option (Int32 × gA)) (σ : gA) (x2 : Int32) (x3 : Int32) (x4 : Int32) : Option (Int32 × gA) :=
  f_X0_nextWeeper_b57 k11 σ x2 x4 x3
def f_X0_nextWeeper_b11 : Nat → gA → Int32 → Int32 → Int32 → Option (Int32 × gA)
  | 0 => fun _ _ _ _ => none
  | n_ + 1 => fun σ x2 x3 x4 =>
    if x4 < 0 then (some (x3, σ)) else ((f_X5_waits (A_s σ) x4).bind fun (r2, u3) => gs (A_s_s σ u3) fun s4 => if r2 = 0 then (f_X0_nextWeeper_b56 (f_X0_nextWeeper_b11 n_) s4 x2 x3 x4) else ((f_X0_has x2 x4).bind fun (r5, _) => if r5 = 0 then ((f_X5_of (A_s s4) x4 1).bind fun (r7, u8) => gs (A_s_s s4 u8) fun s9 => (f_X0_brim s9 x4).bind fun (r10, u11) => if r7 < r10 then (f_X0_nextWeeper_b56 (f_X0_nextWeeper_b11 n_) u11 x2 x3 x4) else (f_X0_nextWeeper_b57 (f_X0_nextWeeper_b11 n_) u11 x2 x4 x4)) else (f_X0_nextWeeper_b56 (f_X0_nextWeeper_b11 n_) s4 x2 x3 x4)))
def f_X0_nextWeeper (σ : gA) (x2 : Int32) : Option (Int32 × gA) :=
  gv (((S_people (A_s σ))) - 1) fun v1 => f_X0_nextWeeper_b11 20 σ x2 (-4) v1
abbrev rm_X0_nextWeeper : Room := { frames := 5, cells := 0, slots := 0, locals := 112 }
set_option maxHeartbeats 4000000 in
theorem w_X0_nextWeeper_b57 {Γ : gG} {ad : Nat → Nat} {r : Int32} {u : gA} (X : gCX Γ cX0_nextWeeper 5 (some .int) RX0 rm_X0_nextWeeper) {k11 : gA → Int32 → Int32 → Int32 → Option (Int32 × gA)} (H11 : ∀ (σ : gA) (x2 : Int32) (x3 : Int32) (x4 : Int32), k11 σ x2 x3 x4 = some (r, u) → gW Γ (gMQ Γ (gPi (gEo Γ) (wA (gEo Γ) ad) r u (gAo Γ)) 0 0) (wA (gEo Γ) ad σ) 5 0 0 11 [(0, .ref (ad 0)), (1, .ref (ad 6)), (2, .int x2), (3, .int x3), (4, .int x4)] []) : ∀ (σ : gA) (x2 : Int32) (x4 : Int32) (t0 : Int32), f_X0_nextWeeper_b57 k11 σ x2 x4 t0 = some (r, u) → gW Γ (gMQ Γ (gPi (gEo Γ) (wA (gEo Γ) ad) r u (gAo Γ)) 0 0) (wA (gEo Γ) ad σ) 5 0 0 57 [(0, .ref (ad 0)), (1, .ref (ad 6)), (2, .int x2), (4, .int x4)] [.int t0] := by
  intro σ x2 x4 t0 hf
  unfold f_X0_nextWeeper_b57 at hf
  refine g_istore_n X [(3, .int t0), (0, .ref (ad 0)), (1, .ref (ad 6)), (2, .int x2), (4, .int x4)] dX0_nextWeeper_57 (by decide) rfl ?_
  refine g_iincV X (-1) 4 (fun v12 => [(4, .int v12), (3, .int t0), (0, .ref (ad 0)), (1, .ref (ad 6)), (2, .int x2)]) dX0_nextWeeper_58 rfl rfl (by decide) (fun _ => rfl) hf (fun v12 hf => ?_)
  refine g_goto X 11 dX0_nextWeeper_61 rfl ?_
  refine g_sub [2, 3, 4, 1, 0] [(0, .ref (ad 0)), (1, .ref (ad 6)), (2, .int x2), (3, .int t0), (4, .int v12)] rfl ?_
  exact H11 σ x2 t0 v12 hf
set_option maxHeartbeats 4000000 in
theorem w_X0_nextWeeper_b56 {Γ : gG} {ad : Nat → Nat} {r : Int32} {u : gA} (X : gCX Γ cX0_nextWeeper 5 (some .int) RX0 rm_X0_nextWeeper) {k11 : gA → Int32 → Int32 → Int32 → Option (Int32 × gA)} (H11 : ∀ (σ : gA) (x2 : Int32) (x3 : Int32) (x4 : Int32), k11 σ x2 x3 x4 = some (r, u) → gW Γ (gMQ Γ (gPi (gEo Γ) (wA (gEo Γ) ad) r u (gAo Γ)) 0 0) (wA (gEo Γ) ad σ) 5 0 0 11 [(0, .ref (ad 0)), (1, .ref (ad 6)), (2, .int x2), (3, .int x3), (4, .int x4)] []) : ∀ (σ : gA) (x2 : Int32) (x3 : Int32) (x4 : Int32), f_X0_nextWeeper_b56 k11 σ x2 x3 x4 = some (r, u) → gW Γ (gMQ Γ (gPi (gEo Γ) (wA (gEo Γ) ad) r u (gAo Γ)) 0 0) (wA (gEo Γ) ad σ) 5 0 0 56 [(0, .ref (ad 0)), (1, .ref (ad 6)), (2, .int x2), (3, .int x3), (4, .int x4)] [] := by
  intro σ x2 x3 x4 hf
  unfold f_X0_nextWeeper_b56 at hf
  refine g_iload_n X 3 dX0_nextWeeper_56 rfl ?_
  refine g_sub [0, 1, 2, 4] [(0, .ref (ad 0)), (1, .ref (ad 6)), (2, .int x2), (4, .int x4)] rfl ?_
  exact w_X0_nextWeeper_b57 X H11 σ x2 x4 x3 hf
set_option maxHeartbeats 4000000 in
theorem w_X0_nextWeeper_b11 {Γ : gG} {ad : Nat → Nat} {r : Int32} {u : gA} (X : gCX Γ cX0_nextWeeper 5 (some .int) RX0 rm_X0_nextWeeper) : ∀ (n_ : Nat) (σ : gA) (x2 : Int32) (x3 : Int32) (x4 : Int32), f_X0_nextWeeper_b11 n_ σ x2 x3 x4 = some (r, u) → gW Γ (gMQ Γ (gPi (gEo Γ) (wA (gEo Γ) ad) r u (gAo Γ)) 0 0) (wA (gEo Γ) ad σ) 5 0 0 11 [(0, .ref (ad 0)), (1, .ref (ad 6)), (2, .int x2), (3, .int x3), (4, .int x4)] [] := by
  intro n_
  induction n_ with
  | zero => intro σ x2 x3 x4 hf; cases hf
  | succ n_ ih =>
    intro σ x2 x3 x4 hf
    simp only [f_X0_nextWeeper_b11] at hf
    refine g_iload X 4 dX0_nextWeeper_11 rfl ?_
    refine g_if_lt X 64 dX0_nextWeeper_13 rfl hf (fun hf => ?_) (fun hf => ?_)
    · refine g_iload_n X 3 dX0_nextWeeper_64 rfl ?_
      exact g_iret X rfl dX0_nextWeeper_65 hf
    · refine g_aload_n X 1 dX0_nextWeeper_16 rfl ?_
      refine g_iload X 4 dX0_nextWeeper_17 rfl ?_
      refine g_callVi X 1 (As := [.int x4]) (wfc := wS (gEo Γ) (fun i => ad (i + 6))) (lw_V q611 q506 q507 q65 q508) (by decide +kernel) (fun r_ u_ h_ sz_ => m_X5_waits (gl Γ) (gEo Γ) (fun i => ad (i + 6)) (A_s σ) x4 r_ u_ h_ sz_) (rq := 0) rfl rfl rfl rfl rfl ⟨by decide, by decide⟩ rfl (Nat.le_of_ble_eq_true rfl) ⟨Nat.zero_le _, Nat.zero_le _⟩ [6, 7, 8, 9] [0, 1, 2, 3, 4, 5] [0, 1, 2, 3, 4, 5, 6, 7, 8, 9] (fun u3 => wA (gEo Γ) ad (A_s_s σ u3)) rfl rfl rfl rfl (by decide) rfl (fun _ => rfl) dX0_nextWeeper_19 hf (fun r2 u3 _ hf => ?_)
      refine g_gs (wA (gEo Γ) ad) hf (fun s4 hf => ?_)
      refine g_if_eq X 56 dX0_nextWeeper_22 rfl hf (fun hf => ?_) (fun hf => ?_)
      · exact w_X0_nextWeeper_b56 X ih s4 x2 x3 x4 hf
      · refine g_iload_n X 2 dX0_nextWeeper_25 rfl ?_
        refine g_iload X 4 dX0_nextWeeper_26 rfl ?_
        refine g_call0i X 2 (As := [.int x2, .int x4]) (lw_S q628 q460 q60 q461) (by decide +kernel) (fun r_ u_ h_ sz_ => m_X0_has (gl Γ) (gEo Γ) x2 x4 r_ u_ h_ sz_) rfl rfl ⟨by decide, by decide⟩ rfl (Nat.le_of_ble_eq_true rfl) ⟨Nat.zero_le _, Nat.zero_le _⟩ dX0_nextWeeper_28 hf (fun r5 _ hf => ?_)
        refine g_if_ne X 56 dX0_nextWeeper_31 rfl hf (fun hf => ?_) (fun hf => ?_)
        · exact w_X0_nextWeeper_b56 X ih s4 x2 x3 x4 hf
        · refine g_aload_n X 1 dX0_nextWeeper_34 rfl ?_
          refine g_iload X 4 dX0_nextWeeper_35 rfl ?_
          refine g_iconst X 1 dX0_nextWeeper_37 rfl ?_
          refine g_callVi X 2 (As := [.int x4, .int 1]) (wfc := wS (gEo Γ) (fun i => ad (i + 6))) (lw_V q525 q510 q511 q65 q512) (by decide +kernel) (fun r_ u_ h_ sz_ => m_X5_of (gl Γ) (gEo Γ) (fun i => ad (i + 6)) (A_s s4) x4 1 r_ u_ h_ sz_) (rq := 0) rfl rfl rfl rfl rfl ⟨by decide, by decide⟩ rfl (Nat.le_of_ble_eq_true rfl) ⟨Nat.zero_le _, Nat.zero_le _⟩ [6, 7, 8, 9] [0, 1, 2, 3, 4, 5] [0, 1, 2, 3, 4, 5, 6, 7, 8, 9] (fun u8 => wA (gEo Γ) ad (A_s_s s4 u8)) rfl rfl rfl rfl (by decide) rfl (fun _ => rfl) dX0_nextWeeper_38 hf (fun r7 u8 _ hf => ?_)
          refine g_gs (wA (gEo Γ) ad) hf (fun s9 hf => ?_)
          refine g_aload_n X 0 dX0_nextWeeper_41 rfl ?_
          refine g_aload_n X 1 dX0_nextWeeper_42 rfl ?_
          refine g_iload X 4 dX0_nextWeeper_43 rfl ?_
          refine g_callVi X 2 (As := [.ref (ad 6), .int x4]) (wfc := wA (gEo Γ) ad) (lw_V q526 q528 qs13 q60 q529) (by decide +kernel) (fun r_ u_ h_ sz_ => m_X0_brim (gl Γ) (gEo Γ) ad s9 x4 r_ u_ h_ sz_) (rq := 0) rfl rfl rfl rfl rfl ⟨by decide, by decide⟩ rfl (Nat.le_of_ble_eq_true rfl) ⟨Nat.zero_le _, Nat.zero_le _⟩ [0, 1, 2, 3, 4, 5, 6, 7, 8, 9] [] [0, 1, 2, 3, 4, 5, 6, 7, 8, 9] (fun u11 => wA (gEo Γ) ad u11) rfl rfl rfl rfl (by decide) rfl (fun _ => rfl) dX0_nextWeeper_45 hf (fun r10 u11 _ hf => ?_)
          refine g_icmp_lt X 56 dX0_nextWeeper_48 rfl hf (fun hf => ?_) (fun hf => ?_)
          · exact w_X0_nextWeeper_b56 X ih u11 x2 x3 x4 hf
          · refine g_iload X 4 dX0_nextWeeper_51 rfl ?_
            refine g_goto X 57 dX0_nextWeeper_53 rfl ?_
            refine g_sub [0, 1, 2, 4] [(0, .ref (ad 0)), (1, .ref (ad 6)), (2, .int x2), (4, .int x4)] rfl ?_
            exact w_X0_nextWeeper_b57 X ih u11 x2 x4 x4 hf
set_option maxHeartbeats 4000000 in
theorem m_X0_nextWeeper (l : Launch) (E : gE) (ad : Nat → Nat) (σ : gA) (x2 : Int32) (r : Int32) (u : gA) (hf : f_X0_nextWeeper σ x2 = some (r, u)) (sz : Nat) : Met l yX0_nextWeeper (ws_ yX0_nextWeeper cX0_nextWeeper 5 (some .int)) rm_X0_nextWeeper (gPc [.ref (ad 0), .ref (ad 6), .int x2] E (wA E ad σ) sz) (gPi E (wA E ad) r u (va_A (wA E ad σ) sz)) 0 0 (va_A (wA E ad σ) sz) := by
  refine gMet (Qc := gPi E (wA E ad) r u) (by decide) (Nat.le_of_ble_eq_true rfl) (fun Γ X hl hE => ?_)
  subst hl; subst hE
  unfold f_X0_nextWeeper at hf
  show gW Γ (gMQ Γ (gPi (gEo Γ) (wA (gEo Γ) ad) r u (gAo Γ)) 0 0) (wA (gEo Γ) ad σ) 5 0 0 0 [(0, .ref (ad 0)), (1, .ref (ad 6)), (2, .int x2)] []
  refine g_bipush X (-4) dX0_nextWeeper_0 rfl ?_
  refine g_istore_n X [(3, .int (-4)), (0, .ref (ad 0)), (1, .ref (ad 6)), (2, .int x2)] dX0_nextWeeper_2 (by decide) rfl ?_
  refine g_aload_n X 2 dX0_nextWeeper_3 rfl ?_
  refine g_getN X in_X5 6 0 rfl rfl (by decide) 0 rfl rfl dX0_nextWeeper_4 ?_
  refine g_iconst X 1 dX0_nextWeeper_7 rfl ?_
  refine g_isub X dX0_nextWeeper_8 ?_
  refine g_topi hf (fun v1 hf => ?_)
  refine g_istore X [(4, .int v1), (3, .int (-4)), (0, .ref (ad 0)), (1, .ref (ad 6)), (2, .int x2)] dX0_nextWeeper_9 (by decide) rfl ?_
  refine g_sub [2, 3, 4, 1, 0] [(0, .ref (ad 0)), (1, .ref (ad 6)), (2, .int x2), (3, .int (-4)), (4, .int v1)] rfl ?_
  exact w_X0_nextWeeper_b11 X 20 σ x2 (-4) v1 hf
def f_X0_thinking_b19 : Nat → gA → Int32 → Int32 → Option (Int32 × gA)
  | 0 => fun _ _ _ => none
  | n_ + 1 => fun σ x3 x4 =>
    if x4 = (-4) then (some (x3, σ)) else (gv (x3 ||| ((1 : Int32) <<< (x4 &&& 31))) fun v6 => gst 5 (S_wept (A_s σ)) x4 (vp_nar .short (((S_minute (A_s σ))).toInt16.toInt32)) fun g7 => gs (A_s_s σ (S_wept_s (A_s σ) g7)) fun s8 => (f_X5_becomes (A_s s8) x4 1 0).bind fun u10 => gs (A_s_s s8 u10) fun s11 => (f_X5_tells (A_s s11) x4 (-1)).bind fun u13 => gs (A_s_s s11 u13) fun s14 => (f_X5_tells (A_s s14) x4 1).bind fun u16 => gs (A_s_s s14 u16) fun s17 => (f_X0_nextWeeper s17 v6).bind fun (r18, u19) => (f_X0_thinking_b19 n_) u19 v6 r18)
def f_X0_thinking (σ : gA) (x2 : Int32) : Option (Int32 × gA) :=
  (f_X5_saddens (A_s σ) x2 ((S_think (A_s σ)))).bind fun u2 => gs (A_s_s σ u2) fun s3 => (f_X0_nextWeeper s3 0).bind fun (r4, u5) => f_X0_thinking_b19 20 u5 0 r4
abbrev rm_X0_thinking : Room := { frames := 6, cells := 0, slots := 0, locals := 136 }
set_option maxHeartbeats 4000000 in
theorem w_X0_thinking_b19 {Γ : gG} {ad : Nat → Nat} {r : Int32} {u : gA} (X : gCX Γ cX0_thinking 5 (some .int) RX0 rm_X0_thinking) : ∀ (n_ : Nat) (σ : gA) (x3 : Int32) (x4 : Int32), f_X0_thinking_b19 n_ σ x3 x4 = some (r, u) → gW Γ (gMQ Γ (gPi (gEo Γ) (wA (gEo Γ) ad) r u (gAo Γ)) 0 0) (wA (gEo Γ) ad σ) 5 0 0 19 [(0, .ref (ad 0)), (1, .ref (ad 6)), (3, .int x3), (4, .int x4)] [] := by
  intro n_
  induction n_ with
  | zero => intro σ x3 x4 hf; cases hf
  | succ n_ ih =>
    intro σ x3 x4 hf
    simp only [f_X0_thinking_b19] at hf
    refine g_iload X 3 dX0_thinking_19 rfl ?_
    refine g_bipush X (-4) dX0_thinking_21 rfl ?_
    refine g_icmp_eq X 78 dX0_thinking_23 rfl hf (fun hf => ?_) (fun hf => ?_)
    · refine g_iload_n X 2 dX0_thinking_78 rfl ?_
      exact g_iret X rfl dX0_thinking_79 hf
    · refine g_iload_n X 2 dX0_thinking_26 rfl ?_
      refine g_iconst X 1 dX0_thinking_27 rfl ?_
      refine g_iload X 3 dX0_thinking_28 rfl ?_
      refine g_ishl X dX0_thinking_30 ?_
      refine g_ior X dX0_thinking_31 ?_
      refine g_topi hf (fun v6 hf => ?_)
      refine g_istore_n X [(3, .int v6), (0, .ref (ad 0)), (1, .ref (ad 6)), (4, .int x4)] dX0_thinking_32 (by decide) rfl ?_
      refine g_aload_n X 2 dX0_thinking_33 rfl ?_
      refine g_getN X in_X5 6 2 rfl rfl (by decide) 1 rfl rfl dX0_thinking_34 ?_
      refine g_iload X 3 dX0_thinking_37 rfl ?_
      refine g_aload_n X 2 dX0_thinking_39 rfl ?_
      refine g_getN X in_X5 6 3 rfl rfl (by decide) 2 rfl rfl dX0_thinking_40 ?_
      refine g_i2s X dX0_thinking_43 ?_
      refine g_sast X 8 (fun g7 => wA (gEo Γ) ad (A_s_s σ (S_wept_s (A_s σ) g7))) rfl (fun _ => rfl) dX0_thinking_44 hf (fun g7 hf => ?_)
      refine g_gs (wA (gEo Γ) ad) hf (fun s8 hf => ?_)
      refine g_aload_n X 2 dX0_thinking_45 rfl ?_
      refine g_iload X 3 dX0_thinking_46 rfl ?_
      refine g_iconst X 1 dX0_thinking_48 rfl ?_
      refine g_iconst X 0 dX0_thinking_49 rfl ?_
      refine g_callVv X 3 (As := [.int x4, .int 1, .int 0]) (wfc := wS (gEo Γ) (fun i => ad (i + 6))) (lw_V q584 q483 q484 q65 q485) (by decide +kernel) (fun u_ h_ sz_ => m_X5_becomes (gl Γ) (gEo Γ) (fun i => ad (i + 6)) (A_s s8) x4 1 0 u_ h_ sz_) (rq := 0) rfl rfl rfl rfl rfl ⟨by decide, by decide⟩ rfl (Nat.le_of_ble_eq_true rfl) ⟨Nat.zero_le _, Nat.zero_le _⟩ [6, 7, 8, 9] [0, 1, 2, 3, 4, 5] [0, 1, 2, 3, 4, 5, 6, 7, 8, 9] (fun u10 => wA (gEo Γ) ad (A_s_s s8 u10)) rfl rfl rfl rfl (by decide) rfl (fun _ => rfl) dX0_thinking_50 hf (fun u10 _ hf => ?_)
      refine g_gs (wA (gEo Γ) ad) hf (fun s11 hf => ?_)
      refine g_aload_n X 2 dX0_thinking_53 rfl ?_
      refine g_iload X 3 dX0_thinking_54 rfl ?_
      refine g_iconst X (-1) dX0_thinking_56 rfl ?_
      refine g_callVv X 2 (As := [.int x4, .int (-1)]) (wfc := wS (gEo Γ) (fun i => ad (i + 6))) (lw_V q629 q630 q631 q65 q632) (by decide +kernel) (fun u_ h_ sz_ => m_X5_tells (gl Γ) (gEo Γ) (fun i => ad (i + 6)) (A_s s11) x4 (-1) u_ h_ sz_) (rq := 0) rfl rfl rfl rfl rfl ⟨by decide, by decide⟩ rfl (Nat.le_of_ble_eq_true rfl) ⟨Nat.zero_le _, Nat.zero_le _⟩ [6, 7, 8, 9] [0, 1, 2, 3, 4, 5] [0, 1, 2, 3, 4, 5, 6, 7, 8, 9] (fun u13 => wA (gEo Γ) ad (A_s_s s11 u13)) rfl rfl rfl rfl (by decide) rfl (fun _ => rfl) dX0_thinking_57 hf (fun u13 _ hf => ?_)
      refine g_gs (wA (gEo Γ) ad) hf (fun s14 hf => ?_)
      refine g_aload_n X 2 dX0_thinking_60 rfl ?_
      refine g_iload X 3 dX0_thinking_61 rfl ?_
      refine g_iconst X 1 dX0_thinking_63 rfl ?_
      refine g_callVv X 2 (As := [.int x4, .int 1]) (wfc := wS (gEo Γ) (fun i => ad (i + 6))) (lw_V q629 q630 q631 q65 q632) (by decide +kernel) (fun u_ h_ sz_ => m_X5_tells (gl Γ) (gEo Γ) (fun i => ad (i + 6)) (A_s s14) x4 1 u_ h_ sz_) (rq := 0) rfl rfl rfl rfl rfl ⟨by decide, by decide⟩ rfl (Nat.le_of_ble_eq_true rfl) ⟨Nat.zero_le _, Nat.zero_le _⟩ [6, 7, 8, 9] [0, 1, 2, 3, 4, 5] [0, 1, 2, 3, 4, 5, 6, 7, 8, 9] (fun u16 => wA (gEo Γ) ad (A_s_s s14 u16)) rfl rfl rfl rfl (by decide) rfl (fun _ => rfl) dX0_thinking_64 hf (fun u16 _ hf => ?_)
      refine g_gs (wA (gEo Γ) ad) hf (fun s17 hf => ?_)
      refine g_aload_n X 1 dX0_thinking_67 rfl ?_
      refine g_aload_n X 2 dX0_thinking_68 rfl ?_
      refine g_iload_n X 0 dX0_thinking_69 rfl ?_
      refine g_callVi X 2 (As := [.ref (ad 6), .int v6]) (wfc := wA (gEo Γ) ad) (lw_V q624 q626 qs16 q60 q627) (by decide +kernel) (fun r_ u_ h_ sz_ => m_X0_nextWeeper (gl Γ) (gEo Γ) ad s17 v6 r_ u_ h_ sz_) (rq := 0) rfl rfl rfl rfl rfl ⟨by decide, by decide⟩ rfl (Nat.le_of_ble_eq_true rfl) ⟨Nat.zero_le _, Nat.zero_le _⟩ [0, 1, 2, 3, 4, 5, 6, 7, 8, 9] [] [0, 1, 2, 3, 4, 5, 6, 7, 8, 9] (fun u19 => wA (gEo Γ) ad u19) rfl rfl rfl rfl (by decide) rfl (fun _ => rfl) dX0_thinking_70 hf (fun r18 u19 _ hf => ?_)
      refine g_istore X [(4, .int r18), (3, .int v6), (0, .ref (ad 0)), (1, .ref (ad 6))] dX0_thinking_73 (by decide) rfl ?_
      refine g_goto X 19 dX0_thinking_75 rfl ?_
      refine g_sub [2, 3, 1, 0] [(0, .ref (ad 0)), (1, .ref (ad 6)), (3, .int v6), (4, .int r18)] rfl ?_
      exact ih u19 v6 r18 hf
set_option maxHeartbeats 4000000 in
theorem m_X0_thinking (l : Launch) (E : gE) (ad : Nat → Nat) (σ : gA) (x2 : Int32) (r : Int32) (u : gA) (hf : f_X0_thinking σ x2 = some (r, u)) (sz : Nat) : Met l yX0_thinking (ws_ yX0_thinking cX0_thinking 5 (some .int)) rm_X0_thinking (gPc [.ref (ad 0), .ref (ad 6), .int x2] E (wA E ad σ) sz) (gPi E (wA E ad) r u (va_A (wA E ad σ) sz)) 0 0 (va_A (wA E ad σ) sz) := by
  refine gMet (Qc := gPi E (wA E ad) r u) (by decide) (Nat.le_of_ble_eq_true rfl) (fun Γ X hl hE => ?_)
  subst hl; subst hE
  unfold f_X0_thinking at hf
  show gW Γ (gMQ Γ (gPi (gEo Γ) (wA (gEo Γ) ad) r u (gAo Γ)) 0 0) (wA (gEo Γ) ad σ) 5 0 0 0 [(0, .ref (ad 0)), (1, .ref (ad 6)), (2, .int x2)] []
  refine g_iconst X 0 dX0_thinking_0 rfl ?_
  refine g_istore_n X [(3, .int 0), (0, .ref (ad 0)), (1, .ref (ad 6)), (2, .int x2)] dX0_thinking_1 (by decide) rfl ?_
  refine g_aload_n X 2 dX0_thinking_2 rfl ?_
  refine g_iload_n X 3 dX0_thinking_3 rfl ?_
  refine g_aload_n X 2 dX0_thinking_4 rfl ?_
  refine g_getN X in_X5 6 5 rfl rfl (by decide) 4 rfl rfl dX0_thinking_5 ?_
  refine g_callVv X 2 (As := [.int x2, .int ((S_think (A_s σ)))]) (wfc := wS (gEo Γ) (fun i => ad (i + 6))) (lw_V q616 q617 q618 q65 q619) (by decide +kernel) (fun u_ h_ sz_ => m_X5_saddens (gl Γ) (gEo Γ) (fun i => ad (i + 6)) (A_s σ) x2 ((S_think (A_s σ))) u_ h_ sz_) (rq := 0) rfl rfl rfl rfl rfl ⟨by decide, by decide⟩ rfl (Nat.le_of_ble_eq_true rfl) ⟨Nat.zero_le _, Nat.zero_le _⟩ [6, 7, 8, 9] [0, 1, 2, 3, 4, 5] [0, 1, 2, 3, 4, 5, 6, 7, 8, 9] (fun u2 => wA (gEo Γ) ad (A_s_s σ u2)) rfl rfl rfl rfl (by decide) rfl (fun _ => rfl) dX0_thinking_8 hf (fun u2 _ hf => ?_)
  refine g_gs (wA (gEo Γ) ad) hf (fun s3 hf => ?_)
  refine g_aload_n X 1 dX0_thinking_11 rfl ?_
  refine g_aload_n X 2 dX0_thinking_12 rfl ?_
  refine g_iload_n X 0 dX0_thinking_13 rfl ?_
  refine g_callVi X 2 (As := [.ref (ad 6), .int 0]) (wfc := wA (gEo Γ) ad) (lw_V q624 q626 qs16 q60 q627) (by decide +kernel) (fun r_ u_ h_ sz_ => m_X0_nextWeeper (gl Γ) (gEo Γ) ad s3 0 r_ u_ h_ sz_) (rq := 0) rfl rfl rfl rfl rfl ⟨by decide, by decide⟩ rfl (Nat.le_of_ble_eq_true rfl) ⟨Nat.zero_le _, Nat.zero_le _⟩ [0, 1, 2, 3, 4, 5, 6, 7, 8, 9] [] [0, 1, 2, 3, 4, 5, 6, 7, 8, 9] (fun u5 => wA (gEo Γ) ad u5) rfl rfl rfl rfl (by decide) rfl (fun _ => rfl) dX0_thinking_14 hf (fun r4 u5 _ hf => ?_)
  refine g_istore X [(4, .int r4), (3, .int 0), (0, .ref (ad 0)), (1, .ref (ad 6)), (2, .int x2)] dX0_thinking_17 (by decide) rfl ?_
  refine g_sub [2, 3, 1, 0] [(0, .ref (ad 0)), (1, .ref (ad 6)), (3, .int 0), (4, .int r4)] rfl ?_
  exact w_X0_thinking_b19 X 20 u5 0 r4 hf
def f_X0_thinks (σ : gX) (x1 : Int32) : Option (Int32 × gX) :=
  (f_X0_isOne σ x1).bind fun (r1, u2) => if r1 = 0 then (some ((-1), u2)) else ((f_X5_waits (X_now u2) x1).bind fun (r3, u4) => gs (X_now_s u2 u4) fun s5 => if r3 = 0 then (some ((-2), s5)) else ((f_X0_thinking ((X_xi s5), (X_now s5)) x1).bind fun (r6, u7) => gs (X_now_s (X_xi_s s5 u7.1) u7.2) fun s8 => some (r6, s8)))
abbrev rm_X0_thinks : Room := { frames := 7, cells := 0, slots := 0, locals := 160 }
set_option maxHeartbeats 4000000 in
theorem m_X0_thinks (l : Launch) (E : gE) (ad : Nat → Nat) (σ : gX) (x1 : Int32) (r : Int32) (u : gX) (hf : f_X0_thinks σ x1 = some (r, u)) (sz : Nat) : Met l yX0_thinks (ws_ yX0_thinks cX0_thinks 2 (some .int)) rm_X0_thinks (gPc [.ref (ad 0), .int x1] E (wX E ad σ) sz) (gPi E (wX E ad) r u (va_A (wX E ad σ) sz)) 0 0 (va_A (wX E ad σ) sz) := by
  refine gMet (Qc := gPi E (wX E ad) r u) (by decide) (Nat.le_of_ble_eq_true rfl) (fun Γ X hl hE => ?_)
  subst hl; subst hE
  unfold f_X0_thinks at hf
  show gW Γ (gMQ Γ (gPi (gEo Γ) (wX (gEo Γ) ad) r u (gAo Γ)) 0 0) (wX (gEo Γ) ad σ) 2 0 0 0 [(0, .ref (ad 0)), (1, .int x1)] []
  refine g_aload_n X 0 dX0_thinks_0 rfl ?_
  refine g_iload_n X 1 dX0_thinks_1 rfl ?_
  refine g_callVi X 1 (As := [.int x1]) (wfc := wX (gEo Γ) ad) (lw_V q521 q523 qs12 q60 q524) (by decide +kernel) (fun r_ u_ h_ sz_ => m_X0_isOne (gl Γ) (gEo Γ) ad σ x1 r_ u_ h_ sz_) (rq := 0) rfl rfl rfl rfl rfl ⟨by decide, by decide⟩ rfl (Nat.le_of_ble_eq_true rfl) ⟨Nat.zero_le _, Nat.zero_le _⟩ [0, 1, 2, 3, 4, 5, 6, 7, 8, 9, 10, 11, 12, 13, 14, 15, 16, 17, 18, 19, 20, 21, 22, 23, 24, 25, 26, 27, 28, 29, 30] [] [0, 1, 2, 3, 4, 5, 6, 7, 8, 9, 10, 11, 12, 13, 14, 15, 16, 17, 18, 19, 20, 21, 22, 23, 24, 25, 26, 27, 28, 29, 30] (fun u2 => wX (gEo Γ) ad u2) rfl rfl rfl rfl (by decide) rfl (fun _ => rfl) dX0_thinks_2 hf (fun r1 u2 _ hf => ?_)
  refine g_if_ne X 10 dX0_thinks_5 rfl hf (fun hf => ?_) (fun hf => ?_)
  · refine g_aload_n X 0 dX0_thinks_10 rfl ?_
    refine g_get X in_X0 0 1 rfl rfl (by decide) q180 rfl dX0_thinks_11 ?_
    refine g_iload_n X 1 dX0_thinks_14 rfl ?_
    refine g_callVi X 1 (As := [.int x1]) (wfc := wS (gEo Γ) (fun i => ad (i + 6))) (lw_V q611 q506 q507 q65 q508) (by decide +kernel) (fun r_ u_ h_ sz_ => m_X5_waits (gl Γ) (gEo Γ) (fun i => ad (i + 6)) (X_now u2) x1 r_ u_ h_ sz_) (rq := 0) rfl rfl rfl rfl rfl ⟨by decide, by decide⟩ rfl (Nat.le_of_ble_eq_true rfl) ⟨Nat.zero_le _, Nat.zero_le _⟩ [6, 7, 8, 9] [0, 1, 2, 3, 4, 5, 10, 11, 12, 13, 14, 15, 16, 17, 18, 19, 20, 21, 22, 23, 24, 25, 26, 27, 28, 29, 30] [0, 1, 2, 3, 4, 5, 27, 28, 29, 30, 6, 7, 8, 9, 10, 11, 12, 13, 14, 15, 16, 17, 18, 19, 20, 21, 22, 23, 24, 25, 26] (fun u4 => wX (gEo Γ) ad (X_now_s u2 u4)) rfl rfl rfl rfl (by decide) rfl (fun _ => rfl) dX0_thinks_15 hf (fun r3 u4 _ hf => ?_)
    refine g_gs (wX (gEo Γ) ad) hf (fun s5 hf => ?_)
    refine g_if_eq X 33 dX0_thinks_18 rfl hf (fun hf => ?_) (fun hf => ?_)
    · refine g_bipush X (-2) dX0_thinks_33 rfl ?_
      exact g_iret X rfl dX0_thinks_35 hf
    · refine g_aload_n X 0 dX0_thinks_21 rfl ?_
      refine g_aload_n X 0 dX0_thinks_22 rfl ?_
      refine g_get X in_X0 0 1 rfl rfl (by decide) q180 rfl dX0_thinks_23 ?_
      refine g_iload_n X 1 dX0_thinks_26 rfl ?_
      refine g_callVi X 2 (As := [.ref (ad 6), .int x1]) (wfc := wA (gEo Γ) (fun i => ad ([0, 1, 2, 3, 4, 5, 6, 7, 8, 9, 6, 10, 14, 23, 24, 25, 26].getD i 0))) (lw_V q612 q614 qs15 q60 q615) (by decide +kernel) (fun r_ u_ h_ sz_ => m_X0_thinking (gl Γ) (gEo Γ) (fun i => ad ([0, 1, 2, 3, 4, 5, 6, 7, 8, 9, 6, 10, 14, 23, 24, 25, 26].getD i 0)) ((X_xi s5), (X_now s5)) x1 r_ u_ h_ sz_) (rq := 0) rfl rfl rfl rfl rfl ⟨by decide, by decide⟩ rfl (Nat.le_of_ble_eq_true rfl) ⟨Nat.zero_le _, Nat.zero_le _⟩ [0, 1, 2, 3, 4, 5, 6, 7, 8, 9] [10, 11, 12, 13, 14, 15, 16, 17, 18, 19, 20, 21, 22, 23, 24, 25, 26, 27, 28, 29, 30] [21, 22, 23, 24, 25, 26, 27, 28, 29, 30, 0, 1, 2, 3, 4, 5, 6, 7, 8, 9, 10, 11, 12, 13, 14, 15, 16, 17, 18, 19, 20] (fun u7 => wX (gEo Γ) ad (X_now_s (X_xi_s s5 u7.1) u7.2)) rfl rfl rfl rfl (by decide) rfl (fun _ => rfl) dX0_thinks_27 hf (fun r6 u7 _ hf => ?_)
      refine g_gs (wX (gEo Γ) ad) hf (fun s8 hf => ?_)
      refine g_goto X 35 dX0_thinks_30 rfl ?_
      exact g_iret X rfl dX0_thinks_35 hf
  · refine g_iconst X (-1) dX0_thinks_8 rfl ?_
    exact g_iret X rfl dX0_thinks_9 hf
