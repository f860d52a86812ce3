set_option maxRecDepth 100000
def f_X0_drift_b117 (k55 : gX → Int32 → Int32 → Int32 → Int32 → Option (Int32 × gX)) (σ : gX) (x2 : Int32) (x3 : Int32) (x4 : Int32) (x5 : Int32) (t0 : Int32) : Option (Int32 × gX) :=
  (f_X0_acts ((X_xi σ), (X_tried σ)) t0).bind fun (r19, u20) => gs (X_tried_s (X_xi_s σ u20.1) u20.2) fun s21 => gv (x5 + 1) fun v22 => k55 s21 x2 x3 x4 v22
def f_X0_drift_b55 : Nat → gX → Int32 → Int32 → Int32 → Int32 → Option (Int32 × gX)
  | 0 => fun _ _ _ _ _ => none
  | n_ + 1 => fun σ x2 x3 x4 x5 =>
    if x2 ≤ x5 then (if x3 = 0 then (some ((I_often (X_xi σ)), σ)) else ((f_X5_waiting (X_tried σ)).bind fun (r11, u12) => gs (X_tried_s σ u12) fun s13 => (f_X5_firstOf (X_tried s13) r11).bind fun (r14, u15) => gs (X_tried_s s13 u15) fun s16 => some (r14, s16))) else (gv ((x4 * 1103515245) + 12345) fun v17 => gdv (((S_people (X_now σ))) + 1) <| gv ((((v17.toUInt32 >>> ((16 : Int32).toUInt32 &&& Int32.toUInt32 31)).toInt32) &&& 32767) - (((v17.toUInt32 >>> ((16 : Int32).toUInt32 &&& Int32.toUInt32 31)).toInt32) &&& 32767) / (((S_people (X_now σ))) + 1) * (((S_people (X_now σ))) + 1)) fun v18 => if v18 = ((S_people (X_now σ))) then (f_X0_drift_b117 (f_X0_drift_b55 n_) σ x2 x3 v17 x5 5) else (f_X0_drift_b117 (f_X0_drift_b55 n_) σ x2 x3 v17 x5 v18))
def f_X0_drift (σ : gX) (x1 : Int32) (x2 : Int32) (x3 : Int32) : Option (Int32 × gX) :=
  (f_X0_in (x2.toInt64) 1 60).bind fun (r1, _) => if r1 = 0 then (some ((-1), σ)) else ((f_X0_isPart x3).bind fun (r3, _) => if r3 = 0 then (some ((-1), σ)) else (if ((S_people (X_now σ))) = 0 then (some ((-2), σ)) else ((f_X5_as ((X_tried σ), (X_now σ))).bind fun u6 => gs (X_now_s (X_tried_s σ u6.1) u6.2) fun s7 => (f_X0_begins ((X_xi s7))).bind fun u9 => gs (X_xi_s s7 u9) fun s10 => f_X0_drift_b55 2000 s10 x2 x3 x1 0)))
abbrev rm_X0_drift : Room := { frames := 8, cells := 0, slots := 0, locals := 183 }
set_option maxHeartbeats 4000000 in
theorem w_X0_drift_b117 {Γ : gG} {ad : Nat → Nat} {r : Int32} {u : gX} (X : gCX Γ cX0_drift 7 (some .int) RX0 rm_X0_drift) {k55 : gX → Int32 → Int32 → Int32 → Int32 → Option (Int32 × gX)} (H55 : ∀ (σ : gX) (x2 : Int32) (x3 : Int32) (x4 : Int32) (x5 : Int32), k55 σ x2 x3 x4 x5 = some (r, u) → gW Γ (gMQ Γ (gPi (gEo Γ) (wX (gEo Γ) ad) r u (gAo Γ)) 0 0) (wX (gEo Γ) ad σ) 7 0 0 55 [(0, .ref (ad 0)), (2, .int x2), (3, .int x3), (4, .int x4), (5, .int x5)] []) : ∀ (σ : gX) (x2 : Int32) (x3 : Int32) (x4 : Int32) (x5 : Int32) (t0 : Int32), f_X0_drift_b117 k55 σ x2 x3 x4 x5 t0 = some (r, u) → gW Γ (gMQ Γ (gPi (gEo Γ) (wX (gEo Γ) ad) r u (gAo Γ)) 0 0) (wX (gEo Γ) ad σ) 7 0 0 117 [(0, .ref (ad 0)), (2, .int x2), (3, .int x3), (4, .int x4), (5, .int x5)] [.int t0, .ref (ad 10), .ref (ad 0)] := by
  intro σ x2 x3 x4 x5 t0 hf
  unfold f_X0_drift_b117 at hf
  refine g_callVi X 2 (As := [.ref (ad 10), .int t0]) (wfc := wA (gEo Γ) (fun i => ad ([0, 1, 2, 3, 4, 5, 10, 11, 12, 13, 6, 10, 14, 23, 24, 25, 26].getD i 0))) (lw_V q683 q685 qs19 q60 q686) (by decide +kernel) (fun r_ u_ h_ sz_ => m_X0_acts (gl Γ) (gEo Γ) (fun i => ad ([0, 1, 2, 3, 4, 5, 10, 11, 12, 13, 6, 10, 14, 23, 24, 25, 26].getD i 0)) ((X_xi σ), (X_tried σ)) t0 r_ u_ h_ sz_) (rq := 0) rfl rfl rfl rfl rfl ⟨by decide, by decide⟩ rfl (Nat.le_of_ble_eq_true rfl) ⟨Nat.zero_le _, Nat.zero_le _⟩ [0, 1, 2, 3, 4, 5, 10, 11, 12, 13] [6, 7, 8, 9, 14, 15, 16, 17, 18, 19, 20, 21, 22, 23, 24, 25, 26, 27, 28, 29, 30] [21, 22, 23, 24, 25, 26, 0, 1, 2, 3, 27, 28, 29, 30, 4, 5, 6, 7, 8, 9, 10, 11, 12, 13, 14, 15, 16, 17, 18, 19, 20] (fun u20 => wX (gEo Γ) ad (X_tried_s (X_xi_s σ u20.1) u20.2)) rfl rfl rfl rfl (by decide) rfl (fun _ => rfl) dX0_drift_117 hf (fun r19 u20 _ hf => ?_)
  refine g_gs (wX (gEo Γ) ad) hf (fun s21 hf => ?_)
  refine g_pop X dX0_drift_120 rfl ?_
  refine g_iincV X 1 4 (fun v22 => [(5, .int v22), (0, .ref (ad 0)), (2, .int x2), (3, .int x3), (4, .int x4)]) dX0_drift_121 rfl rfl (by decide) (fun _ => rfl) hf (fun v22 hf => ?_)
  refine g_goto X 55 dX0_drift_124 rfl ?_
  refine g_sub [1, 2, 3, 4, 0] [(0, .ref (ad 0)), (2, .int x2), (3, .int x3), (4, .int x4), (5, .int v22)] rfl ?_
  exact H55 s21 x2 x3 x4 v22 hf
set_option maxHeartbeats 4000000 in
theorem w_X0_drift_b55 {Γ : gG} {ad : Nat → Nat} {r : Int32} {u : gX} (X : gCX Γ cX0_drift 7 (some .int) RX0 rm_X0_drift) : ∀ (n_ : Nat) (σ : gX) (x2 : Int32) (x3 : Int32) (x4 : Int32) (x5 : Int32), f_X0_drift_b55 n_ σ x2 x3 x4 x5 = some (r, u) → gW Γ (gMQ Γ (gPi (gEo Γ) (wX (gEo Γ) ad) r u (gAo Γ)) 0 0) (wX (gEo Γ) ad σ) 7 0 0 55 [(0, .ref (ad 0)), (2, .int x2), (3, .int x3), (4, .int x4), (5, .int x5)] [] := by
  intro n_
  induction n_ with
  | zero => intro σ x2 x3 x4 x5 hf; cases hf
  | succ n_ ih =>
    intro σ x2 x3 x4 x5 hf
    simp only [f_X0_drift_b55] at hf
    refine g_iload X 4 dX0_drift_55 rfl ?_
    refine g_iload_n X 1 dX0_drift_57 rfl ?_
    refine g_icmp_ge X 127 dX0_drift_58 rfl hf (fun hf => ?_) (fun hf => ?_)
    · refine g_iload_n X 2 dX0_drift_127 rfl ?_
      refine g_if_ne X 138 dX0_drift_128 rfl hf (fun hf => ?_) (fun hf => ?_)
      · refine g_aload_n X 0 dX0_drift_138 rfl ?_
        refine g_get X in_X0 0 2 rfl rfl (by decide) q181 rfl dX0_drift_139 ?_
        refine g_aload_n X 0 dX0_drift_142 rfl ?_
        refine g_get X in_X0 0 2 rfl rfl (by decide) q181 rfl dX0_drift_143 ?_
        refine g_callVi X 0 (As := []) (wfc := wS (gEo Γ) (fun i => ad (i + 10))) (lw_V q501 q502 q503 q65 q504) (by decide +kernel) (fun r_ u_ h_ sz_ => m_X5_waiting (gl Γ) (gEo Γ) (fun i => ad (i + 10)) (X_tried σ) r_ u_ h_ sz_) (rq := 0) rfl rfl rfl rfl rfl ⟨by decide, by decide⟩ rfl (Nat.le_of_ble_eq_true rfl) ⟨Nat.zero_le _, Nat.zero_le _⟩ [10, 11, 12, 13] [0, 1, 2, 3, 4, 5, 6, 7, 8, 9, 14, 15, 16, 17, 18, 19, 20, 21, 22, 23, 24, 25, 26, 27, 28, 29, 30] [0, 1, 2, 3, 4, 5, 6, 7, 8, 9, 27, 28, 29, 30, 10, 11, 12, 13, 14, 15, 16, 17, 18, 19, 20, 21, 22, 23, 24, 25, 26] (fun u12 => wX (gEo Γ) ad (X_tried_s σ u12)) rfl rfl rfl rfl (by decide) rfl (fun _ => rfl) dX0_drift_146 hf (fun r11 u12 _ hf => ?_)
        refine g_gs (wX (gEo Γ) ad) hf (fun s13 hf => ?_)
        refine g_callVi X 1 (As := [.int r11]) (wfc := wS (gEo Γ) (fun i => ad (i + 10))) (lw_V q574 q562 q563 q65 q564) (by decide +kernel) (fun r_ u_ h_ sz_ => m_X5_firstOf (gl Γ) (gEo Γ) (fun i => ad (i + 10)) (X_tried s13) r11 r_ u_ h_ sz_) (rq := 0) rfl rfl rfl rfl rfl ⟨by decide, by decide⟩ rfl (Nat.le_of_ble_eq_true rfl) ⟨Nat.zero_le _, Nat.zero_le _⟩ [10, 11, 12, 13] [0, 1, 2, 3, 4, 5, 6, 7, 8, 9, 14, 15, 16, 17, 18, 19, 20, 21, 22, 23, 24, 25, 26, 27, 28, 29, 30] [0, 1, 2, 3, 4, 5, 6, 7, 8, 9, 27, 28, 29, 30, 10, 11, 12, 13, 14, 15, 16, 17, 18, 19, 20, 21, 22, 23, 24, 25, 26] (fun u15 => wX (gEo Γ) ad (X_tried_s s13 u15)) rfl rfl rfl rfl (by decide) rfl (fun _ => rfl) dX0_drift_149 hf (fun r14 u15 _ hf => ?_)
        refine g_gs (wX (gEo Γ) ad) hf (fun s16 hf => ?_)
        exact g_iret X rfl dX0_drift_152 hf
      · refine g_aload_n X 0 dX0_drift_131 rfl ?_
        refine g_get X in_X0 0 8 rfl rfl (by decide) q187 rfl dX0_drift_132 ?_
        refine g_goto X 152 dX0_drift_135 rfl ?_
        exact g_iret X rfl dX0_drift_152 hf
    · refine g_iload X 3 dX0_drift_61 rfl ?_
      refine g_ldcw X dX0_drift_63 q782 ?_
      refine g_imul X dX0_drift_66 ?_
      refine g_sipush X 12345 dX0_drift_67 rfl ?_
      refine g_iadd X dX0_drift_70 ?_
      refine g_topi hf (fun v17 hf => ?_)
      refine g_istore X [(4, .int v17), (0, .ref (ad 0)), (2, .int x2), (3, .int x3), (5, .int x5)] dX0_drift_71 (by decide) rfl ?_
      refine g_iload X 0 dX0_drift_73 rfl ?_
      refine g_bipush X 16 dX0_drift_75 rfl ?_
      refine g_iushr X dX0_drift_77 ?_
      refine g_sipush X 32767 dX0_drift_78 rfl ?_
      refine g_iand X dX0_drift_81 ?_
      refine g_aload_n X 1 dX0_drift_82 rfl ?_
      refine g_get X in_X0 0 1 rfl rfl (by decide) q180 rfl dX0_drift_83 ?_
      refine g_getN X in_X5 6 0 rfl rfl (by decide) 0 rfl rfl dX0_drift_86 ?_
      refine g_iconst X 1 dX0_drift_89 rfl ?_
      refine g_iadd X dX0_drift_90 ?_
      refine g_irem X dX0_drift_91 hf (fun hf => ?_)
      refine g_topi hf (fun v18 hf => ?_)
      refine g_istore X [(6, .int v18), (4, .int v17), (0, .ref (ad 0)), (2, .int x2), (3, .int x3), (5, .int x5)] dX0_drift_92 (by decide) rfl ?_
      refine g_aload_n X 2 dX0_drift_94 rfl ?_
      refine g_aload_n X 2 dX0_drift_95 rfl ?_
      refine g_get X in_X0 0 2 rfl rfl (by decide) q181 rfl dX0_drift_96 ?_
      refine g_iload X 0 dX0_drift_99 rfl ?_
      refine g_aload_n X 2 dX0_drift_101 rfl ?_
      refine g_get X in_X0 0 1 rfl rfl (by decide) q180 rfl dX0_drift_102 ?_
      refine g_getN X in_X5 6 0 rfl rfl (by decide) 0 rfl rfl dX0_drift_105 ?_
      refine g_icmp_ne X 115 dX0_drift_108 rfl hf (fun hf => ?_) (fun hf => ?_)
      · refine g_iload X 0 dX0_drift_115 rfl ?_
        refine g_sub [2, 3, 4, 1, 5] [(0, .ref (ad 0)), (2, .int x2), (3, .int x3), (4, .int v17), (5, .int x5)] rfl ?_
        exact w_X0_drift_b117 X ih σ x2 x3 v17 x5 v18 hf
      · refine g_iconst X 5 dX0_drift_111 rfl ?_
        refine g_goto X 117 dX0_drift_112 rfl ?_
        refine g_sub [2, 3, 4, 1, 5] [(0, .ref (ad 0)), (2, .int x2), (3, .int x3), (4, .int v17), (5, .int x5)] rfl ?_
        exact w_X0_drift_b117 X ih σ x2 x3 v17 x5 5 hf
set_option maxHeartbeats 4000000 in
theorem m_X0_drift (l : Launch) (E : gE) (ad : Nat → Nat) (σ : gX) (x1 : Int32) (x2 : Int32) (x3 : Int32) (r : Int32) (u : gX) (hf : f_X0_drift σ x1 x2 x3 = some (r, u)) (sz : Nat) : Met l yX0_drift (ws_ yX0_drift cX0_drift 7 (some .int)) rm_X0_drift (gPc [.ref (ad 0), .int x1, .int x2, .int x3] E (wX E ad σ) sz) (gPi E (wX E ad) r u (va_A (wX E ad σ) sz)) 0 0 (va_A (wX E ad σ) sz) := by
  refine gMet (Qc := gPi E (wX E ad) r u) (by decide) (Nat.le_of_ble_eq_true rfl) (fun Γ X hl hE => ?_)
  subst hl; subst hE
  unfold f_X0_drift at hf
  show gW Γ (gMQ Γ (gPi (gEo Γ) (wX (gEo Γ) ad) r u (gAo Γ)) 0 0) (wX (gEo Γ) ad σ) 7 0 0 0 [(0, .ref (ad 0)), (1, .int x1), (2, .int x2), (3, .int x3)] []
  refine g_iload_n X 2 dX0_drift_0 rfl ?_
  refine g_i2l X dX0_drift_1 ?_
  refine g_lconst X 1 dX0_drift_2 rfl ?_
  refine g_ldc2 X dX0_drift_3 q638 ?_
  refine g_call0i X 3 (As := [.long (x2.toInt64), .long 1, .long 60]) (lw_S q243 q244 q60 q245) (by decide +kernel) (fun r_ u_ h_ sz_ => m_X0_in (gl Γ) (gEo Γ) (x2.toInt64) 1 60 r_ u_ h_ sz_) rfl rfl ⟨by decide, by decide⟩ rfl (Nat.le_of_ble_eq_true rfl) ⟨Nat.zero_le _, Nat.zero_le _⟩ dX0_drift_6 hf (fun r1 _ hf => ?_)
  refine g_if_eq X 19 dX0_drift_9 rfl hf (fun hf => ?_) (fun hf => ?_)
  · refine g_iconst X (-1) dX0_drift_19 rfl ?_
    exact g_iret X rfl dX0_drift_20 hf
  · refine g_iload_n X 3 dX0_drift_12 rfl ?_
    refine g_call0i X 1 (As := [.int x3]) (lw_S q579 q580 q60 q581) (by decide +kernel) (fun r_ u_ h_ sz_ => m_X0_isPart (gl Γ) (gEo Γ) x3 r_ u_ h_ sz_) rfl rfl ⟨by decide, by decide⟩ rfl (Nat.le_of_ble_eq_true rfl) ⟨Nat.zero_le _, Nat.zero_le _⟩ dX0_drift_13 hf (fun r3 _ hf => ?_)
    refine g_if_ne X 21 dX0_drift_16 rfl hf (fun hf => ?_) (fun hf => ?_)
    · refine g_aload_n X 0 dX0_drift_21 rfl ?_
      refine g_get X in_X0 0 1 rfl rfl (by decide) q180 rfl dX0_drift_22 ?_
      refine g_getN X in_X5 6 0 rfl rfl (by decide) 0 rfl rfl dX0_drift_25 ?_
      refine g_if_ne X 34 dX0_drift_28 rfl hf (fun hf => ?_) (fun hf => ?_)
      · refine g_aload_n X 0 dX0_drift_34 rfl ?_
        refine g_get X in_X0 0 2 rfl rfl (by decide) q181 rfl dX0_drift_35 ?_
        refine g_aload_n X 0 dX0_drift_38 rfl ?_
        refine g_get X in_X0 0 1 rfl rfl (by decide) q180 rfl dX0_drift_39 ?_
        refine g_callVv X 1 (As := [.ref (ad 6)]) (wfc := wSS (gEo Γ) (fun i => ad ([10, 11, 12, 13, 6, 7, 8, 9].getD i 0))) (lw_V q486 q487 q488 q65 q489) (by decide +kernel) (fun u_ h_ sz_ => m_X5_as (gl Γ) (gEo Γ) (fun i => ad ([10, 11, 12, 13, 6, 7, 8, 9].getD i 0)) ((X_tried σ), (X_now σ)) u_ h_ sz_) (rq := 0) rfl rfl rfl rfl rfl ⟨by decide, by decide⟩ rfl (Nat.le_of_ble_eq_true rfl) ⟨Nat.zero_le _, Nat.zero_le _⟩ [10, 11, 12, 13, 6, 7, 8, 9] [0, 1, 2, 3, 4, 5, 14, 15, 16, 17, 18, 19, 20, 21, 22, 23, 24, 25, 26, 27, 28, 29, 30] [0, 1, 2, 3, 4, 5, 27, 28, 29, 30, 23, 24, 25, 26, 6, 7, 8, 9, 10, 11, 12, 13, 14, 15, 16, 17, 18, 19, 20, 21, 22] (fun u6 => wX (gEo Γ) ad (X_now_s (X_tried_s σ u6.1) u6.2)) rfl rfl rfl rfl (by decide) rfl (fun _ => rfl) dX0_drift_42 hf (fun u6 _ hf => ?_)
        refine g_gs (wX (gEo Γ) ad) hf (fun s7 hf => ?_)
        refine g_aload_n X 0 dX0_drift_45 rfl ?_
        refine g_callVv X 0 (As := []) (wfc := wO (gEo Γ) (fun i => ad ([0, 1, 6, 10, 14, 23, 24, 25, 26].getD i 0))) (lw_V q679 q681 qs18 q60 q682) (by decide +kernel) (fun u_ h_ sz_ => m_X0_begins (gl Γ) (gEo Γ) (fun i => ad ([0, 1, 6, 10, 14, 23, 24, 25, 26].getD i 0)) ((X_xi s7)) u_ h_ sz_) (rq := 0) rfl rfl rfl rfl rfl ⟨by decide, by decide⟩ rfl (Nat.le_of_ble_eq_true rfl) ⟨Nat.zero_le _, Nat.zero_le _⟩ [0] [1, 2, 3, 4, 5, 6, 7, 8, 9, 10, 11, 12, 13, 14, 15, 16, 17, 18, 19, 20, 21, 22, 23, 24, 25, 26, 27, 28, 29, 30] [30, 0, 1, 2, 3, 4, 5, 6, 7, 8, 9, 10, 11, 12, 13, 14, 15, 16, 17, 18, 19, 20, 21, 22, 23, 24, 25, 26, 27, 28, 29] (fun u9 => wX (gEo Γ) ad (X_xi_s s7 u9)) rfl rfl rfl rfl (by decide) rfl (fun _ => rfl) dX0_drift_46 hf (fun u9 _ hf => ?_)
        refine g_gs (wX (gEo Γ) ad) hf (fun s10 hf => ?_)
        refine g_iload_n X 1 dX0_drift_49 rfl ?_
        refine g_istore X [(4, .int x1), (0, .ref (ad 0)), (1, .int x1), (2, .int x2), (3, .int x3)] dX0_drift_50 (by decide) rfl ?_
        refine g_iconst X 0 dX0_drift_52 rfl ?_
        refine g_istore X [(5, .int 0), (4, .int x1), (0, .ref (ad 0)), (1, .int x1), (2, .int x2), (3, .int x3)] dX0_drift_53 (by decide) rfl ?_
        refine g_sub [2, 4, 5, 1, 0] [(0, .ref (ad 0)), (2, .int x2), (3, .int x3), (4, .int x1), (5, .int 0)] rfl ?_
        exact w_X0_drift_b55 X 2000 s10 x2 x3 x1 0 hf
      · refine g_bipush X (-2) dX0_drift_31 rfl ?_
        exact g_iret X rfl dX0_drift_33 hf
    · refine g_iconst X (-1) dX0_drift_19 rfl ?_
      exact g_iret X rfl dX0_drift_20 hf
def f_X0_keep (σ : gX) (x1 : Int32) : Option (Int32 × gX) :=
  (f_X0_in (x1.toInt64) 0 1).bind fun (r1, _) => if r1 = 0 then (some ((-1), σ)) else (gv ((((I_kept (X_xi σ))) >>> (x1 &&& 31)) &&& 1) fun v3 => gix 2 x1 (fun k => match k with | 0 => ((f_X5_as ((X_im0 σ), (X_now σ))).bind fun u5 => gs (X_now_s (X_im0_s σ u5.1) u5.2) fun s6 => gv (((I_kept (X_xi s6))) ||| ((1 : Int32) <<< (x1 &&& 31))) fun v7 => gs (X_xi_s s6 (I_kept_s (X_xi s6) v7)) fun s8 => some (v3, s8)) | 1 => ((f_X5_as ((X_im1 σ), (X_now σ))).bind fun u10 => gs (X_now_s (X_im1_s σ u10.1) u10.2) fun s11 => gv (((I_kept (X_xi s11))) ||| ((1 : Int32) <<< (x1 &&& 31))) fun v12 => gs (X_xi_s s11 (I_kept_s (X_xi s11) v12)) fun s13 => some (v3, s13)) | _ => none))
abbrev rm_X0_keep : Room := { frames := 2, cells := 0, slots := 0, locals := 81 }
set_option maxHeartbeats 4000000 in
theorem m_X0_keep (l : Launch) (E : gE) (ad : Nat → Nat) (σ : gX) (x1 : Int32) (r : Int32) (u : gX) (hf : f_X0_keep σ x1 = some (r, u)) (sz : Nat) : Met l yX0_keep (ws_ yX0_keep cX0_keep 3 (some .int)) rm_X0_keep (gPc [.ref (ad 0), .int x1] E (wX E ad σ) sz) (gPi E (wX E ad) r u (va_A (wX E ad σ) sz)) 0 0 (va_A (wX E ad σ) sz) := by
  refine gMet (Qc := gPi E (wX E ad) r u) (by decide) (Nat.le_of_ble_eq_true rfl) (fun Γ X hl hE => ?_)
  subst hl; subst hE
  unfold f_X0_keep at hf
  show gW Γ (gMQ Γ (gPi (gEo Γ) (wX (gEo Γ) ad) r u (gAo Γ)) 0 0) (wX (gEo Γ) ad σ) 3 0 0 0 [(0, .ref (ad 0)), (1, .int x1)] []
  refine g_iload_n X 1 dX0_keep_0 rfl ?_
  refine g_i2l X dX0_keep_1 ?_
  refine g_lconst X 0 dX0_keep_2 rfl ?_
  refine g_lconst X 1 dX0_keep_3 rfl ?_
  refine g_call0i X 3 (As := [.long (x1.toInt64), .long 0, .long 1]) (lw_S q243 q244 q60 q245) (by decide +kernel) (fun r_ u_ h_ sz_ => m_X0_in (gl Γ) (gEo Γ) (x1.toInt64) 0 1 r_ u_ h_ sz_) rfl rfl ⟨by decide, by decide⟩ rfl (Nat.le_of_ble_eq_true rfl) ⟨Nat.zero_le _, Nat.zero_le _⟩ dX0_keep_4 hf (fun r1 _ hf => ?_)
  refine g_if_ne X 12 dX0_keep_7 rfl hf (fun hf => ?_) (fun hf => ?_)
  · refine g_aload_n X 0 dX0_keep_12 rfl ?_
    refine g_get X in_X0 0 4 rfl rfl (by decide) q183 rfl dX0_keep_13 ?_
    refine g_iload_n X 1 dX0_keep_16 rfl ?_
    refine g_ishr X dX0_keep_17 ?_
    refine g_iconst X 1 dX0_keep_18 rfl ?_
    refine g_iand X dX0_keep_19 ?_
    refine g_topi hf (fun v3 hf => ?_)
    refine g_istore_n X [(2, .int v3), (0, .ref (ad 0)), (1, .int x1)] dX0_keep_20 (by decide) rfl ?_
    refine g_aload_n X 1 dX0_keep_21 rfl ?_
    refine g_get X in_X0 0 3 rfl rfl (by decide) q182 rfl dX0_keep_22 ?_
    refine g_iload_n X 2 dX0_keep_25 rfl ?_
    refine g_aaldq X 14 5 rfl rfl dX0_keep_26 hf (fun k hk hf => ?_)
    match k, hk, hf with
    | 0, _, hf =>
      refine g_aload_n X 1 dX0_keep_27 rfl ?_
      refine g_get X in_X0 0 1 rfl rfl (by decide) q180 rfl dX0_keep_28 ?_
      refine g_callVv X 1 (As := [.ref (ad 6)]) (wfc := wSS (gEo Γ) (fun i => ad ([15, 16, 17, 18, 6, 7, 8, 9].getD i 0))) (lw_V q486 q487 q488 q65 q489) (by decide +kernel) (fun u_ h_ sz_ => m_X5_as (gl Γ) (gEo Γ) (fun i => ad ([15, 16, 17, 18, 6, 7, 8, 9].getD i 0)) ((X_im0 σ), (X_now σ)) u_ h_ sz_) (rq := 0) rfl rfl rfl rfl rfl ⟨by decide, by decide⟩ rfl (Nat.le_of_ble_eq_true rfl) ⟨Nat.zero_le _, Nat.zero_le _⟩ [15, 16, 17, 18, 6, 7, 8, 9] [0, 1, 2, 3, 4, 5, 10, 11, 12, 13, 14, 19, 20, 21, 22, 23, 24, 25, 26, 27, 28, 29, 30] [0, 1, 2, 3, 4, 5, 27, 28, 29, 30, 6, 7, 8, 9, 10, 23, 24, 25, 26, 11, 12, 13, 14, 15, 16, 17, 18, 19, 20, 21, 22] (fun u5 => wX (gEo Γ) ad (X_now_s (X_im0_s σ u5.1) u5.2)) rfl rfl rfl rfl (by decide) rfl (fun _ => rfl) dX0_keep_31 hf (fun u5 _ hf => ?_)
      refine g_gs (wX (gEo Γ) ad) hf (fun s6 hf => ?_)
      refine g_aload_n X 1 dX0_keep_34 rfl ?_
      refine g_dup X dX0_keep_35 rfl ?_
      refine g_get X in_X0 0 4 rfl rfl (by decide) q183 rfl dX0_keep_36 ?_
      refine g_iconst X 1 dX0_keep_39 rfl ?_
      refine g_iload_n X 2 dX0_keep_40 rfl ?_
      refine g_ishl X dX0_keep_41 ?_
      refine g_ior X dX0_keep_42 ?_
      refine g_topi hf (fun v7 hf => ?_)
      refine g_put X in_X0 tyX0_ok nmX0 0 4 (wX (gEo Γ) ad (X_xi_s s6 (I_kept_s (X_xi s6) v7))) rfl rfl (by decide) q183 rfl rfl rfl rfl (Nat.le_of_ble_eq_true rfl) rfl dX0_keep_43 ?_
      refine g_gs (wX (gEo Γ) ad) hf (fun s8 hf => ?_)
      refine g_iload_n X 0 dX0_keep_46 rfl ?_
      exact g_iret X rfl dX0_keep_47 hf
    | 1, _, hf =>
      refine g_aload_n X 1 dX0_keep_27 rfl ?_
      refine g_get X in_X0 0 1 rfl rfl (by decide) q180 rfl dX0_keep_28 ?_
      refine g_callVv X 1 (As := [.ref (ad 6)]) (wfc := wSS (gEo Γ) (fun i => ad ([19, 20, 21, 22, 6, 7, 8, 9].getD i 0))) (lw_V q486 q487 q488 q65 q489) (by decide +kernel) (fun u_ h_ sz_ => m_X5_as (gl Γ) (gEo Γ) (fun i => ad ([19, 20, 21, 22, 6, 7, 8, 9].getD i 0)) ((X_im1 σ), (X_now σ)) u_ h_ sz_) (rq := 0) rfl rfl rfl rfl rfl ⟨by decide, by decide⟩ rfl (Nat.le_of_ble_eq_true rfl) ⟨Nat.zero_le _, Nat.zero_le _⟩ [19, 20, 21, 22, 6, 7, 8, 9] [0, 1, 2, 3, 4, 5, 10, 11, 12, 13, 14, 15, 16, 17, 18, 23, 24, 25, 26, 27, 28, 29, 30] [0, 1, 2, 3, 4, 5, 27, 28, 29, 30, 6, 7, 8, 9, 10, 11, 12, 13, 14, 23, 24, 25, 26, 15, 16, 17, 18, 19, 20, 21, 22] (fun u10 => wX (gEo Γ) ad (X_now_s (X_im1_s σ u10.1) u10.2)) rfl rfl rfl rfl (by decide) rfl (fun _ => rfl) dX0_keep_31 hf (fun u10 _ hf => ?_)
      refine g_gs (wX (gEo Γ) ad) hf (fun s11 hf => ?_)
      refine g_aload_n X 1 dX0_keep_34 rfl ?_
      refine g_dup X dX0_keep_35 rfl ?_
      refine g_get X in_X0 0 4 rfl rfl (by decide) q183 rfl dX0_keep_36 ?_
      refine g_iconst X 1 dX0_keep_39 rfl ?_
      refine g_iload_n X 2 dX0_keep_40 rfl ?_
      refine g_ishl X dX0_keep_41 ?_
      refine g_ior X dX0_keep_42 ?_
      refine g_topi hf (fun v12 hf => ?_)
      refine g_put X in_X0 tyX0_ok nmX0 0 4 (wX (gEo Γ) ad (X_xi_s s11 (I_kept_s (X_xi s11) v12))) rfl rfl (by decide) q183 rfl rfl rfl rfl (Nat.le_of_ble_eq_true rfl) rfl dX0_keep_43 ?_
      refine g_gs (wX (gEo Γ) ad) hf (fun s13 hf => ?_)
      refine g_iload_n X 0 dX0_keep_46 rfl ?_
      exact g_iret X rfl dX0_keep_47 hf
    | k + 2, hk, _ =>
      exact absurd hk (by omega)
  · refine g_iconst X (-1) dX0_keep_10 rfl ?_
    exact g_iret X rfl dX0_keep_11 hf
def f_X0_back (σ : gX) (x1 : Int32) : Option (Int32 × gX) :=
  (f_X0_in (x1.toInt64) 0 1).bind fun (r1, _) => if r1 = 0 then (some ((-1), σ)) else ((f_X0_has ((I_kept (X_xi σ))) x1).bind fun (r3, _) => if r3 = 0 then (some ((-2), σ)) else (gix 2 x1 (fun k => match k with | 0 => ((f_X5_as ((X_now σ), (X_im0 σ))).bind fun u6 => gs (X_im0_s (X_now_s σ u6.1) u6.2) fun s7 => some ((S_minute (X_now s7)), s7)) | 1 => ((f_X5_as ((X_now σ), (X_im1 σ))).bind fun u9 => gs (X_im1_s (X_now_s σ u9.1) u9.2) fun s10 => some ((S_minute (X_now s10)), s10)) | _ => none)))
abbrev rm_X0_back : Room := { frames := 2, cells := 0, slots := 0, locals := 81 }
set_option maxHeartbeats 4000000 in
theorem m_X0_back (l : Launch) (E : gE) (ad : Nat → Nat) (σ : gX) (x1 : Int32) (r : Int32) (u : gX) (hf : f_X0_back σ x1 = some (r, u)) (sz : Nat) : Met l yX0_back (ws_ yX0_back cX0_back 2 (some .int)) rm_X0_back (gPc [.ref (ad 0), .int x1] E (wX E ad σ) sz) (gPi E (wX E ad) r u (va_A (wX E ad σ) sz)) 0 0 (va_A (wX E ad σ) sz) := by
  refine gMet (Qc := gPi E (wX E ad) r u) (by decide) (Nat.le_of_ble_eq_true rfl) (fun Γ X hl hE => ?_)
  subst hl; subst hE
  unfold f_X0_back at hf
  show gW Γ (gMQ Γ (gPi (gEo Γ) (wX (gEo Γ) ad) r u (gAo Γ)) 0 0) (wX (gEo Γ) ad σ) 2 0 0 0 [(0, .ref (ad 0)), (1, .int x1)] []
  refine g_iload_n X 1 dX0_back_0 rfl ?_
  refine g_i2l X dX0_back_1 ?_
  refine g_lconst X 0 dX0_back_2 rfl ?_
  refine g_lconst X 1 dX0_back_3 rfl ?_
  refine g_call0i X 3 (As := [.long (x1.toInt64), .long 0, .long 1]) (lw_S q243 q244 q60 q245) (by decide +kernel) (fun r_ u_ h_ sz_ => m_X0_in (gl Γ) (gEo Γ) (x1.toInt64) 0 1 r_ u_ h_ sz_) rfl rfl ⟨by decide, by decide⟩ rfl (Nat.le_of_ble_eq_true rfl) ⟨Nat.zero_le _, Nat.zero_le _⟩ dX0_back_4 hf (fun r1 _ hf => ?_)
  refine g_if_ne X 12 dX0_back_7 rfl hf (fun hf => ?_) (fun hf => ?_)
  · refine g_aload_n X 0 dX0_back_12 rfl ?_
    refine g_get X in_X0 0 4 rfl rfl (by decide) q183 rfl dX0_back_13 ?_
    refine g_iload_n X 1 dX0_back_16 rfl ?_
    refine g_call0i X 2 (As := [.int ((I_kept (X_xi σ))), .int x1]) (lw_S q628 q460 q60 q461) (by decide +kernel) (fun r_ u_ h_ sz_ => m_X0_has (gl Γ) (gEo Γ) ((I_kept (X_xi σ))) x1 r_ u_ h_ sz_) rfl rfl ⟨by decide, by decide⟩ rfl (Nat.le_of_ble_eq_true rfl) ⟨Nat.zero_le _, Nat.zero_le _⟩ dX0_back_17 hf (fun r3 _ hf => ?_)
    refine g_if_ne X 26 dX0_back_20 rfl hf (fun hf => ?_) (fun hf => ?_)
    · refine g_aload_n X 0 dX0_back_26 rfl ?_
      refine g_get X in_X0 0 1 rfl rfl (by decide) q180 rfl dX0_back_27 ?_
      refine g_aload_n X 0 dX0_back_30 rfl ?_
      refine g_get X in_X0 0 3 rfl rfl (by decide) q182 rfl dX0_back_31 ?_
      refine g_iload_n X 1 dX0_back_34 rfl ?_
      refine g_aaldq X 14 5 rfl rfl dX0_back_35 hf (fun k hk hf => ?_)
      match k, hk, hf with
      | 0, _, hf =>
        refine g_callVv X 1 (As := [.ref (ad 15)]) (wfc := wSS (gEo Γ) (fun i => ad ([6, 7, 8, 9, 15, 16, 17, 18].getD i 0))) (lw_V q486 q487 q488 q65 q489) (by decide +kernel) (fun u_ h_ sz_ => m_X5_as (gl Γ) (gEo Γ) (fun i => ad ([6, 7, 8, 9, 15, 16, 17, 18].getD i 0)) ((X_now σ), (X_im0 σ)) u_ h_ sz_) (rq := 0) rfl rfl rfl rfl rfl ⟨by decide, by decide⟩ rfl (Nat.le_of_ble_eq_true rfl) ⟨Nat.zero_le _, Nat.zero_le _⟩ [6, 7, 8, 9, 15, 16, 17, 18] [0, 1, 2, 3, 4, 5, 10, 11, 12, 13, 14, 19, 20, 21, 22, 23, 24, 25, 26, 27, 28, 29, 30] [0, 1, 2, 3, 4, 5, 23, 24, 25, 26, 6, 7, 8, 9, 10, 27, 28, 29, 30, 11, 12, 13, 14, 15, 16, 17, 18, 19, 20, 21, 22] (fun u6 => wX (gEo Γ) ad (X_im0_s (X_now_s σ u6.1) u6.2)) rfl rfl rfl rfl (by decide) rfl (fun _ => rfl) dX0_back_36 hf (fun u6 _ hf => ?_)
        refine g_gs (wX (gEo Γ) ad) hf (fun s7 hf => ?_)
        refine g_aload_n X 0 dX0_back_39 rfl ?_
        refine g_get X in_X0 0 1 rfl rfl (by decide) q180 rfl dX0_back_40 ?_
        refine g_getN X in_X5 6 3 rfl rfl (by decide) 2 rfl rfl dX0_back_43 ?_
        exact g_iret X rfl dX0_back_46 hf
      | 1, _, hf =>
        refine g_callVv X 1 (As := [.ref (ad 19)]) (wfc := wSS (gEo Γ) (fun i => ad ([6, 7, 8, 9, 19, 20, 21, 22].getD i 0))) (lw_V q486 q487 q488 q65 q489) (by decide +kernel) (fun u_ h_ sz_ => m_X5_as (gl Γ) (gEo Γ) (fun i => ad ([6, 7, 8, 9, 19, 20, 21, 22].getD i 0)) ((X_now σ), (X_im1 σ)) u_ h_ sz_) (rq := 0) rfl rfl rfl rfl rfl ⟨by decide, by decide⟩ rfl (Nat.le_of_ble_eq_true rfl) ⟨Nat.zero_le _, Nat.zero_le _⟩ [6, 7, 8, 9, 19, 20, 21, 22] [0, 1, 2, 3, 4, 5, 10, 11, 12, 13, 14, 15, 16, 17, 18, 23, 24, 25, 26, 27, 28, 29, 30] [0, 1, 2, 3, 4, 5, 23, 24, 25, 26, 6, 7, 8, 9, 10, 11, 12, 13, 14, 27, 28, 29, 30, 15, 16, 17, 18, 19, 20, 21, 22] (fun u9 => wX (gEo Γ) ad (X_im1_s (X_now_s σ u9.1) u9.2)) rfl rfl rfl rfl (by decide) rfl (fun _ => rfl) dX0_back_36 hf (fun u9 _ hf => ?_)
        refine g_gs (wX (gEo Γ) ad) hf (fun s10 hf => ?_)
        refine g_aload_n X 0 dX0_back_39 rfl ?_
        refine g_get X in_X0 0 1 rfl rfl (by decide) q180 rfl dX0_back_40 ?_
        refine g_getN X in_X5 6 3 rfl rfl (by decide) 2 rfl rfl dX0_back_43 ?_
        exact g_iret X rfl dX0_back_46 hf
      | k + 2, hk, _ =>
        exact absurd hk (by omega)
    · refine g_bipush X (-2) dX0_back_23 rfl ?_
      exact g_iret X rfl dX0_back_25 hf
  · refine g_iconst X (-1) dX0_back_10 rfl ?_
    exact g_iret X rfl dX0_back_11 hf
def f_X0_isSheet (x0 : Int32) (x1 : Int32) : Option (Int32 × Unit) :=
  (f_X0_in (x0.toInt64) 0 3).bind fun (r1, _) => if r1 = 0 then (gzr 0 ()) else ((f_X0_in (x1.toInt64) 0 2).bind fun (r3, _) => if r3 = 0 then (gzr 0 ()) else (gzr 1 ()))
abbrev rm_X0_isSheet : Room := { frames := 2, cells := 0, slots := 0, locals := 37 }
set_option maxHeartbeats 4000000 in
theorem m_X0_isSheet (l : Launch) (E : gE) (x0 : Int32) (x1 : Int32) (r : Int32) (u : Unit) (hf : f_X0_isSheet x0 x1 = some (r, u)) (sz : Nat) : Met l yX0_isSheet (ws_ yX0_isSheet cX0_isSheet 2 (some .boolean)) rm_X0_isSheet (gPc [.int x0, .int x1] E [] sz) (gPi E (fun _ => []) r u (va_A [] sz)) 0 0 (va_A [] sz) := by
  refine gMet (Qc := gPi E (fun _ => []) r u) (by decide) (Nat.le_of_ble_eq_true rfl) (fun Γ X hl hE => ?_)
  subst hl; subst hE
  unfold f_X0_isSheet at hf
  show gW Γ (gMQ Γ (gPi (gEo Γ) (fun _ => []) r u (gAo Γ)) 0 0) [] 2 0 0 0 [(0, .int x0), (1, .int x1)] []
  refine g_iload_n X 0 dX0_isSheet_0 rfl ?_
  refine g_i2l X dX0_isSheet_1 ?_
  refine g_lconst X 0 dX0_isSheet_2 rfl ?_
  refine g_ldc2 X dX0_isSheet_3 q582 ?_
  refine g_call0i X 3 (As := [.long (x0.toInt64), .long 0, .long 3]) (lw_S q243 q244 q60 q245) (by decide +kernel) (fun r_ u_ h_ sz_ => m_X0_in (gl Γ) (gEo Γ) (x0.toInt64) 0 3 r_ u_ h_ sz_) rfl rfl ⟨by decide, by decide⟩ rfl (Nat.le_of_ble_eq_true rfl) ⟨Nat.zero_le _, Nat.zero_le _⟩ dX0_isSheet_6 hf (fun r1 _ hf => ?_)
  refine g_if_eq X 28 dX0_isSheet_9 rfl hf (fun hf => ?_) (fun hf => ?_)
  · refine g_iconst X 0 dX0_isSheet_28 rfl ?_
    exact g_zret X rfl dX0_isSheet_29 hf
  · refine g_iload_n X 1 dX0_isSheet_12 rfl ?_
    refine g_i2l X dX0_isSheet_13 ?_
    refine g_lconst X 0 dX0_isSheet_14 rfl ?_
    refine g_ldc2 X dX0_isSheet_15 q827 ?_
    refine g_call0i X 3 (As := [.long (x1.toInt64), .long 0, .long 2]) (lw_S q243 q244 q60 q245) (by decide +kernel) (fun r_ u_ h_ sz_ => m_X0_in (gl Γ) (gEo Γ) (x1.toInt64) 0 2 r_ u_ h_ sz_) rfl rfl ⟨by decide, by decide⟩ rfl (Nat.le_of_ble_eq_true rfl) ⟨Nat.zero_le _, Nat.zero_le _⟩ dX0_isSheet_18 hf (fun r3 _ hf => ?_)
    refine g_if_eq X 28 dX0_isSheet_21 rfl hf (fun hf => ?_) (fun hf => ?_)
    · refine g_iconst X 0 dX0_isSheet_28 rfl ?_
      exact g_zret X rfl dX0_isSheet_29 hf
    · refine g_iconst X 1 dX0_isSheet_24 rfl ?_
      refine g_goto X 29 dX0_isSheet_25 rfl ?_
      exact g_zret X rfl dX0_isSheet_29 hf
def f_X0_torn (σ : gX) : Option (Int32 × gX) :=
  some ((I_torn (X_xi σ)), σ)
abbrev rm_X0_torn : Room := { frames := 1, cells := 0, slots := 0, locals := 12 }
set_option maxHeartbeats 4000000 in
theorem m_X0_torn (l : Launch) (E : gE) (ad : Nat → Nat) (σ : gX) (r : Int32) (u : gX) (hf : f_X0_torn σ = some (r, u)) (sz : Nat) : Met l yX0_torn (ws_ yX0_torn cX0_torn 1 (some .int)) rm_X0_torn (gPc [.ref (ad 0)] E (wX E ad σ) sz) (gPi E (wX E ad) r u (va_A (wX E ad σ) sz)) 0 0 (va_A (wX E ad σ) sz) := by
  refine gMet (Qc := gPi E (wX E ad) r u) (by decide) (Nat.le_of_ble_eq_true rfl) (fun Γ X hl hE => ?_)
  subst hl; subst hE
  unfold f_X0_torn at hf
  show gW Γ (gMQ Γ (gPi (gEo Γ) (wX (gEo Γ) ad) r u (gAo Γ)) 0 0) (wX (gEo Γ) ad σ) 1 0 0 0 [(0, .ref (ad 0))] []
  refine g_aload_n X 0 dX0_torn_0 rfl ?_
  refine g_get X in_X0 0 18 rfl rfl (by decide) q198 rfl dX0_torn_1 ?_
  exact g_iret X rfl dX0_torn_4 hf
