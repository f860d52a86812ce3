set_option maxRecDepth 100000
def f_X7_luck_b40 (σ : gM) : Option (Int64 × gM) :=
  some (-1, σ)
def f_X7_luck (σ : gM) (x1 : Int32) (x2 : Int32) (x3 : Int32) : Option (Int64 × gM) :=
  (f_X7_in (x1.toInt64) 0 10).bind fun (r1, _) => if r1 = 0 then (f_X7_luck_b40 σ) else ((f_X7_isOne σ x2).bind fun (r3, u4) => if r3 = 0 then (f_X7_luck_b40 u4) else ((f_X7_in (x3.toInt64) 0 1).bind fun (r5, _) => if r5 = 0 then (f_X7_luck_b40 u4) else ((f_X7_byFails u4 x1 x2 x3).bind fun (r7, u8) => some (r7, u8))))
abbrev rm_X7_luck : Room := { frames := 7, cells := 0, slots := 0, locals := 161 }
set_option maxHeartbeats 4000000 in
theorem w_X7_luck_b40 {Γ : gG} {ad : Nat → Nat} {r : Int64} {u : gM} (X : gCX Γ cX7_luck 4 (some .long) RX7 rm_X7_luck) : ∀ (σ : gM), f_X7_luck_b40 σ  = some (r, u) → gW Γ (gMQ Γ (gPl (gEo Γ) (wM (gEo Γ) ad) r u (gAo Γ)) 0 0) (wM (gEo Γ) ad σ) 4 0 0 40 [] [] := by
  intro σ  hf
  unfold f_X7_luck_b40 at hf
  refine g_ldc2 X dX7_luck_40 q1259 ?_
  exact g_lret X rfl dX7_luck_43 hf
set_option maxHeartbeats 4000000 in
theorem m_X7_luck (l : Launch) (E : gE) (ad : Nat → Nat) (σ : gM) (x1 : Int32) (x2 : Int32) (x3 : Int32) (r : Int64) (u : gM) (hf : f_X7_luck σ x1 x2 x3 = some (r, u)) (sz : Nat) : Met l yX7_luck (ws_ yX7_luck cX7_luck 4 (some .long)) rm_X7_luck (gPc [.ref (ad 0), .int x1, .int x2, .int x3] E (wM E ad σ) sz) (gPl E (wM E ad) r u (va_A (wM E ad σ) sz)) 0 0 (va_A (wM E ad σ) sz) := by
  refine gMet (Qc := gPl E (wM E ad) r u) (by decide) (Nat.le_of_ble_eq_true rfl) (fun Γ X hl hE => ?_)
  subst hl; subst hE
  unfold f_X7_luck at hf
  show gW Γ (gMQ Γ (gPl (gEo Γ) (wM (gEo Γ) ad) r u (gAo Γ)) 0 0) (wM (gEo Γ) ad σ) 4 0 0 0 [(0, .ref (ad 0)), (1, .int x1), (2, .int x2), (3, .int x3)] []
  refine g_iload_n X 1 dX7_luck_0 rfl ?_
  refine g_i2l X dX7_luck_1 ?_
  refine g_lconst X 0 dX7_luck_2 rfl ?_
  refine g_ldc2 X dX7_luck_3 q1219 ?_
  refine g_call0i X 3 (As := [.long (x1.toInt64), .long 0, .long 10]) (lw_S q1011 q1012 q67 q1013) (by decide +kernel) (fun r_ u_ h_ sz_ => m_X7_in (gl Γ) (gEo Γ) (x1.toInt64) 0 10 r_ u_ h_ sz_) rfl rfl ⟨by decide, by decide⟩ rfl (Nat.le_of_ble_eq_true rfl) ⟨Nat.zero_le _, Nat.zero_le _⟩ dX7_luck_6 hf (fun r1 _ hf => ?_)
  refine g_if_eq X 40 dX7_luck_9 rfl hf (fun hf => ?_) (fun hf => ?_)
  · refine g_sub [] [] rfl ?_
    exact w_X7_luck_b40 X σ hf
  · refine g_aload_n X 0 dX7_luck_12 rfl ?_
    refine g_iload_n X 2 dX7_luck_13 rfl ?_
    refine g_callVi X 1 (As := [.int x2]) (wfc := wM (gEo Γ) ad) (lw_V q1083 q1085 qs38 q67 q1086) (by decide +kernel) (fun r_ u_ h_ sz_ => m_X7_isOne (gl Γ) (gEo Γ) ad σ x2 r_ u_ h_ sz_) (rq := 0) rfl rfl rfl rfl rfl ⟨by decide, by decide⟩ rfl (Nat.le_of_ble_eq_true rfl) ⟨Nat.zero_le _, Nat.zero_le _⟩ [0, 1, 2, 3, 4, 5, 6, 7, 8, 9, 10, 11, 12] [] [0, 1, 2, 3, 4, 5, 6, 7, 8, 9, 10, 11, 12] (fun u4 => wM (gEo Γ) ad u4) rfl rfl rfl rfl (by decide) rfl (fun _ => rfl) dX7_luck_14 hf (fun r3 u4 _ hf => ?_)
    refine g_if_eq X 40 dX7_luck_17 rfl hf (fun hf => ?_) (fun hf => ?_)
    · refine g_sub [] [] rfl ?_
      exact w_X7_luck_b40 X u4 hf
    · refine g_iload_n X 3 dX7_luck_20 rfl ?_
      refine g_i2l X dX7_luck_21 ?_
      refine g_lconst X 0 dX7_luck_22 rfl ?_
      refine g_lconst X 1 dX7_luck_23 rfl ?_
      refine g_call0i X 3 (As := [.long (x3.toInt64), .long 0, .long 1]) (lw_S q1011 q1012 q67 q1013) (by decide +kernel) (fun r_ u_ h_ sz_ => m_X7_in (gl Γ) (gEo Γ) (x3.toInt64) 0 1 r_ u_ h_ sz_) rfl rfl ⟨by decide, by decide⟩ rfl (Nat.le_of_ble_eq_true rfl) ⟨Nat.zero_le _, Nat.zero_le _⟩ dX7_luck_24 hf (fun r5 _ hf => ?_)
      refine g_if_eq X 40 dX7_luck_27 rfl hf (fun hf => ?_) (fun hf => ?_)
      · refine g_sub [] [] rfl ?_
        exact w_X7_luck_b40 X u4 hf
      · refine g_aload_n X 0 dX7_luck_30 rfl ?_
        refine g_iload_n X 1 dX7_luck_31 rfl ?_
        refine g_iload_n X 2 dX7_luck_32 rfl ?_
        refine g_iload_n X 3 dX7_luck_33 rfl ?_
        refine g_callVl X 3 (As := [.int x1, .int x2, .int x3]) (wfc := wM (gEo Γ) ad) (lw_V q1252 q1254 qs55 q67 q1255) (by decide +kernel) (fun r_ u_ h_ sz_ => m_X7_byFails (gl Γ) (gEo Γ) ad u4 x1 x2 x3 r_ u_ h_ sz_) (rq := 0) rfl rfl rfl rfl rfl ⟨by decide, by decide⟩ rfl (Nat.le_of_ble_eq_true rfl) ⟨Nat.zero_le _, Nat.zero_le _⟩ [0, 1, 2, 3, 4, 5, 6, 7, 8, 9, 10, 11, 12] [] [0, 1, 2, 3, 4, 5, 6, 7, 8, 9, 10, 11, 12] (fun u8 => wM (gEo Γ) ad u8) rfl rfl rfl rfl (by decide) rfl (fun _ => rfl) dX7_luck_34 hf (fun r7 u8 _ hf => ?_)
        refine g_goto X 43 dX7_luck_37 rfl ?_
        exact g_lret X rfl dX7_luck_43 hf
def f_X7_mean_b33 (σ : gM) : Option (Int64 × gM) :=
  some (-1, σ)
def f_X7_mean (σ : gM) (x1 : Int32) (x2 : Int32) : Option (Int64 × gM) :=
  (f_X7_in (x1.toInt64) 0 10).bind fun (r1, _) => if r1 = 0 then (f_X7_mean_b33 σ) else ((f_X7_in (x2.toInt64) 0 1).bind fun (r3, _) => if r3 = 0 then (f_X7_mean_b33 σ) else ((f_X7_byFails σ x1 (-4) x2).bind fun (r5, u6) => some (r5, u6)))
abbrev rm_X7_mean : Room := { frames := 7, cells := 0, slots := 0, locals := 161 }
set_option maxHeartbeats 4000000 in
theorem w_X7_mean_b33 {Γ : gG} {ad : Nat → Nat} {r : Int64} {u : gM} (X : gCX Γ cX7_mean 3 (some .long) RX7 rm_X7_mean) : ∀ (σ : gM), f_X7_mean_b33 σ  = some (r, u) → gW Γ (gMQ Γ (gPl (gEo Γ) (wM (gEo Γ) ad) r u (gAo Γ)) 0 0) (wM (gEo Γ) ad σ) 3 0 0 33 [] [] := by
  intro σ  hf
  unfold f_X7_mean_b33 at hf
  refine g_ldc2 X dX7_mean_33 q1259 ?_
  exact g_lret X rfl dX7_mean_36 hf
set_option maxHeartbeats 4000000 in
theorem m_X7_mean (l : Launch) (E : gE) (ad : Nat → Nat) (σ : gM) (x1 : Int32) (x2 : Int32) (r : Int64) (u : gM) (hf : f_X7_mean σ x1 x2 = some (r, u)) (sz : Nat) : Met l yX7_mean (ws_ yX7_mean cX7_mean 3 (some .long)) rm_X7_mean (gPc [.ref (ad 0), .int x1, .int x2] E (wM E ad σ) sz) (gPl E (wM E ad) r u (va_A (wM E ad σ) sz)) 0 0 (va_A (wM E ad σ) sz) := by
  refine gMet (Qc := gPl E (wM E ad) r u) (by decide) (Nat.le_of_ble_eq_true rfl) (fun Γ X hl hE => ?_)
  subst hl; subst hE
  unfold f_X7_mean at hf
  show gW Γ (gMQ Γ (gPl (gEo Γ) (wM (gEo Γ) ad) r u (gAo Γ)) 0 0) (wM (gEo Γ) ad σ) 3 0 0 0 [(0, .ref (ad 0)), (1, .int x1), (2, .int x2)] []
  refine g_iload_n X 1 dX7_mean_0 rfl ?_
  refine g_i2l X dX7_mean_1 ?_
  refine g_lconst X 0 dX7_mean_2 rfl ?_
  refine g_ldc2 X dX7_mean_3 q1219 ?_
  refine g_call0i X 3 (As := [.long (x1.toInt64), .long 0, .long 10]) (lw_S q1011 q1012 q67 q1013) (by decide +kernel) (fun r_ u_ h_ sz_ => m_X7_in (gl Γ) (gEo Γ) (x1.toInt64) 0 10 r_ u_ h_ sz_) rfl rfl ⟨by decide, by decide⟩ rfl (Nat.le_of_ble_eq_true rfl) ⟨Nat.zero_le _, Nat.zero_le _⟩ dX7_mean_6 hf (fun r1 _ hf => ?_)
  refine g_if_eq X 33 dX7_mean_9 rfl hf (fun hf => ?_) (fun hf => ?_)
  · refine g_sub [] [] rfl ?_
    exact w_X7_mean_b33 X σ hf
  · refine g_iload_n X 2 dX7_mean_12 rfl ?_
    refine g_i2l X dX7_mean_13 ?_
    refine g_lconst X 0 dX7_mean_14 rfl ?_
    refine g_lconst X 1 dX7_mean_15 rfl ?_
    refine g_call0i X 3 (As := [.long (x2.toInt64), .long 0, .long 1]) (lw_S q1011 q1012 q67 q1013) (by decide +kernel) (fun r_ u_ h_ sz_ => m_X7_in (gl Γ) (gEo Γ) (x2.toInt64) 0 1 r_ u_ h_ sz_) rfl rfl ⟨by decide, by decide⟩ rfl (Nat.le_of_ble_eq_true rfl) ⟨Nat.zero_le _, Nat.zero_le _⟩ dX7_mean_16 hf (fun r3 _ hf => ?_)
    refine g_if_eq X 33 dX7_mean_19 rfl hf (fun hf => ?_) (fun hf => ?_)
    · refine g_sub [] [] rfl ?_
      exact w_X7_mean_b33 X σ hf
    · refine g_aload_n X 0 dX7_mean_22 rfl ?_
      refine g_iload_n X 1 dX7_mean_23 rfl ?_
      refine g_bipush X (-4) dX7_mean_24 rfl ?_
      refine g_iload_n X 2 dX7_mean_26 rfl ?_
      refine g_callVl X 3 (As := [.int x1, .int (-4), .int x2]) (wfc := wM (gEo Γ) ad) (lw_V q1252 q1254 qs55 q67 q1255) (by decide +kernel) (fun r_ u_ h_ sz_ => m_X7_byFails (gl Γ) (gEo Γ) ad σ x1 (-4) x2 r_ u_ h_ sz_) (rq := 0) rfl rfl rfl rfl rfl ⟨by decide, by decide⟩ rfl (Nat.le_of_ble_eq_true rfl) ⟨Nat.zero_le _, Nat.zero_le _⟩ [0, 1, 2, 3, 4, 5, 6, 7, 8, 9, 10, 11, 12] [] [0, 1, 2, 3, 4, 5, 6, 7, 8, 9, 10, 11, 12] (fun u6 => wM (gEo Γ) ad u6) rfl rfl rfl rfl (by decide) rfl (fun _ => rfl) dX7_mean_27 hf (fun r5 u6 _ hf => ?_)
      refine g_goto X 36 dX7_mean_30 rfl ?_
      exact g_lret X rfl dX7_mean_36 hf
def f_X7_see_b55 (σ : gM) (t0 : Int32) (t1 : Int32) : Option (Int32 × gM) :=
  gst 12 (M_seen σ) t1 t0 fun g5 => gs (M_seen_s σ g5) fun s6 => gv ((M_seenMany s6) + 1) fun v7 => gs (M_seenMany_s s6 v7) fun s8 => some ((M_seenMany s8), s8)
def f_X7_see (σ : gM) (x1 : Int32) (x2 : Int32) : Option (Int32 × gM) :=
  (f_X7_isOne σ x1).bind fun (r1, u2) => if r1 = 0 then (some ((-1), u2)) else (if (M_seenMany u2) = 6 then (some ((-3), u2)) else (gst 12 (M_seen u2) ((2 : Int32) * (M_seenMany u2)) x1 fun g3 => gs (M_seen_s u2 g3) fun s4 => if x2 = 0 then (f_X7_see_b55 s4 0 (((2 : Int32) * (M_seenMany s4)) + 1)) else (f_X7_see_b55 s4 1 (((2 : Int32) * (M_seenMany s4)) + 1))))
abbrev rm_X7_see : Room := { frames := 3, cells := 0, slots := 0, locals := 58 }
set_option maxHeartbeats 4000000 in
theorem w_X7_see_b55 {Γ : gG} {ad : Nat → Nat} {r : Int32} {u : gM} (X : gCX Γ cX7_see 3 (some .int) RX7 rm_X7_see) : ∀ (σ : gM) (t0 : Int32) (t1 : Int32), f_X7_see_b55 σ t0 t1 = some (r, u) → gW Γ (gMQ Γ (gPi (gEo Γ) (wM (gEo Γ) ad) r u (gAo Γ)) 0 0) (wM (gEo Γ) ad σ) 3 0 0 55 [(0, .ref (ad 0))] [.int t0, .int t1, .ref (ad 7)] := by
  intro σ t0 t1 hf
  unfold f_X7_see_b55 at hf
  refine g_iast X 7 (fun g5 => wM (gEo Γ) ad (M_seen_s σ g5)) rfl (fun _ => rfl) dX7_see_55 hf (fun g5 hf => ?_)
  refine g_gs (wM (gEo Γ) ad) hf (fun s6 hf => ?_)
  refine g_aload_n X 0 dX7_see_56 rfl ?_
  refine g_dup X dX7_see_57 rfl ?_
  refine g_get X in_X7 0 22 rfl rfl (by decide) q939 rfl dX7_see_58 ?_
  refine g_iconst X 1 dX7_see_61 rfl ?_
  refine g_iadd X dX7_see_62 ?_
  refine g_topi hf (fun v7 hf => ?_)
  refine g_put X in_X7 tyX7_ok nmX7 0 22 (wM (gEo Γ) ad (M_seenMany_s s6 v7)) rfl rfl (by decide) q939 rfl rfl rfl rfl (Nat.le_of_ble_eq_true rfl) rfl dX7_see_63 ?_
  refine g_gs (wM (gEo Γ) ad) hf (fun s8 hf => ?_)
  refine g_aload_n X 0 dX7_see_66 rfl ?_
  refine g_get X in_X7 0 22 rfl rfl (by decide) q939 rfl dX7_see_67 ?_
  exact g_iret X rfl dX7_see_70 hf
set_option maxHeartbeats 4000000 in
theorem m_X7_see (l : Launch) (E : gE) (ad : Nat → Nat) (σ : gM) (x1 : Int32) (x2 : Int32) (r : Int32) (u : gM) (hf : f_X7_see σ x1 x2 = some (r, u)) (sz : Nat) : Met l yX7_see (ws_ yX7_see cX7_see 3 (some .int)) rm_X7_see (gPc [.ref (ad 0), .int x1, .int x2] E (wM E ad σ) sz) (gPi E (wM E ad) r u (va_A (wM E ad σ) sz)) 0 0 (va_A (wM E ad σ) sz) := by
  refine gMet (Qc := gPi E (wM E ad) r u) (by decide) (Nat.le_of_ble_eq_true rfl) (fun Γ X hl hE => ?_)
  subst hl; subst hE
  unfold f_X7_see at hf
  show gW Γ (gMQ Γ (gPi (gEo Γ) (wM (gEo Γ) ad) r u (gAo Γ)) 0 0) (wM (gEo Γ) ad σ) 3 0 0 0 [(0, .ref (ad 0)), (1, .int x1), (2, .int x2)] []
  refine g_aload_n X 0 dX7_see_0 rfl ?_
  refine g_iload_n X 1 dX7_see_1 rfl ?_
  refine g_callVi X 1 (As := [.int x1]) (wfc := wM (gEo Γ) ad) (lw_V q1083 q1085 qs38 q67 q1086) (by decide +kernel) (fun r_ u_ h_ sz_ => m_X7_isOne (gl Γ) (gEo Γ) ad σ x1 r_ u_ h_ sz_) (rq := 0) rfl rfl rfl rfl rfl ⟨by decide, by decide⟩ rfl (Nat.le_of_ble_eq_true rfl) ⟨Nat.zero_le _, Nat.zero_le _⟩ [0, 1, 2, 3, 4, 5, 6, 7, 8, 9, 10, 11, 12] [] [0, 1, 2, 3, 4, 5, 6, 7, 8, 9, 10, 11, 12] (fun u2 => wM (gEo Γ) ad u2) rfl rfl rfl rfl (by decide) rfl (fun _ => rfl) dX7_see_2 hf (fun r1 u2 _ hf => ?_)
  refine g_if_ne X 10 dX7_see_5 rfl hf (fun hf => ?_) (fun hf => ?_)
  · refine g_aload_n X 0 dX7_see_10 rfl ?_
    refine g_get X in_X7 0 22 rfl rfl (by decide) q939 rfl dX7_see_11 ?_
    refine g_bipush X 6 dX7_see_14 rfl ?_
    refine g_icmp_ne X 22 dX7_see_16 rfl hf (fun hf => ?_) (fun hf => ?_)
    · refine g_aload_n X 0 dX7_see_22 rfl ?_
      refine g_get X in_X7 0 21 rfl rfl (by decide) q938 rfl dX7_see_23 ?_
      refine g_iconst X 2 dX7_see_26 rfl ?_
      refine g_aload_n X 0 dX7_see_27 rfl ?_
      refine g_get X in_X7 0 22 rfl rfl (by decide) q939 rfl dX7_see_28 ?_
      refine g_imul X dX7_see_31 ?_
      refine g_iload_n X 1 dX7_see_32 rfl ?_
      refine g_iast X 7 (fun g3 => wM (gEo Γ) ad (M_seen_s u2 g3)) rfl (fun _ => rfl) dX7_see_33 hf (fun g3 hf => ?_)
      refine g_gs (wM (gEo Γ) ad) hf (fun s4 hf => ?_)
      refine g_aload_n X 0 dX7_see_34 rfl ?_
      refine g_get X in_X7 0 21 rfl rfl (by decide) q938 rfl dX7_see_35 ?_
      refine g_iconst X 2 dX7_see_38 rfl ?_
      refine g_aload_n X 0 dX7_see_39 rfl ?_
      refine g_get X in_X7 0 22 rfl rfl (by decide) q939 rfl dX7_see_40 ?_
      refine g_imul X dX7_see_43 ?_
      refine g_iconst X 1 dX7_see_44 rfl ?_
      refine g_iadd X dX7_see_45 ?_
      refine g_iload_n X 2 dX7_see_46 rfl ?_
      refine g_if_eq X 54 dX7_see_47 rfl hf (fun hf => ?_) (fun hf => ?_)
      · refine g_iconst X 0 dX7_see_54 rfl ?_
        refine g_sub [0] [(0, .ref (ad 0))] rfl ?_
        exact w_X7_see_b55 X s4 0 (((2 : Int32) * (M_seenMany s4)) + 1) hf
      · refine g_iconst X 1 dX7_see_50 rfl ?_
        refine g_goto X 55 dX7_see_51 rfl ?_
        refine g_sub [0] [(0, .ref (ad 0))] rfl ?_
        exact w_X7_see_b55 X s4 1 (((2 : Int32) * (M_seenMany s4)) + 1) hf
    · refine g_bipush X (-3) dX7_see_19 rfl ?_
      exact g_iret X rfl dX7_see_21 hf
  · refine g_iconst X (-1) dX7_see_8 rfl ?_
    exact g_iret X rfl dX7_see_9 hf
def f_X7_forget (σ : gM) (x1 : Int32) : Option (Int32 × gM) :=
  (f_X7_in (x1.toInt64) 0 ((M_seenMany σ).toInt64)).bind fun (r1, _) => if r1 = 0 then (some ((-1), σ)) else (gs (M_seenMany_s σ x1) fun s3 => some ((M_seenMany σ), s3))
abbrev rm_X7_forget : Room := { frames := 2, cells := 0, slots := 0, locals := 37 }
set_option maxHeartbeats 4000000 in
theorem m_X7_forget (l : Launch) (E : gE) (ad : Nat → Nat) (σ : gM) (x1 : Int32) (r : Int32) (u : gM) (hf : f_X7_forget σ x1 = some (r, u)) (sz : Nat) : Met l yX7_forget (ws_ yX7_forget cX7_forget 3 (some .int)) rm_X7_forget (gPc [.ref (ad 0), .int x1] E (wM E ad σ) sz) (gPi E (wM E ad) r u (va_A (wM E ad σ) sz)) 0 0 (va_A (wM E ad σ) sz) := by
  refine gMet (Qc := gPi E (wM E ad) r u) (by decide) (Nat.le_of_ble_eq_true rfl) (fun Γ X hl hE => ?_)
  subst hl; subst hE
  unfold f_X7_forget at hf
  show gW Γ (gMQ Γ (gPi (gEo Γ) (wM (gEo Γ) ad) r u (gAo Γ)) 0 0) (wM (gEo Γ) ad σ) 3 0 0 0 [(0, .ref (ad 0)), (1, .int x1)] []
  refine g_iload_n X 1 dX7_forget_0 rfl ?_
  refine g_i2l X dX7_forget_1 ?_
  refine g_lconst X 0 dX7_forget_2 rfl ?_
  refine g_aload_n X 0 dX7_forget_3 rfl ?_
  refine g_get X in_X7 0 22 rfl rfl (by decide) q939 rfl dX7_forget_4 ?_
  refine g_i2l X dX7_forget_7 ?_
  refine g_call0i X 3 (As := [.long (x1.toInt64), .long 0, .long ((M_seenMany σ).toInt64)]) (lw_S q1011 q1012 q67 q1013) (by decide +kernel) (fun r_ u_ h_ sz_ => m_X7_in (gl Γ) (gEo Γ) (x1.toInt64) 0 ((M_seenMany σ).toInt64) r_ u_ h_ sz_) rfl rfl ⟨by decide, by decide⟩ rfl (Nat.le_of_ble_eq_true rfl) ⟨Nat.zero_le _, Nat.zero_le _⟩ dX7_forget_8 hf (fun r1 _ hf => ?_)
  refine g_if_ne X 16 dX7_forget_11 rfl hf (fun hf => ?_) (fun hf => ?_)
  · refine g_aload_n X 0 dX7_forget_16 rfl ?_
    refine g_get X in_X7 0 22 rfl rfl (by decide) q939 rfl dX7_forget_17 ?_
    refine g_istore_n X [(2, .int (M_seenMany σ)), (0, .ref (ad 0)), (1, .int x1)] dX7_forget_20 (by decide) rfl ?_
    refine g_aload_n X 1 dX7_forget_21 rfl ?_
    refine g_iload_n X 2 dX7_forget_22 rfl ?_
    refine g_put X in_X7 tyX7_ok nmX7 0 22 (wM (gEo Γ) ad (M_seenMany_s σ x1)) rfl rfl (by decide) q939 rfl rfl rfl rfl (Nat.le_of_ble_eq_true rfl) rfl dX7_forget_23 ?_
    refine g_gs (wM (gEo Γ) ad) hf (fun s3 hf => ?_)
    refine g_iload_n X 0 dX7_forget_26 rfl ?_
    exact g_iret X rfl dX7_forget_27 hf
  · refine g_iconst X (-1) dX7_forget_14 rfl ?_
    exact g_iret X rfl dX7_forget_15 hf
def f_X7_isAsSeen_b58 (k10 : gM → Int32 → Int32 → Option (Int32 × gM)) (σ : gM) (x2 : Int32) (t0 : Int32) : Option (Int32 × gM) :=
  gv (x2 + 1) fun v6 => k10 σ t0 v6
def f_X7_isAsSeen_b57 (k10 : gM → Int32 → Int32 → Option (Int32 × gM)) (σ : gM) (x2 : Int32) : Option (Int32 × gM) :=
  f_X7_isAsSeen_b58 k10 σ x2 0
def f_X7_isAsSeen_b10 : Nat → gM → Int32 → Int32 → Option (Int32 × gM)
  | 0 => fun _ _ _ => none
  | n_ + 1 => fun σ x1 x2 =>
    if (M_seenMany σ) ≤ x2 then (gzr x1 σ) else (if x1 = 0 then (f_X7_isAsSeen_b57 (f_X7_isAsSeen_b10 n_) σ x2) else (gld 168 (M_state σ) 127 fun v3 => gld 12 (M_seen σ) ((2 : Int32) * x2) fun v4 => gld 12 (M_seen σ) (((2 : Int32) * x2) + 1) fun v5 => if ((v3 >>> (v4 &&& 31)) &&& 1) = v5 then (f_X7_isAsSeen_b58 (f_X7_isAsSeen_b10 n_) σ x2 1) else (f_X7_isAsSeen_b57 (f_X7_isAsSeen_b10 n_) σ x2)))
def f_X7_isAsSeen (σ : gM) : Option (Int32 × gM) :=
  (f_X7_planGoes σ 0 0).bind fun u2 => f_X7_isAsSeen_b10 2000 u2 1 0
abbrev rm_X7_isAsSeen : Room := { frames := 6, cells := 0, slots := 0, locals := 129 }
set_option maxHeartbeats 4000000 in
theorem w_X7_isAsSeen_b58 {Γ : gG} {ad : Nat → Nat} {r : Int32} {u : gM} (X : gCX Γ cX7_isAsSeen 3 (some .boolean) RX7 rm_X7_isAsSeen) {k10 : gM → Int32 → Int32 → Option (Int32 × gM)} (H10 : ∀ (σ : gM) (x1 : Int32) (x2 : Int32), k10 σ x1 x2 = some (r, u) → gW Γ (gMQ Γ (gPi (gEo Γ) (wM (gEo Γ) ad) r u (gAo Γ)) 0 0) (wM (gEo Γ) ad σ) 3 0 0 10 [(0, .ref (ad 0)), (1, .int x1), (2, .int x2)] []) : ∀ (σ : gM) (x2 : Int32) (t0 : Int32), f_X7_isAsSeen_b58 k10 σ x2 t0 = some (r, u) → gW Γ (gMQ Γ (gPi (gEo Γ) (wM (gEo Γ) ad) r u (gAo Γ)) 0 0) (wM (gEo Γ) ad σ) 3 0 0 58 [(0, .ref (ad 0)), (2, .int x2)] [.int t0] := by
  intro σ x2 t0 hf
  unfold f_X7_isAsSeen_b58 at hf
  refine g_istore_n X [(1, .int t0), (0, .ref (ad 0)), (2, .int x2)] dX7_isAsSeen_58 (by decide) rfl ?_
  refine g_iincV X 1 2 (fun v6 => [(2, .int v6), (1, .int t0), (0, .ref (ad 0))]) dX7_isAsSeen_59 rfl rfl (by decide) (fun _ => rfl) hf (fun v6 hf => ?_)
  refine g_goto X 10 dX7_isAsSeen_62 rfl ?_
  refine g_sub [2, 1, 0] [(0, .ref (ad 0)), (1, .int t0), (2, .int v6)] rfl ?_
  exact H10 σ t0 v6 hf
set_option maxHeartbeats 4000000 in
theorem w_X7_isAsSeen_b57 {Γ : gG} {ad : Nat → Nat} {r : Int32} {u : gM} (X : gCX Γ cX7_isAsSeen 3 (some .boolean) RX7 rm_X7_isAsSeen) {k10 : gM → Int32 → Int32 → Option (Int32 × gM)} (H10 : ∀ (σ : gM) (x1 : Int32) (x2 : Int32), k10 σ x1 x2 = some (r, u) → gW Γ (gMQ Γ (gPi (gEo Γ) (wM (gEo Γ) ad) r u (gAo Γ)) 0 0) (wM (gEo Γ) ad σ) 3 0 0 10 [(0, .ref (ad 0)), (1, .int x1), (2, .int x2)] []) : ∀ (σ : gM) (x2 : Int32), f_X7_isAsSeen_b57 k10 σ x2 = some (r, u) → gW Γ (gMQ Γ (gPi (gEo Γ) (wM (gEo Γ) ad) r u (gAo Γ)) 0 0) (wM (gEo Γ) ad σ) 3 0 0 57 [(0, .ref (ad 0)), (2, .int x2)] [] := by
  intro σ x2 hf
  unfold f_X7_isAsSeen_b57 at hf
  refine g_iconst X 0 dX7_isAsSeen_57 rfl ?_
  exact w_X7_isAsSeen_b58 X H10 σ x2 0 hf
set_option maxHeartbeats 4000000 in
theorem w_X7_isAsSeen_b10 {Γ : gG} {ad : Nat → Nat} {r : Int32} {u : gM} (X : gCX Γ cX7_isAsSeen 3 (some .boolean) RX7 rm_X7_isAsSeen) : ∀ (n_ : Nat) (σ : gM) (x1 : Int32) (x2 : Int32), f_X7_isAsSeen_b10 n_ σ x1 x2 = some (r, u) → gW Γ (gMQ Γ (gPi (gEo Γ) (wM (gEo Γ) ad) r u (gAo Γ)) 0 0) (wM (gEo Γ) ad σ) 3 0 0 10 [(0, .ref (ad 0)), (1, .int x1), (2, .int x2)] [] := by
  intro n_
  induction n_ with
  | zero => intro σ x1 x2 hf; cases hf
  | succ n_ ih =>
    intro σ x1 x2 hf
    simp only [f_X7_isAsSeen_b10] at hf
    refine g_iload_n X 2 dX7_isAsSeen_10 rfl ?_
    refine g_aload_n X 0 dX7_isAsSeen_11 rfl ?_
    refine g_get X in_X7 0 22 rfl rfl (by decide) q939 rfl dX7_isAsSeen_12 ?_
    refine g_icmp_ge X 65 dX7_isAsSeen_15 rfl hf (fun hf => ?_) (fun hf => ?_)
    · refine g_iload_n X 1 dX7_isAsSeen_65 rfl ?_
      exact g_zret X rfl dX7_isAsSeen_66 hf
    · refine g_iload_n X 1 dX7_isAsSeen_18 rfl ?_
      refine g_if_eq X 57 dX7_isAsSeen_19 rfl hf (fun hf => ?_) (fun hf => ?_)
      · refine g_sub [0, 2] [(0, .ref (ad 0)), (2, .int x2)] rfl ?_
        exact w_X7_isAsSeen_b57 X ih σ x2 hf
      · refine g_aload_n X 0 dX7_isAsSeen_22 rfl ?_
        refine g_get X in_X7 0 0 rfl rfl (by decide) q917 rfl dX7_isAsSeen_23 ?_
        refine g_bipush X 127 dX7_isAsSeen_26 rfl ?_
        refine g_iald X 1 rfl dX7_isAsSeen_28 hf (fun v3 hf => ?_)
        refine g_aload_n X 0 dX7_isAsSeen_29 rfl ?_
        refine g_get X in_X7 0 21 rfl rfl (by decide) q938 rfl dX7_isAsSeen_30 ?_
        refine g_iconst X 2 dX7_isAsSeen_33 rfl ?_
        refine g_iload_n X 2 dX7_isAsSeen_34 rfl ?_
        refine g_imul X dX7_isAsSeen_35 ?_
        refine g_iald X 7 rfl dX7_isAsSeen_36 hf (fun v4 hf => ?_)
        refine g_ishr X dX7_isAsSeen_37 ?_
        refine g_iconst X 1 dX7_isAsSeen_38 rfl ?_
        refine g_iand X dX7_isAsSeen_39 ?_
        refine g_aload_n X 0 dX7_isAsSeen_40 rfl ?_
        refine g_get X in_X7 0 21 rfl rfl (by decide) q938 rfl dX7_isAsSeen_41 ?_
        refine g_iconst X 2 dX7_isAsSeen_44 rfl ?_
        refine g_iload_n X 2 dX7_isAsSeen_45 rfl ?_
        refine g_imul X dX7_isAsSeen_46 ?_
        refine g_iconst X 1 dX7_isAsSeen_47 rfl ?_
        refine g_iadd X dX7_isAsSeen_48 ?_
        refine g_iald X 7 rfl dX7_isAsSeen_49 hf (fun v5 hf => ?_)
        refine g_icmp_ne X 57 dX7_isAsSeen_50 rfl hf (fun hf => ?_) (fun hf => ?_)
        · refine g_sub [0, 2] [(0, .ref (ad 0)), (2, .int x2)] rfl ?_
          exact w_X7_isAsSeen_b57 X ih σ x2 hf
        · refine g_iconst X 1 dX7_isAsSeen_53 rfl ?_
          refine g_goto X 58 dX7_isAsSeen_54 rfl ?_
          refine g_sub [0, 2] [(0, .ref (ad 0)), (2, .int x2)] rfl ?_
          exact w_X7_isAsSeen_b58 X ih σ x2 1 hf
set_option maxHeartbeats 4000000 in
theorem m_X7_isAsSeen (l : Launch) (E : gE) (ad : Nat → Nat) (σ : gM) (r : Int32) (u : gM) (hf : f_X7_isAsSeen σ = some (r, u)) (sz : Nat) : Met l yX7_isAsSeen (ws_ yX7_isAsSeen cX7_isAsSeen 3 (some .boolean)) rm_X7_isAsSeen (gPc [.ref (ad 0)] E (wM E ad σ) sz) (gPi E (wM E ad) r u (va_A (wM E ad σ) sz)) 0 0 (va_A (wM E ad σ) sz) := by
  refine gMet (Qc := gPi E (wM E ad) r u) (by decide) (Nat.le_of_ble_eq_true rfl) (fun Γ X hl hE => ?_)
  subst hl; subst hE
  unfold f_X7_isAsSeen at hf
  show gW Γ (gMQ Γ (gPi (gEo Γ) (wM (gEo Γ) ad) r u (gAo Γ)) 0 0) (wM (gEo Γ) ad σ) 3 0 0 0 [(0, .ref (ad 0))] []
  refine g_aload_n X 0 dX7_isAsSeen_0 rfl ?_
  refine g_iconst X 0 dX7_isAsSeen_1 rfl ?_
  refine g_iconst X 0 dX7_isAsSeen_2 rfl ?_
  refine g_callVv X 2 (As := [.int 0, .int 0]) (wfc := wM (gEo Γ) ad) (lw_V q1191 q1193 qs49 q67 q1194) (by decide +kernel) (fun u_ h_ sz_ => m_X7_planGoes (gl Γ) (gEo Γ) ad σ 0 0 u_ h_ sz_) (rq := 0) rfl rfl rfl rfl rfl ⟨by decide, by decide⟩ rfl (Nat.le_of_ble_eq_true rfl) ⟨Nat.zero_le _, Nat.zero_le _⟩ [0, 1, 2, 3, 4, 5, 6, 7, 8, 9, 10, 11, 12] [] [0, 1, 2, 3, 4, 5, 6, 7, 8, 9, 10, 11, 12] (fun u2 => wM (gEo Γ) ad u2) rfl rfl rfl rfl (by decide) rfl (fun _ => rfl) dX7_isAsSeen_3 hf (fun u2 _ hf => ?_)
  refine g_iconst X 1 dX7_isAsSeen_6 rfl ?_
  refine g_istore_n X [(1, .int 1), (0, .ref (ad 0))] dX7_isAsSeen_7 (by decide) rfl ?_
  refine g_iconst X 0 dX7_isAsSeen_8 rfl ?_
  refine g_istore_n X [(2, .int 0), (1, .int 1), (0, .ref (ad 0))] dX7_isAsSeen_9 (by decide) rfl ?_
  refine g_sub [2, 1, 0] [(0, .ref (ad 0)), (1, .int 1), (2, .int 0)] rfl ?_
  exact w_X7_isAsSeen_b10 X 2000 u2 1 0 hf
def f_X7_kinds_b52 (k22 : gM → Int32 → Int32 → Int32 → Int32 → Option (Int32 × gM)) (σ : gM) (x1 : Int32) (x2 : Int32) (x4 : Int32) (t0 : Int32) (t1 : Int32) : Option (Int32 × gM) :=
  gv (t1 ||| t0) fun v10 => gv (x4 + 1) fun v11 => k22 σ x1 x2 v10 v11
def f_X7_kinds_b22 : Nat → gM → Int32 → Int32 → Int32 → Int32 → Option (Int32 × gM)
  | 0 => fun _ _ _ _ _ => none
  | n_ + 1 => fun σ x1 x2 x3 x4 =>
    if 4 ≤ x4 then (gst 168 (M_state σ) x1 x2 fun g4 => gs (M_state_s σ g4) fun s5 => some (x3, s5)) else (gst 168 (M_state σ) x1 x4 fun g6 => gs (M_state_s σ g6) fun s7 => (f_X7_isAsSeen s7).bind fun (r8, u9) => if r8 = 0 then (f_X7_kinds_b52 (f_X7_kinds_b22 n_) u9 x1 x2 x4 0 x3) else (f_X7_kinds_b52 (f_X7_kinds_b22 n_) u9 x1 x2 x4 ((1 : Int32) <<< (x4 &&& 31)) x3))
def f_X7_kinds (σ : gM) (x1 : Int32) : Option (Int32 × gM) :=
  (f_X7_isOne σ x1).bind fun (r1, u2) => if r1 = 0 then (some ((-1), u2)) else (gld 168 (M_state u2) x1 fun v3 => f_X7_kinds_b22 2000 u2 x1 v3 0 0)
abbrev rm_X7_kinds : Room := { frames := 7, cells := 0, slots := 0, locals := 151 }
set_option maxHeartbeats 4000000 in
theorem w_X7_kinds_b52 {Γ : gG} {ad : Nat → Nat} {r : Int32} {u : gM} (X : gCX Γ cX7_kinds 5 (some .int) RX7 rm_X7_kinds) {k22 : gM → Int32 → Int32 → Int32 → Int32 → Option (Int32 × gM)} (H22 : ∀ (σ : gM) (x1 : Int32) (x2 : Int32) (x3 : Int32) (x4 : Int32), k22 σ x1 x2 x3 x4 = some (r, u) → gW Γ (gMQ Γ (gPi (gEo Γ) (wM (gEo Γ) ad) r u (gAo Γ)) 0 0) (wM (gEo Γ) ad σ) 5 0 0 22 [(0, .ref (ad 0)), (1, .int x1), (2, .int x2), (3, .int x3), (4, .int x4)] []) : ∀ (σ : gM) (x1 : Int32) (x2 : Int32) (x4 : Int32) (t0 : Int32) (t1 : Int32), f_X7_kinds_b52 k22 σ x1 x2 x4 t0 t1 = some (r, u) → gW Γ (gMQ Γ (gPi (gEo Γ) (wM (gEo Γ) ad) r u (gAo Γ)) 0 0) (wM (gEo Γ) ad σ) 5 0 0 52 [(0, .ref (ad 0)), (1, .int x1), (2, .int x2), (4, .int x4)] [.int t0, .int t1] := by
  intro σ x1 x2 x4 t0 t1 hf
  unfold f_X7_kinds_b52 at hf
  refine g_ior X dX7_kinds_52 ?_
  refine g_topi hf (fun v10 hf => ?_)
  refine g_istore_n X [(3, .int v10), (0, .ref (ad 0)), (1, .int x1), (2, .int x2), (4, .int x4)] dX7_kinds_53 (by decide) rfl ?_
  refine g_iincV X 1 4 (fun v11 => [(4, .int v11), (3, .int v10), (0, .ref (ad 0)), (1, .int x1), (2, .int x2)]) dX7_kinds_54 rfl rfl (by decide) (fun _ => rfl) hf (fun v11 hf => ?_)
  refine g_goto X 22 dX7_kinds_57 rfl ?_
  refine g_sub [2, 3, 4, 1, 0] [(0, .ref (ad 0)), (1, .int x1), (2, .int x2), (3, .int v10), (4, .int v11)] rfl ?_
  exact H22 σ x1 x2 v10 v11 hf
set_option maxHeartbeats 4000000 in
theorem w_X7_kinds_b22 {Γ : gG} {ad : Nat → Nat} {r : Int32} {u : gM} (X : gCX Γ cX7_kinds 5 (some .int) RX7 rm_X7_kinds) : ∀ (n_ : Nat) (σ : gM) (x1 : Int32) (x2 : Int32) (x3 : Int32) (x4 : Int32), f_X7_kinds_b22 n_ σ x1 x2 x3 x4 = some (r, u) → gW Γ (gMQ Γ (gPi (gEo Γ) (wM (gEo Γ) ad) r u (gAo Γ)) 0 0) (wM (gEo Γ) ad σ) 5 0 0 22 [(0, .ref (ad 0)), (1, .int x1), (2, .int x2), (3, .int x3), (4, .int x4)] [] := by
  intro n_
  induction n_ with
  | zero => intro σ x1 x2 x3 x4 hf; cases hf
  | succ n_ ih =>
    intro σ x1 x2 x3 x4 hf
    simp only [f_X7_kinds_b22] at hf
    refine g_iload X 4 dX7_kinds_22 rfl ?_
    refine g_iconst X 4 dX7_kinds_24 rfl ?_
    refine g_icmp_ge X 60 dX7_kinds_25 rfl hf (fun hf => ?_) (fun hf => ?_)
    · refine g_aload_n X 0 dX7_kinds_60 rfl ?_
      refine g_get X in_X7 0 0 rfl rfl (by decide) q917 rfl dX7_kinds_61 ?_
      refine g_iload_n X 1 dX7_kinds_64 rfl ?_
      refine g_iload_n X 2 dX7_kinds_65 rfl ?_
      refine g_iast X 1 (fun g4 => wM (gEo Γ) ad (M_state_s σ g4)) rfl (fun _ => rfl) dX7_kinds_66 hf (fun g4 hf => ?_)
      refine g_gs (wM (gEo Γ) ad) hf (fun s5 hf => ?_)
      refine g_iload_n X 3 dX7_kinds_67 rfl ?_
      exact g_iret X rfl dX7_kinds_68 hf
    · refine g_aload_n X 0 dX7_kinds_28 rfl ?_
      refine g_get X in_X7 0 0 rfl rfl (by decide) q917 rfl dX7_kinds_29 ?_
      refine g_iload_n X 1 dX7_kinds_32 rfl ?_
      refine g_iload X 4 dX7_kinds_33 rfl ?_
      refine g_iast X 1 (fun g6 => wM (gEo Γ) ad (M_state_s σ g6)) rfl (fun _ => rfl) dX7_kinds_35 hf (fun g6 hf => ?_)
      refine g_gs (wM (gEo Γ) ad) hf (fun s7 hf => ?_)
      refine g_iload_n X 3 dX7_kinds_36 rfl ?_
      refine g_aload_n X 0 dX7_kinds_37 rfl ?_
      refine g_callVi X 0 (As := []) (wfc := wM (gEo Γ) ad) (lw_V q1276 q1278 qs56 q67 q1279) (by decide +kernel) (fun r_ u_ h_ sz_ => m_X7_isAsSeen (gl Γ) (gEo Γ) ad s7 r_ u_ h_ sz_) (rq := 0) rfl rfl rfl rfl rfl ⟨by decide, by decide⟩ rfl (Nat.le_of_ble_eq_true rfl) ⟨Nat.zero_le _, Nat.zero_le _⟩ [0, 1, 2, 3, 4, 5, 6, 7, 8, 9, 10, 11, 12] [] [0, 1, 2, 3, 4, 5, 6, 7, 8, 9, 10, 11, 12] (fun u9 => wM (gEo Γ) ad u9) rfl rfl rfl rfl (by decide) rfl (fun _ => rfl) dX7_kinds_38 hf (fun r8 u9 _ hf => ?_)
      refine g_if_eq X 51 dX7_kinds_41 rfl hf (fun hf => ?_) (fun hf => ?_)
      · refine g_iconst X 0 dX7_kinds_51 rfl ?_
        refine g_sub [0, 1, 2, 4] [(0, .ref (ad 0)), (1, .int x1), (2, .int x2), (4, .int x4)] rfl ?_
        exact w_X7_kinds_b52 X ih u9 x1 x2 x4 0 x3 hf
      · refine g_iconst X 1 dX7_kinds_44 rfl ?_
        refine g_iload X 4 dX7_kinds_45 rfl ?_
        refine g_ishl X dX7_kinds_47 ?_
        refine g_goto X 52 dX7_kinds_48 rfl ?_
        refine g_sub [0, 1, 2, 4] [(0, .ref (ad 0)), (1, .int x1), (2, .int x2), (4, .int x4)] rfl ?_
        exact w_X7_kinds_b52 X ih u9 x1 x2 x4 ((1 : Int32) <<< (x4 &&& 31)) x3 hf
set_option maxHeartbeats 4000000 in
theorem m_X7_kinds (l : Launch) (E : gE) (ad : Nat → Nat) (σ : gM) (x1 : Int32) (r : Int32) (u : gM) (hf : f_X7_kinds σ x1 = some (r, u)) (sz : Nat) : Met l yX7_kinds (ws_ yX7_kinds cX7_kinds 5 (some .int)) rm_X7_kinds (gPc [.ref (ad 0), .int x1] E (wM E ad σ) sz) (gPi E (wM E ad) r u (va_A (wM E ad σ) sz)) 0 0 (va_A (wM E ad σ) sz) := by
  refine gMet (Qc := gPi E (wM E ad) r u) (by decide) (Nat.le_of_ble_eq_true rfl) (fun Γ X hl hE => ?_)
  subst hl; subst hE
  unfold f_X7_kinds at hf
  show gW Γ (gMQ Γ (gPi (gEo Γ) (wM (gEo Γ) ad) r u (gAo Γ)) 0 0) (wM (gEo Γ) ad σ) 5 0 0 0 [(0, .ref (ad 0)), (1, .int x1)] []
  refine g_aload_n X 0 dX7_kinds_0 rfl ?_
  refine g_iload_n X 1 dX7_kinds_1 rfl ?_
  refine g_callVi X 1 (As := [.int x1]) (wfc := wM (gEo Γ) ad) (lw_V q1083 q1085 qs38 q67 q1086) (by decide +kernel) (fun r_ u_ h_ sz_ => m_X7_isOne (gl Γ) (gEo Γ) ad σ x1 r_ u_ h_ sz_) (rq := 0) rfl rfl rfl rfl rfl ⟨by decide, by decide⟩ rfl (Nat.le_of_ble_eq_true rfl) ⟨Nat.zero_le _, Nat.zero_le _⟩ [0, 1, 2, 3, 4, 5, 6, 7, 8, 9, 10, 11, 12] [] [0, 1, 2, 3, 4, 5, 6, 7, 8, 9, 10, 11, 12] (fun u2 => wM (gEo Γ) ad u2) rfl rfl rfl rfl (by decide) rfl (fun _ => rfl) dX7_kinds_2 hf (fun r1 u2 _ hf => ?_)
  refine g_if_ne X 10 dX7_kinds_5 rfl hf (fun hf => ?_) (fun hf => ?_)
  · refine g_aload_n X 0 dX7_kinds_10 rfl ?_
    refine g_get X in_X7 0 0 rfl rfl (by decide) q917 rfl dX7_kinds_11 ?_
    refine g_iload_n X 1 dX7_kinds_14 rfl ?_
    refine g_iald X 1 rfl dX7_kinds_15 hf (fun v3 hf => ?_)
    refine g_istore_n X [(2, .int v3), (0, .ref (ad 0)), (1, .int x1)] dX7_kinds_16 (by decide) rfl ?_
    refine g_iconst X 0 dX7_kinds_17 rfl ?_
    refine g_istore_n X [(3, .int 0), (2, .int v3), (0, .ref (ad 0)), (1, .int x1)] dX7_kinds_18 (by decide) rfl ?_
    refine g_iconst X 0 dX7_kinds_19 rfl ?_
    refine g_istore X [(4, .int 0), (3, .int 0), (2, .int v3), (0, .ref (ad 0)), (1, .int x1)] dX7_kinds_20 (by decide) rfl ?_
    refine g_sub [3, 4, 2, 1, 0] [(0, .ref (ad 0)), (1, .int x1), (2, .int v3), (3, .int 0), (4, .int 0)] rfl ?_
    exact w_X7_kinds_b22 X 2000 u2 x1 v3 0 0 hf
  · refine g_iconst X (-1) dX7_kinds_8 rfl ?_
    exact g_iret X rfl dX7_kinds_9 hf
def f_X7_sorrowsOf_b47 (k14 : gM → Int32 → Int32 → Int32 → Int32 → Option (Int32 × gM)) (σ : gM) (x1 : Int32) (x2 : Int32) (x4 : Int32) (t0 : Int32) (t1 : Int32) : Option (Int32 × gM) :=
  gv (t1 ||| t0) fun v8 => gld 168 (M_state σ) 127 fun v9 => gst 21 (M_goneBy σ) x4 v9 fun g10 => gs (M_goneBy_s σ g10) fun s11 => gv (x4 + 1) fun v12 => k14 s11 x1 x2 v8 v12
def f_X7_sorrowsOf_b14 : Nat → gM → Int32 → Int32 → Int32 → Int32 → Option (Int32 × gM)
  | 0 => fun _ _ _ _ _ => none
  | n_ + 1 => fun σ x1 x2 x3 x4 =>
    if 20 < x4 then (gst 168 (M_state σ) ((5 : Int32) + x1) x2 fun g2 => gs (M_state_s σ g2) fun s3 => some (x3, s3)) else (gst 168 (M_state σ) ((5 : Int32) + x1) x4 fun g4 => gs (M_state_s σ g4) fun s5 => (f_X7_isAsSeen s5).bind fun (r6, u7) => if r6 = 0 then (f_X7_sorrowsOf_b47 (f_X7_sorrowsOf_b14 n_) u7 x1 x2 x4 0 x3) else (f_X7_sorrowsOf_b47 (f_X7_sorrowsOf_b14 n_) u7 x1 x2 x4 ((1 : Int32) <<< (x4 &&& 31)) x3))
def f_X7_sorrowsOf (σ : gM) (x1 : Int32) : Option (Int32 × gM) :=
  gld 168 (M_state σ) ((5 : Int32) + x1) fun v1 => f_X7_sorrowsOf_b14 2000 σ x1 v1 0 0
abbrev rm_X7_sorrowsOf : Room := { frames := 7, cells := 0, slots := 0, locals := 151 }
set_option maxHeartbeats 4000000 in
theorem w_X7_sorrowsOf_b47 {Γ : gG} {ad : Nat → Nat} {r : Int32} {u : gM} (X : gCX Γ cX7_sorrowsOf 5 (some .int) RX7 rm_X7_sorrowsOf) {k14 : gM → Int32 → Int32 → Int32 → Int32 → Option (Int32 × gM)} (H14 : ∀ (σ : gM) (x1 : Int32) (x2 : Int32) (x3 : Int32) (x4 : Int32), k14 σ x1 x2 x3 x4 = some (r, u) → gW Γ (gMQ Γ (gPi (gEo Γ) (wM (gEo Γ) ad) r u (gAo Γ)) 0 0) (wM (gEo Γ) ad σ) 5 0 0 14 [(0, .ref (ad 0)), (1, .int x1), (2, .int x2), (3, .int x3), (4, .int x4)] []) : ∀ (σ : gM) (x1 : Int32) (x2 : Int32) (x4 : Int32) (t0 : Int32) (t1 : Int32), f_X7_sorrowsOf_b47 k14 σ x1 x2 x4 t0 t1 = some (r, u) → gW Γ (gMQ Γ (gPi (gEo Γ) (wM (gEo Γ) ad) r u (gAo Γ)) 0 0) (wM (gEo Γ) ad σ) 5 0 0 47 [(0, .ref (ad 0)), (1, .int x1), (2, .int x2), (4, .int x4)] [.int t0, .int t1] := by
  intro σ x1 x2 x4 t0 t1 hf
  unfold f_X7_sorrowsOf_b47 at hf
  refine g_ior X dX7_sorrowsOf_47 ?_
  refine g_topi hf (fun v8 hf => ?_)
  refine g_istore_n X [(3, .int v8), (0, .ref (ad 0)), (1, .int x1), (2, .int x2), (4, .int x4)] dX7_sorrowsOf_48 (by decide) rfl ?_
  refine g_aload_n X 1 dX7_sorrowsOf_49 rfl ?_
  refine g_get X in_X7 0 23 rfl rfl (by decide) q940 rfl dX7_sorrowsOf_50 ?_
  refine g_iload X 4 dX7_sorrowsOf_53 rfl ?_
  refine g_aload_n X 1 dX7_sorrowsOf_55 rfl ?_
  refine g_get X in_X7 0 0 rfl rfl (by decide) q917 rfl dX7_sorrowsOf_56 ?_
  refine g_bipush X 127 dX7_sorrowsOf_59 rfl ?_
  refine g_iald X 1 rfl dX7_sorrowsOf_61 hf (fun v9 hf => ?_)
  refine g_iast X 8 (fun g10 => wM (gEo Γ) ad (M_goneBy_s σ g10)) rfl (fun _ => rfl) dX7_sorrowsOf_62 hf (fun g10 hf => ?_)
  refine g_gs (wM (gEo Γ) ad) hf (fun s11 hf => ?_)
  refine g_iincV X 1 4 (fun v12 => [(4, .int v12), (3, .int v8), (0, .ref (ad 0)), (1, .int x1), (2, .int x2)]) dX7_sorrowsOf_63 rfl rfl (by decide) (fun _ => rfl) hf (fun v12 hf => ?_)
  refine g_goto X 14 dX7_sorrowsOf_66 rfl ?_
  refine g_sub [2, 3, 4, 1, 0] [(0, .ref (ad 0)), (1, .int x1), (2, .int x2), (3, .int v8), (4, .int v12)] rfl ?_
  exact H14 s11 x1 x2 v8 v12 hf
set_option maxHeartbeats 4000000 in
theorem w_X7_sorrowsOf_b14 {Γ : gG} {ad : Nat → Nat} {r : Int32} {u : gM} (X : gCX Γ cX7_sorrowsOf 5 (some .int) RX7 rm_X7_sorrowsOf) : ∀ (n_ : Nat) (σ : gM) (x1 : Int32) (x2 : Int32) (x3 : Int32) (x4 : Int32), f_X7_sorrowsOf_b14 n_ σ x1 x2 x3 x4 = some (r, u) → gW Γ (gMQ Γ (gPi (gEo Γ) (wM (gEo Γ) ad) r u (gAo Γ)) 0 0) (wM (gEo Γ) ad σ) 5 0 0 14 [(0, .ref (ad 0)), (1, .int x1), (2, .int x2), (3, .int x3), (4, .int x4)] [] := by
  intro n_
  induction n_ with
  | zero => intro σ x1 x2 x3 x4 hf; cases hf
  | succ n_ ih =>
    intro σ x1 x2 x3 x4 hf
    simp only [f_X7_sorrowsOf_b14] at hf
    refine g_iload X 4 dX7_sorrowsOf_14 rfl ?_
    refine g_bipush X 20 dX7_sorrowsOf_16 rfl ?_
    refine g_icmp_gt X 69 dX7_sorrowsOf_18 rfl hf (fun hf => ?_) (fun hf => ?_)
    · refine g_aload_n X 0 dX7_sorrowsOf_69 rfl ?_
      refine g_get X in_X7 0 0 rfl rfl (by decide) q917 rfl dX7_sorrowsOf_70 ?_
      refine g_iconst X 5 dX7_sorrowsOf_73 rfl ?_
      refine g_iload_n X 1 dX7_sorrowsOf_74 rfl ?_
      refine g_iadd X dX7_sorrowsOf_75 ?_
      refine g_iload_n X 2 dX7_sorrowsOf_76 rfl ?_
      refine g_iast X 1 (fun g2 => wM (gEo Γ) ad (M_state_s σ g2)) rfl (fun _ => rfl) dX7_sorrowsOf_77 hf (fun g2 hf => ?_)
      refine g_gs (wM (gEo Γ) ad) hf (fun s3 hf => ?_)
      refine g_iload_n X 3 dX7_sorrowsOf_78 rfl ?_
      exact g_iret X rfl dX7_sorrowsOf_79 hf
    · refine g_aload_n X 0 dX7_sorrowsOf_21 rfl ?_
      refine g_get X in_X7 0 0 rfl rfl (by decide) q917 rfl dX7_sorrowsOf_22 ?_
      refine g_iconst X 5 dX7_sorrowsOf_25 rfl ?_
      refine g_iload_n X 1 dX7_sorrowsOf_26 rfl ?_
      refine g_iadd X dX7_sorrowsOf_27 ?_
      refine g_iload X 4 dX7_sorrowsOf_28 rfl ?_
      refine g_iast X 1 (fun g4 => wM (gEo Γ) ad (M_state_s σ g4)) rfl (fun _ => rfl) dX7_sorrowsOf_30 hf (fun g4 hf => ?_)
      refine g_gs (wM (gEo Γ) ad) hf (fun s5 hf => ?_)
      refine g_iload_n X 3 dX7_sorrowsOf_31 rfl ?_
      refine g_aload_n X 0 dX7_sorrowsOf_32 rfl ?_
      refine g_callVi X 0 (As := []) (wfc := wM (gEo Γ) ad) (lw_V q1276 q1278 qs56 q67 q1279) (by decide +kernel) (fun r_ u_ h_ sz_ => m_X7_isAsSeen (gl Γ) (gEo Γ) ad s5 r_ u_ h_ sz_) (rq := 0) rfl rfl rfl rfl rfl ⟨by decide, by decide⟩ rfl (Nat.le_of_ble_eq_true rfl) ⟨Nat.zero_le _, Nat.zero_le _⟩ [0, 1, 2, 3, 4, 5, 6, 7, 8, 9, 10, 11, 12] [] [0, 1, 2, 3, 4, 5, 6, 7, 8, 9, 10, 11, 12] (fun u7 => wM (gEo Γ) ad u7) rfl rfl rfl rfl (by decide) rfl (fun _ => rfl) dX7_sorrowsOf_33 hf (fun r6 u7 _ hf => ?_)
      refine g_if_eq X 46 dX7_sorrowsOf_36 rfl hf (fun hf => ?_) (fun hf => ?_)
      · refine g_iconst X 0 dX7_sorrowsOf_46 rfl ?_
        refine g_sub [0, 1, 2, 4] [(0, .ref (ad 0)), (1, .int x1), (2, .int x2), (4, .int x4)] rfl ?_
        exact w_X7_sorrowsOf_b47 X ih u7 x1 x2 x4 0 x3 hf
      · refine g_iconst X 1 dX7_sorrowsOf_39 rfl ?_
        refine g_iload X 4 dX7_sorrowsOf_40 rfl ?_
        refine g_ishl X dX7_sorrowsOf_42 ?_
        refine g_goto X 47 dX7_sorrowsOf_43 rfl ?_
        refine g_sub [0, 1, 2, 4] [(0, .ref (ad 0)), (1, .int x1), (2, .int x2), (4, .int x4)] rfl ?_
        exact w_X7_sorrowsOf_b47 X ih u7 x1 x2 x4 ((1 : Int32) <<< (x4 &&& 31)) x3 hf
set_option maxHeartbeats 4000000 in
theorem m_X7_sorrowsOf (l : Launch) (E : gE) (ad : Nat → Nat) (σ : gM) (x1 : Int32) (r : Int32) (u : gM) (hf : f_X7_sorrowsOf σ x1 = some (r, u)) (sz : Nat) : Met l yX7_sorrowsOf (ws_ yX7_sorrowsOf cX7_sorrowsOf 5 (some .int)) rm_X7_sorrowsOf (gPc [.ref (ad 0), .int x1] E (wM E ad σ) sz) (gPi E (wM E ad) r u (va_A (wM E ad σ) sz)) 0 0 (va_A (wM E ad σ) sz) := by
  refine gMet (Qc := gPi E (wM E ad) r u) (by decide) (Nat.le_of_ble_eq_true rfl) (fun Γ X hl hE => ?_)
  subst hl; subst hE
  unfold f_X7_sorrowsOf at hf
  show gW Γ (gMQ Γ (gPi (gEo Γ) (wM (gEo Γ) ad) r u (gAo Γ)) 0 0) (wM (gEo Γ) ad σ) 5 0 0 0 [(0, .ref (ad 0)), (1, .int x1)] []
  refine g_aload_n X 0 dX7_sorrowsOf_0 rfl ?_
  refine g_get X in_X7 0 0 rfl rfl (by decide) q917 rfl dX7_sorrowsOf_1 ?_
  refine g_iconst X 5 dX7_sorrowsOf_4 rfl ?_
  refine g_iload_n X 1 dX7_sorrowsOf_5 rfl ?_
  refine g_iadd X dX7_sorrowsOf_6 ?_
  refine g_iald X 1 rfl dX7_sorrowsOf_7 hf (fun v1 hf => ?_)
  refine g_istore_n X [(2, .int v1), (0, .ref (ad 0)), (1, .int x1)] dX7_sorrowsOf_8 (by decide) rfl ?_
  refine g_iconst X 0 dX7_sorrowsOf_9 rfl ?_
  refine g_istore_n X [(3, .int 0), (2, .int v1), (0, .ref (ad 0)), (1, .int x1)] dX7_sorrowsOf_10 (by decide) rfl ?_
  refine g_iconst X 0 dX7_sorrowsOf_11 rfl ?_
  refine g_istore X [(4, .int 0), (3, .int 0), (2, .int v1), (0, .ref (ad 0)), (1, .int x1)] dX7_sorrowsOf_12 (by decide) rfl ?_
  refine g_sub [3, 4, 2, 1, 0] [(0, .ref (ad 0)), (1, .int x1), (2, .int v1), (3, .int 0), (4, .int 0)] rfl ?_
  exact w_X7_sorrowsOf_b14 X 2000 σ x1 v1 0 0 hf
def f_X7_sorrows (σ : gM) (x1 : Int32) : Option (Int32 × gM) :=
  (f_X7_isOne σ x1).bind fun (r1, u2) => if r1 = 0 then (some ((-1), u2)) else ((f_X7_sorrowsOf u2 x1).bind fun (r3, u4) => some (r3, u4))
abbrev rm_X7_sorrows : Room := { frames := 8, cells := 0, slots := 0, locals := 175 }
set_option maxHeartbeats 4000000 in
theorem m_X7_sorrows (l : Launch) (E : gE) (ad : Nat → Nat) (σ : gM) (x1 : Int32) (r : Int32) (u : gM) (hf : f_X7_sorrows σ x1 = some (r, u)) (sz : Nat) : Met l yX7_sorrows (ws_ yX7_sorrows cX7_sorrows 2 (some .int)) rm_X7_sorrows (gPc [.ref (ad 0), .int x1] E (wM E ad σ) sz) (gPi E (wM E ad) r u (va_A (wM E ad σ) sz)) 0 0 (va_A (wM E ad σ) sz) := by
  refine gMet (Qc := gPi E (wM E ad) r u) (by decide) (Nat.le_of_ble_eq_true rfl) (fun Γ X hl hE => ?_)
  subst hl; subst hE
  unfold f_X7_sorrows at hf
  show gW Γ (gMQ Γ (gPi (gEo Γ) (wM (gEo Γ) ad) r u (gAo Γ)) 0 0) (wM (gEo Γ) ad σ) 2 0 0 0 [(0, .ref (ad 0)), (1, .int x1)] []
  refine g_aload_n X 0 dX7_sorrows_0 rfl ?_
  refine g_iload_n X 1 dX7_sorrows_1 rfl ?_
  refine g_callVi X 1 (As := [.int x1]) (wfc := wM (gEo Γ) ad) (lw_V q1083 q1085 qs38 q67 q1086) (by decide +kernel) (fun r_ u_ h_ sz_ => m_X7_isOne (gl Γ) (gEo Γ) ad σ x1 r_ u_ h_ sz_) (rq := 0) rfl rfl rfl rfl rfl ⟨by decide, by decide⟩ rfl (Nat.le_of_ble_eq_true rfl) ⟨Nat.zero_le _, Nat.zero_le _⟩ [0, 1, 2, 3, 4, 5, 6, 7, 8, 9, 10, 11, 12] [] [0, 1, 2, 3, 4, 5, 6, 7, 8, 9, 10, 11, 12] (fun u2 => wM (gEo Γ) ad u2) rfl rfl rfl rfl (by decide) rfl (fun _ => rfl) dX7_sorrows_2 hf (fun r1 u2 _ hf => ?_)
  refine g_if_eq X 16 dX7_sorrows_5 rfl hf (fun hf => ?_) (fun hf => ?_)
  · refine g_iconst X (-1) dX7_sorrows_16 rfl ?_
    exact g_iret X rfl dX7_sorrows_17 hf
  · refine g_aload_n X 0 dX7_sorrows_8 rfl ?_
    refine g_iload_n X 1 dX7_sorrows_9 rfl ?_
    refine g_callVi X 1 (As := [.int x1]) (wfc := wM (gEo Γ) ad) (lw_V q1284 q1286 qs57 q67 q1287) (by decide +kernel) (fun r_ u_ h_ sz_ => m_X7_sorrowsOf (gl Γ) (gEo Γ) ad u2 x1 r_ u_ h_ sz_) (rq := 0) rfl rfl rfl rfl rfl ⟨by decide, by decide⟩ rfl (Nat.le_of_ble_eq_true rfl) ⟨Nat.zero_le _, Nat.zero_le _⟩ [0, 1, 2, 3, 4, 5, 6, 7, 8, 9, 10, 11, 12] [] [0, 1, 2, 3, 4, 5, 6, 7, 8, 9, 10, 11, 12] (fun u4 => wM (gEo Γ) ad u4) rfl rfl rfl rfl (by decide) rfl (fun _ => rfl) dX7_sorrows_10 hf (fun r3 u4 _ hf => ?_)
    refine g_goto X 17 dX7_sorrows_13 rfl ?_
    exact g_iret X rfl dX7_sorrows_17 hf
def f_X7_ask_b93 (k43 : gM → Int32 → Int32 → Int32 → Int32 → Int32 → Int32 → Option (Int32 × gM)) (k58 : gM → Int32 → Int32 → Int32 → Int32 → Int32 → Int32 → Int32 → Int32 → Option (Int32 × gM)) (σ : gM) (x2 : Int32) (x3 : Int32) (x4 : Int32) (x5 : Int32) (x6 : Int32) (x7 : Int32) (x9 : Int32) (t0 : Int32) (t1 : Int32) : Option (Int32 × gM) :=
  gv (t1 + t0) fun v11 => gv (x9 + 1) fun v12 => k58 σ x2 x3 x4 x5 x6 x7 v11 v12
def f_X7_ask_b154 (k43 : gM → Int32 → Int32 → Int32 → Int32 → Int32 → Int32 → Option (Int32 × gM)) (σ : gM) (x2 : Int32) (x3 : Int32) (x4 : Int32) (x6 : Int32) (x7 : Int32) (t0 : Int32) : Option (Int32 × gM) :=
  gv (x7 + 1) fun v10 => k43 σ x2 x3 x4 t0 x6 v10
def f_X7_ask_b138 (k43 : gM → Int32 → Int32 → Int32 → Int32 → Int32 → Int32 → Option (Int32 × gM)) (σ : gM) (x2 : Int32) (x3 : Int32) (x4 : Int32) (x5 : Int32) (x7 : Int32) (x9 : Int32) (t0 : Int32) : Option (Int32 × gM) :=
  if x5 ≤ x9 then (f_X7_ask_b154 k43 σ x2 x3 x4 t0 x7 x5) else (f_X7_ask_b154 k43 σ x2 x3 x4 t0 x7 x9)
def f_X7_ask_b122 (k43 : gM → Int32 → Int32 → Int32 → Int32 → Int32 → Int32 → Option (Int32 × gM)) (σ : gM) (x2 : Int32) (x3 : Int32) (x4 : Int32) (x5 : Int32) (x6 : Int32) (x7 : Int32) (t0 : Int32) : Option (Int32 × gM) :=
  if x5 ≤ t0 then (f_X7_ask_b138 k43 σ x2 x3 x4 x5 x7 t0 x6) else (f_X7_ask_b138 k43 σ x2 x3 x4 x5 x7 t0 x7)
def f_X7_ask_b58 (k43 : gM → Int32 → Int32 → Int32 → Int32 → Int32 → Int32 → Option (Int32 × gM)) : Nat → gM → Int32 → Int32 → Int32 → Int32 → Int32 → Int32 → Int32 → Int32 → Option (Int32 × gM)
  | 0 => fun _ _ _ _ _ _ _ _ _ => none
  | n_ + 1 => fun σ x2 x3 x4 x5 x6 x7 x8 x9 =>
    if 20 < x9 then (if x8 ≤ (x4 - x8) then (f_X7_ask_b122 k43 σ x2 x3 x4 x5 x6 x7 (x4 - x8)) else (f_X7_ask_b122 k43 σ x2 x3 x4 x5 x6 x7 x8)) else (if ((x3 >>> (x9 &&& 31)) &&& 1) = 1 then (gld 21 (M_goneBy σ) x9 fun v9 => f_X7_ask_b93 k43 (f_X7_ask_b58 k43 n_) σ x2 x3 x4 x5 x6 x7 x9 ((v9 >>> (x7 &&& 31)) &&& 1) x8) else (f_X7_ask_b93 k43 (f_X7_ask_b58 k43 n_) σ x2 x3 x4 x5 x6 x7 x9 0 x8))
def f_X7_ask_b173 (σ : gM) (x6 : Int32) : Option (Int32 × gM) :=
  some (x6, σ)
def f_X7_ask_b43 : Nat → gM → Int32 → Int32 → Int32 → Int32 → Int32 → Int32 → Option (Int32 × gM)
  | 0 => fun _ _ _ _ _ _ _ => none
  | n_ + 1 => fun σ x2 x3 x4 x5 x6 x7 =>
    if (M_oneMany σ) ≤ x7 then (if x6 = (-4) then (f_X7_ask_b173 σ x6) else (if x2 = 0 then (f_X7_ask_b173 σ x6) else (some (x5, σ)))) else (f_X7_ask_b58 (f_X7_ask_b43 n_) 2000 σ x2 x3 x4 x5 x6 x7 0 0)
def f_X7_ask (σ : gM) (x1 : Int32) (x2 : Int32) : Option (Int32 × gM) :=
  (f_X7_isOne σ x1).bind fun (r1, u2) => if r1 = 0 then (some ((-1), u2)) else ((f_X7_in (x2.toInt64) 0 1).bind fun (r3, _) => if r3 = 0 then (some ((-1), u2)) else ((f_X7_sorrowsOf u2 x1).bind fun (r5, u6) => (f_X7_bitsOf r5).bind fun (r7, _) => f_X7_ask_b43 2000 u6 x2 r5 r7 r7 (-4) 0))
abbrev rm_X7_ask : Room := { frames := 8, cells := 0, slots := 0, locals := 175 }
set_option maxHeartbeats 4000000 in
theorem w_X7_ask_b93 {Γ : gG} {ad : Nat → Nat} {r : Int32} {u : gM} (X : gCX Γ cX7_ask 10 (some .int) RX7 rm_X7_ask) {k43 : gM → Int32 → Int32 → Int32 → Int32 → Int32 → Int32 → Option (Int32 × gM)} (H43 : ∀ (σ : gM) (x2 : Int32) (x3 : Int32) (x4 : Int32) (x5 : Int32) (x6 : Int32) (x7 : Int32), k43 σ x2 x3 x4 x5 x6 x7 = some (r, u) → gW Γ (gMQ Γ (gPi (gEo Γ) (wM (gEo Γ) ad) r u (gAo Γ)) 0 0) (wM (gEo Γ) ad σ) 10 0 0 43 [(0, .ref (ad 0)), (2, .int x2), (3, .int x3), (4, .int x4), (5, .int x5), (6, .int x6), (7, .int x7)] []) {k58 : gM → Int32 → Int32 → Int32 → Int32 → Int32 → Int32 → Int32 → Int32 → Option (Int32 × gM)} (H58 : ∀ (σ : gM) (x2 : Int32) (x3 : Int32) (x4 : Int32) (x5 : Int32) (x6 : Int32) (x7 : Int32) (x8 : Int32) (x9 : Int32), k58 σ x2 x3 x4 x5 x6 x7 x8 x9 = some (r, u) → gW Γ (gMQ Γ (gPi (gEo Γ) (wM (gEo Γ) ad) r u (gAo Γ)) 0 0) (wM (gEo Γ) ad σ) 10 0 0 58 [(0, .ref (ad 0)), (2, .int x2), (3, .int x3), (4, .int x4), (5, .int x5), (6, .int x6), (7, .int x7), (8, .int x8), (9, .int x9)] []) : ∀ (σ : gM) (x2 : Int32) (x3 : Int32) (x4 : Int32) (x5 : Int32) (x6 : Int32) (x7 : Int32) (x9 : Int32) (t0 : Int32) (t1 : Int32), f_X7_ask_b93 k43 k58 σ x2 x3 x4 x5 x6 x7 x9 t0 t1 = some (r, u) → gW Γ (gMQ Γ (gPi (gEo Γ) (wM (gEo Γ) ad) r u (gAo Γ)) 0 0) (wM (gEo Γ) ad σ) 10 0 0 93 [(0, .ref (ad 0)), (2, .int x2), (3, .int x3), (4, .int x4), (5, .int x5), (6, .int x6), (7, .int x7), (9, .int x9)] [.int t0, .int t1] := by
  intro σ x2 x3 x4 x5 x6 x7 x9 t0 t1 hf
  unfold f_X7_ask_b93 at hf
  refine g_iadd X dX7_ask_93 ?_
  refine g_topi hf (fun v11 hf => ?_)
  refine g_istore X [(8, .int v11), (0, .ref (ad 0)), (2, .int x2), (3, .int x3), (4, .int x4), (5, .int x5), (6, .int x6), (7, .int x7), (9, .int x9)] dX7_ask_94 (by decide) rfl ?_
  refine g_iincV X 1 8 (fun v12 => [(9, .int v12), (8, .int v11), (0, .ref (ad 0)), (2, .int x2), (3, .int x3), (4, .int x4), (5, .int x5), (6, .int x6), (7, .int x7)]) dX7_ask_96 rfl rfl (by decide) (fun _ => rfl) hf (fun v12 hf => ?_)
  refine g_goto X 58 dX7_ask_99 rfl ?_
  refine g_sub [2, 3, 4, 5, 6, 7, 8, 1, 0] [(0, .ref (ad 0)), (2, .int x2), (3, .int x3), (4, .int x4), (5, .int x5), (6, .int x6), (7, .int x7), (8, .int v11), (9, .int v12)] rfl ?_
  exact H58 σ x2 x3 x4 x5 x6 x7 v11 v12 hf
set_option maxHeartbeats 4000000 in
theorem w_X7_ask_b154 {Γ : gG} {ad : Nat → Nat} {r : Int32} {u : gM} (X : gCX Γ cX7_ask 10 (some .int) RX7 rm_X7_ask) {k43 : gM → Int32 → Int32 → Int32 → Int32 → Int32 → Int32 → Option (Int32 × gM)} (H43 : ∀ (σ : gM) (x2 : Int32) (x3 : Int32) (x4 : Int32) (x5 : Int32) (x6 : Int32) (x7 : Int32), k43 σ x2 x3 x4 x5 x6 x7 = some (r, u) → gW Γ (gMQ Γ (gPi (gEo Γ) (wM (gEo Γ) ad) r u (gAo Γ)) 0 0) (wM (gEo Γ) ad σ) 10 0 0 43 [(0, .ref (ad 0)), (2, .int x2), (3, .int x3), (4, .int x4), (5, .int x5), (6, .int x6), (7, .int x7)] []) : ∀ (σ : gM) (x2 : Int32) (x3 : Int32) (x4 : Int32) (x6 : Int32) (x7 : Int32) (t0 : Int32), f_X7_ask_b154 k43 σ x2 x3 x4 x6 x7 t0 = some (r, u) → gW Γ (gMQ Γ (gPi (gEo Γ) (wM (gEo Γ) ad) r u (gAo Γ)) 0 0) (wM (gEo Γ) ad σ) 10 0 0 154 [(0, .ref (ad 0)), (2, .int x2), (3, .int x3), (4, .int x4), (6, .int x6), (7, .int x7)] [.int t0] := by
  intro σ x2 x3 x4 x6 x7 t0 hf
  unfold f_X7_ask_b154 at hf
  refine g_istore X [(5, .int t0), (0, .ref (ad 0)), (2, .int x2), (3, .int x3), (4, .int x4), (6, .int x6), (7, .int x7)] dX7_ask_154 (by decide) rfl ?_
  refine g_iincV X 1 6 (fun v10 => [(7, .int v10), (5, .int t0), (0, .ref (ad 0)), (2, .int x2), (3, .int x3), (4, .int x4), (6, .int x6)]) dX7_ask_156 rfl rfl (by decide) (fun _ => rfl) hf (fun v10 hf => ?_)
  refine g_goto X 43 dX7_ask_159 rfl ?_
  refine g_sub [2, 3, 4, 5, 1, 6, 0] [(0, .ref (ad 0)), (2, .int x2), (3, .int x3), (4, .int x4), (5, .int t0), (6, .int x6), (7, .int v10)] rfl ?_
  exact H43 σ x2 x3 x4 t0 x6 v10 hf
set_option maxHeartbeats 4000000 in
theorem w_X7_ask_b138 {Γ : gG} {ad : Nat → Nat} {r : Int32} {u : gM} (X : gCX Γ cX7_ask 10 (some .int) RX7 rm_X7_ask) {k43 : gM → Int32 → Int32 → Int32 → Int32 → Int32 → Int32 → Option (Int32 × gM)} (H43 : ∀ (σ : gM) (x2 : Int32) (x3 : Int32) (x4 : Int32) (x5 : Int32) (x6 : Int32) (x7 : Int32), k43 σ x2 x3 x4 x5 x6 x7 = some (r, u) → gW Γ (gMQ Γ (gPi (gEo Γ) (wM (gEo Γ) ad) r u (gAo Γ)) 0 0) (wM (gEo Γ) ad σ) 10 0 0 43 [(0, .ref (ad 0)), (2, .int x2), (3, .int x3), (4, .int x4), (5, .int x5), (6, .int x6), (7, .int x7)] []) : ∀ (σ : gM) (x2 : Int32) (x3 : Int32) (x4 : Int32) (x5 : Int32) (x7 : Int32) (x9 : Int32) (t0 : Int32), f_X7_ask_b138 k43 σ x2 x3 x4 x5 x7 x9 t0 = some (r, u) → gW Γ (gMQ Γ (gPi (gEo Γ) (wM (gEo Γ) ad) r u (gAo Γ)) 0 0) (wM (gEo Γ) ad σ) 10 0 0 138 [(0, .ref (ad 0)), (2, .int x2), (3, .int x3), (4, .int x4), (5, .int x5), (7, .int x7), (9, .int x9)] [.int t0] := by
  intro σ x2 x3 x4 x5 x7 x9 t0 hf
  unfold f_X7_ask_b138 at hf
  refine g_istore X [(6, .int t0), (0, .ref (ad 0)), (2, .int x2), (3, .int x3), (4, .int x4), (5, .int x5), (7, .int x7), (9, .int x9)] dX7_ask_138 (by decide) rfl ?_
  refine g_iload X 7 dX7_ask_140 rfl ?_
  refine g_iload X 5 dX7_ask_142 rfl ?_
  refine g_icmp_ge X 152 dX7_ask_144 rfl hf (fun hf => ?_) (fun hf => ?_)
  · refine g_iload X 5 dX7_ask_152 rfl ?_
    refine g_sub [1, 2, 3, 4, 0, 6] [(0, .ref (ad 0)), (2, .int x2), (3, .int x3), (4, .int x4), (6, .int t0), (7, .int x7)] rfl ?_
    exact w_X7_ask_b154 X H43 σ x2 x3 x4 t0 x7 x5 hf
  · refine g_iload X 7 dX7_ask_147 rfl ?_
    refine g_goto X 154 dX7_ask_149 rfl ?_
    refine g_sub [1, 2, 3, 4, 0, 6] [(0, .ref (ad 0)), (2, .int x2), (3, .int x3), (4, .int x4), (6, .int t0), (7, .int x7)] rfl ?_
    exact w_X7_ask_b154 X H43 σ x2 x3 x4 t0 x7 x9 hf
set_option maxHeartbeats 4000000 in
theorem w_X7_ask_b122 {Γ : gG} {ad : Nat → Nat} {r : Int32} {u : gM} (X : gCX Γ cX7_ask 10 (some .int) RX7 rm_X7_ask) {k43 : gM → Int32 → Int32 → Int32 → Int32 → Int32 → Int32 → Option (Int32 × gM)} (H43 : ∀ (σ : gM) (x2 : Int32) (x3 : Int32) (x4 : Int32) (x5 : Int32) (x6 : Int32) (x7 : Int32), k43 σ x2 x3 x4 x5 x6 x7 = some (r, u) → gW Γ (gMQ Γ (gPi (gEo Γ) (wM (gEo Γ) ad) r u (gAo Γ)) 0 0) (wM (gEo Γ) ad σ) 10 0 0 43 [(0, .ref (ad 0)), (2, .int x2), (3, .int x3), (4, .int x4), (5, .int x5), (6, .int x6), (7, .int x7)] []) : ∀ (σ : gM) (x2 : Int32) (x3 : Int32) (x4 : Int32) (x5 : Int32) (x6 : Int32) (x7 : Int32) (t0 : Int32), f_X7_ask_b122 k43 σ x2 x3 x4 x5 x6 x7 t0 = some (r, u) → gW Γ (gMQ Γ (gPi (gEo Γ) (wM (gEo Γ) ad) r u (gAo Γ)) 0 0) (wM (gEo Γ) ad σ) 10 0 0 122 [(0, .ref (ad 0)), (2, .int x2), (3, .int x3), (4, .int x4), (5, .int x5), (6, .int x6), (7, .int x7)] [.int t0] := by
  intro σ x2 x3 x4 x5 x6 x7 t0 hf
  unfold f_X7_ask_b122 at hf
  refine g_istore X [(9, .int t0), (0, .ref (ad 0)), (2, .int x2), (3, .int x3), (4, .int x4), (5, .int x5), (6, .int x6), (7, .int x7)] dX7_ask_122 (by decide) rfl ?_
  refine g_iload X 0 dX7_ask_124 rfl ?_
  refine g_iload X 5 dX7_ask_126 rfl ?_
  refine g_icmp_ge X 136 dX7_ask_128 rfl hf (fun hf => ?_) (fun hf => ?_)
  · refine g_iload X 6 dX7_ask_136 rfl ?_
    refine g_sub [1, 2, 3, 4, 5, 7, 0] [(0, .ref (ad 0)), (2, .int x2), (3, .int x3), (4, .int x4), (5, .int x5), (7, .int x7), (9, .int t0)] rfl ?_
    exact w_X7_ask_b138 X H43 σ x2 x3 x4 x5 x7 t0 x6 hf
  · refine g_iload X 7 dX7_ask_131 rfl ?_
    refine g_goto X 138 dX7_ask_133 rfl ?_
    refine g_sub [1, 2, 3, 4, 5, 7, 0] [(0, .ref (ad 0)), (2, .int x2), (3, .int x3), (4, .int x4), (5, .int x5), (7, .int x7), (9, .int t0)] rfl ?_
    exact w_X7_ask_b138 X H43 σ x2 x3 x4 x5 x7 t0 x7 hf
set_option maxHeartbeats 4000000 in
theorem w_X7_ask_b58 {Γ : gG} {ad : Nat → Nat} {r : Int32} {u : gM} (X : gCX Γ cX7_ask 10 (some .int) RX7 rm_X7_ask) {k43 : gM → Int32 → Int32 → Int32 → Int32 → Int32 → Int32 → Option (Int32 × gM)} (H43 : ∀ (σ : gM) (x2 : Int32) (x3 : Int32) (x4 : Int32) (x5 : Int32) (x6 : Int32) (x7 : Int32), k43 σ x2 x3 x4 x5 x6 x7 = some (r, u) → gW Γ (gMQ Γ (gPi (gEo Γ) (wM (gEo Γ) ad) r u (gAo Γ)) 0 0) (wM (gEo Γ) ad σ) 10 0 0 43 [(0, .ref (ad 0)), (2, .int x2), (3, .int x3), (4, .int x4), (5, .int x5), (6, .int x6), (7, .int x7)] []) : ∀ (n_ : Nat) (σ : gM) (x2 : Int32) (x3 : Int32) (x4 : Int32) (x5 : Int32) (x6 : Int32) (x7 : Int32) (x8 : Int32) (x9 : Int32), f_X7_ask_b58 k43 n_ σ x2 x3 x4 x5 x6 x7 x8 x9 = some (r, u) → gW Γ (gMQ Γ (gPi (gEo Γ) (wM (gEo Γ) ad) r u (gAo Γ)) 0 0) (wM (gEo Γ) ad σ) 10 0 0 58 [(0, .ref (ad 0)), (2, .int x2), (3, .int x3), (4, .int x4), (5, .int x5), (6, .int x6), (7, .int x7), (8, .int x8), (9, .int x9)] [] := by
  intro n_
  induction n_ with
  | zero => intro σ x2 x3 x4 x5 x6 x7 x8 x9 hf; cases hf
  | succ n_ ih =>
    intro σ x2 x3 x4 x5 x6 x7 x8 x9 hf
    simp only [f_X7_ask_b58] at hf
    refine g_iload X 8 dX7_ask_58 rfl ?_
    refine g_bipush X 20 dX7_ask_60 rfl ?_
    refine g_icmp_gt X 102 dX7_ask_62 rfl hf (fun hf => ?_) (fun hf => ?_)
    · refine g_iload X 7 dX7_ask_102 rfl ?_
      refine g_iload X 3 dX7_ask_104 rfl ?_
      refine g_iload X 7 dX7_ask_106 rfl ?_
      refine g_isub X dX7_ask_108 ?_
      refine g_icmp_le X 117 dX7_ask_109 rfl hf (fun hf => ?_) (fun hf => ?_)
      · refine g_iload X 3 dX7_ask_117 rfl ?_
        refine g_iload X 7 dX7_ask_119 rfl ?_
        refine g_isub X dX7_ask_121 ?_
        refine g_sub [0, 1, 2, 3, 4, 5, 6] [(0, .ref (ad 0)), (2, .int x2), (3, .int x3), (4, .int x4), (5, .int x5), (6, .int x6), (7, .int x7)] rfl ?_
        exact w_X7_ask_b122 X H43 σ x2 x3 x4 x5 x6 x7 (x4 - x8) hf
      · refine g_iload X 7 dX7_ask_112 rfl ?_
        refine g_goto X 122 dX7_ask_114 rfl ?_
        refine g_sub [0, 1, 2, 3, 4, 5, 6] [(0, .ref (ad 0)), (2, .int x2), (3, .int x3), (4, .int x4), (5, .int x5), (6, .int x6), (7, .int x7)] rfl ?_
        exact w_X7_ask_b122 X H43 σ x2 x3 x4 x5 x6 x7 x8 hf
    · refine g_iload X 7 dX7_ask_65 rfl ?_
      refine g_iload_n X 2 dX7_ask_67 rfl ?_
      refine g_iload X 8 dX7_ask_68 rfl ?_
      refine g_ishr X dX7_ask_70 ?_
      refine g_iconst X 1 dX7_ask_71 rfl ?_
      refine g_iand X dX7_ask_72 ?_
      refine g_iconst X 1 dX7_ask_73 rfl ?_
      refine g_icmp_ne X 92 dX7_ask_74 rfl hf (fun hf => ?_) (fun hf => ?_)
      · refine g_iconst X 0 dX7_ask_92 rfl ?_
        refine g_sub [0, 1, 2, 3, 4, 5, 6, 8] [(0, .ref (ad 0)), (2, .int x2), (3, .int x3), (4, .int x4), (5, .int x5), (6, .int x6), (7, .int x7), (9, .int x9)] rfl ?_
        exact w_X7_ask_b93 X H43 ih σ x2 x3 x4 x5 x6 x7 x9 0 x8 hf
      · refine g_aload_n X 0 dX7_ask_77 rfl ?_
        refine g_get X in_X7 0 23 rfl rfl (by decide) q940 rfl dX7_ask_78 ?_
        refine g_iload X 8 dX7_ask_81 rfl ?_
        refine g_iald X 8 rfl dX7_ask_83 hf (fun v9 hf => ?_)
        refine g_iload X 6 dX7_ask_84 rfl ?_
        refine g_ishr X dX7_ask_86 ?_
        refine g_iconst X 1 dX7_ask_87 rfl ?_
        refine g_iand X dX7_ask_88 ?_
        refine g_goto X 93 dX7_ask_89 rfl ?_
        refine g_sub [0, 1, 2, 3, 4, 5, 6, 8] [(0, .ref (ad 0)), (2, .int x2), (3, .int x3), (4, .int x4), (5, .int x5), (6, .int x6), (7, .int x7), (9, .int x9)] rfl ?_
        exact w_X7_ask_b93 X H43 ih σ x2 x3 x4 x5 x6 x7 x9 ((v9 >>> (x7 &&& 31)) &&& 1) x8 hf
set_option maxHeartbeats 4000000 in
theorem w_X7_ask_b173 {Γ : gG} {ad : Nat → Nat} {r : Int32} {u : gM} (X : gCX Γ cX7_ask 10 (some .int) RX7 rm_X7_ask) : ∀ (σ : gM) (x6 : Int32), f_X7_ask_b173 σ x6 = some (r, u) → gW Γ (gMQ Γ (gPi (gEo Γ) (wM (gEo Γ) ad) r u (gAo Γ)) 0 0) (wM (gEo Γ) ad σ) 10 0 0 173 [(6, .int x6)] [] := by
  intro σ x6 hf
  unfold f_X7_ask_b173 at hf
  refine g_iload X 0 dX7_ask_173 rfl ?_
  refine g_goto X 180 dX7_ask_175 rfl ?_
  exact g_iret X rfl dX7_ask_180 hf
set_option maxHeartbeats 4000000 in
theorem w_X7_ask_b43 {Γ : gG} {ad : Nat → Nat} {r : Int32} {u : gM} (X : gCX Γ cX7_ask 10 (some .int) RX7 rm_X7_ask) : ∀ (n_ : Nat) (σ : gM) (x2 : Int32) (x3 : Int32) (x4 : Int32) (x5 : Int32) (x6 : Int32) (x7 : Int32), f_X7_ask_b43 n_ σ x2 x3 x4 x5 x6 x7 = some (r, u) → gW Γ (gMQ Γ (gPi (gEo Γ) (wM (gEo Γ) ad) r u (gAo Γ)) 0 0) (wM (gEo Γ) ad σ) 10 0 0 43 [(0, .ref (ad 0)), (2, .int x2), (3, .int x3), (4, .int x4), (5, .int x5), (6, .int x6), (7, .int x7)] [] := by
  intro n_
  induction n_ with
  | zero => intro σ x2 x3 x4 x5 x6 x7 hf; cases hf
  | succ n_ ih =>
    intro σ x2 x3 x4 x5 x6 x7 hf
    simp only [f_X7_ask_b43] at hf
    refine g_iload X 6 dX7_ask_43 rfl ?_
    refine g_aload_n X 0 dX7_ask_45 rfl ?_
    refine g_get X in_X7 0 2 rfl rfl (by decide) q919 rfl dX7_ask_46 ?_
    refine g_icmp_ge X 162 dX7_ask_49 rfl hf (fun hf => ?_) (fun hf => ?_)
    · refine g_iload X 5 dX7_ask_162 rfl ?_
      refine g_bipush X (-4) dX7_ask_164 rfl ?_
      refine g_icmp_eq X 173 dX7_ask_166 rfl hf (fun hf => ?_) (fun hf => ?_)
      · refine g_sub [5] [(6, .int x6)] rfl ?_
        exact w_X7_ask_b173 X σ x6 hf
      · refine g_iload_n X 1 dX7_ask_169 rfl ?_
        refine g_if_ne X 178 dX7_ask_170 rfl hf (fun hf => ?_) (fun hf => ?_)
        · refine g_iload X 4 dX7_ask_178 rfl ?_
          exact g_iret X rfl dX7_ask_180 hf
        · refine g_sub [5] [(6, .int x6)] rfl ?_
          exact w_X7_ask_b173 X σ x6 hf
    · refine g_iconst X 0 dX7_ask_52 rfl ?_
      refine g_istore X [(8, .int 0), (0, .ref (ad 0)), (2, .int x2), (3, .int x3), (4, .int x4), (5, .int x5), (6, .int x6), (7, .int x7)] dX7_ask_53 (by decide) rfl ?_
      refine g_iconst X 0 dX7_ask_55 rfl ?_
      refine g_istore X [(9, .int 0), (8, .int 0), (0, .ref (ad 0)), (2, .int x2), (3, .int x3), (4, .int x4), (5, .int x5), (6, .int x6), (7, .int x7)] dX7_ask_56 (by decide) rfl ?_
      refine g_sub [2, 3, 4, 5, 6, 7, 8, 1, 0] [(0, .ref (ad 0)), (2, .int x2), (3, .int x3), (4, .int x4), (5, .int x5), (6, .int x6), (7, .int x7), (8, .int 0), (9, .int 0)] rfl ?_
      exact w_X7_ask_b58 X ih 2000 σ x2 x3 x4 x5 x6 x7 0 0 hf
set_option maxHeartbeats 4000000 in
theorem m_X7_ask (l : Launch) (E : gE) (ad : Nat → Nat) (σ : gM) (x1 : Int32) (x2 : Int32) (r : Int32) (u : gM) (hf : f_X7_ask σ x1 x2 = some (r, u)) (sz : Nat) : Met l yX7_ask (ws_ yX7_ask cX7_ask 10 (some .int)) rm_X7_ask (gPc [.ref (ad 0), .int x1, .int x2] E (wM E ad σ) sz) (gPi E (wM E ad) r u (va_A (wM E ad σ) sz)) 0 0 (va_A (wM E ad σ) sz) := by
  refine gMet (Qc := gPi E (wM E ad) r u) (by decide) (Nat.le_of_ble_eq_true rfl) (fun Γ X hl hE => ?_)
  subst hl; subst hE
  unfold f_X7_ask at hf
  show gW Γ (gMQ Γ (gPi (gEo Γ) (wM (gEo Γ) ad) r u (gAo Γ)) 0 0) (wM (gEo Γ) ad σ) 10 0 0 0 [(0, .ref (ad 0)), (1, .int x1), (2, .int x2)] []
  refine g_aload_n X 0 dX7_ask_0 rfl ?_
  refine g_iload_n X 1 dX7_ask_1 rfl ?_
  refine g_callVi X 1 (As := [.int x1]) (wfc := wM (gEo Γ) ad) (lw_V q1083 q1085 qs38 q67 q1086) (by decide +kernel) (fun r_ u_ h_ sz_ => m_X7_isOne (gl Γ) (gEo Γ) ad σ x1 r_ u_ h_ sz_) (rq := 0) rfl rfl rfl rfl rfl ⟨by decide, by decide⟩ rfl (Nat.le_of_ble_eq_true rfl) ⟨Nat.zero_le _, Nat.zero_le _⟩ [0, 1, 2, 3, 4, 5, 6, 7, 8, 9, 10, 11, 12] [] [0, 1, 2, 3, 4, 5, 6, 7, 8, 9, 10, 11, 12] (fun u2 => wM (gEo Γ) ad u2) rfl rfl rfl rfl (by decide) rfl (fun _ => rfl) dX7_ask_2 hf (fun r1 u2 _ hf => ?_)
  refine g_if_eq X 18 dX7_ask_5 rfl hf (fun hf => ?_) (fun hf => ?_)
  · refine g_iconst X (-1) dX7_ask_18 rfl ?_
    exact g_iret X rfl dX7_ask_19 hf
  · refine g_iload_n X 2 dX7_ask_8 rfl ?_
    refine g_i2l X dX7_ask_9 ?_
    refine g_lconst X 0 dX7_ask_10 rfl ?_
    refine g_lconst X 1 dX7_ask_11 rfl ?_
    refine g_call0i X 3 (As := [.long (x2.toInt64), .long 0, .long 1]) (lw_S q1011 q1012 q67 q1013) (by decide +kernel) (fun r_ u_ h_ sz_ => m_X7_in (gl Γ) (gEo Γ) (x2.toInt64) 0 1 r_ u_ h_ sz_) rfl rfl ⟨by decide, by decide⟩ rfl (Nat.le_of_ble_eq_true rfl) ⟨Nat.zero_le _, Nat.zero_le _⟩ dX7_ask_12 hf (fun r3 _ hf => ?_)
    refine g_if_ne X 20 dX7_ask_15 rfl hf (fun hf => ?_) (fun hf => ?_)
    · refine g_aload_n X 0 dX7_ask_20 rfl ?_
      refine g_iload_n X 1 dX7_ask_21 rfl ?_
      refine g_callVi X 1 (As := [.int x1]) (wfc := wM (gEo Γ) ad) (lw_V q1284 q1286 qs57 q67 q1287) (by decide +kernel) (fun r_ u_ h_ sz_ => m_X7_sorrowsOf (gl Γ) (gEo Γ) ad u2 x1 r_ u_ h_ sz_) (rq := 0) rfl rfl rfl rfl rfl ⟨by decide, by decide⟩ rfl (Nat.le_of_ble_eq_true rfl) ⟨Nat.zero_le _, Nat.zero_le _⟩ [0, 1, 2, 3, 4, 5, 6, 7, 8, 9, 10, 11, 12] [] [0, 1, 2, 3, 4, 5, 6, 7, 8, 9, 10, 11, 12] (fun u6 => wM (gEo Γ) ad u6) rfl rfl rfl rfl (by decide) rfl (fun _ => rfl) dX7_ask_22 hf (fun r5 u6 _ hf => ?_)
      refine g_istore_n X [(3, .int r5), (0, .ref (ad 0)), (1, .int x1), (2, .int x2)] dX7_ask_25 (by decide) rfl ?_
      refine g_iload_n X 0 dX7_ask_26 rfl ?_
      refine g_call0i X 1 (As := [.int r5]) (lw_S q1184 q1185 q67 q1186) (by decide +kernel) (fun r_ u_ h_ sz_ => m_X7_bitsOf (gl Γ) (gEo Γ) r5 r_ u_ h_ sz_) rfl rfl ⟨by decide, by decide⟩ rfl (Nat.le_of_ble_eq_true rfl) ⟨Nat.zero_le _, Nat.zero_le _⟩ dX7_ask_27 hf (fun r7 _ hf => ?_)
      refine g_istore X [(4, .int r7), (3, .int r5), (0, .ref (ad 0)), (1, .int x1), (2, .int x2)] dX7_ask_30 (by decide) rfl ?_
      refine g_iload X 0 dX7_ask_32 rfl ?_
      refine g_istore X [(5, .int r7), (4, .int r7), (3, .int r5), (0, .ref (ad 0)), (1, .int x1), (2, .int x2)] dX7_ask_34 (by decide) rfl ?_
      refine g_bipush X (-4) dX7_ask_36 rfl ?_
      refine g_istore X [(6, .int (-4)), (5, .int r7), (4, .int r7), (3, .int r5), (0, .ref (ad 0)), (1, .int x1), (2, .int x2)] dX7_ask_38 (by decide) rfl ?_
      refine g_iconst X 0 dX7_ask_40 rfl ?_
      refine g_istore X [(7, .int 0), (6, .int (-4)), (5, .int r7), (4, .int r7), (3, .int r5), (0, .ref (ad 0)), (1, .int x1), (2, .int x2)] dX7_ask_41 (by decide) rfl ?_
      refine g_sub [5, 7, 4, 3, 2, 1, 0] [(0, .ref (ad 0)), (2, .int x2), (3, .int r5), (4, .int r7), (5, .int r7), (6, .int (-4)), (7, .int 0)] rfl ?_
      exact w_X7_ask_b43 X 2000 u6 x2 r5 r7 r7 (-4) 0 hf
    · refine g_iconst X (-1) dX7_ask_18 rfl ?_
      exact g_iret X rfl dX7_ask_19 hf
def f_X7_drift_b96 (k45 : gM → Int32 → Int32 → Int32 → Int32 → Option (Int32 × gM)) (σ : gM) (x2 : Int32) (x3 : Int32) (x4 : Int32) (x5 : Int32) (t0 : Int32) : Option (Int32 × gM) :=
  (f_X7_acts σ t0).bind fun (r11, u12) => gv (x5 + 1) fun v13 => k45 u12 x2 x3 x4 v13
def f_X7_drift_b45 : Nat → gM → Int32 → Int32 → Int32 → Int32 → Option (Int32 × gM)
  | 0 => fun _ _ _ _ _ => none
  | n_ + 1 => fun σ x2 x3 x4 x5 =>
    if x2 ≤ x5 then (if x3 = 0 then (some ((M_weptTimes σ), σ)) else ((f_X7_nextOn σ 112 0).bind fun (r7, u8) => some (r7, u8))) else (gv ((x4 * 1103515245) + 12345) fun v9 => gdv ((M_oneMany σ) + 1) <| gv (((v9 >>> ((16 : Int32) &&& 31)) &&& 32767) - ((v9 >>> ((16 : Int32) &&& 31)) &&& 32767) / ((M_oneMany σ) + 1) * ((M_oneMany σ) + 1)) fun v10 => if v10 = (M_oneMany σ) then (f_X7_drift_b96 (f_X7_drift_b45 n_) σ x2 x3 v9 x5 5) else (f_X7_drift_b96 (f_X7_drift_b45 n_) σ x2 x3 v9 x5 v10))
def f_X7_drift (σ : gM) (x1 : Int32) (x2 : Int32) (x3 : Int32) : Option (Int32 × gM) :=
  (f_X7_in (x2.toInt64) 1 60).bind fun (r1, _) => if r1 = 0 then (some ((-1), σ)) else ((f_X7_in (x3.toInt64) 0 1).bind fun (r3, _) => if r3 = 0 then (some ((-1), σ)) else (if (M_oneMany σ) = 0 then (some ((-2), σ)) else ((f_X7_begins σ 0).bind fun u6 => f_X7_drift_b45 2000 u6 x2 x3 x1 0)))
abbrev rm_X7_drift : Room := { frames := 5, cells := 0, slots := 0, locals := 106 }
set_option maxHeartbeats 4000000 in
theorem w_X7_drift_b96 {Γ : gG} {ad : Nat → Nat} {r : Int32} {u : gM} (X : gCX Γ cX7_drift 7 (some .int) RX7 rm_X7_drift) {k45 : gM → Int32 → Int32 → Int32 → Int32 → Option (Int32 × gM)} (H45 : ∀ (σ : gM) (x2 : Int32) (x3 : Int32) (x4 : Int32) (x5 : Int32), k45 σ x2 x3 x4 x5 = some (r, u) → gW Γ (gMQ Γ (gPi (gEo Γ) (wM (gEo Γ) ad) r u (gAo Γ)) 0 0) (wM (gEo Γ) ad σ) 7 0 0 45 [(0, .ref (ad 0)), (2, .int x2), (3, .int x3), (4, .int x4), (5, .int x5)] []) : ∀ (σ : gM) (x2 : Int32) (x3 : Int32) (x4 : Int32) (x5 : Int32) (t0 : Int32), f_X7_drift_b96 k45 σ x2 x3 x4 x5 t0 = some (r, u) → gW Γ (gMQ Γ (gPi (gEo Γ) (wM (gEo Γ) ad) r u (gAo Γ)) 0 0) (wM (gEo Γ) ad σ) 7 0 0 96 [(0, .ref (ad 0)), (2, .int x2), (3, .int x3), (4, .int x4), (5, .int x5)] [.int t0, .ref (ad 0)] := by
  intro σ x2 x3 x4 x5 t0 hf
  unfold f_X7_drift_b96 at hf
  refine g_callVi X 1 (As := [.int t0]) (wfc := wM (gEo Γ) ad) (lw_V q1203 q1205 qs52 q67 q1206) (by decide +kernel) (fun r_ u_ h_ sz_ => m_X7_acts (gl Γ) (gEo Γ) ad σ t0 r_ u_ h_ sz_) (rq := 0) rfl rfl rfl rfl rfl ⟨by decide, by decide⟩ rfl (Nat.le_of_ble_eq_true rfl) ⟨Nat.zero_le _, Nat.zero_le _⟩ [0, 1, 2, 3, 4, 5, 6, 7, 8, 9, 10, 11, 12] [] [0, 1, 2, 3, 4, 5, 6, 7, 8, 9, 10, 11, 12] (fun u12 => wM (gEo Γ) ad u12) rfl rfl rfl rfl (by decide) rfl (fun _ => rfl) dX7_drift_96 hf (fun r11 u12 _ hf => ?_)
  refine g_pop X dX7_drift_99 rfl ?_
  refine g_iincV X 1 4 (fun v13 => [(5, .int v13), (0, .ref (ad 0)), (2, .int x2), (3, .int x3), (4, .int x4)]) dX7_drift_100 rfl rfl (by decide) (fun _ => rfl) hf (fun v13 hf => ?_)
  refine g_goto X 45 dX7_drift_103 rfl ?_
  refine g_sub [1, 2, 3, 4, 0] [(0, .ref (ad 0)), (2, .int x2), (3, .int x3), (4, .int x4), (5, .int v13)] rfl ?_
  exact H45 u12 x2 x3 x4 v13 hf
set_option maxHeartbeats 4000000 in
theorem w_X7_drift_b45 {Γ : gG} {ad : Nat → Nat} {r : Int32} {u : gM} (X : gCX Γ cX7_drift 7 (some .int) RX7 rm_X7_drift) : ∀ (n_ : Nat) (σ : gM) (x2 : Int32) (x3 : Int32) (x4 : Int32) (x5 : Int32), f_X7_drift_b45 n_ σ x2 x3 x4 x5 = some (r, u) → gW Γ (gMQ Γ (gPi (gEo Γ) (wM (gEo Γ) ad) r u (gAo Γ)) 0 0) (wM (gEo Γ) ad σ) 7 0 0 45 [(0, .ref (ad 0)), (2, .int x2), (3, .int x3), (4, .int x4), (5, .int x5)] [] := by
  intro n_
  induction n_ with
  | zero => intro σ x2 x3 x4 x5 hf; cases hf
  | succ n_ ih =>
    intro σ x2 x3 x4 x5 hf
    simp only [f_X7_drift_b45] at hf
    refine g_iload X 4 dX7_drift_45 rfl ?_
    refine g_iload_n X 1 dX7_drift_47 rfl ?_
    refine g_icmp_ge X 106 dX7_drift_48 rfl hf (fun hf => ?_) (fun hf => ?_)
    · refine g_iload_n X 2 dX7_drift_106 rfl ?_
      refine g_if_ne X 117 dX7_drift_107 rfl hf (fun hf => ?_) (fun hf => ?_)
      · refine g_aload_n X 0 dX7_drift_117 rfl ?_
        refine g_bipush X 112 dX7_drift_118 rfl ?_
        refine g_iconst X 0 dX7_drift_120 rfl ?_
        refine g_callVi X 2 (As := [.int 112, .int 0]) (wfc := wM (gEo Γ) ad) (lw_V q1099 q1101 qs39 q67 q1102) (by decide +kernel) (fun r_ u_ h_ sz_ => m_X7_nextOn (gl Γ) (gEo Γ) ad σ 112 0 r_ u_ h_ sz_) (rq := 0) rfl rfl rfl rfl rfl ⟨by decide, by decide⟩ rfl (Nat.le_of_ble_eq_true rfl) ⟨Nat.zero_le _, Nat.zero_le _⟩ [0, 1, 2, 3, 4, 5, 6, 7, 8, 9, 10, 11, 12] [] [0, 1, 2, 3, 4, 5, 6, 7, 8, 9, 10, 11, 12] (fun u8 => wM (gEo Γ) ad u8) rfl rfl rfl rfl (by decide) rfl (fun _ => rfl) dX7_drift_121 hf (fun r7 u8 _ hf => ?_)
        exact g_iret X rfl dX7_drift_124 hf
      · refine g_aload_n X 0 dX7_drift_110 rfl ?_
        refine g_get X in_X7 0 19 rfl rfl (by decide) q936 rfl dX7_drift_111 ?_
        refine g_goto X 124 dX7_drift_114 rfl ?_
        exact g_iret X rfl dX7_drift_124 hf
    · refine g_iload X 3 dX7_drift_51 rfl ?_
      refine g_ldc X dX7_drift_53 q1296 ?_
      refine g_imul X dX7_drift_55 ?_
      refine g_sipush X 12345 dX7_drift_56 rfl ?_
      refine g_iadd X dX7_drift_59 ?_
      refine g_topi hf (fun v9 hf => ?_)
      refine g_istore X [(4, .int v9), (0, .ref (ad 0)), (2, .int x2), (3, .int x3), (5, .int x5)] dX7_drift_60 (by decide) rfl ?_
      refine g_iload X 0 dX7_drift_62 rfl ?_
      refine g_bipush X 16 dX7_drift_64 rfl ?_
      refine g_ishr X dX7_drift_66 ?_
      refine g_sipush X 32767 dX7_drift_67 rfl ?_
      refine g_iand X dX7_drift_70 ?_
      refine g_aload_n X 1 dX7_drift_71 rfl ?_
      refine g_get X in_X7 0 2 rfl rfl (by decide) q919 rfl dX7_drift_72 ?_
      refine g_iconst X 1 dX7_drift_75 rfl ?_
      refine g_iadd X dX7_drift_76 ?_
      refine g_irem X dX7_drift_77 hf (fun hf => ?_)
      refine g_topi hf (fun v10 hf => ?_)
      refine g_istore X [(6, .int v10), (4, .int v9), (0, .ref (ad 0)), (2, .int x2), (3, .int x3), (5, .int x5)] dX7_drift_78 (by decide) rfl ?_
      refine g_aload_n X 2 dX7_drift_80 rfl ?_
      refine g_iload X 0 dX7_drift_81 rfl ?_
      refine g_aload_n X 2 dX7_drift_83 rfl ?_
      refine g_get X in_X7 0 2 rfl rfl (by decide) q919 rfl dX7_drift_84 ?_
      refine g_icmp_ne X 94 dX7_drift_87 rfl hf (fun hf => ?_) (fun hf => ?_)
      · refine g_iload X 0 dX7_drift_94 rfl ?_
        refine g_sub [2, 3, 4, 1, 5] [(0, .ref (ad 0)), (2, .int x2), (3, .int x3), (4, .int v9), (5, .int x5)] rfl ?_
        exact w_X7_drift_b96 X ih σ x2 x3 v9 x5 v10 hf
      · refine g_iconst X 5 dX7_drift_90 rfl ?_
        refine g_goto X 96 dX7_drift_91 rfl ?_
        refine g_sub [2, 3, 4, 1, 5] [(0, .ref (ad 0)), (2, .int x2), (3, .int x3), (4, .int v9), (5, .int x5)] rfl ?_
        exact w_X7_drift_b96 X ih σ x2 x3 v9 x5 5 hf
set_option maxHeartbeats 4000000 in
theorem m_X7_drift (l : Launch) (E : gE) (ad : Nat → Nat) (σ : gM) (x1 : Int32) (x2 : Int32) (x3 : Int32) (r : Int32) (u : gM) (hf : f_X7_drift σ x1 x2 x3 = some (r, u)) (sz : Nat) : Met l yX7_drift (ws_ yX7_drift cX7_drift 7 (some .int)) rm_X7_drift (gPc [.ref (ad 0), .int x1, .int x2, .int x3] E (wM E ad σ) sz) (gPi E (wM E ad) r u (va_A (wM E ad σ) sz)) 0 0 (va_A (wM E ad σ) sz) := by
  refine gMet (Qc := gPi E (wM E ad) r u) (by decide) (Nat.le_of_ble_eq_true rfl) (fun Γ X hl hE => ?_)
  subst hl; subst hE
  unfold f_X7_drift at hf
  show gW Γ (gMQ Γ (gPi (gEo Γ) (wM (gEo Γ) ad) r u (gAo Γ)) 0 0) (wM (gEo Γ) ad σ) 7 0 0 0 [(0, .ref (ad 0)), (1, .int x1), (2, .int x2), (3, .int x3)] []
  refine g_iload_n X 2 dX7_drift_0 rfl ?_
  refine g_i2l X dX7_drift_1 ?_
  refine g_lconst X 1 dX7_drift_2 rfl ?_
  refine g_ldc2 X dX7_drift_3 q1163 ?_
  refine g_call0i X 3 (As := [.long (x2.toInt64), .long 1, .long 60]) (lw_S q1011 q1012 q67 q1013) (by decide +kernel) (fun r_ u_ h_ sz_ => m_X7_in (gl Γ) (gEo Γ) (x2.toInt64) 1 60 r_ u_ h_ sz_) rfl rfl ⟨by decide, by decide⟩ rfl (Nat.le_of_ble_eq_true rfl) ⟨Nat.zero_le _, Nat.zero_le _⟩ dX7_drift_6 hf (fun r1 _ hf => ?_)
  refine g_if_eq X 22 dX7_drift_9 rfl hf (fun hf => ?_) (fun hf => ?_)
  · refine g_iconst X (-1) dX7_drift_22 rfl ?_
    exact g_iret X rfl dX7_drift_23 hf
  · refine g_iload_n X 3 dX7_drift_12 rfl ?_
    refine g_i2l X dX7_drift_13 ?_
    refine g_lconst X 0 dX7_drift_14 rfl ?_
    refine g_lconst X 1 dX7_drift_15 rfl ?_
    refine g_call0i X 3 (As := [.long (x3.toInt64), .long 0, .long 1]) (lw_S q1011 q1012 q67 q1013) (by decide +kernel) (fun r_ u_ h_ sz_ => m_X7_in (gl Γ) (gEo Γ) (x3.toInt64) 0 1 r_ u_ h_ sz_) rfl rfl ⟨by decide, by decide⟩ rfl (Nat.le_of_ble_eq_true rfl) ⟨Nat.zero_le _, Nat.zero_le _⟩ dX7_drift_16 hf (fun r3 _ hf => ?_)
    refine g_if_ne X 24 dX7_drift_19 rfl hf (fun hf => ?_) (fun hf => ?_)
    · refine g_aload_n X 0 dX7_drift_24 rfl ?_
      refine g_get X in_X7 0 2 rfl rfl (by decide) q919 rfl dX7_drift_25 ?_
      refine g_if_ne X 34 dX7_drift_28 rfl hf (fun hf => ?_) (fun hf => ?_)
      · refine g_aload_n X 0 dX7_drift_34 rfl ?_
        refine g_iconst X 0 dX7_drift_35 rfl ?_
        refine g_callVv X 1 (As := [.int 0]) (wfc := wM (gEo Γ) ad) (lw_V q1195 q1197 qs50 q67 q1198) (by decide +kernel) (fun u_ h_ sz_ => m_X7_begins (gl Γ) (gEo Γ) ad σ 0 u_ h_ sz_) (rq := 0) rfl rfl rfl rfl rfl ⟨by decide, by decide⟩ rfl (Nat.le_of_ble_eq_true rfl) ⟨Nat.zero_le _, Nat.zero_le _⟩ [0, 1, 2, 3, 4, 5, 6, 7, 8, 9, 10, 11, 12] [] [0, 1, 2, 3, 4, 5, 6, 7, 8, 9, 10, 11, 12] (fun u6 => wM (gEo Γ) ad u6) rfl rfl rfl rfl (by decide) rfl (fun _ => rfl) dX7_drift_36 hf (fun u6 _ hf => ?_)
        refine g_iload_n X 1 dX7_drift_39 rfl ?_
        refine g_istore X [(4, .int x1), (0, .ref (ad 0)), (1, .int x1), (2, .int x2), (3, .int x3)] dX7_drift_40 (by decide) rfl ?_
        refine g_iconst X 0 dX7_drift_42 rfl ?_
        refine g_istore X [(5, .int 0), (4, .int x1), (0, .ref (ad 0)), (1, .int x1), (2, .int x2), (3, .int x3)] dX7_drift_43 (by decide) rfl ?_
        refine g_sub [2, 4, 5, 1, 0] [(0, .ref (ad 0)), (2, .int x2), (3, .int x3), (4, .int x1), (5, .int 0)] rfl ?_
        exact w_X7_drift_b45 X 2000 u6 x2 x3 x1 0 hf
      · refine g_bipush X (-2) dX7_drift_31 rfl ?_
        exact g_iret X rfl dX7_drift_33 hf
    · refine g_iconst X (-1) dX7_drift_22 rfl ?_
      exact g_iret X rfl dX7_drift_23 hf
