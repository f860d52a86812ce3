set_option maxRecDepth 100000
def f_X7_cut (σ : gM) (x1 : Int32) : Option (Int32 × gM) :=
  gld 168 (M_state σ) 27 fun v1 => (f_X7_in (x1.toInt64) 0 (v1.toInt64)).bind fun (r2, _) => (f_X7_puts σ r2 27 x1 0).bind fun (r4, u5) => some (r4, u5)
abbrev rm_X7_cut : Room := { frames := 2, cells := 0, slots := 0, locals := 37 }
set_option maxHeartbeats 4000000 in
theorem m_X7_cut (l : Launch) (E : gE) (ad : Nat → Nat) (σ : gM) (x1 : Int32) (r : Int32) (u : gM) (hf : f_X7_cut σ x1 = some (r, u)) (sz : Nat) : Met l yX7_cut (ws_ yX7_cut cX7_cut 2 (some .int)) rm_X7_cut (gPc [.ref (ad 0), .int x1] E (wM E ad σ) sz) (gPi E (wM E ad) r u (va_A (wM E ad σ) sz)) 0 0 (va_A (wM E ad σ) sz) := by
  refine gMet (Qc := gPi E (wM E ad) r u) (by decide) (Nat.le_of_ble_eq_true rfl) (fun Γ X hl hE => ?_)
  subst hl; subst hE
  unfold f_X7_cut at hf
  show gW Γ (gMQ Γ (gPi (gEo Γ) (wM (gEo Γ) ad) r u (gAo Γ)) 0 0) (wM (gEo Γ) ad σ) 2 0 0 0 [(0, .ref (ad 0)), (1, .int x1)] []
  refine g_aload_n X 0 dX7_cut_0 rfl ?_
  refine g_iload_n X 1 dX7_cut_1 rfl ?_
  refine g_i2l X dX7_cut_2 ?_
  refine g_lconst X 0 dX7_cut_3 rfl ?_
  refine g_aload_n X 0 dX7_cut_4 rfl ?_
  refine g_get X in_X7 0 0 rfl rfl (by decide) q917 rfl dX7_cut_5 ?_
  refine g_bipush X 27 dX7_cut_8 rfl ?_
  refine g_iald X 1 rfl dX7_cut_10 hf (fun v1 hf => ?_)
  refine g_i2l X dX7_cut_11 ?_
  refine g_call0i X 3 (As := [.long (x1.toInt64), .long 0, .long (v1.toInt64)]) (lw_S q1011 q1012 q67 q1013) (by decide +kernel) (fun r_ u_ h_ sz_ => m_X7_in (gl Γ) (gEo Γ) (x1.toInt64) 0 (v1.toInt64) r_ u_ h_ sz_) rfl rfl ⟨by decide, by decide⟩ rfl (Nat.le_of_ble_eq_true rfl) ⟨Nat.zero_le _, Nat.zero_le _⟩ dX7_cut_12 hf (fun r2 _ hf => ?_)
  refine g_bipush X 27 dX7_cut_15 rfl ?_
  refine g_iload_n X 1 dX7_cut_17 rfl ?_
  refine g_iconst X 0 dX7_cut_18 rfl ?_
  refine g_callVi X 4 (As := [.int r2, .int 27, .int x1, .int 0]) (wfc := wM (gEo Γ) ad) (lw_V q1113 q1115 qs41 q67 q1116) (by decide +kernel) (fun r_ u_ h_ sz_ => m_X7_puts (gl Γ) (gEo Γ) ad σ r2 27 x1 0 r_ u_ h_ sz_) (rq := 0) rfl rfl rfl rfl rfl ⟨by decide, by decide⟩ rfl (Nat.le_of_ble_eq_true rfl) ⟨Nat.zero_le _, Nat.zero_le _⟩ [0, 1, 2, 3, 4, 5, 6, 7, 8, 9, 10, 11, 12] [] [0, 1, 2, 3, 4, 5, 6, 7, 8, 9, 10, 11, 12] (fun u5 => wM (gEo Γ) ad u5) rfl rfl rfl rfl (by decide) rfl (fun _ => rfl) dX7_cut_19 hf (fun r4 u5 _ hf => ?_)
  exact g_iret X rfl dX7_cut_22 hf
def f_X7_grieves_b37 (σ : gM) (t0 : Int32) (t1 : Int32) : Option (gM) :=
  gst 168 (M_state σ) t1 t0 fun g3 => gs (M_state_s σ g3) fun s4 => some s4
def f_X7_grieves (σ : gM) (x1 : Int32) (x2 : Int32) (x3 : Int32) : Option (gM) :=
  gld 168 (M_state σ) ((x1 + 5) + x2) fun v1 => gv (v1 + x3) fun v2 => if v2 ≤ 40 then (f_X7_grieves_b37 σ v2 ((x1 + 5) + x2)) else (f_X7_grieves_b37 σ 40 ((x1 + 5) + x2))
abbrev rm_X7_grieves : Room := { frames := 1, cells := 0, slots := 0, locals := 12 }
set_option maxHeartbeats 4000000 in
theorem w_X7_grieves_b37 {Γ : gG} {ad : Nat → Nat} {u : gM} (X : gCX Γ cX7_grieves 5 none RX7 rm_X7_grieves) : ∀ (σ : gM) (t0 : Int32) (t1 : Int32), f_X7_grieves_b37 σ t0 t1 = some u → gW Γ (gMQ Γ (gPv (gEo Γ) (wM (gEo Γ) ad) u (gAo Γ)) 0 0) (wM (gEo Γ) ad σ) 5 0 0 37 [] [.int t0, .int t1, .ref (ad 1)] := by
  intro σ t0 t1 hf
  unfold f_X7_grieves_b37 at hf
  refine g_iast X 1 (fun g3 => wM (gEo Γ) ad (M_state_s σ g3)) rfl (fun _ => rfl) dX7_grieves_37 hf (fun g3 hf => ?_)
  refine g_gs (wM (gEo Γ) ad) hf (fun s4 hf => ?_)
  exact g_vret X rfl dX7_grieves_38 hf
set_option maxHeartbeats 4000000 in
theorem m_X7_grieves (l : Launch) (E : gE) (ad : Nat → Nat) (σ : gM) (x1 : Int32) (x2 : Int32) (x3 : Int32) (u : gM) (hf : f_X7_grieves σ x1 x2 x3 = some u) (sz : Nat) : Met l yX7_grieves (ws_ yX7_grieves cX7_grieves 5 none) rm_X7_grieves (gPc [.ref (ad 0), .int x1, .int x2, .int x3] E (wM E ad σ) sz) (gPv E (wM E ad) u (va_A (wM E ad σ) sz)) 0 0 (va_A (wM E ad σ) sz) := by
  refine gMet (Qc := gPv E (wM E ad) u) (by decide) (Nat.le_of_ble_eq_true rfl) (fun Γ X hl hE => ?_)
  subst hl; subst hE
  unfold f_X7_grieves at hf
  show gW Γ (gMQ Γ (gPv (gEo Γ) (wM (gEo Γ) ad) u (gAo Γ)) 0 0) (wM (gEo Γ) ad σ) 5 0 0 0 [(0, .ref (ad 0)), (1, .int x1), (2, .int x2), (3, .int x3)] []
  refine g_aload_n X 0 dX7_grieves_0 rfl ?_
  refine g_get X in_X7 0 0 rfl rfl (by decide) q917 rfl dX7_grieves_1 ?_
  refine g_iload_n X 1 dX7_grieves_4 rfl ?_
  refine g_iconst X 5 dX7_grieves_5 rfl ?_
  refine g_iadd X dX7_grieves_6 ?_
  refine g_iload_n X 2 dX7_grieves_7 rfl ?_
  refine g_iadd X dX7_grieves_8 ?_
  refine g_iald X 1 rfl dX7_grieves_9 hf (fun v1 hf => ?_)
  refine g_iload_n X 3 dX7_grieves_10 rfl ?_
  refine g_iadd X dX7_grieves_11 ?_
  refine g_topi hf (fun v2 hf => ?_)
  refine g_istore X [(4, .int v2), (0, .ref (ad 0)), (1, .int x1), (2, .int x2), (3, .int x3)] dX7_grieves_12 (by decide) rfl ?_
  refine g_aload_n X 1 dX7_grieves_14 rfl ?_
  refine g_get X in_X7 0 0 rfl rfl (by decide) q917 rfl dX7_grieves_15 ?_
  refine g_iload_n X 2 dX7_grieves_18 rfl ?_
  refine g_iconst X 5 dX7_grieves_19 rfl ?_
  refine g_iadd X dX7_grieves_20 ?_
  refine g_iload_n X 3 dX7_grieves_21 rfl ?_
  refine g_iadd X dX7_grieves_22 ?_
  refine g_iload X 0 dX7_grieves_23 rfl ?_
  refine g_bipush X 40 dX7_grieves_25 rfl ?_
  refine g_icmp_le X 35 dX7_grieves_27 rfl hf (fun hf => ?_) (fun hf => ?_)
  · refine g_iload X 0 dX7_grieves_35 rfl ?_
    refine g_sub [] [] rfl ?_
    exact w_X7_grieves_b37 X σ v2 ((x1 + 5) + x2) hf
  · refine g_bipush X 40 dX7_grieves_30 rfl ?_
    refine g_goto X 37 dX7_grieves_32 rfl ?_
    refine g_sub [] [] rfl ?_
    exact w_X7_grieves_b37 X σ 40 ((x1 + 5) + x2) hf
def f_X7_nextToWeep_b55 (k2 : gM → Int32 → Int32 → Int32 → Option (Int32 × gM)) (σ : gM) (x1 : Int32) (x2 : Int32) (x3 : Int32) : Option (Int32 × gM) :=
  gv (x3 + 1) fun v6 => k2 σ x1 x2 v6
def f_X7_nextToWeep_b2 : Nat → gM → Int32 → Int32 → Int32 → Option (Int32 × gM)
  | 0 => fun _ _ _ _ => none
  | n_ + 1 => fun σ x1 x2 x3 =>
    if (M_oneMany σ) ≤ x3 then (some ((-4), σ)) else ((f_X7_waits σ x1 x3).bind fun (r1, u2) => if r1 = 0 then (f_X7_nextToWeep_b55 (f_X7_nextToWeep_b2 n_) u2 x1 x2 x3) else (if ((x2 >>> (x3 &&& 31)) &&& 1) = 0 then (gld 168 (M_state u2) ((x1 + 5) + x3) fun v3 => gld 168 (M_state u2) (x1 + x3) fun v4 => gld 4 (M_brims u2) v4 fun v5 => if v3 < v5 then (f_X7_nextToWeep_b55 (f_X7_nextToWeep_b2 n_) u2 x1 x2 x3) else (some (x3, u2))) else (f_X7_nextToWeep_b55 (f_X7_nextToWeep_b2 n_) u2 x1 x2 x3)))
def f_X7_nextToWeep (σ : gM) (x1 : Int32) (x2 : Int32) : Option (Int32 × gM) :=
  f_X7_nextToWeep_b2 2000 σ x1 x2 0
abbrev rm_X7_nextToWeep : Room := { frames := 2, cells := 0, slots := 0, locals := 34 }
set_option maxHeartbeats 4000000 in
theorem w_X7_nextToWeep_b55 {Γ : gG} {ad : Nat → Nat} {r : Int32} {u : gM} (X : gCX Γ cX7_nextToWeep 4 (some .int) RX7 rm_X7_nextToWeep) {k2 : gM → Int32 → Int32 → Int32 → Option (Int32 × gM)} (H2 : ∀ (σ : gM) (x1 : Int32) (x2 : Int32) (x3 : Int32), k2 σ x1 x2 x3 = some (r, u) → gW Γ (gMQ Γ (gPi (gEo Γ) (wM (gEo Γ) ad) r u (gAo Γ)) 0 0) (wM (gEo Γ) ad σ) 4 0 0 2 [(0, .ref (ad 0)), (1, .int x1), (2, .int x2), (3, .int x3)] []) : ∀ (σ : gM) (x1 : Int32) (x2 : Int32) (x3 : Int32), f_X7_nextToWeep_b55 k2 σ x1 x2 x3 = some (r, u) → gW Γ (gMQ Γ (gPi (gEo Γ) (wM (gEo Γ) ad) r u (gAo Γ)) 0 0) (wM (gEo Γ) ad σ) 4 0 0 55 [(0, .ref (ad 0)), (1, .int x1), (2, .int x2), (3, .int x3)] [] := by
  intro σ x1 x2 x3 hf
  unfold f_X7_nextToWeep_b55 at hf
  refine g_iincV X 1 3 (fun v6 => [(3, .int v6), (0, .ref (ad 0)), (1, .int x1), (2, .int x2)]) dX7_nextToWeep_55 rfl rfl (by decide) (fun _ => rfl) hf (fun v6 hf => ?_)
  refine g_goto X 2 dX7_nextToWeep_58 rfl ?_
  refine g_sub [1, 2, 3, 0] [(0, .ref (ad 0)), (1, .int x1), (2, .int x2), (3, .int v6)] rfl ?_
  exact H2 σ x1 x2 v6 hf
set_option maxHeartbeats 4000000 in
theorem w_X7_nextToWeep_b2 {Γ : gG} {ad : Nat → Nat} {r : Int32} {u : gM} (X : gCX Γ cX7_nextToWeep 4 (some .int) RX7 rm_X7_nextToWeep) : ∀ (n_ : Nat) (σ : gM) (x1 : Int32) (x2 : Int32) (x3 : Int32), f_X7_nextToWeep_b2 n_ σ x1 x2 x3 = some (r, u) → gW Γ (gMQ Γ (gPi (gEo Γ) (wM (gEo Γ) ad) r u (gAo Γ)) 0 0) (wM (gEo Γ) ad σ) 4 0 0 2 [(0, .ref (ad 0)), (1, .int x1), (2, .int x2), (3, .int x3)] [] := by
  intro n_
  induction n_ with
  | zero => intro σ x1 x2 x3 hf; cases hf
  | succ n_ ih =>
    intro σ x1 x2 x3 hf
    simp only [f_X7_nextToWeep_b2] at hf
    refine g_iload_n X 3 dX7_nextToWeep_2 rfl ?_
    refine g_aload_n X 0 dX7_nextToWeep_3 rfl ?_
    refine g_get X in_X7 0 2 rfl rfl (by decide) q919 rfl dX7_nextToWeep_4 ?_
    refine g_icmp_ge X 61 dX7_nextToWeep_7 rfl hf (fun hf => ?_) (fun hf => ?_)
    · refine g_bipush X (-4) dX7_nextToWeep_61 rfl ?_
      exact g_iret X rfl dX7_nextToWeep_63 hf
    · refine g_aload_n X 0 dX7_nextToWeep_10 rfl ?_
      refine g_iload_n X 1 dX7_nextToWeep_11 rfl ?_
      refine g_iload_n X 3 dX7_nextToWeep_12 rfl ?_
      refine g_callVi X 2 (As := [.int x1, .int x3]) (wfc := wM (gEo Γ) ad) (lw_V q1075 q1077 qs37 q67 q1078) (by decide +kernel) (fun r_ u_ h_ sz_ => m_X7_waits (gl Γ) (gEo Γ) ad σ x1 x3 r_ u_ h_ sz_) (rq := 0) rfl rfl rfl rfl rfl ⟨by decide, by decide⟩ rfl (Nat.le_of_ble_eq_true rfl) ⟨Nat.zero_le _, Nat.zero_le _⟩ [0, 1, 2, 3, 4, 5, 6, 7, 8, 9, 10, 11, 12] [] [0, 1, 2, 3, 4, 5, 6, 7, 8, 9, 10, 11, 12] (fun u2 => wM (gEo Γ) ad u2) rfl rfl rfl rfl (by decide) rfl (fun _ => rfl) dX7_nextToWeep_13 hf (fun r1 u2 _ hf => ?_)
      refine g_if_eq X 55 dX7_nextToWeep_16 rfl hf (fun hf => ?_) (fun hf => ?_)
      · exact w_X7_nextToWeep_b55 X ih u2 x1 x2 x3 hf
      · refine g_iload_n X 2 dX7_nextToWeep_19 rfl ?_
        refine g_iload_n X 3 dX7_nextToWeep_20 rfl ?_
        refine g_ishr X dX7_nextToWeep_21 ?_
        refine g_iconst X 1 dX7_nextToWeep_22 rfl ?_
        refine g_iand X dX7_nextToWeep_23 ?_
        refine g_if_ne X 55 dX7_nextToWeep_24 rfl hf (fun hf => ?_) (fun hf => ?_)
        · exact w_X7_nextToWeep_b55 X ih u2 x1 x2 x3 hf
        · refine g_aload_n X 0 dX7_nextToWeep_27 rfl ?_
          refine g_get X in_X7 0 0 rfl rfl (by decide) q917 rfl dX7_nextToWeep_28 ?_
          refine g_iload_n X 1 dX7_nextToWeep_31 rfl ?_
          refine g_iconst X 5 dX7_nextToWeep_32 rfl ?_
          refine g_iadd X dX7_nextToWeep_33 ?_
          refine g_iload_n X 3 dX7_nextToWeep_34 rfl ?_
          refine g_iadd X dX7_nextToWeep_35 ?_
          refine g_iald X 1 rfl dX7_nextToWeep_36 hf (fun v3 hf => ?_)
          refine g_aload_n X 0 dX7_nextToWeep_37 rfl ?_
          refine g_get X in_X7 0 1 rfl rfl (by decide) q918 rfl dX7_nextToWeep_38 ?_
          refine g_aload_n X 0 dX7_nextToWeep_41 rfl ?_
          refine g_get X in_X7 0 0 rfl rfl (by decide) q917 rfl dX7_nextToWeep_42 ?_
          refine g_iload_n X 1 dX7_nextToWeep_45 rfl ?_
          refine g_iload_n X 3 dX7_nextToWeep_46 rfl ?_
          refine g_iadd X dX7_nextToWeep_47 ?_
          refine g_iald X 1 rfl dX7_nextToWeep_48 hf (fun v4 hf => ?_)
          refine g_iald X 2 rfl dX7_nextToWeep_49 hf (fun v5 hf => ?_)
          refine g_icmp_lt X 55 dX7_nextToWeep_50 rfl hf (fun hf => ?_) (fun hf => ?_)
          · exact w_X7_nextToWeep_b55 X ih u2 x1 x2 x3 hf
          · refine g_iload_n X 3 dX7_nextToWeep_53 rfl ?_
            exact g_iret X rfl dX7_nextToWeep_54 hf
set_option maxHeartbeats 4000000 in
theorem m_X7_nextToWeep (l : Launch) (E : gE) (ad : Nat → Nat) (σ : gM) (x1 : Int32) (x2 : Int32) (r : Int32) (u : gM) (hf : f_X7_nextToWeep σ x1 x2 = some (r, u)) (sz : Nat) : Met l yX7_nextToWeep (ws_ yX7_nextToWeep cX7_nextToWeep 4 (some .int)) rm_X7_nextToWeep (gPc [.ref (ad 0), .int x1, .int x2] E (wM E ad σ) sz) (gPi E (wM E ad) r u (va_A (wM E ad σ) sz)) 0 0 (va_A (wM E ad σ) sz) := by
  refine gMet (Qc := gPi E (wM E ad) r u) (by decide) (Nat.le_of_ble_eq_true rfl) (fun Γ X hl hE => ?_)
  subst hl; subst hE
  unfold f_X7_nextToWeep at hf
  show gW Γ (gMQ Γ (gPi (gEo Γ) (wM (gEo Γ) ad) r u (gAo Γ)) 0 0) (wM (gEo Γ) ad σ) 4 0 0 0 [(0, .ref (ad 0)), (1, .int x1), (2, .int x2)] []
  refine g_iconst X 0 dX7_nextToWeep_0 rfl ?_
  refine g_istore_n X [(3, .int 0), (0, .ref (ad 0)), (1, .int x1), (2, .int x2)] dX7_nextToWeep_1 (by decide) rfl ?_
  refine g_sub [1, 2, 3, 0] [(0, .ref (ad 0)), (1, .int x1), (2, .int x2), (3, .int 0)] rfl ?_
  exact w_X7_nextToWeep_b2 X 2000 σ x1 x2 0 hf
def f_X7_setsOff_b64 (σ : gM) (x1 : Int32) (x4 : Int32) : Option (gM) :=
  if (M_oneMany σ) ≤ x4 then (some σ) else ((f_X7_grieves σ x1 x4 2).bind fun u12 => some u12)
def f_X7_setsOff_b53 (σ : gM) (x1 : Int32) (x3 : Int32) (x4 : Int32) : Option (gM) :=
  if x3 < 0 then (f_X7_setsOff_b64 σ x1 x4) else ((f_X7_grieves σ x1 x3 2).bind fun u10 => f_X7_setsOff_b64 u10 x1 x4)
def f_X7_setsOff_b28 : Nat → gM → Int32 → Int32 → Int32 → Option (gM)
  | 0 => fun _ _ _ _ => none
  | n_ + 1 => fun σ x1 x3 x4 =>
    if (M_oneMany σ) ≤ x4 then (f_X7_setsOff_b53 σ x1 x3 x4) else ((f_X7_waits σ x1 x4).bind fun (r6, u7) => if r6 = 0 then (gv (x4 + 1) fun v8 => (f_X7_setsOff_b28 n_) u7 x1 x3 v8) else (f_X7_setsOff_b53 u7 x1 x3 x4))
def f_X7_setsOff_b23 (σ : gM) (x1 : Int32) (x2 : Int32) (x3 : Int32) : Option (gM) :=
  gv (x2 + 1) fun v5 => f_X7_setsOff_b28 2000 σ x1 x3 v5
def f_X7_setsOff_b4 : Nat → gM → Int32 → Int32 → Int32 → Option (gM)
  | 0 => fun _ _ _ _ => none
  | n_ + 1 => fun σ x1 x2 x3 =>
    if x3 < 0 then (f_X7_setsOff_b23 σ x1 x2 x3) else ((f_X7_waits σ x1 x3).bind fun (r2, u3) => if r2 = 0 then (gv (x3 + (-1)) fun v4 => (f_X7_setsOff_b4 n_) u3 x1 x2 v4) else (f_X7_setsOff_b23 u3 x1 x2 x3))
def f_X7_setsOff (σ : gM) (x1 : Int32) (x2 : Int32) : Option (gM) :=
  gv (x2 - 1) fun v1 => f_X7_setsOff_b4 2000 σ x1 x2 v1
abbrev rm_X7_setsOff : Room := { frames := 2, cells := 0, slots := 0, locals := 36 }
set_option maxHeartbeats 4000000 in
theorem w_X7_setsOff_b64 {Γ : gG} {ad : Nat → Nat} {u : gM} (X : gCX Γ cX7_setsOff 5 none RX7 rm_X7_setsOff) : ∀ (σ : gM) (x1 : Int32) (x4 : Int32), f_X7_setsOff_b64 σ x1 x4 = some u → gW Γ (gMQ Γ (gPv (gEo Γ) (wM (gEo Γ) ad) u (gAo Γ)) 0 0) (wM (gEo Γ) ad σ) 5 0 0 64 [(0, .ref (ad 0)), (1, .int x1), (4, .int x4)] [] := by
  intro σ x1 x4 hf
  unfold f_X7_setsOff_b64 at hf
  refine g_iload X 2 dX7_setsOff_64 rfl ?_
  refine g_aload_n X 0 dX7_setsOff_66 rfl ?_
  refine g_get X in_X7 0 2 rfl rfl (by decide) q919 rfl dX7_setsOff_67 ?_
  refine g_icmp_ge X 81 dX7_setsOff_70 rfl hf (fun hf => ?_) (fun hf => ?_)
  · exact g_vret X rfl dX7_setsOff_81 hf
  · refine g_aload_n X 0 dX7_setsOff_73 rfl ?_
    refine g_iload_n X 1 dX7_setsOff_74 rfl ?_
    refine g_iload X 2 dX7_setsOff_75 rfl ?_
    refine g_iconst X 2 dX7_setsOff_77 rfl ?_
    refine g_callVv X 3 (As := [.int x1, .int x4, .int 2]) (wfc := wM (gEo Γ) ad) (lw_V q1147 q1149 qs44 q67 q1150) (by decide +kernel) (fun u_ h_ sz_ => m_X7_grieves (gl Γ) (gEo Γ) ad σ x1 x4 2 u_ h_ sz_) (rq := 0) rfl rfl rfl rfl rfl ⟨by decide, by decide⟩ rfl (Nat.le_of_ble_eq_true rfl) ⟨Nat.zero_le _, Nat.zero_le _⟩ [0, 1, 2, 3, 4, 5, 6, 7, 8, 9, 10, 11, 12] [] [0, 1, 2, 3, 4, 5, 6, 7, 8, 9, 10, 11, 12] (fun u12 => wM (gEo Γ) ad u12) rfl rfl rfl rfl (by decide) rfl (fun _ => rfl) dX7_setsOff_78 hf (fun u12 _ hf => ?_)
    exact g_vret X rfl dX7_setsOff_81 hf
set_option maxHeartbeats 4000000 in
theorem w_X7_setsOff_b53 {Γ : gG} {ad : Nat → Nat} {u : gM} (X : gCX Γ cX7_setsOff 5 none RX7 rm_X7_setsOff) : ∀ (σ : gM) (x1 : Int32) (x3 : Int32) (x4 : Int32), f_X7_setsOff_b53 σ x1 x3 x4 = some u → gW Γ (gMQ Γ (gPv (gEo Γ) (wM (gEo Γ) ad) u (gAo Γ)) 0 0) (wM (gEo Γ) ad σ) 5 0 0 53 [(0, .ref (ad 0)), (1, .int x1), (3, .int x3), (4, .int x4)] [] := by
  intro σ x1 x3 x4 hf
  unfold f_X7_setsOff_b53 at hf
  refine g_iload_n X 2 dX7_setsOff_53 rfl ?_
  refine g_if_lt X 64 dX7_setsOff_54 rfl hf (fun hf => ?_) (fun hf => ?_)
  · refine g_sub [0, 1, 3] [(0, .ref (ad 0)), (1, .int x1), (4, .int x4)] rfl ?_
    exact w_X7_setsOff_b64 X σ x1 x4 hf
  · refine g_aload_n X 0 dX7_setsOff_57 rfl ?_
    refine g_iload_n X 1 dX7_setsOff_58 rfl ?_
    refine g_iload_n X 2 dX7_setsOff_59 rfl ?_
    refine g_iconst X 2 dX7_setsOff_60 rfl ?_
    refine g_callVv X 3 (As := [.int x1, .int x3, .int 2]) (wfc := wM (gEo Γ) ad) (lw_V q1147 q1149 qs44 q67 q1150) (by decide +kernel) (fun u_ h_ sz_ => m_X7_grieves (gl Γ) (gEo Γ) ad σ x1 x3 2 u_ h_ sz_) (rq := 0) rfl rfl rfl rfl rfl ⟨by decide, by decide⟩ rfl (Nat.le_of_ble_eq_true rfl) ⟨Nat.zero_le _, Nat.zero_le _⟩ [0, 1, 2, 3, 4, 5, 6, 7, 8, 9, 10, 11, 12] [] [0, 1, 2, 3, 4, 5, 6, 7, 8, 9, 10, 11, 12] (fun u10 => wM (gEo Γ) ad u10) rfl rfl rfl rfl (by decide) rfl (fun _ => rfl) dX7_setsOff_61 hf (fun u10 _ hf => ?_)
    refine g_sub [0, 1, 3] [(0, .ref (ad 0)), (1, .int x1), (4, .int x4)] rfl ?_
    exact w_X7_setsOff_b64 X u10 x1 x4 hf
set_option maxHeartbeats 4000000 in
theorem w_X7_setsOff_b28 {Γ : gG} {ad : Nat → Nat} {u : gM} (X : gCX Γ cX7_setsOff 5 none RX7 rm_X7_setsOff) : ∀ (n_ : Nat) (σ : gM) (x1 : Int32) (x3 : Int32) (x4 : Int32), f_X7_setsOff_b28 n_ σ x1 x3 x4 = some u → gW Γ (gMQ Γ (gPv (gEo Γ) (wM (gEo Γ) ad) u (gAo Γ)) 0 0) (wM (gEo Γ) ad σ) 5 0 0 28 [(0, .ref (ad 0)), (1, .int x1), (3, .int x3), (4, .int x4)] [] := by
  intro n_
  induction n_ with
  | zero => intro σ x1 x3 x4 hf; cases hf
  | succ n_ ih =>
    intro σ x1 x3 x4 hf
    simp only [f_X7_setsOff_b28] at hf
    refine g_iload X 3 dX7_setsOff_28 rfl ?_
    refine g_aload_n X 0 dX7_setsOff_30 rfl ?_
    refine g_get X in_X7 0 2 rfl rfl (by decide) q919 rfl dX7_setsOff_31 ?_
    refine g_icmp_ge X 53 dX7_setsOff_34 rfl hf (fun hf => ?_) (fun hf => ?_)
    · exact w_X7_setsOff_b53 X σ x1 x3 x4 hf
    · refine g_aload_n X 0 dX7_setsOff_37 rfl ?_
      refine g_iload_n X 1 dX7_setsOff_38 rfl ?_
      refine g_iload X 3 dX7_setsOff_39 rfl ?_
      refine g_callVi X 2 (As := [.int x1, .int x4]) (wfc := wM (gEo Γ) ad) (lw_V q1075 q1077 qs37 q67 q1078) (by decide +kernel) (fun r_ u_ h_ sz_ => m_X7_waits (gl Γ) (gEo Γ) ad σ x1 x4 r_ u_ h_ sz_) (rq := 0) rfl rfl rfl rfl rfl ⟨by decide, by decide⟩ rfl (Nat.le_of_ble_eq_true rfl) ⟨Nat.zero_le _, Nat.zero_le _⟩ [0, 1, 2, 3, 4, 5, 6, 7, 8, 9, 10, 11, 12] [] [0, 1, 2, 3, 4, 5, 6, 7, 8, 9, 10, 11, 12] (fun u7 => wM (gEo Γ) ad u7) rfl rfl rfl rfl (by decide) rfl (fun _ => rfl) dX7_setsOff_41 hf (fun r6 u7 _ hf => ?_)
      refine g_if_ne X 53 dX7_setsOff_44 rfl hf (fun hf => ?_) (fun hf => ?_)
      · exact w_X7_setsOff_b53 X u7 x1 x3 x4 hf
      · refine g_iincV X 1 3 (fun v8 => [(4, .int v8), (0, .ref (ad 0)), (1, .int x1), (3, .int x3)]) dX7_setsOff_47 rfl rfl (by decide) (fun _ => rfl) hf (fun v8 hf => ?_)
        refine g_goto X 28 dX7_setsOff_50 rfl ?_
        refine g_sub [1, 2, 3, 0] [(0, .ref (ad 0)), (1, .int x1), (3, .int x3), (4, .int v8)] rfl ?_
        exact ih u7 x1 x3 v8 hf
set_option maxHeartbeats 4000000 in
theorem w_X7_setsOff_b23 {Γ : gG} {ad : Nat → Nat} {u : gM} (X : gCX Γ cX7_setsOff 5 none RX7 rm_X7_setsOff) : ∀ (σ : gM) (x1 : Int32) (x2 : Int32) (x3 : Int32), f_X7_setsOff_b23 σ x1 x2 x3 = some u → gW Γ (gMQ Γ (gPv (gEo Γ) (wM (gEo Γ) ad) u (gAo Γ)) 0 0) (wM (gEo Γ) ad σ) 5 0 0 23 [(0, .ref (ad 0)), (1, .int x1), (2, .int x2), (3, .int x3)] [] := by
  intro σ x1 x2 x3 hf
  unfold f_X7_setsOff_b23 at hf
  refine g_iload_n X 2 dX7_setsOff_23 rfl ?_
  refine g_iconst X 1 dX7_setsOff_24 rfl ?_
  refine g_iadd X dX7_setsOff_25 ?_
  refine g_topi hf (fun v5 hf => ?_)
  refine g_istore X [(4, .int v5), (0, .ref (ad 0)), (1, .int x1), (2, .int x2), (3, .int x3)] dX7_setsOff_26 (by decide) rfl ?_
  refine g_sub [1, 2, 4, 0] [(0, .ref (ad 0)), (1, .int x1), (3, .int x3), (4, .int v5)] rfl ?_
  exact w_X7_setsOff_b28 X 2000 σ x1 x3 v5 hf
set_option maxHeartbeats 4000000 in
theorem w_X7_setsOff_b4 {Γ : gG} {ad : Nat → Nat} {u : gM} (X : gCX Γ cX7_setsOff 5 none RX7 rm_X7_setsOff) : ∀ (n_ : Nat) (σ : gM) (x1 : Int32) (x2 : Int32) (x3 : Int32), f_X7_setsOff_b4 n_ σ x1 x2 x3 = some u → gW Γ (gMQ Γ (gPv (gEo Γ) (wM (gEo Γ) ad) u (gAo Γ)) 0 0) (wM (gEo Γ) ad σ) 5 0 0 4 [(0, .ref (ad 0)), (1, .int x1), (2, .int x2), (3, .int x3)] [] := by
  intro n_
  induction n_ with
  | zero => intro σ x1 x2 x3 hf; cases hf
  | succ n_ ih =>
    intro σ x1 x2 x3 hf
    simp only [f_X7_setsOff_b4] at hf
    refine g_iload_n X 3 dX7_setsOff_4 rfl ?_
    refine g_if_lt X 23 dX7_setsOff_5 rfl hf (fun hf => ?_) (fun hf => ?_)
    · exact w_X7_setsOff_b23 X σ x1 x2 x3 hf
    · refine g_aload_n X 0 dX7_setsOff_8 rfl ?_
      refine g_iload_n X 1 dX7_setsOff_9 rfl ?_
      refine g_iload_n X 3 dX7_setsOff_10 rfl ?_
      refine g_callVi X 2 (As := [.int x1, .int x3]) (wfc := wM (gEo Γ) ad) (lw_V q1075 q1077 qs37 q67 q1078) (by decide +kernel) (fun r_ u_ h_ sz_ => m_X7_waits (gl Γ) (gEo Γ) ad σ x1 x3 r_ u_ h_ sz_) (rq := 0) rfl rfl rfl rfl rfl ⟨by decide, by decide⟩ rfl (Nat.le_of_ble_eq_true rfl) ⟨Nat.zero_le _, Nat.zero_le _⟩ [0, 1, 2, 3, 4, 5, 6, 7, 8, 9, 10, 11, 12] [] [0, 1, 2, 3, 4, 5, 6, 7, 8, 9, 10, 11, 12] (fun u3 => wM (gEo Γ) ad u3) rfl rfl rfl rfl (by decide) rfl (fun _ => rfl) dX7_setsOff_11 hf (fun r2 u3 _ hf => ?_)
      refine g_if_ne X 23 dX7_setsOff_14 rfl hf (fun hf => ?_) (fun hf => ?_)
      · exact w_X7_setsOff_b23 X u3 x1 x2 x3 hf
      · refine g_iincV X (-1) 3 (fun v4 => [(3, .int v4), (0, .ref (ad 0)), (1, .int x1), (2, .int x2)]) dX7_setsOff_17 rfl rfl (by decide) (fun _ => rfl) hf (fun v4 hf => ?_)
        refine g_goto X 4 dX7_setsOff_20 rfl ?_
        refine g_sub [1, 2, 3, 0] [(0, .ref (ad 0)), (1, .int x1), (2, .int x2), (3, .int v4)] rfl ?_
        exact ih u3 x1 x2 v4 hf
set_option maxHeartbeats 4000000 in
theorem m_X7_setsOff (l : Launch) (E : gE) (ad : Nat → Nat) (σ : gM) (x1 : Int32) (x2 : Int32) (u : gM) (hf : f_X7_setsOff σ x1 x2 = some u) (sz : Nat) : Met l yX7_setsOff (ws_ yX7_setsOff cX7_setsOff 5 none) rm_X7_setsOff (gPc [.ref (ad 0), .int x1, .int x2] E (wM E ad σ) sz) (gPv E (wM E ad) u (va_A (wM E ad σ) sz)) 0 0 (va_A (wM E ad σ) sz) := by
  refine gMet (Qc := gPv E (wM E ad) u) (by decide) (Nat.le_of_ble_eq_true rfl) (fun Γ X hl hE => ?_)
  subst hl; subst hE
  unfold f_X7_setsOff at hf
  show gW Γ (gMQ Γ (gPv (gEo Γ) (wM (gEo Γ) ad) u (gAo Γ)) 0 0) (wM (gEo Γ) ad σ) 5 0 0 0 [(0, .ref (ad 0)), (1, .int x1), (2, .int x2)] []
  refine g_iload_n X 2 dX7_setsOff_0 rfl ?_
  refine g_iconst X 1 dX7_setsOff_1 rfl ?_
  refine g_isub X dX7_setsOff_2 ?_
  refine g_topi hf (fun v1 hf => ?_)
  refine g_istore_n X [(3, .int v1), (0, .ref (ad 0)), (1, .int x1), (2, .int x2)] dX7_setsOff_3 (by decide) rfl ?_
  refine g_sub [1, 2, 3, 0] [(0, .ref (ad 0)), (1, .int x1), (2, .int x2), (3, .int v1)] rfl ?_
  exact w_X7_setsOff_b4 X 2000 σ x1 x2 v1 hf
def f_X7_thinksOn_b27 : Nat → gM → Int32 → Int32 → Int32 → Option (Int32 × gM)
  | 0 => fun _ _ _ _ => none
  | n_ + 1 => fun σ x1 x3 x4 =>
    if x4 = (-4) then (some (x3, σ)) else (gv (x3 ||| ((1 : Int32) <<< (x4 &&& 31))) fun v6 => gld 168 (M_state σ) (x1 + 16) fun v7 => gst 168 (M_state σ) ((x1 + 10) + x4) (v7 + 1) fun g8 => gs (M_state_s σ g8) fun s9 => gst 168 (M_state s9) ((x1 + 5) + x4) 0 fun g10 => gs (M_state_s s9 g10) fun s11 => (f_X7_setsOff s11 x1 x4).bind fun u13 => (f_X7_nextToWeep u13 x1 v6).bind fun (r14, u15) => (f_X7_thinksOn_b27 n_) u15 x1 v6 r14)
def f_X7_thinksOn (σ : gM) (x1 : Int32) (x2 : Int32) : Option (Int32 × gM) :=
  gld 168 (M_state σ) (x1 + 18) fun v1 => (f_X7_grieves σ x1 x2 (v1 + 4)).bind fun u3 => (f_X7_nextToWeep u3 x1 0).bind fun (r4, u5) => f_X7_thinksOn_b27 2000 u5 x1 0 r4
abbrev rm_X7_thinksOn : Room := { frames := 3, cells := 0, slots := 0, locals := 60 }
set_option maxHeartbeats 4000000 in
theorem w_X7_thinksOn_b27 {Γ : gG} {ad : Nat → Nat} {r : Int32} {u : gM} (X : gCX Γ cX7_thinksOn 5 (some .int) RX7 rm_X7_thinksOn) : ∀ (n_ : Nat) (σ : gM) (x1 : Int32) (x3 : Int32) (x4 : Int32), f_X7_thinksOn_b27 n_ σ x1 x3 x4 = some (r, u) → gW Γ (gMQ Γ (gPi (gEo Γ) (wM (gEo Γ) ad) r u (gAo Γ)) 0 0) (wM (gEo Γ) ad σ) 5 0 0 27 [(0, .ref (ad 0)), (1, .int x1), (3, .int x3), (4, .int x4)] [] := by
  intro n_
  induction n_ with
  | zero => intro σ x1 x3 x4 hf; cases hf
  | succ n_ ih =>
    intro σ x1 x3 x4 hf
    simp only [f_X7_thinksOn_b27] at hf
    refine g_iload X 3 dX7_thinksOn_27 rfl ?_
    refine g_bipush X (-4) dX7_thinksOn_29 rfl ?_
    refine g_icmp_eq X 94 dX7_thinksOn_31 rfl hf (fun hf => ?_) (fun hf => ?_)
    · refine g_iload_n X 2 dX7_thinksOn_94 rfl ?_
      exact g_iret X rfl dX7_thinksOn_95 hf
    · refine g_iload_n X 2 dX7_thinksOn_34 rfl ?_
      refine g_iconst X 1 dX7_thinksOn_35 rfl ?_
      refine g_iload X 3 dX7_thinksOn_36 rfl ?_
      refine g_ishl X dX7_thinksOn_38 ?_
      refine g_ior X dX7_thinksOn_39 ?_
      refine g_topi hf (fun v6 hf => ?_)
      refine g_istore_n X [(3, .int v6), (0, .ref (ad 0)), (1, .int x1), (4, .int x4)] dX7_thinksOn_40 (by decide) rfl ?_
      refine g_aload_n X 1 dX7_thinksOn_41 rfl ?_
      refine g_get X in_X7 0 0 rfl rfl (by decide) q917 rfl dX7_thinksOn_42 ?_
      refine g_iload_n X 2 dX7_thinksOn_45 rfl ?_
      refine g_bipush X 10 dX7_thinksOn_46 rfl ?_
      refine g_iadd X dX7_thinksOn_48 ?_
      refine g_iload X 3 dX7_thinksOn_49 rfl ?_
      refine g_iadd X dX7_thinksOn_51 ?_
      refine g_aload_n X 1 dX7_thinksOn_52 rfl ?_
      refine g_get X in_X7 0 0 rfl rfl (by decide) q917 rfl dX7_thinksOn_53 ?_
      refine g_iload_n X 2 dX7_thinksOn_56 rfl ?_
      refine g_bipush X 16 dX7_thinksOn_57 rfl ?_
      refine g_iadd X dX7_thinksOn_59 ?_
      refine g_iald X 1 rfl dX7_thinksOn_60 hf (fun v7 hf => ?_)
      refine g_iconst X 1 dX7_thinksOn_61 rfl ?_
      refine g_iadd X dX7_thinksOn_62 ?_
      refine g_iast X 1 (fun g8 => wM (gEo Γ) ad (M_state_s σ g8)) rfl (fun _ => rfl) dX7_thinksOn_63 hf (fun g8 hf => ?_)
      refine g_gs (wM (gEo Γ) ad) hf (fun s9 hf => ?_)
      refine g_aload_n X 1 dX7_thinksOn_64 rfl ?_
      refine g_get X in_X7 0 0 rfl rfl (by decide) q917 rfl dX7_thinksOn_65 ?_
      refine g_iload_n X 2 dX7_thinksOn_68 rfl ?_
      refine g_iconst X 5 dX7_thinksOn_69 rfl ?_
      refine g_iadd X dX7_thinksOn_70 ?_
      refine g_iload X 3 dX7_thinksOn_71 rfl ?_
      refine g_iadd X dX7_thinksOn_73 ?_
      refine g_iconst X 0 dX7_thinksOn_74 rfl ?_
      refine g_iast X 1 (fun g10 => wM (gEo Γ) ad (M_state_s s9 g10)) rfl (fun _ => rfl) dX7_thinksOn_75 hf (fun g10 hf => ?_)
      refine g_gs (wM (gEo Γ) ad) hf (fun s11 hf => ?_)
      refine g_aload_n X 1 dX7_thinksOn_76 rfl ?_
      refine g_iload_n X 2 dX7_thinksOn_77 rfl ?_
      refine g_iload X 3 dX7_thinksOn_78 rfl ?_
      refine g_callVv X 2 (As := [.int x1, .int x4]) (wfc := wM (gEo Γ) ad) (lw_V q1155 q1157 qs46 q67 q1158) (by decide +kernel) (fun u_ h_ sz_ => m_X7_setsOff (gl Γ) (gEo Γ) ad s11 x1 x4 u_ h_ sz_) (rq := 0) rfl rfl rfl rfl rfl ⟨by decide, by decide⟩ rfl (Nat.le_of_ble_eq_true rfl) ⟨Nat.zero_le _, Nat.zero_le _⟩ [0, 1, 2, 3, 4, 5, 6, 7, 8, 9, 10, 11, 12] [] [0, 1, 2, 3, 4, 5, 6, 7, 8, 9, 10, 11, 12] (fun u13 => wM (gEo Γ) ad u13) rfl rfl rfl rfl (by decide) rfl (fun _ => rfl) dX7_thinksOn_80 hf (fun u13 _ hf => ?_)
      refine g_aload_n X 1 dX7_thinksOn_83 rfl ?_
      refine g_iload_n X 2 dX7_thinksOn_84 rfl ?_
      refine g_iload_n X 0 dX7_thinksOn_85 rfl ?_
      refine g_callVi X 2 (As := [.int x1, .int v6]) (wfc := wM (gEo Γ) ad) (lw_V q1151 q1153 qs45 q67 q1154) (by decide +kernel) (fun r_ u_ h_ sz_ => m_X7_nextToWeep (gl Γ) (gEo Γ) ad u13 x1 v6 r_ u_ h_ sz_) (rq := 0) rfl rfl rfl rfl rfl ⟨by decide, by decide⟩ rfl (Nat.le_of_ble_eq_true rfl) ⟨Nat.zero_le _, Nat.zero_le _⟩ [0, 1, 2, 3, 4, 5, 6, 7, 8, 9, 10, 11, 12] [] [0, 1, 2, 3, 4, 5, 6, 7, 8, 9, 10, 11, 12] (fun u15 => wM (gEo Γ) ad u15) rfl rfl rfl rfl (by decide) rfl (fun _ => rfl) dX7_thinksOn_86 hf (fun r14 u15 _ hf => ?_)
      refine g_istore X [(4, .int r14), (3, .int v6), (0, .ref (ad 0)), (1, .int x1)] dX7_thinksOn_89 (by decide) rfl ?_
      refine g_goto X 27 dX7_thinksOn_91 rfl ?_
      refine g_sub [2, 3, 1, 0] [(0, .ref (ad 0)), (1, .int x1), (3, .int v6), (4, .int r14)] rfl ?_
      exact ih u15 x1 v6 r14 hf
set_option maxHeartbeats 4000000 in
theorem m_X7_thinksOn (l : Launch) (E : gE) (ad : Nat → Nat) (σ : gM) (x1 : Int32) (x2 : Int32) (r : Int32) (u : gM) (hf : f_X7_thinksOn σ x1 x2 = some (r, u)) (sz : Nat) : Met l yX7_thinksOn (ws_ yX7_thinksOn cX7_thinksOn 5 (some .int)) rm_X7_thinksOn (gPc [.ref (ad 0), .int x1, .int x2] E (wM E ad σ) sz) (gPi E (wM E ad) r u (va_A (wM E ad σ) sz)) 0 0 (va_A (wM E ad σ) sz) := by
  refine gMet (Qc := gPi E (wM E ad) r u) (by decide) (Nat.le_of_ble_eq_true rfl) (fun Γ X hl hE => ?_)
  subst hl; subst hE
  unfold f_X7_thinksOn at hf
  show gW Γ (gMQ Γ (gPi (gEo Γ) (wM (gEo Γ) ad) r u (gAo Γ)) 0 0) (wM (gEo Γ) ad σ) 5 0 0 0 [(0, .ref (ad 0)), (1, .int x1), (2, .int x2)] []
  refine g_aload_n X 0 dX7_thinksOn_0 rfl ?_
  refine g_iload_n X 1 dX7_thinksOn_1 rfl ?_
  refine g_iload_n X 2 dX7_thinksOn_2 rfl ?_
  refine g_aload_n X 0 dX7_thinksOn_3 rfl ?_
  refine g_get X in_X7 0 0 rfl rfl (by decide) q917 rfl dX7_thinksOn_4 ?_
  refine g_iload_n X 1 dX7_thinksOn_7 rfl ?_
  refine g_bipush X 18 dX7_thinksOn_8 rfl ?_
  refine g_iadd X dX7_thinksOn_10 ?_
  refine g_iald X 1 rfl dX7_thinksOn_11 hf (fun v1 hf => ?_)
  refine g_iconst X 4 dX7_thinksOn_12 rfl ?_
  refine g_iadd X dX7_thinksOn_13 ?_
  refine g_callVv X 3 (As := [.int x1, .int x2, .int (v1 + 4)]) (wfc := wM (gEo Γ) ad) (lw_V q1147 q1149 qs44 q67 q1150) (by decide +kernel) (fun u_ h_ sz_ => m_X7_grieves (gl Γ) (gEo Γ) ad σ x1 x2 (v1 + 4) u_ h_ sz_) (rq := 0) rfl rfl rfl rfl rfl ⟨by decide, by decide⟩ rfl (Nat.le_of_ble_eq_true rfl) ⟨Nat.zero_le _, Nat.zero_le _⟩ [0, 1, 2, 3, 4, 5, 6, 7, 8, 9, 10, 11, 12] [] [0, 1, 2, 3, 4, 5, 6, 7, 8, 9, 10, 11, 12] (fun u3 => wM (gEo Γ) ad u3) rfl rfl rfl rfl (by decide) rfl (fun _ => rfl) dX7_thinksOn_14 hf (fun u3 _ hf => ?_)
  refine g_iconst X 0 dX7_thinksOn_17 rfl ?_
  refine g_istore_n X [(3, .int 0), (0, .ref (ad 0)), (1, .int x1), (2, .int x2)] dX7_thinksOn_18 (by decide) rfl ?_
  refine g_aload_n X 1 dX7_thinksOn_19 rfl ?_
  refine g_iload_n X 2 dX7_thinksOn_20 rfl ?_
  refine g_iload_n X 0 dX7_thinksOn_21 rfl ?_
  refine g_callVi X 2 (As := [.int x1, .int 0]) (wfc := wM (gEo Γ) ad) (lw_V q1151 q1153 qs45 q67 q1154) (by decide +kernel) (fun r_ u_ h_ sz_ => m_X7_nextToWeep (gl Γ) (gEo Γ) ad u3 x1 0 r_ u_ h_ sz_) (rq := 0) rfl rfl rfl rfl rfl ⟨by decide, by decide⟩ rfl (Nat.le_of_ble_eq_true rfl) ⟨Nat.zero_le _, Nat.zero_le _⟩ [0, 1, 2, 3, 4, 5, 6, 7, 8, 9, 10, 11, 12] [] [0, 1, 2, 3, 4, 5, 6, 7, 8, 9, 10, 11, 12] (fun u5 => wM (gEo Γ) ad u5) rfl rfl rfl rfl (by decide) rfl (fun _ => rfl) dX7_thinksOn_22 hf (fun r4 u5 _ hf => ?_)
  refine g_istore X [(4, .int r4), (3, .int 0), (0, .ref (ad 0)), (1, .int x1), (2, .int x2)] dX7_thinksOn_25 (by decide) rfl ?_
  refine g_sub [2, 3, 1, 0] [(0, .ref (ad 0)), (1, .int x1), (3, .int 0), (4, .int r4)] rfl ?_
  exact w_X7_thinksOn_b27 X 2000 u5 x1 0 r4 hf
def f_X7_thinks (σ : gM) (x1 : Int32) : Option (Int32 × gM) :=
  (f_X7_isOne σ x1).bind fun (r1, u2) => if r1 = 0 then (some ((-1), u2)) else ((f_X7_waits u2 0 x1).bind fun (r3, u4) => if r3 = 0 then (some ((-2), u4)) else ((f_X7_thinksOn u4 0 x1).bind fun (r5, u6) => some (r5, u6)))
abbrev rm_X7_thinks : Room := { frames := 4, cells := 0, slots := 0, locals := 84 }
set_option maxHeartbeats 4000000 in
theorem m_X7_thinks (l : Launch) (E : gE) (ad : Nat → Nat) (σ : gM) (x1 : Int32) (r : Int32) (u : gM) (hf : f_X7_thinks σ x1 = some (r, u)) (sz : Nat) : Met l yX7_thinks (ws_ yX7_thinks cX7_thinks 2 (some .int)) rm_X7_thinks (gPc [.ref (ad 0), .int x1] E (wM E ad σ) sz) (gPi E (wM E ad) r u (va_A (wM E ad σ) sz)) 0 0 (va_A (wM E ad σ) sz) := by
  refine gMet (Qc := gPi E (wM E ad) r u) (by decide) (Nat.le_of_ble_eq_true rfl) (fun Γ X hl hE => ?_)
  subst hl; subst hE
  unfold f_X7_thinks at hf
  show gW Γ (gMQ Γ (gPi (gEo Γ) (wM (gEo Γ) ad) r u (gAo Γ)) 0 0) (wM (gEo Γ) ad σ) 2 0 0 0 [(0, .ref (ad 0)), (1, .int x1)] []
  refine g_aload_n X 0 dX7_thinks_0 rfl ?_
  refine g_iload_n X 1 dX7_thinks_1 rfl ?_
  refine g_callVi X 1 (As := [.int x1]) (wfc := wM (gEo Γ) ad) (lw_V q1083 q1085 qs38 q67 q1086) (by decide +kernel) (fun r_ u_ h_ sz_ => m_X7_isOne (gl Γ) (gEo Γ) ad σ x1 r_ u_ h_ sz_) (rq := 0) rfl rfl rfl rfl rfl ⟨by decide, by decide⟩ rfl (Nat.le_of_ble_eq_true rfl) ⟨Nat.zero_le _, Nat.zero_le _⟩ [0, 1, 2, 3, 4, 5, 6, 7, 8, 9, 10, 11, 12] [] [0, 1, 2, 3, 4, 5, 6, 7, 8, 9, 10, 11, 12] (fun u2 => wM (gEo Γ) ad u2) rfl rfl rfl rfl (by decide) rfl (fun _ => rfl) dX7_thinks_2 hf (fun r1 u2 _ hf => ?_)
  refine g_if_ne X 10 dX7_thinks_5 rfl hf (fun hf => ?_) (fun hf => ?_)
  · refine g_aload_n X 0 dX7_thinks_10 rfl ?_
    refine g_iconst X 0 dX7_thinks_11 rfl ?_
    refine g_iload_n X 1 dX7_thinks_12 rfl ?_
    refine g_callVi X 2 (As := [.int 0, .int x1]) (wfc := wM (gEo Γ) ad) (lw_V q1075 q1077 qs37 q67 q1078) (by decide +kernel) (fun r_ u_ h_ sz_ => m_X7_waits (gl Γ) (gEo Γ) ad u2 0 x1 r_ u_ h_ sz_) (rq := 0) rfl rfl rfl rfl rfl ⟨by decide, by decide⟩ rfl (Nat.le_of_ble_eq_true rfl) ⟨Nat.zero_le _, Nat.zero_le _⟩ [0, 1, 2, 3, 4, 5, 6, 7, 8, 9, 10, 11, 12] [] [0, 1, 2, 3, 4, 5, 6, 7, 8, 9, 10, 11, 12] (fun u4 => wM (gEo Γ) ad u4) rfl rfl rfl rfl (by decide) rfl (fun _ => rfl) dX7_thinks_13 hf (fun r3 u4 _ hf => ?_)
    refine g_if_eq X 28 dX7_thinks_16 rfl hf (fun hf => ?_) (fun hf => ?_)
    · refine g_bipush X (-2) dX7_thinks_28 rfl ?_
      exact g_iret X rfl dX7_thinks_30 hf
    · refine g_aload_n X 0 dX7_thinks_19 rfl ?_
      refine g_iconst X 0 dX7_thinks_20 rfl ?_
      refine g_iload_n X 1 dX7_thinks_21 rfl ?_
      refine g_callVi X 2 (As := [.int 0, .int x1]) (wfc := wM (gEo Γ) ad) (lw_V q1143 q1145 qs43 q67 q1146) (by decide +kernel) (fun r_ u_ h_ sz_ => m_X7_thinksOn (gl Γ) (gEo Γ) ad u4 0 x1 r_ u_ h_ sz_) (rq := 0) rfl rfl rfl rfl rfl ⟨by decide, by decide⟩ rfl (Nat.le_of_ble_eq_true rfl) ⟨Nat.zero_le _, Nat.zero_le _⟩ [0, 1, 2, 3, 4, 5, 6, 7, 8, 9, 10, 11, 12] [] [0, 1, 2, 3, 4, 5, 6, 7, 8, 9, 10, 11, 12] (fun u6 => wM (gEo Γ) ad u6) rfl rfl rfl rfl (by decide) rfl (fun _ => rfl) dX7_thinks_22 hf (fun r5 u6 _ hf => ?_)
      refine g_goto X 30 dX7_thinks_25 rfl ?_
      exact g_iret X rfl dX7_thinks_30 hf
  · refine g_iconst X (-1) dX7_thinks_8 rfl ?_
    exact g_iret X rfl dX7_thinks_9 hf
def f_X7_minuteOn_b48 (k2 : gM → Int32 → Int32 → Option (gM)) (σ : gM) (x1 : Int32) (x2 : Int32) (t0 : Int32) (t1 : Int32) (t2 : Int32) : Option (gM) :=
  gst 168 (M_state σ) t2 (t1 - t0) fun g11 => gs (M_state_s σ g11) fun s12 => gv (x2 + 1) fun v13 => k2 s12 x1 v13
def f_X7_minuteOn_b47 (k2 : gM → Int32 → Int32 → Option (gM)) (σ : gM) (x1 : Int32) (x2 : Int32) (t0 : Int32) (t1 : Int32) : Option (gM) :=
  f_X7_minuteOn_b48 k2 σ x1 x2 0 t0 t1
def f_X7_minuteOn_b86 (σ : gM) (t0 : Int32) (t1 : Int32) (t2 : Int32) : Option (gM) :=
  gst 168 (M_state σ) t2 (t1 + t0) fun g9 => gs (M_state_s σ g9) fun s10 => some s10
def f_X7_minuteOn_b2 : Nat → gM → Int32 → Int32 → Option (gM)
  | 0 => fun _ _ _ => none
  | n_ + 1 => fun σ x1 x2 =>
    if (M_oneMany σ) ≤ x2 then (gv (x1 + 16) fun v1 => gld 168 (M_state σ) v1 fun v2 => gld 168 (M_state σ) (x1 + 16) fun v3 => if 999 ≤ v3 then (f_X7_minuteOn_b86 σ 0 v2 v1) else (f_X7_minuteOn_b86 σ 1 v2 v1)) else (gv ((x1 + 5) + x2) fun v4 => gld 168 (M_state σ) v4 fun v5 => (f_X7_waits σ x1 x2).bind fun (r6, u7) => if r6 = 0 then (f_X7_minuteOn_b47 (f_X7_minuteOn_b2 n_) u7 x1 x2 v5 v4) else (gld 168 (M_state u7) ((x1 + 5) + x2) fun v8 => if v8 ≤ 0 then (f_X7_minuteOn_b47 (f_X7_minuteOn_b2 n_) u7 x1 x2 v5 v4) else (f_X7_minuteOn_b48 (f_X7_minuteOn_b2 n_) u7 x1 x2 1 v5 v4)))
def f_X7_minuteOn (σ : gM) (x1 : Int32) : Option (gM) :=
  f_X7_minuteOn_b2 2000 σ x1 0
abbrev rm_X7_minuteOn : Room := { frames := 2, cells := 0, slots := 0, locals := 34 }
set_option maxHeartbeats 4000000 in
theorem w_X7_minuteOn_b48 {Γ : gG} {ad : Nat → Nat} {u : gM} (X : gCX Γ cX7_minuteOn 3 none RX7 rm_X7_minuteOn) {k2 : gM → Int32 → Int32 → Option (gM)} (H2 : ∀ (σ : gM) (x1 : Int32) (x2 : Int32), k2 σ x1 x2 = some u → gW Γ (gMQ Γ (gPv (gEo Γ) (wM (gEo Γ) ad) u (gAo Γ)) 0 0) (wM (gEo Γ) ad σ) 3 0 0 2 [(0, .ref (ad 0)), (1, .int x1), (2, .int x2)] []) : ∀ (σ : gM) (x1 : Int32) (x2 : Int32) (t0 : Int32) (t1 : Int32) (t2 : Int32), f_X7_minuteOn_b48 k2 σ x1 x2 t0 t1 t2 = some u → gW Γ (gMQ Γ (gPv (gEo Γ) (wM (gEo Γ) ad) u (gAo Γ)) 0 0) (wM (gEo Γ) ad σ) 3 0 0 48 [(0, .ref (ad 0)), (1, .int x1), (2, .int x2)] [.int t0, .int t1, .int t2, .ref (ad 1)] := by
  intro σ x1 x2 t0 t1 t2 hf
  unfold f_X7_minuteOn_b48 at hf
  refine g_isub X dX7_minuteOn_48 ?_
  refine g_iast X 1 (fun g11 => wM (gEo Γ) ad (M_state_s σ g11)) rfl (fun _ => rfl) dX7_minuteOn_49 hf (fun g11 hf => ?_)
  refine g_gs (wM (gEo Γ) ad) hf (fun s12 hf => ?_)
  refine g_iincV X 1 2 (fun v13 => [(2, .int v13), (0, .ref (ad 0)), (1, .int x1)]) dX7_minuteOn_50 rfl rfl (by decide) (fun _ => rfl) hf (fun v13 hf => ?_)
  refine g_goto X 2 dX7_minuteOn_53 rfl ?_
  refine g_sub [1, 2, 0] [(0, .ref (ad 0)), (1, .int x1), (2, .int v13)] rfl ?_
  exact H2 s12 x1 v13 hf
set_option maxHeartbeats 4000000 in
theorem w_X7_minuteOn_b47 {Γ : gG} {ad : Nat → Nat} {u : gM} (X : gCX Γ cX7_minuteOn 3 none RX7 rm_X7_minuteOn) {k2 : gM → Int32 → Int32 → Option (gM)} (H2 : ∀ (σ : gM) (x1 : Int32) (x2 : Int32), k2 σ x1 x2 = some u → gW Γ (gMQ Γ (gPv (gEo Γ) (wM (gEo Γ) ad) u (gAo Γ)) 0 0) (wM (gEo Γ) ad σ) 3 0 0 2 [(0, .ref (ad 0)), (1, .int x1), (2, .int x2)] []) : ∀ (σ : gM) (x1 : Int32) (x2 : Int32) (t0 : Int32) (t1 : Int32), f_X7_minuteOn_b47 k2 σ x1 x2 t0 t1 = some u → gW Γ (gMQ Γ (gPv (gEo Γ) (wM (gEo Γ) ad) u (gAo Γ)) 0 0) (wM (gEo Γ) ad σ) 3 0 0 47 [(0, .ref (ad 0)), (1, .int x1), (2, .int x2)] [.int t0, .int t1, .ref (ad 1)] := by
  intro σ x1 x2 t0 t1 hf
  unfold f_X7_minuteOn_b47 at hf
  refine g_iconst X 0 dX7_minuteOn_47 rfl ?_
  exact w_X7_minuteOn_b48 X H2 σ x1 x2 0 t0 t1 hf
set_option maxHeartbeats 4000000 in
theorem w_X7_minuteOn_b86 {Γ : gG} {ad : Nat → Nat} {u : gM} (X : gCX Γ cX7_minuteOn 3 none RX7 rm_X7_minuteOn) : ∀ (σ : gM) (t0 : Int32) (t1 : Int32) (t2 : Int32), f_X7_minuteOn_b86 σ t0 t1 t2 = some u → gW Γ (gMQ Γ (gPv (gEo Γ) (wM (gEo Γ) ad) u (gAo Γ)) 0 0) (wM (gEo Γ) ad σ) 3 0 0 86 [] [.int t0, .int t1, .int t2, .ref (ad 1)] := by
  intro σ t0 t1 t2 hf
  unfold f_X7_minuteOn_b86 at hf
  refine g_iadd X dX7_minuteOn_86 ?_
  refine g_iast X 1 (fun g9 => wM (gEo Γ) ad (M_state_s σ g9)) rfl (fun _ => rfl) dX7_minuteOn_87 hf (fun g9 hf => ?_)
  refine g_gs (wM (gEo Γ) ad) hf (fun s10 hf => ?_)
  exact g_vret X rfl dX7_minuteOn_88 hf
set_option maxHeartbeats 4000000 in
theorem w_X7_minuteOn_b2 {Γ : gG} {ad : Nat → Nat} {u : gM} (X : gCX Γ cX7_minuteOn 3 none RX7 rm_X7_minuteOn) : ∀ (n_ : Nat) (σ : gM) (x1 : Int32) (x2 : Int32), f_X7_minuteOn_b2 n_ σ x1 x2 = some u → gW Γ (gMQ Γ (gPv (gEo Γ) (wM (gEo Γ) ad) u (gAo Γ)) 0 0) (wM (gEo Γ) ad σ) 3 0 0 2 [(0, .ref (ad 0)), (1, .int x1), (2, .int x2)] [] := by
  intro n_
  induction n_ with
  | zero => intro σ x1 x2 hf; cases hf
  | succ n_ ih =>
    intro σ x1 x2 hf
    simp only [f_X7_minuteOn_b2] at hf
    refine g_iload_n X 2 dX7_minuteOn_2 rfl ?_
    refine g_aload_n X 0 dX7_minuteOn_3 rfl ?_
    refine g_get X in_X7 0 2 rfl rfl (by decide) q919 rfl dX7_minuteOn_4 ?_
    refine g_icmp_ge X 56 dX7_minuteOn_7 rfl hf (fun hf => ?_) (fun hf => ?_)
    · refine g_aload_n X 0 dX7_minuteOn_56 rfl ?_
      refine g_get X in_X7 0 0 rfl rfl (by decide) q917 rfl dX7_minuteOn_57 ?_
      refine g_iload_n X 1 dX7_minuteOn_60 rfl ?_
      refine g_bipush X 16 dX7_minuteOn_61 rfl ?_
      refine g_iadd X dX7_minuteOn_63 ?_
      refine g_topi hf (fun v1 hf => ?_)
      refine g_dup2 X dX7_minuteOn_64 rfl rfl ?_
      refine g_iald X 1 rfl dX7_minuteOn_65 hf (fun v2 hf => ?_)
      refine g_aload_n X 0 dX7_minuteOn_66 rfl ?_
      refine g_get X in_X7 0 0 rfl rfl (by decide) q917 rfl dX7_minuteOn_67 ?_
      refine g_iload_n X 1 dX7_minuteOn_70 rfl ?_
      refine g_bipush X 16 dX7_minuteOn_71 rfl ?_
      refine g_iadd X dX7_minuteOn_73 ?_
      refine g_iald X 1 rfl dX7_minuteOn_74 hf (fun v3 hf => ?_)
      refine g_sipush X 999 dX7_minuteOn_75 rfl ?_
      refine g_icmp_ge X 85 dX7_minuteOn_78 rfl hf (fun hf => ?_) (fun hf => ?_)
      · refine g_iconst X 0 dX7_minuteOn_85 rfl ?_
        refine g_sub [] [] rfl ?_
        exact w_X7_minuteOn_b86 X σ 0 v2 v1 hf
      · refine g_iconst X 1 dX7_minuteOn_81 rfl ?_
        refine g_goto X 86 dX7_minuteOn_82 rfl ?_
        refine g_sub [] [] rfl ?_
        exact w_X7_minuteOn_b86 X σ 1 v2 v1 hf
    · refine g_aload_n X 0 dX7_minuteOn_10 rfl ?_
      refine g_get X in_X7 0 0 rfl rfl (by decide) q917 rfl dX7_minuteOn_11 ?_
      refine g_iload_n X 1 dX7_minuteOn_14 rfl ?_
      refine g_iconst X 5 dX7_minuteOn_15 rfl ?_
      refine g_iadd X dX7_minuteOn_16 ?_
      refine g_iload_n X 2 dX7_minuteOn_17 rfl ?_
      refine g_iadd X dX7_minuteOn_18 ?_
      refine g_topi hf (fun v4 hf => ?_)
      refine g_dup2 X dX7_minuteOn_19 rfl rfl ?_
      refine g_iald X 1 rfl dX7_minuteOn_20 hf (fun v5 hf => ?_)
      refine g_aload_n X 0 dX7_minuteOn_21 rfl ?_
      refine g_iload_n X 1 dX7_minuteOn_22 rfl ?_
      refine g_iload_n X 2 dX7_minuteOn_23 rfl ?_
      refine g_callVi X 2 (As := [.int x1, .int x2]) (wfc := wM (gEo Γ) ad) (lw_V q1075 q1077 qs37 q67 q1078) (by decide +kernel) (fun r_ u_ h_ sz_ => m_X7_waits (gl Γ) (gEo Γ) ad σ x1 x2 r_ u_ h_ sz_) (rq := 0) rfl rfl rfl rfl rfl ⟨by decide, by decide⟩ rfl (Nat.le_of_ble_eq_true rfl) ⟨Nat.zero_le _, Nat.zero_le _⟩ [0, 1, 2, 3, 4, 5, 6, 7, 8, 9, 10, 11, 12] [] [0, 1, 2, 3, 4, 5, 6, 7, 8, 9, 10, 11, 12] (fun u7 => wM (gEo Γ) ad u7) rfl rfl rfl rfl (by decide) rfl (fun _ => rfl) dX7_minuteOn_24 hf (fun r6 u7 _ hf => ?_)
      refine g_if_eq X 47 dX7_minuteOn_27 rfl hf (fun hf => ?_) (fun hf => ?_)
      · exact w_X7_minuteOn_b47 X ih u7 x1 x2 v5 v4 hf
      · refine g_aload_n X 0 dX7_minuteOn_30 rfl ?_
        refine g_get X in_X7 0 0 rfl rfl (by decide) q917 rfl dX7_minuteOn_31 ?_
        refine g_iload_n X 1 dX7_minuteOn_34 rfl ?_
        refine g_iconst X 5 dX7_minuteOn_35 rfl ?_
        refine g_iadd X dX7_minuteOn_36 ?_
        refine g_iload_n X 2 dX7_minuteOn_37 rfl ?_
        refine g_iadd X dX7_minuteOn_38 ?_
        refine g_iald X 1 rfl dX7_minuteOn_39 hf (fun v8 hf => ?_)
        refine g_if_le X 47 dX7_minuteOn_40 rfl hf (fun hf => ?_) (fun hf => ?_)
        · exact w_X7_minuteOn_b47 X ih u7 x1 x2 v5 v4 hf
        · refine g_iconst X 1 dX7_minuteOn_43 rfl ?_
          refine g_goto X 48 dX7_minuteOn_44 rfl ?_
          exact w_X7_minuteOn_b48 X ih u7 x1 x2 1 v5 v4 hf
set_option maxHeartbeats 4000000 in
theorem m_X7_minuteOn (l : Launch) (E : gE) (ad : Nat → Nat) (σ : gM) (x1 : Int32) (u : gM) (hf : f_X7_minuteOn σ x1 = some u) (sz : Nat) : Met l yX7_minuteOn (ws_ yX7_minuteOn cX7_minuteOn 3 none) rm_X7_minuteOn (gPc [.ref (ad 0), .int x1] E (wM E ad σ) sz) (gPv E (wM E ad) u (va_A (wM E ad σ) sz)) 0 0 (va_A (wM E ad σ) sz) := by
  refine gMet (Qc := gPv E (wM E ad) u) (by decide) (Nat.le_of_ble_eq_true rfl) (fun Γ X hl hE => ?_)
  subst hl; subst hE
  unfold f_X7_minuteOn at hf
  show gW Γ (gMQ Γ (gPv (gEo Γ) (wM (gEo Γ) ad) u (gAo Γ)) 0 0) (wM (gEo Γ) ad σ) 3 0 0 0 [(0, .ref (ad 0)), (1, .int x1)] []
  refine g_iconst X 0 dX7_minuteOn_0 rfl ?_
  refine g_istore_n X [(2, .int 0), (0, .ref (ad 0)), (1, .int x1)] dX7_minuteOn_1 (by decide) rfl ?_
  refine g_sub [1, 2, 0] [(0, .ref (ad 0)), (1, .int x1), (2, .int 0)] rfl ?_
  exact w_X7_minuteOn_b2 X 2000 σ x1 0 hf
def f_X7_minutes_b16 : Nat → gM → Int32 → Int32 → Option (Int32 × gM)
  | 0 => fun _ _ _ => none
  | n_ + 1 => fun σ x1 x2 =>
    if x1 ≤ x2 then ((f_X7_sorrowOn σ 0).bind fun (r3, u4) => some (r3, u4)) else ((f_X7_minuteOn σ 0).bind fun u6 => gv (x2 + 1) fun v7 => (f_X7_minutes_b16 n_) u6 x1 v7)
def f_X7_minutes (σ : gM) (x1 : Int32) : Option (Int32 × gM) :=
  (f_X7_in (x1.toInt64) 0 60).bind fun (r1, _) => if r1 = 0 then (some ((-1), σ)) else (f_X7_minutes_b16 2000 σ x1 0)
abbrev rm_X7_minutes : Room := { frames := 3, cells := 0, slots := 0, locals := 57 }
set_option maxHeartbeats 4000000 in
theorem w_X7_minutes_b16 {Γ : gG} {ad : Nat → Nat} {r : Int32} {u : gM} (X : gCX Γ cX7_minutes 3 (some .int) RX7 rm_X7_minutes) : ∀ (n_ : Nat) (σ : gM) (x1 : Int32) (x2 : Int32), f_X7_minutes_b16 n_ σ x1 x2 = some (r, u) → gW Γ (gMQ Γ (gPi (gEo Γ) (wM (gEo Γ) ad) r u (gAo Γ)) 0 0) (wM (gEo Γ) ad σ) 3 0 0 16 [(0, .ref (ad 0)), (1, .int x1), (2, .int x2)] [] := by
  intro n_
  induction n_ with
  | zero => intro σ x1 x2 hf; cases hf
  | succ n_ ih =>
    intro σ x1 x2 hf
    simp only [f_X7_minutes_b16] at hf
    refine g_iload_n X 2 dX7_minutes_16 rfl ?_
    refine g_iload_n X 1 dX7_minutes_17 rfl ?_
    refine g_icmp_ge X 32 dX7_minutes_18 rfl hf (fun hf => ?_) (fun hf => ?_)
    · refine g_aload_n X 0 dX7_minutes_32 rfl ?_
      refine g_iconst X 0 dX7_minutes_33 rfl ?_
      refine g_callVi X 1 (As := [.int 0]) (wfc := wM (gEo Γ) ad) (lw_V q1071 q1073 qs36 q67 q1074) (by decide +kernel) (fun r_ u_ h_ sz_ => m_X7_sorrowOn (gl Γ) (gEo Γ) ad σ 0 r_ u_ h_ sz_) (rq := 0) rfl rfl rfl rfl rfl ⟨by decide, by decide⟩ rfl (Nat.le_of_ble_eq_true rfl) ⟨Nat.zero_le _, Nat.zero_le _⟩ [0, 1, 2, 3, 4, 5, 6, 7, 8, 9, 10, 11, 12] [] [0, 1, 2, 3, 4, 5, 6, 7, 8, 9, 10, 11, 12] (fun u4 => wM (gEo Γ) ad u4) rfl rfl rfl rfl (by decide) rfl (fun _ => rfl) dX7_minutes_34 hf (fun r3 u4 _ hf => ?_)
      exact g_iret X rfl dX7_minutes_37 hf
    · refine g_aload_n X 0 dX7_minutes_21 rfl ?_
      refine g_iconst X 0 dX7_minutes_22 rfl ?_
      refine g_callVv X 1 (As := [.int 0]) (wfc := wM (gEo Γ) ad) (lw_V q1164 q1166 qs47 q67 q1167) (by decide +kernel) (fun u_ h_ sz_ => m_X7_minuteOn (gl Γ) (gEo Γ) ad σ 0 u_ h_ sz_) (rq := 0) rfl rfl rfl rfl rfl ⟨by decide, by decide⟩ rfl (Nat.le_of_ble_eq_true rfl) ⟨Nat.zero_le _, Nat.zero_le _⟩ [0, 1, 2, 3, 4, 5, 6, 7, 8, 9, 10, 11, 12] [] [0, 1, 2, 3, 4, 5, 6, 7, 8, 9, 10, 11, 12] (fun u6 => wM (gEo Γ) ad u6) rfl rfl rfl rfl (by decide) rfl (fun _ => rfl) dX7_minutes_23 hf (fun u6 _ hf => ?_)
      refine g_iincV X 1 2 (fun v7 => [(2, .int v7), (0, .ref (ad 0)), (1, .int x1)]) dX7_minutes_26 rfl rfl (by decide) (fun _ => rfl) hf (fun v7 hf => ?_)
      refine g_goto X 16 dX7_minutes_29 rfl ?_
      refine g_sub [1, 2, 0] [(0, .ref (ad 0)), (1, .int x1), (2, .int v7)] rfl ?_
      exact ih u6 x1 v7 hf
set_option maxHeartbeats 4000000 in
theorem m_X7_minutes (l : Launch) (E : gE) (ad : Nat → Nat) (σ : gM) (x1 : Int32) (r : Int32) (u : gM) (hf : f_X7_minutes σ x1 = some (r, u)) (sz : Nat) : Met l yX7_minutes (ws_ yX7_minutes cX7_minutes 3 (some .int)) rm_X7_minutes (gPc [.ref (ad 0), .int x1] E (wM E ad σ) sz) (gPi E (wM E ad) r u (va_A (wM E ad σ) sz)) 0 0 (va_A (wM E ad σ) sz) := by
  refine gMet (Qc := gPi E (wM E ad) r u) (by decide) (Nat.le_of_ble_eq_true rfl) (fun Γ X hl hE => ?_)
  subst hl; subst hE
  unfold f_X7_minutes at hf
  show gW Γ (gMQ Γ (gPi (gEo Γ) (wM (gEo Γ) ad) r u (gAo Γ)) 0 0) (wM (gEo Γ) ad σ) 3 0 0 0 [(0, .ref (ad 0)), (1, .int x1)] []
  refine g_iload_n X 1 dX7_minutes_0 rfl ?_
  refine g_i2l X dX7_minutes_1 ?_
  refine g_lconst X 0 dX7_minutes_2 rfl ?_
  refine g_ldc2 X dX7_minutes_3 q1163 ?_
  refine g_call0i X 3 (As := [.long (x1.toInt64), .long 0, .long 60]) (lw_S q1011 q1012 q67 q1013) (by decide +kernel) (fun r_ u_ h_ sz_ => m_X7_in (gl Γ) (gEo Γ) (x1.toInt64) 0 60 r_ u_ h_ sz_) rfl rfl ⟨by decide, by decide⟩ rfl (Nat.le_of_ble_eq_true rfl) ⟨Nat.zero_le _, Nat.zero_le _⟩ dX7_minutes_6 hf (fun r1 _ hf => ?_)
  refine g_if_ne X 14 dX7_minutes_9 rfl hf (fun hf => ?_) (fun hf => ?_)
  · refine g_iconst X 0 dX7_minutes_14 rfl ?_
    refine g_istore_n X [(2, .int 0), (0, .ref (ad 0)), (1, .int x1)] dX7_minutes_15 (by decide) rfl ?_
    refine g_sub [1, 2, 0] [(0, .ref (ad 0)), (1, .int x1), (2, .int 0)] rfl ?_
    exact w_X7_minutes_b16 X 2000 σ x1 0 hf
  · refine g_iconst X (-1) dX7_minutes_12 rfl ?_
    exact g_iret X rfl dX7_minutes_13 hf
def f_X7_tramOn_b43 (k4 : gM → Int32 → Int32 → Int32 → Option (Int32 × gM)) (σ : gM) (x1 : Int32) (x3 : Int32) (t0 : Int32) (t1 : Int32) : Option (Int32 × gM) :=
  gv (t1 ||| t0) fun v8 => gv (x3 + 1) fun v9 => k4 σ x1 v8 v9
def f_X7_tramOn_b4 : Nat → gM → Int32 → Int32 → Int32 → Option (Int32 × gM)
  | 0 => fun _ _ _ _ => none
  | n_ + 1 => fun σ x1 x2 x3 =>
    gld 168 (M_state σ) (x1 + 17) fun v1 => if (v1 + 2) ≤ x3 then (gv (x1 + 15) fun v2 => gld 168 (M_state σ) v2 fun v3 => gst 168 (M_state σ) v2 (v3 ||| x2) fun g4 => gs (M_state_s σ g4) fun s5 => some (x2, s5)) else ((f_X7_nextOn σ x1 x2).bind fun (r6, u7) => if r6 = (-4) then (f_X7_tramOn_b43 (f_X7_tramOn_b4 n_) u7 x1 x3 0 x2) else (f_X7_tramOn_b43 (f_X7_tramOn_b4 n_) u7 x1 x3 ((1 : Int32) <<< (r6 &&& 31)) x2))
def f_X7_tramOn (σ : gM) (x1 : Int32) : Option (Int32 × gM) :=
  f_X7_tramOn_b4 2000 σ x1 0 0
abbrev rm_X7_tramOn : Room := { frames := 3, cells := 0, slots := 0, locals := 60 }
set_option maxHeartbeats 4000000 in
theorem w_X7_tramOn_b43 {Γ : gG} {ad : Nat → Nat} {r : Int32} {u : gM} (X : gCX Γ cX7_tramOn 5 (some .int) RX7 rm_X7_tramOn) {k4 : gM → Int32 → Int32 → Int32 → Option (Int32 × gM)} (H4 : ∀ (σ : gM) (x1 : Int32) (x2 : Int32) (x3 : Int32), k4 σ x1 x2 x3 = some (r, u) → gW Γ (gMQ Γ (gPi (gEo Γ) (wM (gEo Γ) ad) r u (gAo Γ)) 0 0) (wM (gEo Γ) ad σ) 5 0 0 4 [(0, .ref (ad 0)), (1, .int x1), (2, .int x2), (3, .int x3)] []) : ∀ (σ : gM) (x1 : Int32) (x3 : Int32) (t0 : Int32) (t1 : Int32), f_X7_tramOn_b43 k4 σ x1 x3 t0 t1 = some (r, u) → gW Γ (gMQ Γ (gPi (gEo Γ) (wM (gEo Γ) ad) r u (gAo Γ)) 0 0) (wM (gEo Γ) ad σ) 5 0 0 43 [(0, .ref (ad 0)), (1, .int x1), (3, .int x3)] [.int t0, .int t1] := by
  intro σ x1 x3 t0 t1 hf
  unfold f_X7_tramOn_b43 at hf
  refine g_ior X dX7_tramOn_43 ?_
  refine g_topi hf (fun v8 hf => ?_)
  refine g_istore_n X [(2, .int v8), (0, .ref (ad 0)), (1, .int x1), (3, .int x3)] dX7_tramOn_44 (by decide) rfl ?_
  refine g_iincV X 1 3 (fun v9 => [(3, .int v9), (2, .int v8), (0, .ref (ad 0)), (1, .int x1)]) dX7_tramOn_45 rfl rfl (by decide) (fun _ => rfl) hf (fun v9 hf => ?_)
  refine g_goto X 4 dX7_tramOn_48 rfl ?_
  refine g_sub [2, 3, 1, 0] [(0, .ref (ad 0)), (1, .int x1), (2, .int v8), (3, .int v9)] rfl ?_
  exact H4 σ x1 v8 v9 hf
set_option maxHeartbeats 4000000 in
theorem w_X7_tramOn_b4 {Γ : gG} {ad : Nat → Nat} {r : Int32} {u : gM} (X : gCX Γ cX7_tramOn 5 (some .int) RX7 rm_X7_tramOn) : ∀ (n_ : Nat) (σ : gM) (x1 : Int32) (x2 : Int32) (x3 : Int32), f_X7_tramOn_b4 n_ σ x1 x2 x3 = some (r, u) → gW Γ (gMQ Γ (gPi (gEo Γ) (wM (gEo Γ) ad) r u (gAo Γ)) 0 0) (wM (gEo Γ) ad σ) 5 0 0 4 [(0, .ref (ad 0)), (1, .int x1), (2, .int x2), (3, .int x3)] [] := by
  intro n_
  induction n_ with
  | zero => intro σ x1 x2 x3 hf; cases hf
  | succ n_ ih =>
    intro σ x1 x2 x3 hf
    simp only [f_X7_tramOn_b4] at hf
    refine g_iload_n X 3 dX7_tramOn_4 rfl ?_
    refine g_aload_n X 0 dX7_tramOn_5 rfl ?_
    refine g_get X in_X7 0 0 rfl rfl (by decide) q917 rfl dX7_tramOn_6 ?_
    refine g_iload_n X 1 dX7_tramOn_9 rfl ?_
    refine g_bipush X 17 dX7_tramOn_10 rfl ?_
    refine g_iadd X dX7_tramOn_12 ?_
    refine g_iald X 1 rfl dX7_tramOn_13 hf (fun v1 hf => ?_)
    refine g_iconst X 2 dX7_tramOn_14 rfl ?_
    refine g_iadd X dX7_tramOn_15 ?_
    refine g_icmp_ge X 51 dX7_tramOn_16 rfl hf (fun hf => ?_) (fun hf => ?_)
    · refine g_aload_n X 0 dX7_tramOn_51 rfl ?_
      refine g_get X in_X7 0 0 rfl rfl (by decide) q917 rfl dX7_tramOn_52 ?_
      refine g_iload_n X 1 dX7_tramOn_55 rfl ?_
      refine g_bipush X 15 dX7_tramOn_56 rfl ?_
      refine g_iadd X dX7_tramOn_58 ?_
      refine g_topi hf (fun v2 hf => ?_)
      refine g_dup2 X dX7_tramOn_59 rfl rfl ?_
      refine g_iald X 1 rfl dX7_tramOn_60 hf (fun v3 hf => ?_)
      refine g_iload_n X 2 dX7_tramOn_61 rfl ?_
      refine g_ior X dX7_tramOn_62 ?_
      refine g_iast X 1 (fun g4 => wM (gEo Γ) ad (M_state_s σ g4)) rfl (fun _ => rfl) dX7_tramOn_63 hf (fun g4 hf => ?_)
      refine g_gs (wM (gEo Γ) ad) hf (fun s5 hf => ?_)
      refine g_iload_n X 2 dX7_tramOn_64 rfl ?_
      exact g_iret X rfl dX7_tramOn_65 hf
    · refine g_aload_n X 0 dX7_tramOn_19 rfl ?_
      refine g_iload_n X 1 dX7_tramOn_20 rfl ?_
      refine g_iload_n X 2 dX7_tramOn_21 rfl ?_
      refine g_callVi X 2 (As := [.int x1, .int x2]) (wfc := wM (gEo Γ) ad) (lw_V q1099 q1101 qs39 q67 q1102) (by decide +kernel) (fun r_ u_ h_ sz_ => m_X7_nextOn (gl Γ) (gEo Γ) ad σ x1 x2 r_ u_ h_ sz_) (rq := 0) rfl rfl rfl rfl rfl ⟨by decide, by decide⟩ rfl (Nat.le_of_ble_eq_true rfl) ⟨Nat.zero_le _, Nat.zero_le _⟩ [0, 1, 2, 3, 4, 5, 6, 7, 8, 9, 10, 11, 12] [] [0, 1, 2, 3, 4, 5, 6, 7, 8, 9, 10, 11, 12] (fun u7 => wM (gEo Γ) ad u7) rfl rfl rfl rfl (by decide) rfl (fun _ => rfl) dX7_tramOn_22 hf (fun r6 u7 _ hf => ?_)
      refine g_istore X [(4, .int r6), (0, .ref (ad 0)), (1, .int x1), (2, .int x2), (3, .int x3)] dX7_tramOn_25 (by decide) rfl ?_
      refine g_iload_n X 3 dX7_tramOn_27 rfl ?_
      refine g_iload X 0 dX7_tramOn_28 rfl ?_
      refine g_bipush X (-4) dX7_tramOn_30 rfl ?_
      refine g_icmp_ne X 39 dX7_tramOn_32 rfl hf (fun hf => ?_) (fun hf => ?_)
      · refine g_iconst X 1 dX7_tramOn_39 rfl ?_
        refine g_iload X 0 dX7_tramOn_40 rfl ?_
        refine g_ishl X dX7_tramOn_42 ?_
        refine g_sub [1, 2, 4] [(0, .ref (ad 0)), (1, .int x1), (3, .int x3)] rfl ?_
        exact w_X7_tramOn_b43 X ih u7 x1 x3 ((1 : Int32) <<< (r6 &&& 31)) x2 hf
      · refine g_iconst X 0 dX7_tramOn_35 rfl ?_
        refine g_goto X 43 dX7_tramOn_36 rfl ?_
        refine g_sub [1, 2, 4] [(0, .ref (ad 0)), (1, .int x1), (3, .int x3)] rfl ?_
        exact w_X7_tramOn_b43 X ih u7 x1 x3 0 x2 hf
set_option maxHeartbeats 4000000 in
theorem m_X7_tramOn (l : Launch) (E : gE) (ad : Nat → Nat) (σ : gM) (x1 : Int32) (r : Int32) (u : gM) (hf : f_X7_tramOn σ x1 = some (r, u)) (sz : Nat) : Met l yX7_tramOn (ws_ yX7_tramOn cX7_tramOn 5 (some .int)) rm_X7_tramOn (gPc [.ref (ad 0), .int x1] E (wM E ad σ) sz) (gPi E (wM E ad) r u (va_A (wM E ad σ) sz)) 0 0 (va_A (wM E ad σ) sz) := by
  refine gMet (Qc := gPi E (wM E ad) r u) (by decide) (Nat.le_of_ble_eq_true rfl) (fun Γ X hl hE => ?_)
  subst hl; subst hE
  unfold f_X7_tramOn at hf
  show gW Γ (gMQ Γ (gPi (gEo Γ) (wM (gEo Γ) ad) r u (gAo Γ)) 0 0) (wM (gEo Γ) ad σ) 5 0 0 0 [(0, .ref (ad 0)), (1, .int x1)] []
  refine g_iconst X 0 dX7_tramOn_0 rfl ?_
  refine g_istore_n X [(2, .int 0), (0, .ref (ad 0)), (1, .int x1)] dX7_tramOn_1 (by decide) rfl ?_
  refine g_iconst X 0 dX7_tramOn_2 rfl ?_
  refine g_istore_n X [(3, .int 0), (2, .int 0), (0, .ref (ad 0)), (1, .int x1)] dX7_tramOn_3 (by decide) rfl ?_
  refine g_sub [2, 3, 1, 0] [(0, .ref (ad 0)), (1, .int x1), (2, .int 0), (3, .int 0)] rfl ?_
  exact w_X7_tramOn_b4 X 2000 σ x1 0 0 hf
def f_X7_tram (σ : gM) : Option (Int32 × gM) :=
  (f_X7_tramOn σ 0).bind fun (r1, u2) => some (r1, u2)
abbrev rm_X7_tram : Room := { frames := 4, cells := 0, slots := 0, locals := 84 }
set_option maxHeartbeats 4000000 in
theorem m_X7_tram (l : Launch) (E : gE) (ad : Nat → Nat) (σ : gM) (r : Int32) (u : gM) (hf : f_X7_tram σ = some (r, u)) (sz : Nat) : Met l yX7_tram (ws_ yX7_tram cX7_tram 1 (some .int)) rm_X7_tram (gPc [.ref (ad 0)] E (wM E ad σ) sz) (gPi E (wM E ad) r u (va_A (wM E ad σ) sz)) 0 0 (va_A (wM E ad σ) sz) := by
  refine gMet (Qc := gPi E (wM E ad) r u) (by decide) (Nat.le_of_ble_eq_true rfl) (fun Γ X hl hE => ?_)
  subst hl; subst hE
  unfold f_X7_tram at hf
  show gW Γ (gMQ Γ (gPi (gEo Γ) (wM (gEo Γ) ad) r u (gAo Γ)) 0 0) (wM (gEo Γ) ad σ) 1 0 0 0 [(0, .ref (ad 0))] []
  refine g_aload_n X 0 dX7_tram_0 rfl ?_
  refine g_iconst X 0 dX7_tram_1 rfl ?_
  refine g_callVi X 1 (As := [.int 0]) (wfc := wM (gEo Γ) ad) (lw_V q1172 q1174 qs48 q67 q1175) (by decide +kernel) (fun r_ u_ h_ sz_ => m_X7_tramOn (gl Γ) (gEo Γ) ad σ 0 r_ u_ h_ sz_) (rq := 0) rfl rfl rfl rfl rfl ⟨by decide, by decide⟩ rfl (Nat.le_of_ble_eq_true rfl) ⟨Nat.zero_le _, Nat.zero_le _⟩ [0, 1, 2, 3, 4, 5, 6, 7, 8, 9, 10, 11, 12] [] [0, 1, 2, 3, 4, 5, 6, 7, 8, 9, 10, 11, 12] (fun u2 => wM (gEo Γ) ad u2) rfl rfl rfl rfl (by decide) rfl (fun _ => rfl) dX7_tram_2 hf (fun r1 u2 _ hf => ?_)
  exact g_iret X rfl dX7_tram_5 hf
