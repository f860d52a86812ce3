set_option maxRecDepth 100000
def f_X7_joy (σ : gM) (x1 : Int32) : Option (Int32 × gM) :=
  (f_X7_isOne σ x1).bind fun (r1, u2) => if r1 = 0 then (some ((-1), u2)) else ((f_X7_waits u2 0 x1).bind fun (r3, u4) => if r3 = 0 then (some ((-2), u4)) else (gld 168 (M_state u4) ((5 : Int32) + x1) fun v5 => gst 168 (M_state u4) ((5 : Int32) + x1) 0 fun g6 => gs (M_state_s u4 g6) fun s7 => gst 168 (M_state s7) ((10 : Int32) + x1) 0 fun g8 => gs (M_state_s s7 g8) fun s9 => some (v5, s9)))
abbrev rm_X7_joy : Room := { frames := 3, cells := 0, slots := 0, locals := 58 }
set_option maxHeartbeats 4000000 in
theorem m_X7_joy (l : Launch) (E : gE) (ad : Nat → Nat) (σ : gM) (x1 : Int32) (r : Int32) (u : gM) (hf : f_X7_joy σ x1 = some (r, u)) (sz : Nat) : Met l yX7_joy (ws_ yX7_joy cX7_joy 3 (some .int)) rm_X7_joy (gPc [.ref (ad 0), .int x1] E (wM E ad σ) sz) (gPi E (wM E ad) r u (va_A (wM E ad σ) sz)) 0 0 (va_A (wM E ad σ) sz) := by
  refine gMet (Qc := gPi E (wM E ad) r u) (by decide) (Nat.le_of_ble_eq_true rfl) (fun Γ X hl hE => ?_)
  subst hl; subst hE
  unfold f_X7_joy at hf
  show gW Γ (gMQ Γ (gPi (gEo Γ) (wM (gEo Γ) ad) r u (gAo Γ)) 0 0) (wM (gEo Γ) ad σ) 3 0 0 0 [(0, .ref (ad 0)), (1, .int x1)] []
  refine g_aload_n X 0 dX7_joy_0 rfl ?_
  refine g_iload_n X 1 dX7_joy_1 rfl ?_
  refine g_callVi X 1 (As := [.int x1]) (wfc := wM (gEo Γ) ad) (lw_V q1083 q1085 qs38 q67 q1086) (by decide +kernel) (fun r_ u_ h_ sz_ => m_X7_isOne (gl Γ) (gEo Γ) ad σ x1 r_ u_ h_ sz_) (rq := 0) rfl rfl rfl rfl rfl ⟨by decide, by decide⟩ rfl (Nat.le_of_ble_eq_true rfl) ⟨Nat.zero_le _, Nat.zero_le _⟩ [0, 1, 2, 3, 4, 5, 6, 7, 8, 9, 10, 11, 12] [] [0, 1, 2, 3, 4, 5, 6, 7, 8, 9, 10, 11, 12] (fun u2 => wM (gEo Γ) ad u2) rfl rfl rfl rfl (by decide) rfl (fun _ => rfl) dX7_joy_2 hf (fun r1 u2 _ hf => ?_)
  refine g_if_ne X 10 dX7_joy_5 rfl hf (fun hf => ?_) (fun hf => ?_)
  · refine g_aload_n X 0 dX7_joy_10 rfl ?_
    refine g_iconst X 0 dX7_joy_11 rfl ?_
    refine g_iload_n X 1 dX7_joy_12 rfl ?_
    refine g_callVi X 2 (As := [.int 0, .int x1]) (wfc := wM (gEo Γ) ad) (lw_V q1075 q1077 qs37 q67 q1078) (by decide +kernel) (fun r_ u_ h_ sz_ => m_X7_waits (gl Γ) (gEo Γ) ad u2 0 x1 r_ u_ h_ sz_) (rq := 0) rfl rfl rfl rfl rfl ⟨by decide, by decide⟩ rfl (Nat.le_of_ble_eq_true rfl) ⟨Nat.zero_le _, Nat.zero_le _⟩ [0, 1, 2, 3, 4, 5, 6, 7, 8, 9, 10, 11, 12] [] [0, 1, 2, 3, 4, 5, 6, 7, 8, 9, 10, 11, 12] (fun u4 => wM (gEo Γ) ad u4) rfl rfl rfl rfl (by decide) rfl (fun _ => rfl) dX7_joy_13 hf (fun r3 u4 _ hf => ?_)
    refine g_if_ne X 22 dX7_joy_16 rfl hf (fun hf => ?_) (fun hf => ?_)
    · refine g_aload_n X 0 dX7_joy_22 rfl ?_
      refine g_get X in_X7 0 0 rfl rfl (by decide) q917 rfl dX7_joy_23 ?_
      refine g_iconst X 5 dX7_joy_26 rfl ?_
      refine g_iload_n X 1 dX7_joy_27 rfl ?_
      refine g_iadd X dX7_joy_28 ?_
      refine g_iald X 1 rfl dX7_joy_29 hf (fun v5 hf => ?_)
      refine g_istore_n X [(2, .int v5), (0, .ref (ad 0)), (1, .int x1)] dX7_joy_30 (by decide) rfl ?_
      refine g_aload_n X 1 dX7_joy_31 rfl ?_
      refine g_get X in_X7 0 0 rfl rfl (by decide) q917 rfl dX7_joy_32 ?_
      refine g_iconst X 5 dX7_joy_35 rfl ?_
      refine g_iload_n X 2 dX7_joy_36 rfl ?_
      refine g_iadd X dX7_joy_37 ?_
      refine g_iconst X 0 dX7_joy_38 rfl ?_
      refine g_iast X 1 (fun g6 => wM (gEo Γ) ad (M_state_s u4 g6)) rfl (fun _ => rfl) dX7_joy_39 hf (fun g6 hf => ?_)
      refine g_gs (wM (gEo Γ) ad) hf (fun s7 hf => ?_)
      refine g_aload_n X 1 dX7_joy_40 rfl ?_
      refine g_get X in_X7 0 0 rfl rfl (by decide) q917 rfl dX7_joy_41 ?_
      refine g_bipush X 10 dX7_joy_44 rfl ?_
      refine g_iload_n X 2 dX7_joy_46 rfl ?_
      refine g_iadd X dX7_joy_47 ?_
      refine g_iconst X 0 dX7_joy_48 rfl ?_
      refine g_iast X 1 (fun g8 => wM (gEo Γ) ad (M_state_s s7 g8)) rfl (fun _ => rfl) dX7_joy_49 hf (fun g8 hf => ?_)
      refine g_gs (wM (gEo Γ) ad) hf (fun s9 hf => ?_)
      refine g_iload_n X 0 dX7_joy_50 rfl ?_
      exact g_iret X rfl dX7_joy_51 hf
    · refine g_bipush X (-2) dX7_joy_19 rfl ?_
      exact g_iret X rfl dX7_joy_21 hf
  · refine g_iconst X (-1) dX7_joy_8 rfl ?_
    exact g_iret X rfl dX7_joy_9 hf
def f_X7_bitsOf_b4 : Nat → Unit → Int32 → Int32 → Option (Int32 × Unit)
  | 0 => fun _ _ _ => none
  | n_ + 1 => fun σ x1 x2 =>
    if x2 ≤ 0 then (some (x1, ())) else (gv (x1 + (x2 &&& 1)) fun v1 => gv (x2 >>> ((1 : Int32) &&& 31)) fun v2 => (f_X7_bitsOf_b4 n_) () v1 v2)
def f_X7_bitsOf (x0 : Int32) : Option (Int32 × Unit) :=
  f_X7_bitsOf_b4 2000 () 0 x0
abbrev rm_X7_bitsOf : Room := { frames := 1, cells := 0, slots := 0, locals := 12 }
set_option maxHeartbeats 4000000 in
theorem w_X7_bitsOf_b4 {Γ : gG} {r : Int32} {u : Unit} (X : gCX Γ cX7_bitsOf 3 (some .int) RX7 rm_X7_bitsOf) : ∀ (n_ : Nat) (σ : Unit) (x1 : Int32) (x2 : Int32), f_X7_bitsOf_b4 n_ σ x1 x2 = some (r, u) → gW Γ (gMQ Γ (gPi (gEo Γ) (fun _ => []) r u (gAo Γ)) 0 0) [] 3 0 0 4 [(1, .int x1), (2, .int x2)] [] := by
  intro n_
  induction n_ with
  | zero => intro σ x1 x2 hf; cases hf
  | succ n_ ih =>
    intro σ x1 x2 hf
    simp only [f_X7_bitsOf_b4] at hf
    refine g_iload_n X 1 dX7_bitsOf_4 rfl ?_
    refine g_if_le X 21 dX7_bitsOf_5 rfl hf (fun hf => ?_) (fun hf => ?_)
    · refine g_iload_n X 0 dX7_bitsOf_21 rfl ?_
      exact g_iret X rfl dX7_bitsOf_22 hf
    · refine g_iload_n X 0 dX7_bitsOf_8 rfl ?_
      refine g_iload_n X 1 dX7_bitsOf_9 rfl ?_
      refine g_iconst X 1 dX7_bitsOf_10 rfl ?_
      refine g_iand X dX7_bitsOf_11 ?_
      refine g_iadd X dX7_bitsOf_12 ?_
      refine g_topi hf (fun v1 hf => ?_)
      refine g_istore_n X [(1, .int v1), (2, .int x2)] dX7_bitsOf_13 (by decide) rfl ?_
      refine g_iload_n X 1 dX7_bitsOf_14 rfl ?_
      refine g_iconst X 1 dX7_bitsOf_15 rfl ?_
      refine g_ishr X dX7_bitsOf_16 ?_
      refine g_topi hf (fun v2 hf => ?_)
      refine g_istore_n X [(2, .int v2), (1, .int v1)] dX7_bitsOf_17 (by decide) rfl ?_
      refine g_goto X 4 dX7_bitsOf_18 rfl ?_
      refine g_sub [1, 0] [(1, .int v1), (2, .int v2)] rfl ?_
      exact ih () v1 v2 hf
set_option maxHeartbeats 4000000 in
theorem m_X7_bitsOf (l : Launch) (E : gE) (x0 : Int32) (r : Int32) (u : Unit) (hf : f_X7_bitsOf x0 = some (r, u)) (sz : Nat) : Met l yX7_bitsOf (ws_ yX7_bitsOf cX7_bitsOf 3 (some .int)) rm_X7_bitsOf (gPc [.int x0] E [] sz) (gPi E (fun _ => []) r u (va_A [] sz)) 0 0 (va_A [] sz) := by
  refine gMet (Qc := gPi E (fun _ => []) r u) (by decide) (Nat.le_of_ble_eq_true rfl) (fun Γ X hl hE => ?_)
  subst hl; subst hE
  unfold f_X7_bitsOf at hf
  show gW Γ (gMQ Γ (gPi (gEo Γ) (fun _ => []) r u (gAo Γ)) 0 0) [] 3 0 0 0 [(0, .int x0)] []
  refine g_iconst X 0 dX7_bitsOf_0 rfl ?_
  refine g_istore_n X [(1, .int 0), (0, .int x0)] dX7_bitsOf_1 (by decide) rfl ?_
  refine g_iload_n X 1 dX7_bitsOf_2 rfl ?_
  refine g_istore_n X [(2, .int x0), (1, .int 0), (0, .int x0)] dX7_bitsOf_3 (by decide) rfl ?_
  refine g_sub [1, 0] [(1, .int 0), (2, .int x0)] rfl ?_
  exact w_X7_bitsOf_b4 X 2000 () 0 x0 hf
def f_X7_second (σ : gM) : Option (Int32 × gM) :=
  gld 168 (M_state σ) 15 fun v1 => (f_X7_bitsOf v1).bind fun (r2, _) => gst 168 (M_state σ) 15 0 fun g4 => gs (M_state_s σ g4) fun s5 => some (r2, s5)
abbrev rm_X7_second : Room := { frames := 2, cells := 0, slots := 0, locals := 34 }
set_option maxHeartbeats 4000000 in
theorem m_X7_second (l : Launch) (E : gE) (ad : Nat → Nat) (σ : gM) (r : Int32) (u : gM) (hf : f_X7_second σ = some (r, u)) (sz : Nat) : Met l yX7_second (ws_ yX7_second cX7_second 2 (some .int)) rm_X7_second (gPc [.ref (ad 0)] E (wM E ad σ) sz) (gPi E (wM E ad) r u (va_A (wM E ad σ) sz)) 0 0 (va_A (wM E ad σ) sz) := by
  refine gMet (Qc := gPi E (wM E ad) r u) (by decide) (Nat.le_of_ble_eq_true rfl) (fun Γ X hl hE => ?_)
  subst hl; subst hE
  unfold f_X7_second at hf
  show gW Γ (gMQ Γ (gPi (gEo Γ) (wM (gEo Γ) ad) r u (gAo Γ)) 0 0) (wM (gEo Γ) ad σ) 2 0 0 0 [(0, .ref (ad 0))] []
  refine g_aload_n X 0 dX7_second_0 rfl ?_
  refine g_get X in_X7 0 0 rfl rfl (by decide) q917 rfl dX7_second_1 ?_
  refine g_bipush X 15 dX7_second_4 rfl ?_
  refine g_iald X 1 rfl dX7_second_6 hf (fun v1 hf => ?_)
  refine g_call0i X 1 (As := [.int v1]) (lw_S q1184 q1185 q67 q1186) (by decide +kernel) (fun r_ u_ h_ sz_ => m_X7_bitsOf (gl Γ) (gEo Γ) v1 r_ u_ h_ sz_) rfl rfl ⟨by decide, by decide⟩ rfl (Nat.le_of_ble_eq_true rfl) ⟨Nat.zero_le _, Nat.zero_le _⟩ dX7_second_7 hf (fun r2 _ hf => ?_)
  refine g_istore_n X [(1, .int r2), (0, .ref (ad 0))] dX7_second_10 (by decide) rfl ?_
  refine g_aload_n X 1 dX7_second_11 rfl ?_
  refine g_get X in_X7 0 0 rfl rfl (by decide) q917 rfl dX7_second_12 ?_
  refine g_bipush X 15 dX7_second_15 rfl ?_
  refine g_iconst X 0 dX7_second_17 rfl ?_
  refine g_iast X 1 (fun g4 => wM (gEo Γ) ad (M_state_s σ g4)) rfl (fun _ => rfl) dX7_second_18 hf (fun g4 hf => ?_)
  refine g_gs (wM (gEo Γ) ad) hf (fun s5 hf => ?_)
  refine g_iload_n X 0 dX7_second_19 rfl ?_
  exact g_iret X rfl dX7_second_20 hf
def f_X7_acts (σ : gM) (x1 : Int32) : Option (Int32 × gM) :=
  if x1 = 5 then ((f_X7_minuteOn σ 112).bind fun u14 => gzr 1 u14) else (if x1 = 6 then ((f_X7_tramOn σ 112).bind fun (r11, u12) => gzr 1 u12) else ((f_X7_waits σ 112 x1).bind fun (r1, u2) => if r1 = 0 then (gzr 0 u2) else ((f_X7_thinksOn u2 112 x1).bind fun (r3, u4) => gv ((M_weptBits u4) ||| r3) fun v5 => gs (M_weptBits_s u4 v5) fun s6 => (f_X7_bitsOf r3).bind fun (r7, _) => gv ((M_weptTimes s6) + r7) fun v9 => gs (M_weptTimes_s s6 v9) fun s10 => gzr 1 s10)))
abbrev rm_X7_acts : Room := { frames := 4, cells := 0, slots := 0, locals := 84 }
set_option maxHeartbeats 4000000 in
theorem m_X7_acts (l : Launch) (E : gE) (ad : Nat → Nat) (σ : gM) (x1 : Int32) (r : Int32) (u : gM) (hf : f_X7_acts σ x1 = some (r, u)) (sz : Nat) : Met l yX7_acts (ws_ yX7_acts cX7_acts 3 (some .boolean)) rm_X7_acts (gPc [.ref (ad 0), .int x1] E (wM E ad σ) sz) (gPi E (wM E ad) r u (va_A (wM E ad σ) sz)) 0 0 (va_A (wM E ad σ) sz) := by
  refine gMet (Qc := gPi E (wM E ad) r u) (by decide) (Nat.le_of_ble_eq_true rfl) (fun Γ X hl hE => ?_)
  subst hl; subst hE
  unfold f_X7_acts at hf
  show gW Γ (gMQ Γ (gPi (gEo Γ) (wM (gEo Γ) ad) r u (gAo Γ)) 0 0) (wM (gEo Γ) ad σ) 3 0 0 0 [(0, .ref (ad 0)), (1, .int x1)] []
  refine g_iload_n X 1 dX7_acts_0 rfl ?_
  refine g_iconst X 5 dX7_acts_1 rfl ?_
  refine g_icmp_ne X 14 dX7_acts_2 rfl hf (fun hf => ?_) (fun hf => ?_)
  · refine g_iload_n X 1 dX7_acts_14 rfl ?_
    refine g_bipush X 6 dX7_acts_15 rfl ?_
    refine g_icmp_ne X 30 dX7_acts_17 rfl hf (fun hf => ?_) (fun hf => ?_)
    · refine g_aload_n X 0 dX7_acts_30 rfl ?_
      refine g_bipush X 112 dX7_acts_31 rfl ?_
      refine g_iload_n X 1 dX7_acts_33 rfl ?_
      refine g_callVi X 2 (As := [.int 112, .int x1]) (wfc := wM (gEo Γ) ad) (lw_V q1075 q1077 qs37 q67 q1078) (by decide +kernel) (fun r_ u_ h_ sz_ => m_X7_waits (gl Γ) (gEo Γ) ad σ 112 x1 r_ u_ h_ sz_) (rq := 0) rfl rfl rfl rfl rfl ⟨by decide, by decide⟩ rfl (Nat.le_of_ble_eq_true rfl) ⟨Nat.zero_le _, Nat.zero_le _⟩ [0, 1, 2, 3, 4, 5, 6, 7, 8, 9, 10, 11, 12] [] [0, 1, 2, 3, 4, 5, 6, 7, 8, 9, 10, 11, 12] (fun u2 => wM (gEo Γ) ad u2) rfl rfl rfl rfl (by decide) rfl (fun _ => rfl) dX7_acts_34 hf (fun r1 u2 _ hf => ?_)
      refine g_if_eq X 74 dX7_acts_37 rfl hf (fun hf => ?_) (fun hf => ?_)
      · refine g_iconst X 0 dX7_acts_74 rfl ?_
        exact g_zret X rfl dX7_acts_75 hf
      · refine g_aload_n X 0 dX7_acts_40 rfl ?_
        refine g_bipush X 112 dX7_acts_41 rfl ?_
        refine g_iload_n X 1 dX7_acts_43 rfl ?_
        refine g_callVi X 2 (As := [.int 112, .int x1]) (wfc := wM (gEo Γ) ad) (lw_V q1143 q1145 qs43 q67 q1146) (by decide +kernel) (fun r_ u_ h_ sz_ => m_X7_thinksOn (gl Γ) (gEo Γ) ad u2 112 x1 r_ u_ h_ sz_) (rq := 0) rfl rfl rfl rfl rfl ⟨by decide, by decide⟩ rfl (Nat.le_of_ble_eq_true rfl) ⟨Nat.zero_le _, Nat.zero_le _⟩ [0, 1, 2, 3, 4, 5, 6, 7, 8, 9, 10, 11, 12] [] [0, 1, 2, 3, 4, 5, 6, 7, 8, 9, 10, 11, 12] (fun u4 => wM (gEo Γ) ad u4) rfl rfl rfl rfl (by decide) rfl (fun _ => rfl) dX7_acts_44 hf (fun r3 u4 _ hf => ?_)
        refine g_istore_n X [(2, .int r3), (0, .ref (ad 0)), (1, .int x1)] dX7_acts_47 (by decide) rfl ?_
        refine g_aload_n X 1 dX7_acts_48 rfl ?_
        refine g_dup X dX7_acts_49 rfl ?_
        refine g_get X in_X7 0 18 rfl rfl (by decide) q935 rfl dX7_acts_50 ?_
        refine g_iload_n X 0 dX7_acts_53 rfl ?_
        refine g_ior X dX7_acts_54 ?_
        refine g_topi hf (fun v5 hf => ?_)
        refine g_put X in_X7 tyX7_ok nmX7 0 18 (wM (gEo Γ) ad (M_weptBits_s u4 v5)) rfl rfl (by decide) q935 rfl rfl rfl rfl (Nat.le_of_ble_eq_true rfl) rfl dX7_acts_55 ?_
        refine g_gs (wM (gEo Γ) ad) hf (fun s6 hf => ?_)
        refine g_aload_n X 1 dX7_acts_58 rfl ?_
        refine g_dup X dX7_acts_59 rfl ?_
        refine g_get X in_X7 0 19 rfl rfl (by decide) q936 rfl dX7_acts_60 ?_
        refine g_iload_n X 0 dX7_acts_63 rfl ?_
        refine g_call0i X 1 (As := [.int r3]) (lw_S q1184 q1185 q67 q1186) (by decide +kernel) (fun r_ u_ h_ sz_ => m_X7_bitsOf (gl Γ) (gEo Γ) r3 r_ u_ h_ sz_) rfl rfl ⟨by decide, by decide⟩ rfl (Nat.le_of_ble_eq_true rfl) ⟨Nat.zero_le _, Nat.zero_le _⟩ dX7_acts_64 hf (fun r7 _ hf => ?_)
        refine g_iadd X dX7_acts_67 ?_
        refine g_topi hf (fun v9 hf => ?_)
        refine g_put X in_X7 tyX7_ok nmX7 0 19 (wM (gEo Γ) ad (M_weptTimes_s s6 v9)) rfl rfl (by decide) q936 rfl rfl rfl rfl (Nat.le_of_ble_eq_true rfl) rfl dX7_acts_68 ?_
        refine g_gs (wM (gEo Γ) ad) hf (fun s10 hf => ?_)
        refine g_goto X 76 dX7_acts_71 rfl ?_
        refine g_iconst X 1 dX7_acts_76 rfl ?_
        exact g_zret X rfl dX7_acts_77 hf
    · refine g_aload_n X 0 dX7_acts_20 rfl ?_
      refine g_bipush X 112 dX7_acts_21 rfl ?_
      refine g_callVi X 1 (As := [.int 112]) (wfc := wM (gEo Γ) ad) (lw_V q1172 q1174 qs48 q67 q1175) (by decide +kernel) (fun r_ u_ h_ sz_ => m_X7_tramOn (gl Γ) (gEo Γ) ad σ 112 r_ u_ h_ sz_) (rq := 0) rfl rfl rfl rfl rfl ⟨by decide, by decide⟩ rfl (Nat.le_of_ble_eq_true rfl) ⟨Nat.zero_le _, Nat.zero_le _⟩ [0, 1, 2, 3, 4, 5, 6, 7, 8, 9, 10, 11, 12] [] [0, 1, 2, 3, 4, 5, 6, 7, 8, 9, 10, 11, 12] (fun u12 => wM (gEo Γ) ad u12) rfl rfl rfl rfl (by decide) rfl (fun _ => rfl) dX7_acts_23 hf (fun r11 u12 _ hf => ?_)
      refine g_pop X dX7_acts_26 rfl ?_
      refine g_goto X 76 dX7_acts_27 rfl ?_
      refine g_iconst X 1 dX7_acts_76 rfl ?_
      exact g_zret X rfl dX7_acts_77 hf
  · refine g_aload_n X 0 dX7_acts_5 rfl ?_
    refine g_bipush X 112 dX7_acts_6 rfl ?_
    refine g_callVv X 1 (As := [.int 112]) (wfc := wM (gEo Γ) ad) (lw_V q1164 q1166 qs47 q67 q1167) (by decide +kernel) (fun u_ h_ sz_ => m_X7_minuteOn (gl Γ) (gEo Γ) ad σ 112 u_ h_ sz_) (rq := 0) rfl rfl rfl rfl rfl ⟨by decide, by decide⟩ rfl (Nat.le_of_ble_eq_true rfl) ⟨Nat.zero_le _, Nat.zero_le _⟩ [0, 1, 2, 3, 4, 5, 6, 7, 8, 9, 10, 11, 12] [] [0, 1, 2, 3, 4, 5, 6, 7, 8, 9, 10, 11, 12] (fun u14 => wM (gEo Γ) ad u14) rfl rfl rfl rfl (by decide) rfl (fun _ => rfl) dX7_acts_8 hf (fun u14 _ hf => ?_)
    refine g_goto X 76 dX7_acts_11 rfl ?_
    refine g_iconst X 1 dX7_acts_76 rfl ?_
    exact g_zret X rfl dX7_acts_77 hf
def f_X7_copies_b2 : Nat → gM → Int32 → Int32 → Int32 → Option (gM)
  | 0 => fun _ _ _ _ => none
  | n_ + 1 => fun σ x1 x2 x3 =>
    if 28 ≤ x3 then (some σ) else (gld 168 (M_state σ) (x1 + x3) fun v1 => gst 168 (M_state σ) (x2 + x3) v1 fun g2 => gs (M_state_s σ g2) fun s3 => gv (x3 + 1) fun v4 => (f_X7_copies_b2 n_) s3 x1 x2 v4)
def f_X7_copies (σ : gM) (x1 : Int32) (x2 : Int32) : Option (gM) :=
  f_X7_copies_b2 2000 σ x1 x2 0
abbrev rm_X7_copies : Room := { frames := 1, cells := 0, slots := 0, locals := 12 }
set_option maxHeartbeats 4000000 in
theorem w_X7_copies_b2 {Γ : gG} {ad : Nat → Nat} {u : gM} (X : gCX Γ cX7_copies 4 none RX7 rm_X7_copies) : ∀ (n_ : Nat) (σ : gM) (x1 : Int32) (x2 : Int32) (x3 : Int32), f_X7_copies_b2 n_ σ x1 x2 x3 = some u → gW Γ (gMQ Γ (gPv (gEo Γ) (wM (gEo Γ) ad) u (gAo Γ)) 0 0) (wM (gEo Γ) ad σ) 4 0 0 2 [(0, .ref (ad 0)), (1, .int x1), (2, .int x2), (3, .int x3)] [] := by
  intro n_
  induction n_ with
  | zero => intro σ x1 x2 x3 hf; cases hf
  | succ n_ ih =>
    intro σ x1 x2 x3 hf
    simp only [f_X7_copies_b2] at hf
    refine g_iload_n X 3 dX7_copies_2 rfl ?_
    refine g_bipush X 28 dX7_copies_3 rfl ?_
    refine g_icmp_ge X 30 dX7_copies_5 rfl hf (fun hf => ?_) (fun hf => ?_)
    · exact g_vret X rfl dX7_copies_30 hf
    · refine g_aload_n X 0 dX7_copies_8 rfl ?_
      refine g_get X in_X7 0 0 rfl rfl (by decide) q917 rfl dX7_copies_9 ?_
      refine g_iload_n X 2 dX7_copies_12 rfl ?_
      refine g_iload_n X 3 dX7_copies_13 rfl ?_
      refine g_iadd X dX7_copies_14 ?_
      refine g_aload_n X 0 dX7_copies_15 rfl ?_
      refine g_get X in_X7 0 0 rfl rfl (by decide) q917 rfl dX7_copies_16 ?_
      refine g_iload_n X 1 dX7_copies_19 rfl ?_
      refine g_iload_n X 3 dX7_copies_20 rfl ?_
      refine g_iadd X dX7_copies_21 ?_
      refine g_iald X 1 rfl dX7_copies_22 hf (fun v1 hf => ?_)
      refine g_iast X 1 (fun g2 => wM (gEo Γ) ad (M_state_s σ g2)) rfl (fun _ => rfl) dX7_copies_23 hf (fun g2 hf => ?_)
      refine g_gs (wM (gEo Γ) ad) hf (fun s3 hf => ?_)
      refine g_iincV X 1 3 (fun v4 => [(3, .int v4), (0, .ref (ad 0)), (1, .int x1), (2, .int x2)]) dX7_copies_24 rfl rfl (by decide) (fun _ => rfl) hf (fun v4 hf => ?_)
      refine g_goto X 2 dX7_copies_27 rfl ?_
      refine g_sub [1, 2, 3, 0] [(0, .ref (ad 0)), (1, .int x1), (2, .int x2), (3, .int v4)] rfl ?_
      exact ih s3 x1 x2 v4 hf
set_option maxHeartbeats 4000000 in
theorem m_X7_copies (l : Launch) (E : gE) (ad : Nat → Nat) (σ : gM) (x1 : Int32) (x2 : Int32) (u : gM) (hf : f_X7_copies σ x1 x2 = some u) (sz : Nat) : Met l yX7_copies (ws_ yX7_copies cX7_copies 4 none) rm_X7_copies (gPc [.ref (ad 0), .int x1, .int x2] E (wM E ad σ) sz) (gPv E (wM E ad) u (va_A (wM E ad σ) sz)) 0 0 (va_A (wM E ad σ) sz) := by
  refine gMet (Qc := gPv E (wM E ad) u) (by decide) (Nat.le_of_ble_eq_true rfl) (fun Γ X hl hE => ?_)
  subst hl; subst hE
  unfold f_X7_copies at hf
  show gW Γ (gMQ Γ (gPv (gEo Γ) (wM (gEo Γ) ad) u (gAo Γ)) 0 0) (wM (gEo Γ) ad σ) 4 0 0 0 [(0, .ref (ad 0)), (1, .int x1), (2, .int x2)] []
  refine g_iconst X 0 dX7_copies_0 rfl ?_
  refine g_istore_n X [(3, .int 0), (0, .ref (ad 0)), (1, .int x1), (2, .int x2)] dX7_copies_1 (by decide) rfl ?_
  refine g_sub [1, 2, 3, 0] [(0, .ref (ad 0)), (1, .int x1), (2, .int x2), (3, .int 0)] rfl ?_
  exact w_X7_copies_b2 X 2000 σ x1 x2 0 hf
def f_X7_begins (σ : gM) (x1 : Int32) : Option (gM) :=
  (f_X7_copies σ x1 112).bind fun u2 => gs (M_weptBits_s u2 0) fun s3 => gs (M_weptTimes_s s3 0) fun s4 => gs (M_firstNot_s s4 (-4)) fun s5 => some s5
abbrev rm_X7_begins : Room := { frames := 2, cells := 0, slots := 0, locals := 35 }
set_option maxHeartbeats 4000000 in
theorem m_X7_begins (l : Launch) (E : gE) (ad : Nat → Nat) (σ : gM) (x1 : Int32) (u : gM) (hf : f_X7_begins σ x1 = some u) (sz : Nat) : Met l yX7_begins (ws_ yX7_begins cX7_begins 2 none) rm_X7_begins (gPc [.ref (ad 0), .int x1] E (wM E ad σ) sz) (gPv E (wM E ad) u (va_A (wM E ad σ) sz)) 0 0 (va_A (wM E ad σ) sz) := by
  refine gMet (Qc := gPv E (wM E ad) u) (by decide) (Nat.le_of_ble_eq_true rfl) (fun Γ X hl hE => ?_)
  subst hl; subst hE
  unfold f_X7_begins at hf
  show gW Γ (gMQ Γ (gPv (gEo Γ) (wM (gEo Γ) ad) u (gAo Γ)) 0 0) (wM (gEo Γ) ad σ) 2 0 0 0 [(0, .ref (ad 0)), (1, .int x1)] []
  refine g_aload_n X 0 dX7_begins_0 rfl ?_
  refine g_iload_n X 1 dX7_begins_1 rfl ?_
  refine g_bipush X 112 dX7_begins_2 rfl ?_
  refine g_callVv X 2 (As := [.int x1, .int 112]) (wfc := wM (gEo Γ) ad) (lw_V q1199 q1201 qs51 q67 q1202) (by decide +kernel) (fun u_ h_ sz_ => m_X7_copies (gl Γ) (gEo Γ) ad σ x1 112 u_ h_ sz_) (rq := 0) rfl rfl rfl rfl rfl ⟨by decide, by decide⟩ rfl (Nat.le_of_ble_eq_true rfl) ⟨Nat.zero_le _, Nat.zero_le _⟩ [0, 1, 2, 3, 4, 5, 6, 7, 8, 9, 10, 11, 12] [] [0, 1, 2, 3, 4, 5, 6, 7, 8, 9, 10, 11, 12] (fun u2 => wM (gEo Γ) ad u2) rfl rfl rfl rfl (by decide) rfl (fun _ => rfl) dX7_begins_4 hf (fun u2 _ hf => ?_)
  refine g_aload_n X 0 dX7_begins_7 rfl ?_
  refine g_iconst X 0 dX7_begins_8 rfl ?_
  refine g_put X in_X7 tyX7_ok nmX7 0 18 (wM (gEo Γ) ad (M_weptBits_s u2 0)) rfl rfl (by decide) q935 rfl rfl rfl rfl (Nat.le_of_ble_eq_true rfl) rfl dX7_begins_9 ?_
  refine g_gs (wM (gEo Γ) ad) hf (fun s3 hf => ?_)
  refine g_aload_n X 0 dX7_begins_12 rfl ?_
  refine g_iconst X 0 dX7_begins_13 rfl ?_
  refine g_put X in_X7 tyX7_ok nmX7 0 19 (wM (gEo Γ) ad (M_weptTimes_s s3 0)) rfl rfl (by decide) q936 rfl rfl rfl rfl (Nat.le_of_ble_eq_true rfl) rfl dX7_begins_14 ?_
  refine g_gs (wM (gEo Γ) ad) hf (fun s4 hf => ?_)
  refine g_aload_n X 0 dX7_begins_17 rfl ?_
  refine g_bipush X (-4) dX7_begins_18 rfl ?_
  refine g_put X in_X7 tyX7_ok nmX7 0 20 (wM (gEo Γ) ad (M_firstNot_s s4 (-4))) rfl rfl (by decide) q937 rfl rfl rfl rfl (Nat.le_of_ble_eq_true rfl) rfl dX7_begins_20 ?_
  refine g_gs (wM (gEo Γ) ad) hf (fun s5 hf => ?_)
  exact g_vret X rfl dX7_begins_23 hf
def f_X7_planGoes_b67 (k7 : gM → Int32 → Int32 → Int32 → Option (gM)) (σ : gM) (x1 : Int32) (x2 : Int32) (x3 : Int32) : Option (gM) :=
  gv (x3 + 1) fun v8 => k7 σ x1 x2 v8
def f_X7_planGoes_b64 (k7 : gM → Int32 → Int32 → Int32 → Option (gM)) (σ : gM) (x1 : Int32) (x2 : Int32) (x3 : Int32) (t0 : Int32) : Option (gM) :=
  gs (M_firstNot_s σ t0) fun s7 => f_X7_planGoes_b67 k7 s7 x1 x2 x3
def f_X7_planGoes_b7 : Nat → gM → Int32 → Int32 → Int32 → Option (gM)
  | 0 => fun _ _ _ _ => none
  | n_ + 1 => fun σ x1 x2 x3 =>
    gld 168 (M_state σ) (x1 + 27) fun v3 => if v3 ≤ x3 then (some σ) else (if ((x2 >>> (x3 &&& 31)) &&& 1) = 0 then (gld 168 (M_state σ) ((x1 + 19) + x3) fun v4 => (f_X7_acts σ v4).bind fun (r5, u6) => if r5 = 0 then (if (M_firstNot u6) = (-4) then (f_X7_planGoes_b64 (f_X7_planGoes_b7 n_) u6 x1 x2 x3 x3) else (f_X7_planGoes_b64 (f_X7_planGoes_b7 n_) u6 x1 x2 x3 (M_firstNot u6))) else (f_X7_planGoes_b67 (f_X7_planGoes_b7 n_) u6 x1 x2 x3)) else (f_X7_planGoes_b67 (f_X7_planGoes_b7 n_) σ x1 x2 x3))
def f_X7_planGoes (σ : gM) (x1 : Int32) (x2 : Int32) : Option (gM) :=
  (f_X7_begins σ x1).bind fun u2 => f_X7_planGoes_b7 2000 u2 x1 x2 0
abbrev rm_X7_planGoes : Room := { frames := 5, cells := 0, slots := 0, locals := 106 }
set_option maxHeartbeats 4000000 in
theorem w_X7_planGoes_b67 {Γ : gG} {ad : Nat → Nat} {u : gM} (X : gCX Γ cX7_planGoes 4 none RX7 rm_X7_planGoes) {k7 : gM → Int32 → Int32 → Int32 → Option (gM)} (H7 : ∀ (σ : gM) (x1 : Int32) (x2 : Int32) (x3 : Int32), k7 σ x1 x2 x3 = some u → gW Γ (gMQ Γ (gPv (gEo Γ) (wM (gEo Γ) ad) u (gAo Γ)) 0 0) (wM (gEo Γ) ad σ) 4 0 0 7 [(0, .ref (ad 0)), (1, .int x1), (2, .int x2), (3, .int x3)] []) : ∀ (σ : gM) (x1 : Int32) (x2 : Int32) (x3 : Int32), f_X7_planGoes_b67 k7 σ x1 x2 x3 = some u → gW Γ (gMQ Γ (gPv (gEo Γ) (wM (gEo Γ) ad) u (gAo Γ)) 0 0) (wM (gEo Γ) ad σ) 4 0 0 67 [(0, .ref (ad 0)), (1, .int x1), (2, .int x2), (3, .int x3)] [] := by
  intro σ x1 x2 x3 hf
  unfold f_X7_planGoes_b67 at hf
  refine g_iincV X 1 3 (fun v8 => [(3, .int v8), (0, .ref (ad 0)), (1, .int x1), (2, .int x2)]) dX7_planGoes_67 rfl rfl (by decide) (fun _ => rfl) hf (fun v8 hf => ?_)
  refine g_goto X 7 dX7_planGoes_70 rfl ?_
  refine g_sub [1, 2, 3, 0] [(0, .ref (ad 0)), (1, .int x1), (2, .int x2), (3, .int v8)] rfl ?_
  exact H7 σ x1 x2 v8 hf
set_option maxHeartbeats 4000000 in
theorem w_X7_planGoes_b64 {Γ : gG} {ad : Nat → Nat} {u : gM} (X : gCX Γ cX7_planGoes 4 none RX7 rm_X7_planGoes) {k7 : gM → Int32 → Int32 → Int32 → Option (gM)} (H7 : ∀ (σ : gM) (x1 : Int32) (x2 : Int32) (x3 : Int32), k7 σ x1 x2 x3 = some u → gW Γ (gMQ Γ (gPv (gEo Γ) (wM (gEo Γ) ad) u (gAo Γ)) 0 0) (wM (gEo Γ) ad σ) 4 0 0 7 [(0, .ref (ad 0)), (1, .int x1), (2, .int x2), (3, .int x3)] []) : ∀ (σ : gM) (x1 : Int32) (x2 : Int32) (x3 : Int32) (t0 : Int32), f_X7_planGoes_b64 k7 σ x1 x2 x3 t0 = some u → gW Γ (gMQ Γ (gPv (gEo Γ) (wM (gEo Γ) ad) u (gAo Γ)) 0 0) (wM (gEo Γ) ad σ) 4 0 0 64 [(0, .ref (ad 0)), (1, .int x1), (2, .int x2), (3, .int x3)] [.int t0, .ref (ad 0)] := by
  intro σ x1 x2 x3 t0 hf
  unfold f_X7_planGoes_b64 at hf
  refine g_put X in_X7 tyX7_ok nmX7 0 20 (wM (gEo Γ) ad (M_firstNot_s σ t0)) rfl rfl (by decide) q937 rfl rfl rfl rfl (Nat.le_of_ble_eq_true rfl) rfl dX7_planGoes_64 ?_
  refine g_gs (wM (gEo Γ) ad) hf (fun s7 hf => ?_)
  exact w_X7_planGoes_b67 X H7 s7 x1 x2 x3 hf
set_option maxHeartbeats 4000000 in
theorem w_X7_planGoes_b7 {Γ : gG} {ad : Nat → Nat} {u : gM} (X : gCX Γ cX7_planGoes 4 none RX7 rm_X7_planGoes) : ∀ (n_ : Nat) (σ : gM) (x1 : Int32) (x2 : Int32) (x3 : Int32), f_X7_planGoes_b7 n_ σ x1 x2 x3 = some u → gW Γ (gMQ Γ (gPv (gEo Γ) (wM (gEo Γ) ad) u (gAo Γ)) 0 0) (wM (gEo Γ) ad σ) 4 0 0 7 [(0, .ref (ad 0)), (1, .int x1), (2, .int x2), (3, .int x3)] [] := by
  intro n_
  induction n_ with
  | zero => intro σ x1 x2 x3 hf; cases hf
  | succ n_ ih =>
    intro σ x1 x2 x3 hf
    simp only [f_X7_planGoes_b7] at hf
    refine g_iload_n X 3 dX7_planGoes_7 rfl ?_
    refine g_aload_n X 0 dX7_planGoes_8 rfl ?_
    refine g_get X in_X7 0 0 rfl rfl (by decide) q917 rfl dX7_planGoes_9 ?_
    refine g_iload_n X 1 dX7_planGoes_12 rfl ?_
    refine g_bipush X 27 dX7_planGoes_13 rfl ?_
    refine g_iadd X dX7_planGoes_15 ?_
    refine g_iald X 1 rfl dX7_planGoes_16 hf (fun v3 hf => ?_)
    refine g_icmp_ge X 73 dX7_planGoes_17 rfl hf (fun hf => ?_) (fun hf => ?_)
    · exact g_vret X rfl dX7_planGoes_73 hf
    · refine g_iload_n X 2 dX7_planGoes_20 rfl ?_
      refine g_iload_n X 3 dX7_planGoes_21 rfl ?_
      refine g_ishr X dX7_planGoes_22 ?_
      refine g_iconst X 1 dX7_planGoes_23 rfl ?_
      refine g_iand X dX7_planGoes_24 ?_
      refine g_if_ne X 67 dX7_planGoes_25 rfl hf (fun hf => ?_) (fun hf => ?_)
      · exact w_X7_planGoes_b67 X ih σ x1 x2 x3 hf
      · refine g_aload_n X 0 dX7_planGoes_28 rfl ?_
        refine g_aload_n X 0 dX7_planGoes_29 rfl ?_
        refine g_get X in_X7 0 0 rfl rfl (by decide) q917 rfl dX7_planGoes_30 ?_
        refine g_iload_n X 1 dX7_planGoes_33 rfl ?_
        refine g_bipush X 19 dX7_planGoes_34 rfl ?_
        refine g_iadd X dX7_planGoes_36 ?_
        refine g_iload_n X 3 dX7_planGoes_37 rfl ?_
        refine g_iadd X dX7_planGoes_38 ?_
        refine g_iald X 1 rfl dX7_planGoes_39 hf (fun v4 hf => ?_)
        refine g_callVi X 1 (As := [.int v4]) (wfc := wM (gEo Γ) ad) (lw_V q1203 q1205 qs52 q67 q1206) (by decide +kernel) (fun r_ u_ h_ sz_ => m_X7_acts (gl Γ) (gEo Γ) ad σ v4 r_ u_ h_ sz_) (rq := 0) rfl rfl rfl rfl rfl ⟨by decide, by decide⟩ rfl (Nat.le_of_ble_eq_true rfl) ⟨Nat.zero_le _, Nat.zero_le _⟩ [0, 1, 2, 3, 4, 5, 6, 7, 8, 9, 10, 11, 12] [] [0, 1, 2, 3, 4, 5, 6, 7, 8, 9, 10, 11, 12] (fun u6 => wM (gEo Γ) ad u6) rfl rfl rfl rfl (by decide) rfl (fun _ => rfl) dX7_planGoes_40 hf (fun r5 u6 _ hf => ?_)
        refine g_if_ne X 67 dX7_planGoes_43 rfl hf (fun hf => ?_) (fun hf => ?_)
        · exact w_X7_planGoes_b67 X ih u6 x1 x2 x3 hf
        · refine g_aload_n X 0 dX7_planGoes_46 rfl ?_
          refine g_aload_n X 0 dX7_planGoes_47 rfl ?_
          refine g_get X in_X7 0 20 rfl rfl (by decide) q937 rfl dX7_planGoes_48 ?_
          refine g_bipush X (-4) dX7_planGoes_51 rfl ?_
          refine g_icmp_ne X 60 dX7_planGoes_53 rfl hf (fun hf => ?_) (fun hf => ?_)
          · refine g_aload_n X 0 dX7_planGoes_60 rfl ?_
            refine g_get X in_X7 0 20 rfl rfl (by decide) q937 rfl dX7_planGoes_61 ?_
            exact w_X7_planGoes_b64 X ih u6 x1 x2 x3 (M_firstNot u6) hf
          · refine g_iload_n X 3 dX7_planGoes_56 rfl ?_
            refine g_goto X 64 dX7_planGoes_57 rfl ?_
            exact w_X7_planGoes_b64 X ih u6 x1 x2 x3 x3 hf
set_option maxHeartbeats 4000000 in
theorem m_X7_planGoes (l : Launch) (E : gE) (ad : Nat → Nat) (σ : gM) (x1 : Int32) (x2 : Int32) (u : gM) (hf : f_X7_planGoes σ x1 x2 = some u) (sz : Nat) : Met l yX7_planGoes (ws_ yX7_planGoes cX7_planGoes 4 none) rm_X7_planGoes (gPc [.ref (ad 0), .int x1, .int x2] E (wM E ad σ) sz) (gPv E (wM E ad) u (va_A (wM E ad σ) sz)) 0 0 (va_A (wM E ad σ) sz) := by
  refine gMet (Qc := gPv E (wM E ad) u) (by decide) (Nat.le_of_ble_eq_true rfl) (fun Γ X hl hE => ?_)
  subst hl; subst hE
  unfold f_X7_planGoes at hf
  show gW Γ (gMQ Γ (gPv (gEo Γ) (wM (gEo Γ) ad) u (gAo Γ)) 0 0) (wM (gEo Γ) ad σ) 4 0 0 0 [(0, .ref (ad 0)), (1, .int x1), (2, .int x2)] []
  refine g_aload_n X 0 dX7_planGoes_0 rfl ?_
  refine g_iload_n X 1 dX7_planGoes_1 rfl ?_
  refine g_callVv X 1 (As := [.int x1]) (wfc := wM (gEo Γ) ad) (lw_V q1195 q1197 qs50 q67 q1198) (by decide +kernel) (fun u_ h_ sz_ => m_X7_begins (gl Γ) (gEo Γ) ad σ x1 u_ h_ sz_) (rq := 0) rfl rfl rfl rfl rfl ⟨by decide, by decide⟩ rfl (Nat.le_of_ble_eq_true rfl) ⟨Nat.zero_le _, Nat.zero_le _⟩ [0, 1, 2, 3, 4, 5, 6, 7, 8, 9, 10, 11, 12] [] [0, 1, 2, 3, 4, 5, 6, 7, 8, 9, 10, 11, 12] (fun u2 => wM (gEo Γ) ad u2) rfl rfl rfl rfl (by decide) rfl (fun _ => rfl) dX7_planGoes_2 hf (fun u2 _ hf => ?_)
  refine g_iconst X 0 dX7_planGoes_5 rfl ?_
  refine g_istore_n X [(3, .int 0), (0, .ref (ad 0)), (1, .int x1), (2, .int x2)] dX7_planGoes_6 (by decide) rfl ?_
  refine g_sub [1, 2, 3, 0] [(0, .ref (ad 0)), (1, .int x1), (2, .int x2), (3, .int 0)] rfl ?_
  exact w_X7_planGoes_b7 X 2000 u2 x1 x2 0 hf
def f_X7_runs (σ : gM) (x1 : Int32) : Option (Int32 × gM) :=
  (f_X7_in (x1.toInt64) 0 4).bind fun (r1, _) => if r1 = 0 then (some ((-1), σ)) else ((f_X7_planGoes σ 0 0).bind fun u4 => gsw 4 x1 (fun k => match k with | 0 => (gld 168 (M_state u4) 127 fun v5 => some (v5, u4)) | 1 => (some ((M_weptBits u4), u4)) | 2 => (some ((M_weptTimes u4), u4)) | 3 => (some ((M_firstNot u4), u4)) | _ => none) ((f_X7_sorrowOn u4 112).bind fun (r6, u7) => some (r6, u7)))
abbrev rm_X7_runs : Room := { frames := 6, cells := 0, slots := 0, locals := 129 }
set_option maxHeartbeats 4000000 in
theorem m_X7_runs (l : Launch) (E : gE) (ad : Nat → Nat) (σ : gM) (x1 : Int32) (r : Int32) (u : gM) (hf : f_X7_runs σ x1 = some (r, u)) (sz : Nat) : Met l yX7_runs (ws_ yX7_runs cX7_runs 2 (some .int)) rm_X7_runs (gPc [.ref (ad 0), .int x1] E (wM E ad σ) sz) (gPi E (wM E ad) r u (va_A (wM E ad σ) sz)) 0 0 (va_A (wM E ad σ) sz) := by
  refine gMet (Qc := gPi E (wM E ad) r u) (by decide) (Nat.le_of_ble_eq_true rfl) (fun Γ X hl hE => ?_)
  subst hl; subst hE
  unfold f_X7_runs at hf
  show gW Γ (gMQ Γ (gPi (gEo Γ) (wM (gEo Γ) ad) r u (gAo Γ)) 0 0) (wM (gEo Γ) ad σ) 2 0 0 0 [(0, .ref (ad 0)), (1, .int x1)] []
  refine g_iload_n X 1 dX7_runs_0 rfl ?_
  refine g_i2l X dX7_runs_1 ?_
  refine g_lconst X 0 dX7_runs_2 rfl ?_
  refine g_ldc2 X dX7_runs_3 q1098 ?_
  refine g_call0i X 3 (As := [.long (x1.toInt64), .long 0, .long 4]) (lw_S q1011 q1012 q67 q1013) (by decide +kernel) (fun r_ u_ h_ sz_ => m_X7_in (gl Γ) (gEo Γ) (x1.toInt64) 0 4 r_ u_ h_ sz_) rfl rfl ⟨by decide, by decide⟩ rfl (Nat.le_of_ble_eq_true rfl) ⟨Nat.zero_le _, Nat.zero_le _⟩ dX7_runs_6 hf (fun r1 _ hf => ?_)
  refine g_if_ne X 14 dX7_runs_9 rfl hf (fun hf => ?_) (fun hf => ?_)
  · refine g_aload_n X 0 dX7_runs_14 rfl ?_
    refine g_iconst X 0 dX7_runs_15 rfl ?_
    refine g_iconst X 0 dX7_runs_16 rfl ?_
    refine g_callVv X 2 (As := [.int 0, .int 0]) (wfc := wM (gEo Γ) ad) (lw_V q1191 q1193 qs49 q67 q1194) (by decide +kernel) (fun u_ h_ sz_ => m_X7_planGoes (gl Γ) (gEo Γ) ad σ 0 0 u_ h_ sz_) (rq := 0) rfl rfl rfl rfl rfl ⟨by decide, by decide⟩ rfl (Nat.le_of_ble_eq_true rfl) ⟨Nat.zero_le _, Nat.zero_le _⟩ [0, 1, 2, 3, 4, 5, 6, 7, 8, 9, 10, 11, 12] [] [0, 1, 2, 3, 4, 5, 6, 7, 8, 9, 10, 11, 12] (fun u4 => wM (gEo Γ) ad u4) rfl rfl rfl rfl (by decide) rfl (fun _ => rfl) dX7_runs_17 hf (fun u4 _ hf => ?_)
    refine g_iload_n X 1 dX7_runs_20 rfl ?_
    refine g_tsw X 4 (fun k => match k with | 0 => 52 | 1 => 60 | 2 => 65 | 3 => 70 | _ => 0) 75 dX7_runs_21 rfl (fun k hk => ?_) rfl hf (fun k hk hf => ?_) (fun hf => ?_)
    · match k, hk with
      | 0, _ => exact ⟨_, rfl, rfl⟩
      | 1, _ => exact ⟨_, rfl, rfl⟩
      | 2, _ => exact ⟨_, rfl, rfl⟩
      | 3, _ => exact ⟨_, rfl, rfl⟩
      | k + 4, hk => exact absurd hk (by omega)
    · match k, hk, hf with
      | 0, _, hf =>
        refine g_aload_n X 0 dX7_runs_52 rfl ?_
        refine g_get X in_X7 0 0 rfl rfl (by decide) q917 rfl dX7_runs_53 ?_
        refine g_bipush X 127 dX7_runs_56 rfl ?_
        refine g_iald X 1 rfl dX7_runs_58 hf (fun v5 hf => ?_)
        exact g_iret X rfl dX7_runs_59 hf
      | 1, _, hf =>
        refine g_aload_n X 0 dX7_runs_60 rfl ?_
        refine g_get X in_X7 0 18 rfl rfl (by decide) q935 rfl dX7_runs_61 ?_
        exact g_iret X rfl dX7_runs_64 hf
      | 2, _, hf =>
        refine g_aload_n X 0 dX7_runs_65 rfl ?_
        refine g_get X in_X7 0 19 rfl rfl (by decide) q936 rfl dX7_runs_66 ?_
        exact g_iret X rfl dX7_runs_69 hf
      | 3, _, hf =>
        refine g_aload_n X 0 dX7_runs_70 rfl ?_
        refine g_get X in_X7 0 20 rfl rfl (by decide) q937 rfl dX7_runs_71 ?_
        exact g_iret X rfl dX7_runs_74 hf
      | k + 4, hk, _ =>
        exact absurd hk (by omega)
    · refine g_aload_n X 0 dX7_runs_75 rfl ?_
      refine g_bipush X 112 dX7_runs_76 rfl ?_
      refine g_callVi X 1 (As := [.int 112]) (wfc := wM (gEo Γ) ad) (lw_V q1071 q1073 qs36 q67 q1074) (by decide +kernel) (fun r_ u_ h_ sz_ => m_X7_sorrowOn (gl Γ) (gEo Γ) ad u4 112 r_ u_ h_ sz_) (rq := 0) rfl rfl rfl rfl rfl ⟨by decide, by decide⟩ rfl (Nat.le_of_ble_eq_true rfl) ⟨Nat.zero_le _, Nat.zero_le _⟩ [0, 1, 2, 3, 4, 5, 6, 7, 8, 9, 10, 11, 12] [] [0, 1, 2, 3, 4, 5, 6, 7, 8, 9, 10, 11, 12] (fun u7 => wM (gEo Γ) ad u7) rfl rfl rfl rfl (by decide) rfl (fun _ => rfl) dX7_runs_78 hf (fun r6 u7 _ hf => ?_)
      exact g_iret X rfl dX7_runs_81 hf
  · refine g_iconst X (-1) dX7_runs_12 rfl ?_
    exact g_iret X rfl dX7_runs_13 hf
def f_X7_ahead (σ : gM) (x1 : Int32) (x2 : Int32) : Option (Int32 × gM) :=
  (f_X7_isOne σ x1).bind fun (r1, u2) => if r1 = 0 then (some ((-1), u2)) else ((f_X7_in (x2.toInt64) 0 1).bind fun (r3, _) => if r3 = 0 then (some ((-1), u2)) else ((f_X7_planGoes u2 0 0).bind fun u6 => if x2 = 0 then (gld 168 (M_state u6) ((117 : Int32) + x1) fun v10 => some (v10, u6)) else (gld 168 (M_state u6) ((122 : Int32) + x1) fun v7 => (f_X7_orNone v7).bind fun (r8, _) => some (r8, u6))))
abbrev rm_X7_ahead : Room := { frames := 6, cells := 0, slots := 0, locals := 129 }
set_option maxHeartbeats 4000000 in
theorem m_X7_ahead (l : Launch) (E : gE) (ad : Nat → Nat) (σ : gM) (x1 : Int32) (x2 : Int32) (r : Int32) (u : gM) (hf : f_X7_ahead σ x1 x2 = some (r, u)) (sz : Nat) : Met l yX7_ahead (ws_ yX7_ahead cX7_ahead 3 (some .int)) rm_X7_ahead (gPc [.ref (ad 0), .int x1, .int x2] E (wM E ad σ) sz) (gPi E (wM E ad) r u (va_A (wM E ad σ) sz)) 0 0 (va_A (wM E ad σ) sz) := by
  refine gMet (Qc := gPi E (wM E ad) r u) (by decide) (Nat.le_of_ble_eq_true rfl) (fun Γ X hl hE => ?_)
  subst hl; subst hE
  unfold f_X7_ahead at hf
  show gW Γ (gMQ Γ (gPi (gEo Γ) (wM (gEo Γ) ad) r u (gAo Γ)) 0 0) (wM (gEo Γ) ad σ) 3 0 0 0 [(0, .ref (ad 0)), (1, .int x1), (2, .int x2)] []
  refine g_aload_n X 0 dX7_ahead_0 rfl ?_
  refine g_iload_n X 1 dX7_ahead_1 rfl ?_
  refine g_callVi X 1 (As := [.int x1]) (wfc := wM (gEo Γ) ad) (lw_V q1083 q1085 qs38 q67 q1086) (by decide +kernel) (fun r_ u_ h_ sz_ => m_X7_isOne (gl Γ) (gEo Γ) ad σ x1 r_ u_ h_ sz_) (rq := 0) rfl rfl rfl rfl rfl ⟨by decide, by decide⟩ rfl (Nat.le_of_ble_eq_true rfl) ⟨Nat.zero_le _, Nat.zero_le _⟩ [0, 1, 2, 3, 4, 5, 6, 7, 8, 9, 10, 11, 12] [] [0, 1, 2, 3, 4, 5, 6, 7, 8, 9, 10, 11, 12] (fun u2 => wM (gEo Γ) ad u2) rfl rfl rfl rfl (by decide) rfl (fun _ => rfl) dX7_ahead_2 hf (fun r1 u2 _ hf => ?_)
  refine g_if_eq X 18 dX7_ahead_5 rfl hf (fun hf => ?_) (fun hf => ?_)
  · refine g_iconst X (-1) dX7_ahead_18 rfl ?_
    exact g_iret X rfl dX7_ahead_19 hf
  · refine g_iload_n X 2 dX7_ahead_8 rfl ?_
    refine g_i2l X dX7_ahead_9 ?_
    refine g_lconst X 0 dX7_ahead_10 rfl ?_
    refine g_lconst X 1 dX7_ahead_11 rfl ?_
    refine g_call0i X 3 (As := [.long (x2.toInt64), .long 0, .long 1]) (lw_S q1011 q1012 q67 q1013) (by decide +kernel) (fun r_ u_ h_ sz_ => m_X7_in (gl Γ) (gEo Γ) (x2.toInt64) 0 1 r_ u_ h_ sz_) rfl rfl ⟨by decide, by decide⟩ rfl (Nat.le_of_ble_eq_true rfl) ⟨Nat.zero_le _, Nat.zero_le _⟩ dX7_ahead_12 hf (fun r3 _ hf => ?_)
    refine g_if_ne X 20 dX7_ahead_15 rfl hf (fun hf => ?_) (fun hf => ?_)
    · refine g_aload_n X 0 dX7_ahead_20 rfl ?_
      refine g_iconst X 0 dX7_ahead_21 rfl ?_
      refine g_iconst X 0 dX7_ahead_22 rfl ?_
      refine g_callVv X 2 (As := [.int 0, .int 0]) (wfc := wM (gEo Γ) ad) (lw_V q1191 q1193 qs49 q67 q1194) (by decide +kernel) (fun u_ h_ sz_ => m_X7_planGoes (gl Γ) (gEo Γ) ad u2 0 0 u_ h_ sz_) (rq := 0) rfl rfl rfl rfl rfl ⟨by decide, by decide⟩ rfl (Nat.le_of_ble_eq_true rfl) ⟨Nat.zero_le _, Nat.zero_le _⟩ [0, 1, 2, 3, 4, 5, 6, 7, 8, 9, 10, 11, 12] [] [0, 1, 2, 3, 4, 5, 6, 7, 8, 9, 10, 11, 12] (fun u6 => wM (gEo Γ) ad u6) rfl rfl rfl rfl (by decide) rfl (fun _ => rfl) dX7_ahead_23 hf (fun u6 _ hf => ?_)
      refine g_iload_n X 2 dX7_ahead_26 rfl ?_
      refine g_if_ne X 42 dX7_ahead_27 rfl hf (fun hf => ?_) (fun hf => ?_)
      · refine g_aload_n X 0 dX7_ahead_42 rfl ?_
        refine g_get X in_X7 0 0 rfl rfl (by decide) q917 rfl dX7_ahead_43 ?_
        refine g_bipush X 122 dX7_ahead_46 rfl ?_
        refine g_iload_n X 1 dX7_ahead_48 rfl ?_
        refine g_iadd X dX7_ahead_49 ?_
        refine g_iald X 1 rfl dX7_ahead_50 hf (fun v7 hf => ?_)
        refine g_call0i X 1 (As := [.int v7]) (lw_S q1087 q1088 q67 q1089) (by decide +kernel) (fun r_ u_ h_ sz_ => m_X7_orNone (gl Γ) (gEo Γ) v7 r_ u_ h_ sz_) rfl rfl ⟨by decide, by decide⟩ rfl (Nat.le_of_ble_eq_true rfl) ⟨Nat.zero_le _, Nat.zero_le _⟩ dX7_ahead_51 hf (fun r8 _ hf => ?_)
        exact g_iret X rfl dX7_ahead_54 hf
      · refine g_aload_n X 0 dX7_ahead_30 rfl ?_
        refine g_get X in_X7 0 0 rfl rfl (by decide) q917 rfl dX7_ahead_31 ?_
        refine g_bipush X 117 dX7_ahead_34 rfl ?_
        refine g_iload_n X 1 dX7_ahead_36 rfl ?_
        refine g_iadd X dX7_ahead_37 ?_
        refine g_iald X 1 rfl dX7_ahead_38 hf (fun v10 hf => ?_)
        refine g_goto X 54 dX7_ahead_39 rfl ?_
        exact g_iret X rfl dX7_ahead_54 hf
    · refine g_iconst X (-1) dX7_ahead_18 rfl ?_
      exact g_iret X rfl dX7_ahead_19 hf
def f_X7_soon_b17 : Nat → gM → Int32 → Int32 → Option (Int32 × gM)
  | 0 => fun _ _ _ => none
  | n_ + 1 => fun σ x1 x2 =>
    if 9 < x2 then (some ((-4), σ)) else ((f_X7_waits σ 0 x1).bind fun (r5, u6) => if r5 = 0 then (some ((-4), u6)) else ((f_X7_nextOn u6 112 0).bind fun (r7, u8) => if r7 = x1 then (some (x2, u8)) else ((f_X7_acts u8 x1).bind fun (r9, u10) => gv (x2 + 1) fun v11 => (f_X7_soon_b17 n_) u10 x1 v11)))
def f_X7_soon (σ : gM) (x1 : Int32) : Option (Int32 × gM) :=
  (f_X7_isOne σ x1).bind fun (r1, u2) => if r1 = 0 then (some ((-1), u2)) else ((f_X7_begins u2 0).bind fun u4 => f_X7_soon_b17 2000 u4 x1 0)
abbrev rm_X7_soon : Room := { frames := 5, cells := 0, slots := 0, locals := 106 }
set_option maxHeartbeats 4000000 in
theorem w_X7_soon_b17 {Γ : gG} {ad : Nat → Nat} {r : Int32} {u : gM} (X : gCX Γ cX7_soon 3 (some .int) RX7 rm_X7_soon) : ∀ (n_ : Nat) (σ : gM) (x1 : Int32) (x2 : Int32), f_X7_soon_b17 n_ σ x1 x2 = some (r, u) → gW Γ (gMQ Γ (gPi (gEo Γ) (wM (gEo Γ) ad) r u (gAo Γ)) 0 0) (wM (gEo Γ) ad σ) 3 0 0 17 [(0, .ref (ad 0)), (1, .int x1), (2, .int x2)] [] := by
  intro n_
  induction n_ with
  | zero => intro σ x1 x2 hf; cases hf
  | succ n_ ih =>
    intro σ x1 x2 hf
    simp only [f_X7_soon_b17] at hf
    refine g_iload_n X 2 dX7_soon_17 rfl ?_
    refine g_bipush X 9 dX7_soon_18 rfl ?_
    refine g_icmp_gt X 57 dX7_soon_20 rfl hf (fun hf => ?_) (fun hf => ?_)
    · refine g_bipush X (-4) dX7_soon_57 rfl ?_
      exact g_iret X rfl dX7_soon_59 hf
    · refine g_aload_n X 0 dX7_soon_23 rfl ?_
      refine g_iconst X 0 dX7_soon_24 rfl ?_
      refine g_iload_n X 1 dX7_soon_25 rfl ?_
      refine g_callVi X 2 (As := [.int 0, .int x1]) (wfc := wM (gEo Γ) ad) (lw_V q1075 q1077 qs37 q67 q1078) (by decide +kernel) (fun r_ u_ h_ sz_ => m_X7_waits (gl Γ) (gEo Γ) ad σ 0 x1 r_ u_ h_ sz_) (rq := 0) rfl rfl rfl rfl rfl ⟨by decide, by decide⟩ rfl (Nat.le_of_ble_eq_true rfl) ⟨Nat.zero_le _, Nat.zero_le _⟩ [0, 1, 2, 3, 4, 5, 6, 7, 8, 9, 10, 11, 12] [] [0, 1, 2, 3, 4, 5, 6, 7, 8, 9, 10, 11, 12] (fun u6 => wM (gEo Γ) ad u6) rfl rfl rfl rfl (by decide) rfl (fun _ => rfl) dX7_soon_26 hf (fun r5 u6 _ hf => ?_)
      refine g_if_eq X 57 dX7_soon_29 rfl hf (fun hf => ?_) (fun hf => ?_)
      · refine g_bipush X (-4) dX7_soon_57 rfl ?_
        exact g_iret X rfl dX7_soon_59 hf
      · refine g_aload_n X 0 dX7_soon_32 rfl ?_
        refine g_bipush X 112 dX7_soon_33 rfl ?_
        refine g_iconst X 0 dX7_soon_35 rfl ?_
        refine g_callVi X 2 (As := [.int 112, .int 0]) (wfc := wM (gEo Γ) ad) (lw_V q1099 q1101 qs39 q67 q1102) (by decide +kernel) (fun r_ u_ h_ sz_ => m_X7_nextOn (gl Γ) (gEo Γ) ad u6 112 0 r_ u_ h_ sz_) (rq := 0) rfl rfl rfl rfl rfl ⟨by decide, by decide⟩ rfl (Nat.le_of_ble_eq_true rfl) ⟨Nat.zero_le _, Nat.zero_le _⟩ [0, 1, 2, 3, 4, 5, 6, 7, 8, 9, 10, 11, 12] [] [0, 1, 2, 3, 4, 5, 6, 7, 8, 9, 10, 11, 12] (fun u8 => wM (gEo Γ) ad u8) rfl rfl rfl rfl (by decide) rfl (fun _ => rfl) dX7_soon_36 hf (fun r7 u8 _ hf => ?_)
        refine g_iload_n X 1 dX7_soon_39 rfl ?_
        refine g_icmp_ne X 45 dX7_soon_40 rfl hf (fun hf => ?_) (fun hf => ?_)
        · refine g_aload_n X 0 dX7_soon_45 rfl ?_
          refine g_iload_n X 1 dX7_soon_46 rfl ?_
          refine g_callVi X 1 (As := [.int x1]) (wfc := wM (gEo Γ) ad) (lw_V q1203 q1205 qs52 q67 q1206) (by decide +kernel) (fun r_ u_ h_ sz_ => m_X7_acts (gl Γ) (gEo Γ) ad u8 x1 r_ u_ h_ sz_) (rq := 0) rfl rfl rfl rfl rfl ⟨by decide, by decide⟩ rfl (Nat.le_of_ble_eq_true rfl) ⟨Nat.zero_le _, Nat.zero_le _⟩ [0, 1, 2, 3, 4, 5, 6, 7, 8, 9, 10, 11, 12] [] [0, 1, 2, 3, 4, 5, 6, 7, 8, 9, 10, 11, 12] (fun u10 => wM (gEo Γ) ad u10) rfl rfl rfl rfl (by decide) rfl (fun _ => rfl) dX7_soon_47 hf (fun r9 u10 _ hf => ?_)
          refine g_pop X dX7_soon_50 rfl ?_
          refine g_iincV X 1 2 (fun v11 => [(2, .int v11), (0, .ref (ad 0)), (1, .int x1)]) dX7_soon_51 rfl rfl (by decide) (fun _ => rfl) hf (fun v11 hf => ?_)
          refine g_goto X 17 dX7_soon_54 rfl ?_
          refine g_sub [1, 2, 0] [(0, .ref (ad 0)), (1, .int x1), (2, .int v11)] rfl ?_
          exact ih u10 x1 v11 hf
        · refine g_iload_n X 2 dX7_soon_43 rfl ?_
          exact g_iret X rfl dX7_soon_44 hf
set_option maxHeartbeats 4000000 in
theorem m_X7_soon (l : Launch) (E : gE) (ad : Nat → Nat) (σ : gM) (x1 : Int32) (r : Int32) (u : gM) (hf : f_X7_soon σ x1 = some (r, u)) (sz : Nat) : Met l yX7_soon (ws_ yX7_soon cX7_soon 3 (some .int)) rm_X7_soon (gPc [.ref (ad 0), .int x1] E (wM E ad σ) sz) (gPi E (wM E ad) r u (va_A (wM E ad σ) sz)) 0 0 (va_A (wM E ad σ) sz) := by
  refine gMet (Qc := gPi E (wM E ad) r u) (by decide) (Nat.le_of_ble_eq_true rfl) (fun Γ X hl hE => ?_)
  subst hl; subst hE
  unfold f_X7_soon at hf
  show gW Γ (gMQ Γ (gPi (gEo Γ) (wM (gEo Γ) ad) r u (gAo Γ)) 0 0) (wM (gEo Γ) ad σ) 3 0 0 0 [(0, .ref (ad 0)), (1, .int x1)] []
  refine g_aload_n X 0 dX7_soon_0 rfl ?_
  refine g_iload_n X 1 dX7_soon_1 rfl ?_
  refine g_callVi X 1 (As := [.int x1]) (wfc := wM (gEo Γ) ad) (lw_V q1083 q1085 qs38 q67 q1086) (by decide +kernel) (fun r_ u_ h_ sz_ => m_X7_isOne (gl Γ) (gEo Γ) ad σ x1 r_ u_ h_ sz_) (rq := 0) rfl rfl rfl rfl rfl ⟨by decide, by decide⟩ rfl (Nat.le_of_ble_eq_true rfl) ⟨Nat.zero_le _, Nat.zero_le _⟩ [0, 1, 2, 3, 4, 5, 6, 7, 8, 9, 10, 11, 12] [] [0, 1, 2, 3, 4, 5, 6, 7, 8, 9, 10, 11, 12] (fun u2 => wM (gEo Γ) ad u2) rfl rfl rfl rfl (by decide) rfl (fun _ => rfl) dX7_soon_2 hf (fun r1 u2 _ hf => ?_)
  refine g_if_ne X 10 dX7_soon_5 rfl hf (fun hf => ?_) (fun hf => ?_)
  · refine g_aload_n X 0 dX7_soon_10 rfl ?_
    refine g_iconst X 0 dX7_soon_11 rfl ?_
    refine g_callVv X 1 (As := [.int 0]) (wfc := wM (gEo Γ) ad) (lw_V q1195 q1197 qs50 q67 q1198) (by decide +kernel) (fun u_ h_ sz_ => m_X7_begins (gl Γ) (gEo Γ) ad u2 0 u_ h_ sz_) (rq := 0) rfl rfl rfl rfl rfl ⟨by decide, by decide⟩ rfl (Nat.le_of_ble_eq_true rfl) ⟨Nat.zero_le _, Nat.zero_le _⟩ [0, 1, 2, 3, 4, 5, 6, 7, 8, 9, 10, 11, 12] [] [0, 1, 2, 3, 4, 5, 6, 7, 8, 9, 10, 11, 12] (fun u4 => wM (gEo Γ) ad u4) rfl rfl rfl rfl (by decide) rfl (fun _ => rfl) dX7_soon_12 hf (fun u4 _ hf => ?_)
    refine g_iconst X 0 dX7_soon_15 rfl ?_
    refine g_istore_n X [(2, .int 0), (0, .ref (ad 0)), (1, .int x1)] dX7_soon_16 (by decide) rfl ?_
    refine g_sub [1, 2, 0] [(0, .ref (ad 0)), (1, .int x1), (2, .int 0)] rfl ?_
    exact w_X7_soon_b17 X 2000 u4 x1 0 hf
  · refine g_iconst X (-1) dX7_soon_8 rfl ?_
    exact g_iret X rfl dX7_soon_9 hf
