set_option maxRecDepth 100000
def f_X7_readLine_b112 (σ : gM) : Option (gM) :=
  (f_X7_step σ).bind fun u20 => some u20
def f_X7_readLine_b63 (σ : gM) (x1 : Int32) : Option (gM) :=
  gv ((M_toldOnce σ) ||| ((1 : Int32) <<< (x1 &&& 31))) fun v11 => gs (M_toldOnce_s σ v11) fun s12 => (f_X7_step s12).bind fun u14 => if (M_broken u14) ≤ 0 then ((f_X7_readMore u14 x1).bind fun u16 => if (M_broken u16) = 0 then (if (M_token u16) = 3 then (f_X7_readLine_b112 u16) else ((f_X7_fails u16 2).bind fun u18 => f_X7_readLine_b112 u18)) else (f_X7_readLine_b112 u16)) else (some u14)
def f_X7_readLine_b41 (σ : gM) (x1 : Int32) : Option (gM) :=
  if x1 < 4 then (f_X7_readLine_b63 σ x1) else (if (((M_toldOnce σ) >>> (x1 &&& 31)) &&& 1) = 1 then ((f_X7_fails σ 4).bind fun u10 => f_X7_readLine_b63 u10 x1) else (f_X7_readLine_b63 σ x1))
def f_X7_readLine (σ : gM) : Option (gM) :=
  (f_X7_nameHere σ).bind fun (r1, u2) => (f_X7_in (r1.toInt64) 0 6).bind fun (r3, _) => if r3 = 0 then ((f_X7_fails u2 2).bind fun u8 => some u8) else (if 3 < r1 then (f_X7_readLine_b41 u2 r1) else (if (M_readOnes u2) = 5 then ((f_X7_fails u2 5).bind fun u6 => f_X7_readLine_b41 u6 r1) else (f_X7_readLine_b41 u2 r1)))
abbrev rm_X7_readLine : Room := { frames := 6, cells := 0, slots := 0, locals := 123 }
set_option maxHeartbeats 4000000 in
theorem w_X7_readLine_b112 {Γ : gG} {ad : Nat → Nat} {u : gM} (X : gCX Γ cX7_readLine 2 none RX7 rm_X7_readLine) : ∀ (σ : gM), f_X7_readLine_b112 σ  = some u → gW Γ (gMQ Γ (gPv (gEo Γ) (wM (gEo Γ) ad) u (gAo Γ)) 0 0) (wM (gEo Γ) ad σ) 2 0 0 112 [(0, .ref (ad 0))] [] := by
  intro σ  hf
  unfold f_X7_readLine_b112 at hf
  refine g_aload_n X 0 dX7_readLine_112 rfl ?_
  refine g_callVv X 0 (As := []) (wfc := wM (gEo Γ) ad) (lw_V q1022 q1024 qs27 q67 q1025) (by decide +kernel) (fun u_ h_ sz_ => m_X7_step (gl Γ) (gEo Γ) ad σ u_ h_ sz_) (rq := 0) rfl rfl rfl rfl rfl ⟨by decide, by decide⟩ rfl (Nat.le_of_ble_eq_true rfl) ⟨Nat.zero_le _, Nat.zero_le _⟩ [0, 1, 2, 3, 4, 5, 6, 7, 8, 9, 10, 11, 12] [] [0, 1, 2, 3, 4, 5, 6, 7, 8, 9, 10, 11, 12] (fun u20 => wM (gEo Γ) ad u20) rfl rfl rfl rfl (by decide) rfl (fun _ => rfl) dX7_readLine_113 hf (fun u20 _ hf => ?_)
  exact g_vret X rfl dX7_readLine_116 hf
set_option maxHeartbeats 4000000 in
theorem w_X7_readLine_b63 {Γ : gG} {ad : Nat → Nat} {u : gM} (X : gCX Γ cX7_readLine 2 none RX7 rm_X7_readLine) : ∀ (σ : gM) (x1 : Int32), f_X7_readLine_b63 σ x1 = some u → gW Γ (gMQ Γ (gPv (gEo Γ) (wM (gEo Γ) ad) u (gAo Γ)) 0 0) (wM (gEo Γ) ad σ) 2 0 0 63 [(0, .ref (ad 0)), (1, .int x1)] [] := by
  intro σ x1 hf
  unfold f_X7_readLine_b63 at hf
  refine g_aload_n X 0 dX7_readLine_63 rfl ?_
  refine g_dup X dX7_readLine_64 rfl ?_
  refine g_get X in_X7 0 5 rfl rfl (by decide) q922 rfl dX7_readLine_65 ?_
  refine g_iconst X 1 dX7_readLine_68 rfl ?_
  refine g_iload_n X 1 dX7_readLine_69 rfl ?_
  refine g_ishl X dX7_readLine_70 ?_
  refine g_ior X dX7_readLine_71 ?_
  refine g_topi hf (fun v11 hf => ?_)
  refine g_put X in_X7 tyX7_ok nmX7 0 5 (wM (gEo Γ) ad (M_toldOnce_s σ v11)) rfl rfl (by decide) q922 rfl rfl rfl rfl (Nat.le_of_ble_eq_true rfl) rfl dX7_readLine_72 ?_
  refine g_gs (wM (gEo Γ) ad) hf (fun s12 hf => ?_)
  refine g_aload_n X 0 dX7_readLine_75 rfl ?_
  refine g_callVv X 0 (As := []) (wfc := wM (gEo Γ) ad) (lw_V q1022 q1024 qs27 q67 q1025) (by decide +kernel) (fun u_ h_ sz_ => m_X7_step (gl Γ) (gEo Γ) ad s12 u_ h_ sz_) (rq := 0) rfl rfl rfl rfl rfl ⟨by decide, by decide⟩ rfl (Nat.le_of_ble_eq_true rfl) ⟨Nat.zero_le _, Nat.zero_le _⟩ [0, 1, 2, 3, 4, 5, 6, 7, 8, 9, 10, 11, 12] [] [0, 1, 2, 3, 4, 5, 6, 7, 8, 9, 10, 11, 12] (fun u14 => wM (gEo Γ) ad u14) rfl rfl rfl rfl (by decide) rfl (fun _ => rfl) dX7_readLine_76 hf (fun u14 _ hf => ?_)
  refine g_aload_n X 0 dX7_readLine_79 rfl ?_
  refine g_get X in_X7 0 10 rfl rfl (by decide) q927 rfl dX7_readLine_80 ?_
  refine g_if_le X 87 dX7_readLine_83 rfl hf (fun hf => ?_) (fun hf => ?_)
  · refine g_aload_n X 0 dX7_readLine_87 rfl ?_
    refine g_iload_n X 1 dX7_readLine_88 rfl ?_
    refine g_callVv X 1 (As := [.int x1]) (wfc := wM (gEo Γ) ad) (lw_V q1047 q1049 qs32 q67 q1050) (by decide +kernel) (fun u_ h_ sz_ => m_X7_readMore (gl Γ) (gEo Γ) ad u14 x1 u_ h_ sz_) (rq := 0) rfl rfl rfl rfl rfl ⟨by decide, by decide⟩ rfl (Nat.le_of_ble_eq_true rfl) ⟨Nat.zero_le _, Nat.zero_le _⟩ [0, 1, 2, 3, 4, 5, 6, 7, 8, 9, 10, 11, 12] [] [0, 1, 2, 3, 4, 5, 6, 7, 8, 9, 10, 11, 12] (fun u16 => wM (gEo Γ) ad u16) rfl rfl rfl rfl (by decide) rfl (fun _ => rfl) dX7_readLine_89 hf (fun u16 _ hf => ?_)
    refine g_aload_n X 0 dX7_readLine_92 rfl ?_
    refine g_get X in_X7 0 10 rfl rfl (by decide) q927 rfl dX7_readLine_93 ?_
    refine g_if_ne X 112 dX7_readLine_96 rfl hf (fun hf => ?_) (fun hf => ?_)
    · refine g_sub [0] [(0, .ref (ad 0))] rfl ?_
      exact w_X7_readLine_b112 X u16 hf
    · refine g_aload_n X 0 dX7_readLine_99 rfl ?_
      refine g_get X in_X7 0 14 rfl rfl (by decide) q931 rfl dX7_readLine_100 ?_
      refine g_iconst X 3 dX7_readLine_103 rfl ?_
      refine g_icmp_eq X 112 dX7_readLine_104 rfl hf (fun hf => ?_) (fun hf => ?_)
      · refine g_sub [0] [(0, .ref (ad 0))] rfl ?_
        exact w_X7_readLine_b112 X u16 hf
      · refine g_aload_n X 0 dX7_readLine_107 rfl ?_
        refine g_iconst X 2 dX7_readLine_108 rfl ?_
        refine g_callVv X 1 (As := [.int 2]) (wfc := wM (gEo Γ) ad) (lw_V q1034 q1036 qs29 q67 q1037) (by decide +kernel) (fun u_ h_ sz_ => m_X7_fails (gl Γ) (gEo Γ) ad u16 2 u_ h_ sz_) (rq := 0) rfl rfl rfl rfl rfl ⟨by decide, by decide⟩ rfl (Nat.le_of_ble_eq_true rfl) ⟨Nat.zero_le _, Nat.zero_le _⟩ [0, 1, 2, 3, 4, 5, 6, 7, 8, 9, 10, 11, 12] [] [0, 1, 2, 3, 4, 5, 6, 7, 8, 9, 10, 11, 12] (fun u18 => wM (gEo Γ) ad u18) rfl rfl rfl rfl (by decide) rfl (fun _ => rfl) dX7_readLine_109 hf (fun u18 _ hf => ?_)
        refine g_sub [0] [(0, .ref (ad 0))] rfl ?_
        exact w_X7_readLine_b112 X u18 hf
  · exact g_vret X rfl dX7_readLine_86 hf
set_option maxHeartbeats 4000000 in
theorem w_X7_readLine_b41 {Γ : gG} {ad : Nat → Nat} {u : gM} (X : gCX Γ cX7_readLine 2 none RX7 rm_X7_readLine) : ∀ (σ : gM) (x1 : Int32), f_X7_readLine_b41 σ x1 = some u → gW Γ (gMQ Γ (gPv (gEo Γ) (wM (gEo Γ) ad) u (gAo Γ)) 0 0) (wM (gEo Γ) ad σ) 2 0 0 41 [(0, .ref (ad 0)), (1, .int x1)] [] := by
  intro σ x1 hf
  unfold f_X7_readLine_b41 at hf
  refine g_iload_n X 1 dX7_readLine_41 rfl ?_
  refine g_iconst X 4 dX7_readLine_42 rfl ?_
  refine g_icmp_lt X 63 dX7_readLine_43 rfl hf (fun hf => ?_) (fun hf => ?_)
  · exact w_X7_readLine_b63 X σ x1 hf
  · refine g_aload_n X 0 dX7_readLine_46 rfl ?_
    refine g_get X in_X7 0 5 rfl rfl (by decide) q922 rfl dX7_readLine_47 ?_
    refine g_iload_n X 1 dX7_readLine_50 rfl ?_
    refine g_ishr X dX7_readLine_51 ?_
    refine g_iconst X 1 dX7_readLine_52 rfl ?_
    refine g_iand X dX7_readLine_53 ?_
    refine g_iconst X 1 dX7_readLine_54 rfl ?_
    refine g_icmp_ne X 63 dX7_readLine_55 rfl hf (fun hf => ?_) (fun hf => ?_)
    · exact w_X7_readLine_b63 X σ x1 hf
    · refine g_aload_n X 0 dX7_readLine_58 rfl ?_
      refine g_iconst X 4 dX7_readLine_59 rfl ?_
      refine g_callVv X 1 (As := [.int 4]) (wfc := wM (gEo Γ) ad) (lw_V q1034 q1036 qs29 q67 q1037) (by decide +kernel) (fun u_ h_ sz_ => m_X7_fails (gl Γ) (gEo Γ) ad σ 4 u_ h_ sz_) (rq := 0) rfl rfl rfl rfl rfl ⟨by decide, by decide⟩ rfl (Nat.le_of_ble_eq_true rfl) ⟨Nat.zero_le _, Nat.zero_le _⟩ [0, 1, 2, 3, 4, 5, 6, 7, 8, 9, 10, 11, 12] [] [0, 1, 2, 3, 4, 5, 6, 7, 8, 9, 10, 11, 12] (fun u10 => wM (gEo Γ) ad u10) rfl rfl rfl rfl (by decide) rfl (fun _ => rfl) dX7_readLine_60 hf (fun u10 _ hf => ?_)
      exact w_X7_readLine_b63 X u10 x1 hf
set_option maxHeartbeats 4000000 in
theorem m_X7_readLine (l : Launch) (E : gE) (ad : Nat → Nat) (σ : gM) (u : gM) (hf : f_X7_readLine σ = some u) (sz : Nat) : Met l yX7_readLine (ws_ yX7_readLine cX7_readLine 2 none) rm_X7_readLine (gPc [.ref (ad 0)] E (wM E ad σ) sz) (gPv E (wM E ad) u (va_A (wM E ad σ) sz)) 0 0 (va_A (wM E ad σ) sz) := by
  refine gMet (Qc := gPv E (wM E ad) u) (by decide) (Nat.le_of_ble_eq_true rfl) (fun Γ X hl hE => ?_)
  subst hl; subst hE
  unfold f_X7_readLine at hf
  show gW Γ (gMQ Γ (gPv (gEo Γ) (wM (gEo Γ) ad) u (gAo Γ)) 0 0) (wM (gEo Γ) ad σ) 2 0 0 0 [(0, .ref (ad 0))] []
  refine g_aload_n X 0 dX7_readLine_0 rfl ?_
  refine g_callVi X 0 (As := []) (wfc := wM (gEo Γ) ad) (lw_V q1042 q1044 qs31 q67 q1045) (by decide +kernel) (fun r_ u_ h_ sz_ => m_X7_nameHere (gl Γ) (gEo Γ) ad σ r_ u_ h_ sz_) (rq := 0) rfl rfl rfl rfl rfl ⟨by decide, by decide⟩ rfl (Nat.le_of_ble_eq_true rfl) ⟨Nat.zero_le _, Nat.zero_le _⟩ [0, 1, 2, 3, 4, 5, 6, 7, 8, 9, 10, 11, 12] [] [0, 1, 2, 3, 4, 5, 6, 7, 8, 9, 10, 11, 12] (fun u2 => wM (gEo Γ) ad u2) rfl rfl rfl rfl (by decide) rfl (fun _ => rfl) dX7_readLine_1 hf (fun r1 u2 _ hf => ?_)
  refine g_istore_n X [(1, .int r1), (0, .ref (ad 0))] dX7_readLine_4 (by decide) rfl ?_
  refine g_iload_n X 0 dX7_readLine_5 rfl ?_
  refine g_i2l X dX7_readLine_6 ?_
  refine g_lconst X 0 dX7_readLine_7 rfl ?_
  refine g_ldc2 X dX7_readLine_8 q1046 ?_
  refine g_call0i X 3 (As := [.long (r1.toInt64), .long 0, .long 6]) (lw_S q1011 q1012 q67 q1013) (by decide +kernel) (fun r_ u_ h_ sz_ => m_X7_in (gl Γ) (gEo Γ) (r1.toInt64) 0 6 r_ u_ h_ sz_) rfl rfl ⟨by decide, by decide⟩ rfl (Nat.le_of_ble_eq_true rfl) ⟨Nat.zero_le _, Nat.zero_le _⟩ dX7_readLine_11 hf (fun r3 _ hf => ?_)
  refine g_if_ne X 23 dX7_readLine_14 rfl hf (fun hf => ?_) (fun hf => ?_)
  · refine g_iload_n X 0 dX7_readLine_23 rfl ?_
    refine g_iconst X 3 dX7_readLine_24 rfl ?_
    refine g_icmp_gt X 41 dX7_readLine_25 rfl hf (fun hf => ?_) (fun hf => ?_)
    · refine g_sub [1, 0] [(0, .ref (ad 0)), (1, .int r1)] rfl ?_
      exact w_X7_readLine_b41 X u2 r1 hf
    · refine g_aload_n X 1 dX7_readLine_28 rfl ?_
      refine g_get X in_X7 0 4 rfl rfl (by decide) q921 rfl dX7_readLine_29 ?_
      refine g_iconst X 5 dX7_readLine_32 rfl ?_
      refine g_icmp_ne X 41 dX7_readLine_33 rfl hf (fun hf => ?_) (fun hf => ?_)
      · refine g_sub [1, 0] [(0, .ref (ad 0)), (1, .int r1)] rfl ?_
        exact w_X7_readLine_b41 X u2 r1 hf
      · refine g_aload_n X 1 dX7_readLine_36 rfl ?_
        refine g_iconst X 5 dX7_readLine_37 rfl ?_
        refine g_callVv X 1 (As := [.int 5]) (wfc := wM (gEo Γ) ad) (lw_V q1034 q1036 qs29 q67 q1037) (by decide +kernel) (fun u_ h_ sz_ => m_X7_fails (gl Γ) (gEo Γ) ad u2 5 u_ h_ sz_) (rq := 0) rfl rfl rfl rfl rfl ⟨by decide, by decide⟩ rfl (Nat.le_of_ble_eq_true rfl) ⟨Nat.zero_le _, Nat.zero_le _⟩ [0, 1, 2, 3, 4, 5, 6, 7, 8, 9, 10, 11, 12] [] [0, 1, 2, 3, 4, 5, 6, 7, 8, 9, 10, 11, 12] (fun u6 => wM (gEo Γ) ad u6) rfl rfl rfl rfl (by decide) rfl (fun _ => rfl) dX7_readLine_38 hf (fun u6 _ hf => ?_)
        refine g_sub [1, 0] [(0, .ref (ad 0)), (1, .int r1)] rfl ?_
        exact w_X7_readLine_b41 X u6 r1 hf
  · refine g_aload_n X 1 dX7_readLine_17 rfl ?_
    refine g_iconst X 2 dX7_readLine_18 rfl ?_
    refine g_callVv X 1 (As := [.int 2]) (wfc := wM (gEo Γ) ad) (lw_V q1034 q1036 qs29 q67 q1037) (by decide +kernel) (fun u_ h_ sz_ => m_X7_fails (gl Γ) (gEo Γ) ad u2 2 u_ h_ sz_) (rq := 0) rfl rfl rfl rfl rfl ⟨by decide, by decide⟩ rfl (Nat.le_of_ble_eq_true rfl) ⟨Nat.zero_le _, Nat.zero_le _⟩ [0, 1, 2, 3, 4, 5, 6, 7, 8, 9, 10, 11, 12] [] [0, 1, 2, 3, 4, 5, 6, 7, 8, 9, 10, 11, 12] (fun u8 => wM (gEo Γ) ad u8) rfl rfl rfl rfl (by decide) rfl (fun _ => rfl) dX7_readLine_19 hf (fun u8 _ hf => ?_)
    exact g_vret X rfl dX7_readLine_22 hf
def f_X7_text_b130 : Nat → gM → Int32 → Int32 → Option (Int32 × gM)
  | 0 => fun _ _ _ => none
  | n_ + 1 => fun σ x1 x2 =>
    if 28 ≤ x2 then (gs (M_oneMany_s σ (M_readOnes σ)) fun s18 => gs (M_seenMany_s s18 0) fun s19 => gst 2 (M_isKept s19) 0 (vp_nar .boolean 0) fun g20 => gs (M_isKept_s s19 g20) fun s21 => gst 2 (M_isKept s21) 1 (vp_nar .boolean 0) fun g22 => gs (M_isKept_s s21 g22) fun s23 => some (x1, s23)) else (gld 28 (M_readPage σ) x2 fun v24 => gst 168 (M_state σ) x2 v24 fun g25 => gs (M_state_s σ g25) fun s26 => gv (x2 + 1) fun v27 => (f_X7_text_b130 n_) s26 x1 v27)
def f_X7_text_b100 (σ : gM) (x1 : Int32) : Option (Int32 × gM) :=
  gs (M_taped_s σ 0) fun s16 => gs (M_fault_s s16 (M_broken s16)) fun s17 => if (M_broken s17) ≤ 0 then (f_X7_text_b130 2000 s17 x1 0) else (some (((-10) : Int32) - (M_brokenAt s17), s17))
def f_X7_text_b76 (σ : gM) (x1 : Int32) : Option (Int32 × gM) :=
  if (M_broken σ) = 0 then (if (M_high σ) < (M_readOnes σ) then (f_X7_text_b100 σ x1) else ((f_X7_fails σ 6).bind fun u15 => f_X7_text_b100 u15 x1)) else (f_X7_text_b100 σ x1)
def f_X7_text_b52 : Nat → gM → Int32 → Option (Int32 × gM)
  | 0 => fun _ _ => none
  | n_ + 1 => fun σ x1 =>
    if (M_broken σ) = 0 then (if (M_token σ) = 0 then (f_X7_text_b76 σ x1) else ((f_X7_readLine σ).bind fun u12 => gv (x1 + 1) fun v13 => (f_X7_text_b52 n_) u12 v13)) else (f_X7_text_b76 σ x1)
def f_X7_text_b29 : Nat → gM → Int32 → Int32 → Option (Int32 × gM)
  | 0 => fun _ _ _ => none
  | n_ + 1 => fun σ x1 x2 =>
    if 28 ≤ x2 then ((f_X7_step σ).bind fun u7 => f_X7_text_b52 2000 u7 x1) else (gst 28 (M_readPage σ) x2 0 fun g8 => gs (M_readPage_s σ g8) fun s9 => gv (x2 + 1) fun v10 => (f_X7_text_b29 n_) s9 x1 v10)
def f_X7_text (σ : gM) : Option (Int32 × gM) :=
  gs (M_broken_s σ 0) fun s1 => gs (M_spot_s s1 0) fun s2 => gs (M_readOnes_s s2 0) fun s3 => gs (M_toldOnce_s s3 0) fun s4 => gs (M_high_s s4 (-1)) fun s5 => f_X7_text_b29 2000 s5 0 0
abbrev rm_X7_text : Room := { frames := 7, cells := 0, slots := 0, locals := 144 }
set_option maxHeartbeats 4000000 in
theorem w_X7_text_b130 {Γ : gG} {ad : Nat → Nat} {r : Int32} {u : gM} (X : gCX Γ cX7_text 3 (some .int) RX7 rm_X7_text) : ∀ (n_ : Nat) (σ : gM) (x1 : Int32) (x2 : Int32), f_X7_text_b130 n_ σ x1 x2 = some (r, u) → gW Γ (gMQ Γ (gPi (gEo Γ) (wM (gEo Γ) ad) r u (gAo Γ)) 0 0) (wM (gEo Γ) ad σ) 3 0 0 130 [(0, .ref (ad 0)), (1, .int x1), (2, .int x2)] [] := by
  intro n_
  induction n_ with
  | zero => intro σ x1 x2 hf; cases hf
  | succ n_ ih =>
    intro σ x1 x2 hf
    simp only [f_X7_text_b130] at hf
    refine g_iload_n X 2 dX7_text_130 rfl ?_
    refine g_bipush X 28 dX7_text_131 rfl ?_
    refine g_icmp_ge X 154 dX7_text_133 rfl hf (fun hf => ?_) (fun hf => ?_)
    · refine g_aload_n X 0 dX7_text_154 rfl ?_
      refine g_aload_n X 0 dX7_text_155 rfl ?_
      refine g_get X in_X7 0 4 rfl rfl (by decide) q921 rfl dX7_text_156 ?_
      refine g_put X in_X7 tyX7_ok nmX7 0 2 (wM (gEo Γ) ad (M_oneMany_s σ (M_readOnes σ))) rfl rfl (by decide) q919 rfl rfl rfl rfl (Nat.le_of_ble_eq_true rfl) rfl dX7_text_159 ?_
      refine g_gs (wM (gEo Γ) ad) hf (fun s18 hf => ?_)
      refine g_aload_n X 0 dX7_text_162 rfl ?_
      refine g_iconst X 0 dX7_text_163 rfl ?_
      refine g_put X in_X7 tyX7_ok nmX7 0 22 (wM (gEo Γ) ad (M_seenMany_s s18 0)) rfl rfl (by decide) q939 rfl rfl rfl rfl (Nat.le_of_ble_eq_true rfl) rfl dX7_text_164 ?_
      refine g_gs (wM (gEo Γ) ad) hf (fun s19 hf => ?_)
      refine g_aload_n X 0 dX7_text_167 rfl ?_
      refine g_get X in_X7 0 24 rfl rfl (by decide) q941 rfl dX7_text_168 ?_
      refine g_iconst X 0 dX7_text_171 rfl ?_
      refine g_iconst X 0 dX7_text_172 rfl ?_
      refine g_zast X 9 (fun g20 => wM (gEo Γ) ad (M_isKept_s s19 g20)) rfl (fun _ => rfl) dX7_text_173 hf (fun g20 hf => ?_)
      refine g_gs (wM (gEo Γ) ad) hf (fun s21 hf => ?_)
      refine g_aload_n X 0 dX7_text_174 rfl ?_
      refine g_get X in_X7 0 24 rfl rfl (by decide) q941 rfl dX7_text_175 ?_
      refine g_iconst X 1 dX7_text_178 rfl ?_
      refine g_iconst X 0 dX7_text_179 rfl ?_
      refine g_zast X 9 (fun g22 => wM (gEo Γ) ad (M_isKept_s s21 g22)) rfl (fun _ => rfl) dX7_text_180 hf (fun g22 hf => ?_)
      refine g_gs (wM (gEo Γ) ad) hf (fun s23 hf => ?_)
      refine g_iload_n X 1 dX7_text_181 rfl ?_
      exact g_iret X rfl dX7_text_182 hf
    · refine g_aload_n X 0 dX7_text_136 rfl ?_
      refine g_get X in_X7 0 0 rfl rfl (by decide) q917 rfl dX7_text_137 ?_
      refine g_iload_n X 2 dX7_text_140 rfl ?_
      refine g_aload_n X 0 dX7_text_141 rfl ?_
      refine g_get X in_X7 0 3 rfl rfl (by decide) q920 rfl dX7_text_142 ?_
      refine g_iload_n X 2 dX7_text_145 rfl ?_
      refine g_iald X 3 rfl dX7_text_146 hf (fun v24 hf => ?_)
      refine g_iast X 1 (fun g25 => wM (gEo Γ) ad (M_state_s σ g25)) rfl (fun _ => rfl) dX7_text_147 hf (fun g25 hf => ?_)
      refine g_gs (wM (gEo Γ) ad) hf (fun s26 hf => ?_)
      refine g_iincV X 1 2 (fun v27 => [(2, .int v27), (0, .ref (ad 0)), (1, .int x1)]) dX7_text_148 rfl rfl (by decide) (fun _ => rfl) hf (fun v27 hf => ?_)
      refine g_goto X 130 dX7_text_151 rfl ?_
      refine g_sub [1, 2, 0] [(0, .ref (ad 0)), (1, .int x1), (2, .int v27)] rfl ?_
      exact ih s26 x1 v27 hf
set_option maxHeartbeats 4000000 in
theorem w_X7_text_b100 {Γ : gG} {ad : Nat → Nat} {r : Int32} {u : gM} (X : gCX Γ cX7_text 3 (some .int) RX7 rm_X7_text) : ∀ (σ : gM) (x1 : Int32), f_X7_text_b100 σ x1 = some (r, u) → gW Γ (gMQ Γ (gPi (gEo Γ) (wM (gEo Γ) ad) r u (gAo Γ)) 0 0) (wM (gEo Γ) ad σ) 3 0 0 100 [(0, .ref (ad 0)), (1, .int x1)] [] := by
  intro σ x1 hf
  unfold f_X7_text_b100 at hf
  refine g_aload_n X 0 dX7_text_100 rfl ?_
  refine g_iconst X 0 dX7_text_101 rfl ?_
  refine g_put X in_X7 tyX7_ok nmX7 0 8 (wM (gEo Γ) ad (M_taped_s σ 0)) rfl rfl (by decide) q925 rfl rfl rfl rfl (Nat.le_of_ble_eq_true rfl) rfl dX7_text_102 ?_
  refine g_gs (wM (gEo Γ) ad) hf (fun s16 hf => ?_)
  refine g_aload_n X 0 dX7_text_105 rfl ?_
  refine g_aload_n X 0 dX7_text_106 rfl ?_
  refine g_get X in_X7 0 10 rfl rfl (by decide) q927 rfl dX7_text_107 ?_
  refine g_put X in_X7 tyX7_ok nmX7 0 9 (wM (gEo Γ) ad (M_fault_s s16 (M_broken s16))) rfl rfl (by decide) q926 rfl rfl rfl rfl (Nat.le_of_ble_eq_true rfl) rfl dX7_text_110 ?_
  refine g_gs (wM (gEo Γ) ad) hf (fun s17 hf => ?_)
  refine g_aload_n X 0 dX7_text_113 rfl ?_
  refine g_get X in_X7 0 10 rfl rfl (by decide) q927 rfl dX7_text_114 ?_
  refine g_if_le X 128 dX7_text_117 rfl hf (fun hf => ?_) (fun hf => ?_)
  · refine g_iconst X 0 dX7_text_128 rfl ?_
    refine g_istore_n X [(2, .int 0), (0, .ref (ad 0)), (1, .int x1)] dX7_text_129 (by decide) rfl ?_
    refine g_sub [1, 2, 0] [(0, .ref (ad 0)), (1, .int x1), (2, .int 0)] rfl ?_
    exact w_X7_text_b130 X 2000 s17 x1 0 hf
  · refine g_bipush X (-10) dX7_text_120 rfl ?_
    refine g_aload_n X 0 dX7_text_122 rfl ?_
    refine g_get X in_X7 0 11 rfl rfl (by decide) q928 rfl dX7_text_123 ?_
    refine g_isub X dX7_text_126 ?_
    exact g_iret X rfl dX7_text_127 hf
set_option maxHeartbeats 4000000 in
theorem w_X7_text_b76 {Γ : gG} {ad : Nat → Nat} {r : Int32} {u : gM} (X : gCX Γ cX7_text 3 (some .int) RX7 rm_X7_text) : ∀ (σ : gM) (x1 : Int32), f_X7_text_b76 σ x1 = some (r, u) → gW Γ (gMQ Γ (gPi (gEo Γ) (wM (gEo Γ) ad) r u (gAo Γ)) 0 0) (wM (gEo Γ) ad σ) 3 0 0 76 [(0, .ref (ad 0)), (1, .int x1)] [] := by
  intro σ x1 hf
  unfold f_X7_text_b76 at hf
  refine g_aload_n X 0 dX7_text_76 rfl ?_
  refine g_get X in_X7 0 10 rfl rfl (by decide) q927 rfl dX7_text_77 ?_
  refine g_if_ne X 100 dX7_text_80 rfl hf (fun hf => ?_) (fun hf => ?_)
  · exact w_X7_text_b100 X σ x1 hf
  · refine g_aload_n X 0 dX7_text_83 rfl ?_
    refine g_get X in_X7 0 6 rfl rfl (by decide) q923 rfl dX7_text_84 ?_
    refine g_aload_n X 0 dX7_text_87 rfl ?_
    refine g_get X in_X7 0 4 rfl rfl (by decide) q921 rfl dX7_text_88 ?_
    refine g_icmp_lt X 100 dX7_text_91 rfl hf (fun hf => ?_) (fun hf => ?_)
    · exact w_X7_text_b100 X σ x1 hf
    · refine g_aload_n X 0 dX7_text_94 rfl ?_
      refine g_bipush X 6 dX7_text_95 rfl ?_
      refine g_callVv X 1 (As := [.int 6]) (wfc := wM (gEo Γ) ad) (lw_V q1034 q1036 qs29 q67 q1037) (by decide +kernel) (fun u_ h_ sz_ => m_X7_fails (gl Γ) (gEo Γ) ad σ 6 u_ h_ sz_) (rq := 0) rfl rfl rfl rfl rfl ⟨by decide, by decide⟩ rfl (Nat.le_of_ble_eq_true rfl) ⟨Nat.zero_le _, Nat.zero_le _⟩ [0, 1, 2, 3, 4, 5, 6, 7, 8, 9, 10, 11, 12] [] [0, 1, 2, 3, 4, 5, 6, 7, 8, 9, 10, 11, 12] (fun u15 => wM (gEo Γ) ad u15) rfl rfl rfl rfl (by decide) rfl (fun _ => rfl) dX7_text_97 hf (fun u15 _ hf => ?_)
      exact w_X7_text_b100 X u15 x1 hf
set_option maxHeartbeats 4000000 in
theorem w_X7_text_b52 {Γ : gG} {ad : Nat → Nat} {r : Int32} {u : gM} (X : gCX Γ cX7_text 3 (some .int) RX7 rm_X7_text) : ∀ (n_ : Nat) (σ : gM) (x1 : Int32), f_X7_text_b52 n_ σ x1 = some (r, u) → gW Γ (gMQ Γ (gPi (gEo Γ) (wM (gEo Γ) ad) r u (gAo Γ)) 0 0) (wM (gEo Γ) ad σ) 3 0 0 52 [(0, .ref (ad 0)), (1, .int x1)] [] := by
  intro n_
  induction n_ with
  | zero => intro σ x1 hf; cases hf
  | succ n_ ih =>
    intro σ x1 hf
    simp only [f_X7_text_b52] at hf
    refine g_aload_n X 0 dX7_text_52 rfl ?_
    refine g_get X in_X7 0 10 rfl rfl (by decide) q927 rfl dX7_text_53 ?_
    refine g_if_ne X 76 dX7_text_56 rfl hf (fun hf => ?_) (fun hf => ?_)
    · exact w_X7_text_b76 X σ x1 hf
    · refine g_aload_n X 0 dX7_text_59 rfl ?_
      refine g_get X in_X7 0 14 rfl rfl (by decide) q931 rfl dX7_text_60 ?_
      refine g_if_eq X 76 dX7_text_63 rfl hf (fun hf => ?_) (fun hf => ?_)
      · exact w_X7_text_b76 X σ x1 hf
      · refine g_aload_n X 0 dX7_text_66 rfl ?_
        refine g_callVv X 0 (As := []) (wfc := wM (gEo Γ) ad) (lw_V q1038 q1040 qs30 q67 q1041) (by decide +kernel) (fun u_ h_ sz_ => m_X7_readLine (gl Γ) (gEo Γ) ad σ u_ h_ sz_) (rq := 0) rfl rfl rfl rfl rfl ⟨by decide, by decide⟩ rfl (Nat.le_of_ble_eq_true rfl) ⟨Nat.zero_le _, Nat.zero_le _⟩ [0, 1, 2, 3, 4, 5, 6, 7, 8, 9, 10, 11, 12] [] [0, 1, 2, 3, 4, 5, 6, 7, 8, 9, 10, 11, 12] (fun u12 => wM (gEo Γ) ad u12) rfl rfl rfl rfl (by decide) rfl (fun _ => rfl) dX7_text_67 hf (fun u12 _ hf => ?_)
        refine g_iincV X 1 1 (fun v13 => [(1, .int v13), (0, .ref (ad 0))]) dX7_text_70 rfl rfl (by decide) (fun _ => rfl) hf (fun v13 hf => ?_)
        refine g_goto X 52 dX7_text_73 rfl ?_
        refine g_sub [1, 0] [(0, .ref (ad 0)), (1, .int v13)] rfl ?_
        exact ih u12 v13 hf
set_option maxHeartbeats 4000000 in
theorem w_X7_text_b29 {Γ : gG} {ad : Nat → Nat} {r : Int32} {u : gM} (X : gCX Γ cX7_text 3 (some .int) RX7 rm_X7_text) : ∀ (n_ : Nat) (σ : gM) (x1 : Int32) (x2 : Int32), f_X7_text_b29 n_ σ x1 x2 = some (r, u) → gW Γ (gMQ Γ (gPi (gEo Γ) (wM (gEo Γ) ad) r u (gAo Γ)) 0 0) (wM (gEo Γ) ad σ) 3 0 0 29 [(0, .ref (ad 0)), (1, .int x1), (2, .int x2)] [] := by
  intro n_
  induction n_ with
  | zero => intro σ x1 x2 hf; cases hf
  | succ n_ ih =>
    intro σ x1 x2 hf
    simp only [f_X7_text_b29] at hf
    refine g_iload_n X 2 dX7_text_29 rfl ?_
    refine g_bipush X 28 dX7_text_30 rfl ?_
    refine g_icmp_ge X 48 dX7_text_32 rfl hf (fun hf => ?_) (fun hf => ?_)
    · refine g_aload_n X 0 dX7_text_48 rfl ?_
      refine g_callVv X 0 (As := []) (wfc := wM (gEo Γ) ad) (lw_V q1022 q1024 qs27 q67 q1025) (by decide +kernel) (fun u_ h_ sz_ => m_X7_step (gl Γ) (gEo Γ) ad σ u_ h_ sz_) (rq := 0) rfl rfl rfl rfl rfl ⟨by decide, by decide⟩ rfl (Nat.le_of_ble_eq_true rfl) ⟨Nat.zero_le _, Nat.zero_le _⟩ [0, 1, 2, 3, 4, 5, 6, 7, 8, 9, 10, 11, 12] [] [0, 1, 2, 3, 4, 5, 6, 7, 8, 9, 10, 11, 12] (fun u7 => wM (gEo Γ) ad u7) rfl rfl rfl rfl (by decide) rfl (fun _ => rfl) dX7_text_49 hf (fun u7 _ hf => ?_)
      refine g_sub [0, 1] [(0, .ref (ad 0)), (1, .int x1)] rfl ?_
      exact w_X7_text_b52 X 2000 u7 x1 hf
    · refine g_aload_n X 0 dX7_text_35 rfl ?_
      refine g_get X in_X7 0 3 rfl rfl (by decide) q920 rfl dX7_text_36 ?_
      refine g_iload_n X 2 dX7_text_39 rfl ?_
      refine g_iconst X 0 dX7_text_40 rfl ?_
      refine g_iast X 3 (fun g8 => wM (gEo Γ) ad (M_readPage_s σ g8)) rfl (fun _ => rfl) dX7_text_41 hf (fun g8 hf => ?_)
      refine g_gs (wM (gEo Γ) ad) hf (fun s9 hf => ?_)
      refine g_iincV X 1 2 (fun v10 => [(2, .int v10), (0, .ref (ad 0)), (1, .int x1)]) dX7_text_42 rfl rfl (by decide) (fun _ => rfl) hf (fun v10 hf => ?_)
      refine g_goto X 29 dX7_text_45 rfl ?_
      refine g_sub [1, 2, 0] [(0, .ref (ad 0)), (1, .int x1), (2, .int v10)] rfl ?_
      exact ih s9 x1 v10 hf
set_option maxHeartbeats 4000000 in
theorem m_X7_text (l : Launch) (E : gE) (ad : Nat → Nat) (σ : gM) (r : Int32) (u : gM) (hf : f_X7_text σ = some (r, u)) (sz : Nat) : Met l yX7_text (ws_ yX7_text cX7_text 3 (some .int)) rm_X7_text (gPc [.ref (ad 0)] E (wM E ad σ) sz) (gPi E (wM E ad) r u (va_A (wM E ad σ) sz)) 0 0 (va_A (wM E ad σ) sz) := by
  refine gMet (Qc := gPi E (wM E ad) r u) (by decide) (Nat.le_of_ble_eq_true rfl) (fun Γ X hl hE => ?_)
  subst hl; subst hE
  unfold f_X7_text at hf
  show gW Γ (gMQ Γ (gPi (gEo Γ) (wM (gEo Γ) ad) r u (gAo Γ)) 0 0) (wM (gEo Γ) ad σ) 3 0 0 0 [(0, .ref (ad 0))] []
  refine g_aload_n X 0 dX7_text_0 rfl ?_
  refine g_iconst X 0 dX7_text_1 rfl ?_
  refine g_put X in_X7 tyX7_ok nmX7 0 10 (wM (gEo Γ) ad (M_broken_s σ 0)) rfl rfl (by decide) q927 rfl rfl rfl rfl (Nat.le_of_ble_eq_true rfl) rfl dX7_text_2 ?_
  refine g_gs (wM (gEo Γ) ad) hf (fun s1 hf => ?_)
  refine g_aload_n X 0 dX7_text_5 rfl ?_
  refine g_iconst X 0 dX7_text_6 rfl ?_
  refine g_put X in_X7 tyX7_ok nmX7 0 12 (wM (gEo Γ) ad (M_spot_s s1 0)) rfl rfl (by decide) q929 rfl rfl rfl rfl (Nat.le_of_ble_eq_true rfl) rfl dX7_text_7 ?_
  refine g_gs (wM (gEo Γ) ad) hf (fun s2 hf => ?_)
  refine g_aload_n X 0 dX7_text_10 rfl ?_
  refine g_iconst X 0 dX7_text_11 rfl ?_
  refine g_put X in_X7 tyX7_ok nmX7 0 4 (wM (gEo Γ) ad (M_readOnes_s s2 0)) rfl rfl (by decide) q921 rfl rfl rfl rfl (Nat.le_of_ble_eq_true rfl) rfl dX7_text_12 ?_
  refine g_gs (wM (gEo Γ) ad) hf (fun s3 hf => ?_)
  refine g_aload_n X 0 dX7_text_15 rfl ?_
  refine g_iconst X 0 dX7_text_16 rfl ?_
  refine g_put X in_X7 tyX7_ok nmX7 0 5 (wM (gEo Γ) ad (M_toldOnce_s s3 0)) rfl rfl (by decide) q922 rfl rfl rfl rfl (Nat.le_of_ble_eq_true rfl) rfl dX7_text_17 ?_
  refine g_gs (wM (gEo Γ) ad) hf (fun s4 hf => ?_)
  refine g_aload_n X 0 dX7_text_20 rfl ?_
  refine g_iconst X (-1) dX7_text_21 rfl ?_
  refine g_put X in_X7 tyX7_ok nmX7 0 6 (wM (gEo Γ) ad (M_high_s s4 (-1))) rfl rfl (by decide) q923 rfl rfl rfl rfl (Nat.le_of_ble_eq_true rfl) rfl dX7_text_22 ?_
  refine g_gs (wM (gEo Γ) ad) hf (fun s5 hf => ?_)
  refine g_iconst X 0 dX7_text_25 rfl ?_
  refine g_istore_n X [(1, .int 0), (0, .ref (ad 0))] dX7_text_26 (by decide) rfl ?_
  refine g_iconst X 0 dX7_text_27 rfl ?_
  refine g_istore_n X [(2, .int 0), (1, .int 0), (0, .ref (ad 0))] dX7_text_28 (by decide) rfl ?_
  refine g_sub [2, 1, 0] [(0, .ref (ad 0)), (1, .int 0), (2, .int 0)] rfl ?_
  exact w_X7_text_b29 X 2000 s5 0 0 hf
def f_X7_fault (σ : gM) : Option (Int32 × gM) :=
  some ((M_fault σ), σ)
abbrev rm_X7_fault : Room := { frames := 1, cells := 0, slots := 0, locals := 12 }
set_option maxHeartbeats 4000000 in
theorem m_X7_fault (l : Launch) (E : gE) (ad : Nat → Nat) (σ : gM) (r : Int32) (u : gM) (hf : f_X7_fault σ = some (r, u)) (sz : Nat) : Met l yX7_fault (ws_ yX7_fault cX7_fault 1 (some .int)) rm_X7_fault (gPc [.ref (ad 0)] E (wM E ad σ) sz) (gPi E (wM E ad) r u (va_A (wM E ad σ) sz)) 0 0 (va_A (wM E ad σ) sz) := by
  refine gMet (Qc := gPi E (wM E ad) r u) (by decide) (Nat.le_of_ble_eq_true rfl) (fun Γ X hl hE => ?_)
  subst hl; subst hE
  unfold f_X7_fault at hf
  show gW Γ (gMQ Γ (gPi (gEo Γ) (wM (gEo Γ) ad) r u (gAo Γ)) 0 0) (wM (gEo Γ) ad σ) 1 0 0 0 [(0, .ref (ad 0))] []
  refine g_aload_n X 0 dX7_fault_0 rfl ?_
  refine g_get X in_X7 0 9 rfl rfl (by decide) q926 rfl dX7_fault_1 ?_
  exact g_iret X rfl dX7_fault_4 hf
def f_X7_waits (σ : gM) (x1 : Int32) (x2 : Int32) : Option (Int32 × gM) :=
  gld 168 (M_state σ) (x1 + 15) fun v1 => if ((v1 >>> (x2 &&& 31)) &&& 1) = 0 then (gzr 1 σ) else (gzr 0 σ)
abbrev rm_X7_waits : Room := { frames := 1, cells := 0, slots := 0, locals := 12 }
set_option maxHeartbeats 4000000 in
theorem m_X7_waits (l : Launch) (E : gE) (ad : Nat → Nat) (σ : gM) (x1 : Int32) (x2 : Int32) (r : Int32) (u : gM) (hf : f_X7_waits σ x1 x2 = some (r, u)) (sz : Nat) : Met l yX7_waits (ws_ yX7_waits cX7_waits 3 (some .boolean)) rm_X7_waits (gPc [.ref (ad 0), .int x1, .int x2] E (wM E ad σ) sz) (gPi E (wM E ad) r u (va_A (wM E ad σ) sz)) 0 0 (va_A (wM E ad σ) sz) := by
  refine gMet (Qc := gPi E (wM E ad) r u) (by decide) (Nat.le_of_ble_eq_true rfl) (fun Γ X hl hE => ?_)
  subst hl; subst hE
  unfold f_X7_waits at hf
  show gW Γ (gMQ Γ (gPi (gEo Γ) (wM (gEo Γ) ad) r u (gAo Γ)) 0 0) (wM (gEo Γ) ad σ) 3 0 0 0 [(0, .ref (ad 0)), (1, .int x1), (2, .int x2)] []
  refine g_aload_n X 0 dX7_waits_0 rfl ?_
  refine g_get X in_X7 0 0 rfl rfl (by decide) q917 rfl dX7_waits_1 ?_
  refine g_iload_n X 1 dX7_waits_4 rfl ?_
  refine g_bipush X 15 dX7_waits_5 rfl ?_
  refine g_iadd X dX7_waits_7 ?_
  refine g_iald X 1 rfl dX7_waits_8 hf (fun v1 hf => ?_)
  refine g_iload_n X 2 dX7_waits_9 rfl ?_
  refine g_ishr X dX7_waits_10 ?_
  refine g_iconst X 1 dX7_waits_11 rfl ?_
  refine g_iand X dX7_waits_12 ?_
  refine g_if_ne X 20 dX7_waits_13 rfl hf (fun hf => ?_) (fun hf => ?_)
  · refine g_iconst X 0 dX7_waits_20 rfl ?_
    exact g_zret X rfl dX7_waits_21 hf
  · refine g_iconst X 1 dX7_waits_16 rfl ?_
    refine g_goto X 21 dX7_waits_17 rfl ?_
    exact g_zret X rfl dX7_waits_21 hf
def f_X7_sorrowOn_b36 (k4 : gM → Int32 → Int32 → Int32 → Option (Int32 × gM)) (σ : gM) (x1 : Int32) (x3 : Int32) (t0 : Int32) (t1 : Int32) : Option (Int32 × gM) :=
  gv (t1 + t0) fun v4 => gv (x3 + 1) fun v5 => k4 σ x1 v4 v5
def f_X7_sorrowOn_b4 : Nat → gM → Int32 → Int32 → Int32 → Option (Int32 × gM)
  | 0 => fun _ _ _ _ => none
  | n_ + 1 => fun σ x1 x2 x3 =>
    if (M_oneMany σ) ≤ x3 then (some (x2, σ)) else ((f_X7_waits σ x1 x3).bind fun (r1, u2) => if r1 = 0 then (f_X7_sorrowOn_b36 (f_X7_sorrowOn_b4 n_) u2 x1 x3 0 x2) else (gld 168 (M_state u2) ((x1 + 5) + x3) fun v3 => f_X7_sorrowOn_b36 (f_X7_sorrowOn_b4 n_) u2 x1 x3 v3 x2))
def f_X7_sorrowOn (σ : gM) (x1 : Int32) : Option (Int32 × gM) :=
  f_X7_sorrowOn_b4 2000 σ x1 0 0
abbrev rm_X7_sorrowOn : Room := { frames := 2, cells := 0, slots := 0, locals := 34 }
set_option maxHeartbeats 4000000 in
theorem w_X7_sorrowOn_b36 {Γ : gG} {ad : Nat → Nat} {r : Int32} {u : gM} (X : gCX Γ cX7_sorrowOn 4 (some .int) RX7 rm_X7_sorrowOn) {k4 : gM → Int32 → Int32 → Int32 → Option (Int32 × gM)} (H4 : ∀ (σ : gM) (x1 : Int32) (x2 : Int32) (x3 : Int32), k4 σ x1 x2 x3 = some (r, u) → gW Γ (gMQ Γ (gPi (gEo Γ) (wM (gEo Γ) ad) r u (gAo Γ)) 0 0) (wM (gEo Γ) ad σ) 4 0 0 4 [(0, .ref (ad 0)), (1, .int x1), (2, .int x2), (3, .int x3)] []) : ∀ (σ : gM) (x1 : Int32) (x3 : Int32) (t0 : Int32) (t1 : Int32), f_X7_sorrowOn_b36 k4 σ x1 x3 t0 t1 = some (r, u) → gW Γ (gMQ Γ (gPi (gEo Γ) (wM (gEo Γ) ad) r u (gAo Γ)) 0 0) (wM (gEo Γ) ad σ) 4 0 0 36 [(0, .ref (ad 0)), (1, .int x1), (3, .int x3)] [.int t0, .int t1] := by
  intro σ x1 x3 t0 t1 hf
  unfold f_X7_sorrowOn_b36 at hf
  refine g_iadd X dX7_sorrowOn_36 ?_
  refine g_topi hf (fun v4 hf => ?_)
  refine g_istore_n X [(2, .int v4), (0, .ref (ad 0)), (1, .int x1), (3, .int x3)] dX7_sorrowOn_37 (by decide) rfl ?_
  refine g_iincV X 1 3 (fun v5 => [(3, .int v5), (2, .int v4), (0, .ref (ad 0)), (1, .int x1)]) dX7_sorrowOn_38 rfl rfl (by decide) (fun _ => rfl) hf (fun v5 hf => ?_)
  refine g_goto X 4 dX7_sorrowOn_41 rfl ?_
  refine g_sub [2, 3, 1, 0] [(0, .ref (ad 0)), (1, .int x1), (2, .int v4), (3, .int v5)] rfl ?_
  exact H4 σ x1 v4 v5 hf
set_option maxHeartbeats 4000000 in
theorem w_X7_sorrowOn_b4 {Γ : gG} {ad : Nat → Nat} {r : Int32} {u : gM} (X : gCX Γ cX7_sorrowOn 4 (some .int) RX7 rm_X7_sorrowOn) : ∀ (n_ : Nat) (σ : gM) (x1 : Int32) (x2 : Int32) (x3 : Int32), f_X7_sorrowOn_b4 n_ σ x1 x2 x3 = some (r, u) → gW Γ (gMQ Γ (gPi (gEo Γ) (wM (gEo Γ) ad) r u (gAo Γ)) 0 0) (wM (gEo Γ) ad σ) 4 0 0 4 [(0, .ref (ad 0)), (1, .int x1), (2, .int x2), (3, .int x3)] [] := by
  intro n_
  induction n_ with
  | zero => intro σ x1 x2 x3 hf; cases hf
  | succ n_ ih =>
    intro σ x1 x2 x3 hf
    simp only [f_X7_sorrowOn_b4] at hf
    refine g_iload_n X 3 dX7_sorrowOn_4 rfl ?_
    refine g_aload_n X 0 dX7_sorrowOn_5 rfl ?_
    refine g_get X in_X7 0 2 rfl rfl (by decide) q919 rfl dX7_sorrowOn_6 ?_
    refine g_icmp_ge X 44 dX7_sorrowOn_9 rfl hf (fun hf => ?_) (fun hf => ?_)
    · refine g_iload_n X 2 dX7_sorrowOn_44 rfl ?_
      exact g_iret X rfl dX7_sorrowOn_45 hf
    · refine g_iload_n X 2 dX7_sorrowOn_12 rfl ?_
      refine g_aload_n X 0 dX7_sorrowOn_13 rfl ?_
      refine g_iload_n X 1 dX7_sorrowOn_14 rfl ?_
      refine g_iload_n X 3 dX7_sorrowOn_15 rfl ?_
      refine g_callVi X 2 (As := [.int x1, .int x3]) (wfc := wM (gEo Γ) ad) (lw_V q1075 q1077 qs37 q67 q1078) (by decide +kernel) (fun r_ u_ h_ sz_ => m_X7_waits (gl Γ) (gEo Γ) ad σ x1 x3 r_ u_ h_ sz_) (rq := 0) rfl rfl rfl rfl rfl ⟨by decide, by decide⟩ rfl (Nat.le_of_ble_eq_true rfl) ⟨Nat.zero_le _, Nat.zero_le _⟩ [0, 1, 2, 3, 4, 5, 6, 7, 8, 9, 10, 11, 12] [] [0, 1, 2, 3, 4, 5, 6, 7, 8, 9, 10, 11, 12] (fun u2 => wM (gEo Γ) ad u2) rfl rfl rfl rfl (by decide) rfl (fun _ => rfl) dX7_sorrowOn_16 hf (fun r1 u2 _ hf => ?_)
      refine g_if_eq X 35 dX7_sorrowOn_19 rfl hf (fun hf => ?_) (fun hf => ?_)
      · refine g_iconst X 0 dX7_sorrowOn_35 rfl ?_
        refine g_sub [0, 1, 3] [(0, .ref (ad 0)), (1, .int x1), (3, .int x3)] rfl ?_
        exact w_X7_sorrowOn_b36 X ih u2 x1 x3 0 x2 hf
      · refine g_aload_n X 0 dX7_sorrowOn_22 rfl ?_
        refine g_get X in_X7 0 0 rfl rfl (by decide) q917 rfl dX7_sorrowOn_23 ?_
        refine g_iload_n X 1 dX7_sorrowOn_26 rfl ?_
        refine g_iconst X 5 dX7_sorrowOn_27 rfl ?_
        refine g_iadd X dX7_sorrowOn_28 ?_
        refine g_iload_n X 3 dX7_sorrowOn_29 rfl ?_
        refine g_iadd X dX7_sorrowOn_30 ?_
        refine g_iald X 1 rfl dX7_sorrowOn_31 hf (fun v3 hf => ?_)
        refine g_goto X 36 dX7_sorrowOn_32 rfl ?_
        refine g_sub [0, 1, 3] [(0, .ref (ad 0)), (1, .int x1), (3, .int x3)] rfl ?_
        exact w_X7_sorrowOn_b36 X ih u2 x1 x3 v3 x2 hf
set_option maxHeartbeats 4000000 in
theorem m_X7_sorrowOn (l : Launch) (E : gE) (ad : Nat → Nat) (σ : gM) (x1 : Int32) (r : Int32) (u : gM) (hf : f_X7_sorrowOn σ x1 = some (r, u)) (sz : Nat) : Met l yX7_sorrowOn (ws_ yX7_sorrowOn cX7_sorrowOn 4 (some .int)) rm_X7_sorrowOn (gPc [.ref (ad 0), .int x1] E (wM E ad σ) sz) (gPi E (wM E ad) r u (va_A (wM E ad σ) sz)) 0 0 (va_A (wM E ad σ) sz) := by
  refine gMet (Qc := gPi E (wM E ad) r u) (by decide) (Nat.le_of_ble_eq_true rfl) (fun Γ X hl hE => ?_)
  subst hl; subst hE
  unfold f_X7_sorrowOn at hf
  show gW Γ (gMQ Γ (gPi (gEo Γ) (wM (gEo Γ) ad) r u (gAo Γ)) 0 0) (wM (gEo Γ) ad σ) 4 0 0 0 [(0, .ref (ad 0)), (1, .int x1)] []
  refine g_iconst X 0 dX7_sorrowOn_0 rfl ?_
  refine g_istore_n X [(2, .int 0), (0, .ref (ad 0)), (1, .int x1)] dX7_sorrowOn_1 (by decide) rfl ?_
  refine g_iconst X 0 dX7_sorrowOn_2 rfl ?_
  refine g_istore_n X [(3, .int 0), (2, .int 0), (0, .ref (ad 0)), (1, .int x1)] dX7_sorrowOn_3 (by decide) rfl ?_
  refine g_sub [2, 3, 1, 0] [(0, .ref (ad 0)), (1, .int x1), (2, .int 0), (3, .int 0)] rfl ?_
  exact w_X7_sorrowOn_b4 X 2000 σ x1 0 0 hf
def f_X7_waitingOn (σ : gM) (x1 : Int32) : Option (Int32 × gM) :=
  gld 168 (M_state σ) (x1 + 15) fun v1 => some ((((1 : Int32) <<< ((M_oneMany σ) &&& 31)) - 1) &&& (v1 ^^^ (-1)), σ)
abbrev rm_X7_waitingOn : Room := { frames := 1, cells := 0, slots := 0, locals := 12 }
set_option maxHeartbeats 4000000 in
theorem m_X7_waitingOn (l : Launch) (E : gE) (ad : Nat → Nat) (σ : gM) (x1 : Int32) (r : Int32) (u : gM) (hf : f_X7_waitingOn σ x1 = some (r, u)) (sz : Nat) : Met l yX7_waitingOn (ws_ yX7_waitingOn cX7_waitingOn 2 (some .int)) rm_X7_waitingOn (gPc [.ref (ad 0), .int x1] E (wM E ad σ) sz) (gPi E (wM E ad) r u (va_A (wM E ad σ) sz)) 0 0 (va_A (wM E ad σ) sz) := by
  refine gMet (Qc := gPi E (wM E ad) r u) (by decide) (Nat.le_of_ble_eq_true rfl) (fun Γ X hl hE => ?_)
  subst hl; subst hE
  unfold f_X7_waitingOn at hf
  show gW Γ (gMQ Γ (gPi (gEo Γ) (wM (gEo Γ) ad) r u (gAo Γ)) 0 0) (wM (gEo Γ) ad σ) 2 0 0 0 [(0, .ref (ad 0)), (1, .int x1)] []
  refine g_iconst X 1 dX7_waitingOn_0 rfl ?_
  refine g_aload_n X 0 dX7_waitingOn_1 rfl ?_
  refine g_get X in_X7 0 2 rfl rfl (by decide) q919 rfl dX7_waitingOn_2 ?_
  refine g_ishl X dX7_waitingOn_5 ?_
  refine g_iconst X 1 dX7_waitingOn_6 rfl ?_
  refine g_isub X dX7_waitingOn_7 ?_
  refine g_aload_n X 0 dX7_waitingOn_8 rfl ?_
  refine g_get X in_X7 0 0 rfl rfl (by decide) q917 rfl dX7_waitingOn_9 ?_
  refine g_iload_n X 1 dX7_waitingOn_12 rfl ?_
  refine g_bipush X 15 dX7_waitingOn_13 rfl ?_
  refine g_iadd X dX7_waitingOn_15 ?_
  refine g_iald X 1 rfl dX7_waitingOn_16 hf (fun v1 hf => ?_)
  refine g_iconst X (-1) dX7_waitingOn_17 rfl ?_
  refine g_ixor X dX7_waitingOn_18 ?_
  refine g_iand X dX7_waitingOn_19 ?_
  exact g_iret X rfl dX7_waitingOn_20 hf
def f_X7_rule (σ : gM) (x1 : Int32) : Option (Int32 × gM) :=
  gsw 7 x1 (fun k => match k with | 0 => (some ((M_oneMany σ), σ)) | 1 => (gld 168 (M_state σ) 16 fun v1 => some (v1, σ)) | 2 => (gld 168 (M_state σ) 17 fun v2 => some (v2 + 2, σ)) | 3 => (gld 168 (M_state σ) 18 fun v3 => some (v3 + 4, σ)) | 4 => (gld 168 (M_state σ) 27 fun v4 => some (v4, σ)) | 5 => ((f_X7_waitingOn σ 0).bind fun (r5, u6) => some (r5, u6)) | 6 => ((f_X7_sorrowOn σ 0).bind fun (r7, u8) => some (r7, u8)) | _ => none) (some ((-1), σ))
abbrev rm_X7_rule : Room := { frames := 3, cells := 0, slots := 0, locals := 57 }
set_option maxHeartbeats 4000000 in
theorem m_X7_rule (l : Launch) (E : gE) (ad : Nat → Nat) (σ : gM) (x1 : Int32) (r : Int32) (u : gM) (hf : f_X7_rule σ x1 = some (r, u)) (sz : Nat) : Met l yX7_rule (ws_ yX7_rule cX7_rule 2 (some .int)) rm_X7_rule (gPc [.ref (ad 0), .int x1] E (wM E ad σ) sz) (gPi E (wM E ad) r u (va_A (wM E ad σ) sz)) 0 0 (va_A (wM E ad σ) sz) := by
  refine gMet (Qc := gPi E (wM E ad) r u) (by decide) (Nat.le_of_ble_eq_true rfl) (fun Γ X hl hE => ?_)
  subst hl; subst hE
  unfold f_X7_rule at hf
  show gW Γ (gMQ Γ (gPi (gEo Γ) (wM (gEo Γ) ad) r u (gAo Γ)) 0 0) (wM (gEo Γ) ad σ) 2 0 0 0 [(0, .ref (ad 0)), (1, .int x1)] []
  refine g_iload_n X 1 dX7_rule_0 rfl ?_
  refine g_tsw X 7 (fun k => match k with | 0 => 44 | 1 => 49 | 2 => 57 | 3 => 67 | 4 => 77 | 5 => 85 | 6 => 91 | _ => 0) 97 dX7_rule_1 rfl (fun k hk => ?_) rfl hf (fun k hk hf => ?_) (fun hf => ?_)
  · match k, hk with
    | 0, _ => exact ⟨_, rfl, rfl⟩
    | 1, _ => exact ⟨_, rfl, rfl⟩
    | 2, _ => exact ⟨_, rfl, rfl⟩
    | 3, _ => exact ⟨_, rfl, rfl⟩
    | 4, _ => exact ⟨_, rfl, rfl⟩
    | 5, _ => exact ⟨_, rfl, rfl⟩
    | 6, _ => exact ⟨_, rfl, rfl⟩
    | k + 7, hk => exact absurd hk (by omega)
  · match k, hk, hf with
    | 0, _, hf =>
      refine g_aload_n X 0 dX7_rule_44 rfl ?_
      refine g_get X in_X7 0 2 rfl rfl (by decide) q919 rfl dX7_rule_45 ?_
      exact g_iret X rfl dX7_rule_48 hf
    | 1, _, hf =>
      refine g_aload_n X 0 dX7_rule_49 rfl ?_
      refine g_get X in_X7 0 0 rfl rfl (by decide) q917 rfl dX7_rule_50 ?_
      refine g_bipush X 16 dX7_rule_53 rfl ?_
      refine g_iald X 1 rfl dX7_rule_55 hf (fun v1 hf => ?_)
      exact g_iret X rfl dX7_rule_56 hf
    | 2, _, hf =>
      refine g_aload_n X 0 dX7_rule_57 rfl ?_
      refine g_get X in_X7 0 0 rfl rfl (by decide) q917 rfl dX7_rule_58 ?_
      refine g_bipush X 17 dX7_rule_61 rfl ?_
      refine g_iald X 1 rfl dX7_rule_63 hf (fun v2 hf => ?_)
      refine g_iconst X 2 dX7_rule_64 rfl ?_
      refine g_iadd X dX7_rule_65 ?_
      exact g_iret X rfl dX7_rule_66 hf
    | 3, _, hf =>
      refine g_aload_n X 0 dX7_rule_67 rfl ?_
      refine g_get X in_X7 0 0 rfl rfl (by decide) q917 rfl dX7_rule_68 ?_
      refine g_bipush X 18 dX7_rule_71 rfl ?_
      refine g_iald X 1 rfl dX7_rule_73 hf (fun v3 hf => ?_)
      refine g_iconst X 4 dX7_rule_74 rfl ?_
      refine g_iadd X dX7_rule_75 ?_
      exact g_iret X rfl dX7_rule_76 hf
    | 4, _, hf =>
      refine g_aload_n X 0 dX7_rule_77 rfl ?_
      refine g_get X in_X7 0 0 rfl rfl (by decide) q917 rfl dX7_rule_78 ?_
      refine g_bipush X 27 dX7_rule_81 rfl ?_
      refine g_iald X 1 rfl dX7_rule_83 hf (fun v4 hf => ?_)
      exact g_iret X rfl dX7_rule_84 hf
    | 5, _, hf =>
      refine g_aload_n X 0 dX7_rule_85 rfl ?_
      refine g_iconst X 0 dX7_rule_86 rfl ?_
      refine g_callVi X 1 (As := [.int 0]) (wfc := wM (gEo Γ) ad) (lw_V q1067 q1069 qs35 q67 q1070) (by decide +kernel) (fun r_ u_ h_ sz_ => m_X7_waitingOn (gl Γ) (gEo Γ) ad σ 0 r_ u_ h_ sz_) (rq := 0) rfl rfl rfl rfl rfl ⟨by decide, by decide⟩ rfl (Nat.le_of_ble_eq_true rfl) ⟨Nat.zero_le _, Nat.zero_le _⟩ [0, 1, 2, 3, 4, 5, 6, 7, 8, 9, 10, 11, 12] [] [0, 1, 2, 3, 4, 5, 6, 7, 8, 9, 10, 11, 12] (fun u6 => wM (gEo Γ) ad u6) rfl rfl rfl rfl (by decide) rfl (fun _ => rfl) dX7_rule_87 hf (fun r5 u6 _ hf => ?_)
      exact g_iret X rfl dX7_rule_90 hf
    | 6, _, hf =>
      refine g_aload_n X 0 dX7_rule_91 rfl ?_
      refine g_iconst X 0 dX7_rule_92 rfl ?_
      refine g_callVi X 1 (As := [.int 0]) (wfc := wM (gEo Γ) ad) (lw_V q1071 q1073 qs36 q67 q1074) (by decide +kernel) (fun r_ u_ h_ sz_ => m_X7_sorrowOn (gl Γ) (gEo Γ) ad σ 0 r_ u_ h_ sz_) (rq := 0) rfl rfl rfl rfl rfl ⟨by decide, by decide⟩ rfl (Nat.le_of_ble_eq_true rfl) ⟨Nat.zero_le _, Nat.zero_le _⟩ [0, 1, 2, 3, 4, 5, 6, 7, 8, 9, 10, 11, 12] [] [0, 1, 2, 3, 4, 5, 6, 7, 8, 9, 10, 11, 12] (fun u8 => wM (gEo Γ) ad u8) rfl rfl rfl rfl (by decide) rfl (fun _ => rfl) dX7_rule_93 hf (fun r7 u8 _ hf => ?_)
      exact g_iret X rfl dX7_rule_96 hf
    | k + 7, hk, _ =>
      exact absurd hk (by omega)
  · refine g_iconst X (-1) dX7_rule_97 rfl ?_
    exact g_iret X rfl dX7_rule_98 hf
def f_X7_isOne (σ : gM) (x1 : Int32) : Option (Int32 × gM) :=
  (f_X7_in (x1.toInt64) 0 (((M_oneMany σ) - 1).toInt64)).bind fun (r1, _) => gzr r1 σ
abbrev rm_X7_isOne : Room := { frames := 2, cells := 0, slots := 0, locals := 37 }
set_option maxHeartbeats 4000000 in
theorem m_X7_isOne (l : Launch) (E : gE) (ad : Nat → Nat) (σ : gM) (x1 : Int32) (r : Int32) (u : gM) (hf : f_X7_isOne σ x1 = some (r, u)) (sz : Nat) : Met l yX7_isOne (ws_ yX7_isOne cX7_isOne 2 (some .boolean)) rm_X7_isOne (gPc [.ref (ad 0), .int x1] E (wM E ad σ) sz) (gPi E (wM E ad) r u (va_A (wM E ad σ) sz)) 0 0 (va_A (wM E ad σ) sz) := by
  refine gMet (Qc := gPi E (wM E ad) r u) (by decide) (Nat.le_of_ble_eq_true rfl) (fun Γ X hl hE => ?_)
  subst hl; subst hE
  unfold f_X7_isOne at hf
  show gW Γ (gMQ Γ (gPi (gEo Γ) (wM (gEo Γ) ad) r u (gAo Γ)) 0 0) (wM (gEo Γ) ad σ) 2 0 0 0 [(0, .ref (ad 0)), (1, .int x1)] []
  refine g_iload_n X 1 dX7_isOne_0 rfl ?_
  refine g_i2l X dX7_isOne_1 ?_
  refine g_lconst X 0 dX7_isOne_2 rfl ?_
  refine g_aload_n X 0 dX7_isOne_3 rfl ?_
  refine g_get X in_X7 0 2 rfl rfl (by decide) q919 rfl dX7_isOne_4 ?_
  refine g_iconst X 1 dX7_isOne_7 rfl ?_
  refine g_isub X dX7_isOne_8 ?_
  refine g_i2l X dX7_isOne_9 ?_
  refine g_call0i X 3 (As := [.long (x1.toInt64), .long 0, .long (((M_oneMany σ) - 1).toInt64)]) (lw_S q1011 q1012 q67 q1013) (by decide +kernel) (fun r_ u_ h_ sz_ => m_X7_in (gl Γ) (gEo Γ) (x1.toInt64) 0 (((M_oneMany σ) - 1).toInt64) r_ u_ h_ sz_) rfl rfl ⟨by decide, by decide⟩ rfl (Nat.le_of_ble_eq_true rfl) ⟨Nat.zero_le _, Nat.zero_le _⟩ dX7_isOne_10 hf (fun r1 _ hf => ?_)
  exact g_zret X rfl dX7_isOne_13 hf
def f_X7_orNone (x0 : Int32) : Option (Int32 × Unit) :=
  if x0 = 0 then (some ((-4), ())) else (some (x0 - 1, ()))
abbrev rm_X7_orNone : Room := { frames := 1, cells := 0, slots := 0, locals := 12 }
set_option maxHeartbeats 4000000 in
theorem m_X7_orNone (l : Launch) (E : gE) (x0 : Int32) (r : Int32) (u : Unit) (hf : f_X7_orNone x0 = some (r, u)) (sz : Nat) : Met l yX7_orNone (ws_ yX7_orNone cX7_orNone 1 (some .int)) rm_X7_orNone (gPc [.int x0] E [] sz) (gPi E (fun _ => []) r u (va_A [] sz)) 0 0 (va_A [] sz) := by
  refine gMet (Qc := gPi E (fun _ => []) r u) (by decide) (Nat.le_of_ble_eq_true rfl) (fun Γ X hl hE => ?_)
  subst hl; subst hE
  unfold f_X7_orNone at hf
  show gW Γ (gMQ Γ (gPi (gEo Γ) (fun _ => []) r u (gAo Γ)) 0 0) [] 1 0 0 0 [(0, .int x0)] []
  refine g_iload_n X 0 dX7_orNone_0 rfl ?_
  refine g_if_ne X 9 dX7_orNone_1 rfl hf (fun hf => ?_) (fun hf => ?_)
  · refine g_iload_n X 0 dX7_orNone_9 rfl ?_
    refine g_iconst X 1 dX7_orNone_10 rfl ?_
    refine g_isub X dX7_orNone_11 ?_
    exact g_iret X rfl dX7_orNone_12 hf
  · refine g_bipush X (-4) dX7_orNone_4 rfl ?_
    refine g_goto X 12 dX7_orNone_6 rfl ?_
    exact g_iret X rfl dX7_orNone_12 hf
def f_X7_one_b44 (σ : gM) (x1 : Int32) (x2 : Int32) : Option (Int32 × gM) :=
  gld 168 (M_state σ) (((5 : Int32) * x2) + x1) fun v9 => some (v9, σ)
def f_X7_one (σ : gM) (x1 : Int32) (x2 : Int32) : Option (Int32 × gM) :=
  (f_X7_isOne σ x1).bind fun (r1, u2) => if r1 = 0 then (some ((-1), u2)) else (gsw 5 x2 (fun k => match k with | 0 => (f_X7_one_b44 u2 x1 x2) | 1 => (f_X7_one_b44 u2 x1 x2) | 2 => (gld 168 (M_state u2) ((10 : Int32) + x1) fun v3 => (f_X7_orNone v3).bind fun (r4, _) => some (r4, u2)) | 3 => (gld 168 (M_state u2) x1 fun v6 => gld 4 (M_brims u2) v6 fun v7 => some (v7, u2)) | 4 => (gld 168 (M_state u2) 15 fun v8 => some ((v8 >>> (x1 &&& 31)) &&& 1, u2)) | _ => none) (some ((-1), u2)))
abbrev rm_X7_one : Room := { frames := 3, cells := 0, slots := 0, locals := 58 }
set_option maxHeartbeats 4000000 in
theorem w_X7_one_b44 {Γ : gG} {ad : Nat → Nat} {r : Int32} {u : gM} (X : gCX Γ cX7_one 3 (some .int) RX7 rm_X7_one) : ∀ (σ : gM) (x1 : Int32) (x2 : Int32), f_X7_one_b44 σ x1 x2 = some (r, u) → gW Γ (gMQ Γ (gPi (gEo Γ) (wM (gEo Γ) ad) r u (gAo Γ)) 0 0) (wM (gEo Γ) ad σ) 3 0 0 44 [(0, .ref (ad 0)), (1, .int x1), (2, .int x2)] [] := by
  intro σ x1 x2 hf
  unfold f_X7_one_b44 at hf
  refine g_aload_n X 0 dX7_one_44 rfl ?_
  refine g_get X in_X7 0 0 rfl rfl (by decide) q917 rfl dX7_one_45 ?_
  refine g_iconst X 5 dX7_one_48 rfl ?_
  refine g_iload_n X 2 dX7_one_49 rfl ?_
  refine g_imul X dX7_one_50 ?_
  refine g_iload_n X 1 dX7_one_51 rfl ?_
  refine g_iadd X dX7_one_52 ?_
  refine g_iald X 1 rfl dX7_one_53 hf (fun v9 hf => ?_)
  exact g_iret X rfl dX7_one_54 hf
set_option maxHeartbeats 4000000 in
theorem m_X7_one (l : Launch) (E : gE) (ad : Nat → Nat) (σ : gM) (x1 : Int32) (x2 : Int32) (r : Int32) (u : gM) (hf : f_X7_one σ x1 x2 = some (r, u)) (sz : Nat) : Met l yX7_one (ws_ yX7_one cX7_one 3 (some .int)) rm_X7_one (gPc [.ref (ad 0), .int x1, .int x2] E (wM E ad σ) sz) (gPi E (wM E ad) r u (va_A (wM E ad σ) sz)) 0 0 (va_A (wM E ad σ) sz) := by
  refine gMet (Qc := gPi E (wM E ad) r u) (by decide) (Nat.le_of_ble_eq_true rfl) (fun Γ X hl hE => ?_)
  subst hl; subst hE
  unfold f_X7_one at hf
  show gW Γ (gMQ Γ (gPi (gEo Γ) (wM (gEo Γ) ad) r u (gAo Γ)) 0 0) (wM (gEo Γ) ad σ) 3 0 0 0 [(0, .ref (ad 0)), (1, .int x1), (2, .int x2)] []
  refine g_aload_n X 0 dX7_one_0 rfl ?_
  refine g_iload_n X 1 dX7_one_1 rfl ?_
  refine g_callVi X 1 (As := [.int x1]) (wfc := wM (gEo Γ) ad) (lw_V q1083 q1085 qs38 q67 q1086) (by decide +kernel) (fun r_ u_ h_ sz_ => m_X7_isOne (gl Γ) (gEo Γ) ad σ x1 r_ u_ h_ sz_) (rq := 0) rfl rfl rfl rfl rfl ⟨by decide, by decide⟩ rfl (Nat.le_of_ble_eq_true rfl) ⟨Nat.zero_le _, Nat.zero_le _⟩ [0, 1, 2, 3, 4, 5, 6, 7, 8, 9, 10, 11, 12] [] [0, 1, 2, 3, 4, 5, 6, 7, 8, 9, 10, 11, 12] (fun u2 => wM (gEo Γ) ad u2) rfl rfl rfl rfl (by decide) rfl (fun _ => rfl) dX7_one_2 hf (fun r1 u2 _ hf => ?_)
  refine g_if_ne X 10 dX7_one_5 rfl hf (fun hf => ?_) (fun hf => ?_)
  · refine g_iload_n X 2 dX7_one_10 rfl ?_
    refine g_tsw X 5 (fun k => match k with | 0 => 44 | 1 => 44 | 2 => 55 | 3 => 68 | 4 => 80 | _ => 0) 92 dX7_one_11 rfl (fun k hk => ?_) rfl hf (fun k hk hf => ?_) (fun hf => ?_)
    · match k, hk with
      | 0, _ => exact ⟨_, rfl, rfl⟩
      | 1, _ => exact ⟨_, rfl, rfl⟩
      | 2, _ => exact ⟨_, rfl, rfl⟩
      | 3, _ => exact ⟨_, rfl, rfl⟩
      | 4, _ => exact ⟨_, rfl, rfl⟩
      | k + 5, hk => exact absurd hk (by omega)
    · match k, hk, hf with
      | 0, _, hf =>
        exact w_X7_one_b44 X u2 x1 x2 hf
      | 1, _, hf =>
        exact w_X7_one_b44 X u2 x1 x2 hf
      | 2, _, hf =>
        refine g_aload_n X 0 dX7_one_55 rfl ?_
        refine g_get X in_X7 0 0 rfl rfl (by decide) q917 rfl dX7_one_56 ?_
        refine g_bipush X 10 dX7_one_59 rfl ?_
        refine g_iload_n X 1 dX7_one_61 rfl ?_
        refine g_iadd X dX7_one_62 ?_
        refine g_iald X 1 rfl dX7_one_63 hf (fun v3 hf => ?_)
        refine g_call0i X 1 (As := [.int v3]) (lw_S q1087 q1088 q67 q1089) (by decide +kernel) (fun r_ u_ h_ sz_ => m_X7_orNone (gl Γ) (gEo Γ) v3 r_ u_ h_ sz_) rfl rfl ⟨by decide, by decide⟩ rfl (Nat.le_of_ble_eq_true rfl) ⟨Nat.zero_le _, Nat.zero_le _⟩ dX7_one_64 hf (fun r4 _ hf => ?_)
        exact g_iret X rfl dX7_one_67 hf
      | 3, _, hf =>
        refine g_aload_n X 0 dX7_one_68 rfl ?_
        refine g_get X in_X7 0 1 rfl rfl (by decide) q918 rfl dX7_one_69 ?_
        refine g_aload_n X 0 dX7_one_72 rfl ?_
        refine g_get X in_X7 0 0 rfl rfl (by decide) q917 rfl dX7_one_73 ?_
        refine g_iload_n X 1 dX7_one_76 rfl ?_
        refine g_iald X 1 rfl dX7_one_77 hf (fun v6 hf => ?_)
        refine g_iald X 2 rfl dX7_one_78 hf (fun v7 hf => ?_)
        exact g_iret X rfl dX7_one_79 hf
      | 4, _, hf =>
        refine g_aload_n X 0 dX7_one_80 rfl ?_
        refine g_get X in_X7 0 0 rfl rfl (by decide) q917 rfl dX7_one_81 ?_
        refine g_bipush X 15 dX7_one_84 rfl ?_
        refine g_iald X 1 rfl dX7_one_86 hf (fun v8 hf => ?_)
        refine g_iload_n X 1 dX7_one_87 rfl ?_
        refine g_ishr X dX7_one_88 ?_
        refine g_iconst X 1 dX7_one_89 rfl ?_
        refine g_iand X dX7_one_90 ?_
        exact g_iret X rfl dX7_one_91 hf
      | k + 5, hk, _ =>
        exact absurd hk (by omega)
    · refine g_iconst X (-1) dX7_one_92 rfl ?_
      exact g_iret X rfl dX7_one_93 hf
  · refine g_iconst X (-1) dX7_one_8 rfl ?_
    exact g_iret X rfl dX7_one_9 hf
