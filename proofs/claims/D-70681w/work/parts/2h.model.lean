set_option maxRecDepth 100000
def f_X7_keep_b37 (σ : gM) (x1 : Int32) (t0 : Int32) : Option (Int32 × gM) :=
  gst 2 (M_isKept σ) x1 (vp_nar .boolean 1) fun g6 => gs (M_isKept_s σ g6) fun s7 => some (t0, s7)
def f_X7_keep (σ : gM) (x1 : Int32) : Option (Int32 × gM) :=
  (f_X7_in (x1.toInt64) 0 1).bind fun (r1, _) => if r1 = 0 then (some ((-1), σ)) else ((f_X7_copies σ 0 ((28 : Int32) * (x1 + 1))).bind fun u4 => gld 2 (M_isKept u4) x1 fun v5 => if v5 = 0 then (f_X7_keep_b37 u4 x1 0) else (f_X7_keep_b37 u4 x1 1))
abbrev rm_X7_keep : Room := { frames := 2, cells := 0, slots := 0, locals := 37 }
set_option maxHeartbeats 4000000 in
theorem w_X7_keep_b37 {Γ : gG} {ad : Nat → Nat} {r : Int32} {u : gM} (X : gCX Γ cX7_keep 3 (some .int) RX7 rm_X7_keep) : ∀ (σ : gM) (x1 : Int32) (t0 : Int32), f_X7_keep_b37 σ x1 t0 = some (r, u) → gW Γ (gMQ Γ (gPi (gEo Γ) (wM (gEo Γ) ad) r u (gAo Γ)) 0 0) (wM (gEo Γ) ad σ) 3 0 0 37 [(0, .ref (ad 0)), (1, .int x1)] [.int t0] := by
  intro σ x1 t0 hf
  unfold f_X7_keep_b37 at hf
  refine g_istore_n X [(2, .int t0), (0, .ref (ad 0)), (1, .int x1)] dX7_keep_37 (by decide) rfl ?_
  refine g_aload_n X 1 dX7_keep_38 rfl ?_
  refine g_get X in_X7 0 24 rfl rfl (by decide) q941 rfl dX7_keep_39 ?_
  refine g_iload_n X 2 dX7_keep_42 rfl ?_
  refine g_iconst X 1 dX7_keep_43 rfl ?_
  refine g_zast X 9 (fun g6 => wM (gEo Γ) ad (M_isKept_s σ g6)) rfl (fun _ => rfl) dX7_keep_44 hf (fun g6 hf => ?_)
  refine g_gs (wM (gEo Γ) ad) hf (fun s7 hf => ?_)
  refine g_iload_n X 0 dX7_keep_45 rfl ?_
  exact g_iret X rfl dX7_keep_46 hf
set_option maxHeartbeats 4000000 in
theorem m_X7_keep (l : Launch) (E : gE) (ad : Nat → Nat) (σ : gM) (x1 : Int32) (r : Int32) (u : gM) (hf : f_X7_keep σ x1 = some (r, u)) (sz : Nat) : Met l yX7_keep (ws_ yX7_keep cX7_keep 3 (some .int)) rm_X7_keep (gPc [.ref (ad 0), .int x1] E (wM E ad σ) sz) (gPi E (wM E ad) r u (va_A (wM E ad σ) sz)) 0 0 (va_A (wM E ad σ) sz) := by
  refine gMet (Qc := gPi E (wM E ad) r u) (by decide) (Nat.le_of_ble_eq_true rfl) (fun Γ X hl hE => ?_)
  subst hl; subst hE
  unfold f_X7_keep at hf
  show gW Γ (gMQ Γ (gPi (gEo Γ) (wM (gEo Γ) ad) r u (gAo Γ)) 0 0) (wM (gEo Γ) ad σ) 3 0 0 0 [(0, .ref (ad 0)), (1, .int x1)] []
  refine g_iload_n X 1 dX7_keep_0 rfl ?_
  refine g_i2l X dX7_keep_1 ?_
  refine g_lconst X 0 dX7_keep_2 rfl ?_
  refine g_lconst X 1 dX7_keep_3 rfl ?_
  refine g_call0i X 3 (As := [.long (x1.toInt64), .long 0, .long 1]) (lw_S q1011 q1012 q67 q1013) (by decide +kernel) (fun r_ u_ h_ sz_ => m_X7_in (gl Γ) (gEo Γ) (x1.toInt64) 0 1 r_ u_ h_ sz_) rfl rfl ⟨by decide, by decide⟩ rfl (Nat.le_of_ble_eq_true rfl) ⟨Nat.zero_le _, Nat.zero_le _⟩ dX7_keep_4 hf (fun r1 _ hf => ?_)
  refine g_if_ne X 12 dX7_keep_7 rfl hf (fun hf => ?_) (fun hf => ?_)
  · refine g_aload_n X 0 dX7_keep_12 rfl ?_
    refine g_iconst X 0 dX7_keep_13 rfl ?_
    refine g_bipush X 28 dX7_keep_14 rfl ?_
    refine g_iload_n X 1 dX7_keep_16 rfl ?_
    refine g_iconst X 1 dX7_keep_17 rfl ?_
    refine g_iadd X dX7_keep_18 ?_
    refine g_imul X dX7_keep_19 ?_
    refine g_callVv X 2 (As := [.int 0, .int ((28 : Int32) * (x1 + 1))]) (wfc := wM (gEo Γ) ad) (lw_V q1199 q1201 qs51 q67 q1202) (by decide +kernel) (fun u_ h_ sz_ => m_X7_copies (gl Γ) (gEo Γ) ad σ 0 ((28 : Int32) * (x1 + 1)) u_ h_ sz_) (rq := 0) rfl rfl rfl rfl rfl ⟨by decide, by decide⟩ rfl (Nat.le_of_ble_eq_true rfl) ⟨Nat.zero_le _, Nat.zero_le _⟩ [0, 1, 2, 3, 4, 5, 6, 7, 8, 9, 10, 11, 12] [] [0, 1, 2, 3, 4, 5, 6, 7, 8, 9, 10, 11, 12] (fun u4 => wM (gEo Γ) ad u4) rfl rfl rfl rfl (by decide) rfl (fun _ => rfl) dX7_keep_20 hf (fun u4 _ hf => ?_)
    refine g_aload_n X 0 dX7_keep_23 rfl ?_
    refine g_get X in_X7 0 24 rfl rfl (by decide) q941 rfl dX7_keep_24 ?_
    refine g_iload_n X 1 dX7_keep_27 rfl ?_
    refine g_zald X 9 rfl dX7_keep_28 hf (fun v5 hf => ?_)
    refine g_if_eq X 36 dX7_keep_29 rfl hf (fun hf => ?_) (fun hf => ?_)
    · refine g_iconst X 0 dX7_keep_36 rfl ?_
      exact w_X7_keep_b37 X u4 x1 0 hf
    · refine g_iconst X 1 dX7_keep_32 rfl ?_
      refine g_goto X 37 dX7_keep_33 rfl ?_
      exact w_X7_keep_b37 X u4 x1 1 hf
  · refine g_iconst X (-1) dX7_keep_10 rfl ?_
    exact g_iret X rfl dX7_keep_11 hf
def f_X7_back (σ : gM) (x1 : Int32) : Option (Int32 × gM) :=
  (f_X7_in (x1.toInt64) 0 1).bind fun (r1, _) => if r1 = 0 then (some ((-1), σ)) else (gld 2 (M_isKept σ) x1 fun v3 => if v3 = 0 then (some ((-2), σ)) else ((f_X7_copies σ ((28 : Int32) * (x1 + 1)) 0).bind fun u5 => gld 168 (M_state u5) 16 fun v6 => some (v6, u5)))
abbrev rm_X7_back : Room := { frames := 2, cells := 0, slots := 0, locals := 37 }
set_option maxHeartbeats 4000000 in
theorem m_X7_back (l : Launch) (E : gE) (ad : Nat → Nat) (σ : gM) (x1 : Int32) (r : Int32) (u : gM) (hf : f_X7_back σ x1 = some (r, u)) (sz : Nat) : Met l yX7_back (ws_ yX7_back cX7_back 2 (some .int)) rm_X7_back (gPc [.ref (ad 0), .int x1] E (wM E ad σ) sz) (gPi E (wM E ad) r u (va_A (wM E ad σ) sz)) 0 0 (va_A (wM E ad σ) sz) := by
  refine gMet (Qc := gPi E (wM E ad) r u) (by decide) (Nat.le_of_ble_eq_true rfl) (fun Γ X hl hE => ?_)
  subst hl; subst hE
  unfold f_X7_back at hf
  show gW Γ (gMQ Γ (gPi (gEo Γ) (wM (gEo Γ) ad) r u (gAo Γ)) 0 0) (wM (gEo Γ) ad σ) 2 0 0 0 [(0, .ref (ad 0)), (1, .int x1)] []
  refine g_iload_n X 1 dX7_back_0 rfl ?_
  refine g_i2l X dX7_back_1 ?_
  refine g_lconst X 0 dX7_back_2 rfl ?_
  refine g_lconst X 1 dX7_back_3 rfl ?_
  refine g_call0i X 3 (As := [.long (x1.toInt64), .long 0, .long 1]) (lw_S q1011 q1012 q67 q1013) (by decide +kernel) (fun r_ u_ h_ sz_ => m_X7_in (gl Γ) (gEo Γ) (x1.toInt64) 0 1 r_ u_ h_ sz_) rfl rfl ⟨by decide, by decide⟩ rfl (Nat.le_of_ble_eq_true rfl) ⟨Nat.zero_le _, Nat.zero_le _⟩ dX7_back_4 hf (fun r1 _ hf => ?_)
  refine g_if_ne X 12 dX7_back_7 rfl hf (fun hf => ?_) (fun hf => ?_)
  · refine g_aload_n X 0 dX7_back_12 rfl ?_
    refine g_get X in_X7 0 24 rfl rfl (by decide) q941 rfl dX7_back_13 ?_
    refine g_iload_n X 1 dX7_back_16 rfl ?_
    refine g_zald X 9 rfl dX7_back_17 hf (fun v3 hf => ?_)
    refine g_if_ne X 24 dX7_back_18 rfl hf (fun hf => ?_) (fun hf => ?_)
    · refine g_aload_n X 0 dX7_back_24 rfl ?_
      refine g_bipush X 28 dX7_back_25 rfl ?_
      refine g_iload_n X 1 dX7_back_27 rfl ?_
      refine g_iconst X 1 dX7_back_28 rfl ?_
      refine g_iadd X dX7_back_29 ?_
      refine g_imul X dX7_back_30 ?_
      refine g_iconst X 0 dX7_back_31 rfl ?_
      refine g_callVv X 2 (As := [.int ((28 : Int32) * (x1 + 1)), .int 0]) (wfc := wM (gEo Γ) ad) (lw_V q1199 q1201 qs51 q67 q1202) (by decide +kernel) (fun u_ h_ sz_ => m_X7_copies (gl Γ) (gEo Γ) ad σ ((28 : Int32) * (x1 + 1)) 0 u_ h_ sz_) (rq := 0) rfl rfl rfl rfl rfl ⟨by decide, by decide⟩ rfl (Nat.le_of_ble_eq_true rfl) ⟨Nat.zero_le _, Nat.zero_le _⟩ [0, 1, 2, 3, 4, 5, 6, 7, 8, 9, 10, 11, 12] [] [0, 1, 2, 3, 4, 5, 6, 7, 8, 9, 10, 11, 12] (fun u5 => wM (gEo Γ) ad u5) rfl rfl rfl rfl (by decide) rfl (fun _ => rfl) dX7_back_32 hf (fun u5 _ hf => ?_)
      refine g_aload_n X 0 dX7_back_35 rfl ?_
      refine g_get X in_X7 0 0 rfl rfl (by decide) q917 rfl dX7_back_36 ?_
      refine g_bipush X 16 dX7_back_39 rfl ?_
      refine g_iald X 1 rfl dX7_back_41 hf (fun v6 hf => ?_)
      exact g_iret X rfl dX7_back_42 hf
    · refine g_bipush X (-2) dX7_back_21 rfl ?_
      exact g_iret X rfl dX7_back_23 hf
  · refine g_iconst X (-1) dX7_back_10 rfl ?_
    exact g_iret X rfl dX7_back_11 hf
def f_X7_sheet_b56 : Nat → gM → Int32 → Int32 → Option (Int32 × gM)
  | 0 => fun _ _ _ => none
  | n_ + 1 => fun σ x1 x4 =>
    if 40 ≤ x4 then (some (1, σ)) else (gst 160 (M_cells σ) (((40 : Int32) * x1) + x4) 0 fun g9 => gs (M_cells_s σ g9) fun s10 => gv (x4 + 1) fun v11 => (f_X7_sheet_b56 n_) s10 x1 v11)
def f_X7_sheet (σ : gM) (x1 : Int32) (x2 : Int32) (x3 : Int32) : Option (Int32 × gM) :=
  (f_X7_in (x1.toInt64) 0 3).bind fun (r1, _) => if r1 = 0 then (some ((-1), σ)) else ((f_X7_in (x2.toInt64) 0 2).bind fun (r3, _) => if r3 = 0 then (some ((-1), σ)) else (if x3 ≤ 40 then (if 0 ≤ x3 then (gst 4 (M_lanes σ) x1 x2 fun g5 => gs (M_lanes_s σ g5) fun s6 => gst 4 (M_lengths s6) x1 x3 fun g7 => gs (M_lengths_s s6 g7) fun s8 => f_X7_sheet_b56 2000 s8 x1 0) else (some ((-14), σ))) else (some ((-1), σ))))
abbrev rm_X7_sheet : Room := { frames := 2, cells := 0, slots := 0, locals := 37 }
set_option maxHeartbeats 4000000 in
theorem w_X7_sheet_b56 {Γ : gG} {ad : Nat → Nat} {r : Int32} {u : gM} (X : gCX Γ cX7_sheet 5 (some .int) RX7 rm_X7_sheet) : ∀ (n_ : Nat) (σ : gM) (x1 : Int32) (x4 : Int32), f_X7_sheet_b56 n_ σ x1 x4 = some (r, u) → gW Γ (gMQ Γ (gPi (gEo Γ) (wM (gEo Γ) ad) r u (gAo Γ)) 0 0) (wM (gEo Γ) ad σ) 5 0 0 56 [(0, .ref (ad 0)), (1, .int x1), (4, .int x4)] [] := by
  intro n_
  induction n_ with
  | zero => intro σ x1 x4 hf; cases hf
  | succ n_ ih =>
    intro σ x1 x4 hf
    simp only [f_X7_sheet_b56] at hf
    refine g_iload X 2 dX7_sheet_56 rfl ?_
    refine g_bipush X 40 dX7_sheet_58 rfl ?_
    refine g_icmp_ge X 82 dX7_sheet_60 rfl hf (fun hf => ?_) (fun hf => ?_)
    · refine g_iconst X 1 dX7_sheet_82 rfl ?_
      exact g_iret X rfl dX7_sheet_83 hf
    · refine g_aload_n X 0 dX7_sheet_63 rfl ?_
      refine g_get X in_X7 0 27 rfl rfl (by decide) q944 rfl dX7_sheet_64 ?_
      refine g_bipush X 40 dX7_sheet_67 rfl ?_
      refine g_iload_n X 1 dX7_sheet_69 rfl ?_
      refine g_imul X dX7_sheet_70 ?_
      refine g_iload X 2 dX7_sheet_71 rfl ?_
      refine g_iadd X dX7_sheet_73 ?_
      refine g_iconst X 0 dX7_sheet_74 rfl ?_
      refine g_iast X 12 (fun g9 => wM (gEo Γ) ad (M_cells_s σ g9)) rfl (fun _ => rfl) dX7_sheet_75 hf (fun g9 hf => ?_)
      refine g_gs (wM (gEo Γ) ad) hf (fun s10 hf => ?_)
      refine g_iincV X 1 2 (fun v11 => [(4, .int v11), (0, .ref (ad 0)), (1, .int x1)]) dX7_sheet_76 rfl rfl (by decide) (fun _ => rfl) hf (fun v11 hf => ?_)
      refine g_goto X 56 dX7_sheet_79 rfl ?_
      refine g_sub [1, 2, 0] [(0, .ref (ad 0)), (1, .int x1), (4, .int v11)] rfl ?_
      exact ih s10 x1 v11 hf
set_option maxHeartbeats 4000000 in
theorem m_X7_sheet (l : Launch) (E : gE) (ad : Nat → Nat) (σ : gM) (x1 : Int32) (x2 : Int32) (x3 : Int32) (r : Int32) (u : gM) (hf : f_X7_sheet σ x1 x2 x3 = some (r, u)) (sz : Nat) : Met l yX7_sheet (ws_ yX7_sheet cX7_sheet 5 (some .int)) rm_X7_sheet (gPc [.ref (ad 0), .int x1, .int x2, .int x3] E (wM E ad σ) sz) (gPi E (wM E ad) r u (va_A (wM E ad σ) sz)) 0 0 (va_A (wM E ad σ) sz) := by
  refine gMet (Qc := gPi E (wM E ad) r u) (by decide) (Nat.le_of_ble_eq_true rfl) (fun Γ X hl hE => ?_)
  subst hl; subst hE
  unfold f_X7_sheet at hf
  show gW Γ (gMQ Γ (gPi (gEo Γ) (wM (gEo Γ) ad) r u (gAo Γ)) 0 0) (wM (gEo Γ) ad σ) 5 0 0 0 [(0, .ref (ad 0)), (1, .int x1), (2, .int x2), (3, .int x3)] []
  refine g_iload_n X 1 dX7_sheet_0 rfl ?_
  refine g_i2l X dX7_sheet_1 ?_
  refine g_lconst X 0 dX7_sheet_2 rfl ?_
  refine g_ldc2 X dX7_sheet_3 q1111 ?_
  refine g_call0i X 3 (As := [.long (x1.toInt64), .long 0, .long 3]) (lw_S q1011 q1012 q67 q1013) (by decide +kernel) (fun r_ u_ h_ sz_ => m_X7_in (gl Γ) (gEo Γ) (x1.toInt64) 0 3 r_ u_ h_ sz_) rfl rfl ⟨by decide, by decide⟩ rfl (Nat.le_of_ble_eq_true rfl) ⟨Nat.zero_le _, Nat.zero_le _⟩ dX7_sheet_6 hf (fun r1 _ hf => ?_)
  refine g_if_eq X 30 dX7_sheet_9 rfl hf (fun hf => ?_) (fun hf => ?_)
  · refine g_iconst X (-1) dX7_sheet_30 rfl ?_
    exact g_iret X rfl dX7_sheet_31 hf
  · refine g_iload_n X 2 dX7_sheet_12 rfl ?_
    refine g_i2l X dX7_sheet_13 ?_
    refine g_lconst X 0 dX7_sheet_14 rfl ?_
    refine g_ldc2 X dX7_sheet_15 q1309 ?_
    refine g_call0i X 3 (As := [.long (x2.toInt64), .long 0, .long 2]) (lw_S q1011 q1012 q67 q1013) (by decide +kernel) (fun r_ u_ h_ sz_ => m_X7_in (gl Γ) (gEo Γ) (x2.toInt64) 0 2 r_ u_ h_ sz_) rfl rfl ⟨by decide, by decide⟩ rfl (Nat.le_of_ble_eq_true rfl) ⟨Nat.zero_le _, Nat.zero_le _⟩ dX7_sheet_18 hf (fun r3 _ hf => ?_)
    refine g_if_eq X 30 dX7_sheet_21 rfl hf (fun hf => ?_) (fun hf => ?_)
    · refine g_iconst X (-1) dX7_sheet_30 rfl ?_
      exact g_iret X rfl dX7_sheet_31 hf
    · refine g_iload_n X 3 dX7_sheet_24 rfl ?_
      refine g_bipush X 40 dX7_sheet_25 rfl ?_
      refine g_icmp_le X 32 dX7_sheet_27 rfl hf (fun hf => ?_) (fun hf => ?_)
      · refine g_iload_n X 3 dX7_sheet_32 rfl ?_
        refine g_if_ge X 39 dX7_sheet_33 rfl hf (fun hf => ?_) (fun hf => ?_)
        · refine g_aload_n X 0 dX7_sheet_39 rfl ?_
          refine g_get X in_X7 0 25 rfl rfl (by decide) q942 rfl dX7_sheet_40 ?_
          refine g_iload_n X 1 dX7_sheet_43 rfl ?_
          refine g_iload_n X 2 dX7_sheet_44 rfl ?_
          refine g_iast X 10 (fun g5 => wM (gEo Γ) ad (M_lanes_s σ g5)) rfl (fun _ => rfl) dX7_sheet_45 hf (fun g5 hf => ?_)
          refine g_gs (wM (gEo Γ) ad) hf (fun s6 hf => ?_)
          refine g_aload_n X 0 dX7_sheet_46 rfl ?_
          refine g_get X in_X7 0 26 rfl rfl (by decide) q943 rfl dX7_sheet_47 ?_
          refine g_iload_n X 1 dX7_sheet_50 rfl ?_
          refine g_iload_n X 3 dX7_sheet_51 rfl ?_
          refine g_iast X 11 (fun g7 => wM (gEo Γ) ad (M_lengths_s s6 g7)) rfl (fun _ => rfl) dX7_sheet_52 hf (fun g7 hf => ?_)
          refine g_gs (wM (gEo Γ) ad) hf (fun s8 hf => ?_)
          refine g_iconst X 0 dX7_sheet_53 rfl ?_
          refine g_istore X [(4, .int 0), (0, .ref (ad 0)), (1, .int x1), (2, .int x2), (3, .int x3)] dX7_sheet_54 (by decide) rfl ?_
          refine g_sub [1, 2, 0] [(0, .ref (ad 0)), (1, .int x1), (4, .int 0)] rfl ?_
          exact w_X7_sheet_b56 X 2000 s8 x1 0 hf
        · refine g_bipush X (-14) dX7_sheet_36 rfl ?_
          exact g_iret X rfl dX7_sheet_38 hf
      · refine g_iconst X (-1) dX7_sheet_30 rfl ?_
        exact g_iret X rfl dX7_sheet_31 hf
def f_X7_lay_b99 (σ : gM) (t0 : Int32) (t1 : Int32) : Option (Int32 × gM) :=
  gst 160 (M_cells σ) t1 t0 fun g9 => gs (M_cells_s σ g9) fun s10 => some (1, s10)
def f_X7_lay (σ : gM) (x1 : Int32) (x2 : Int32) (x3 : Int32) : Option (Int32 × gM) :=
  (f_X7_in (x1.toInt64) 0 3).bind fun (r1, _) => if r1 = 0 then (some ((-1), σ)) else (gld 4 (M_lanes σ) x1 fun v3 => if v3 = (-4) then (some ((-11), σ)) else (gld 4 (M_lengths σ) x1 fun v4 => (f_X7_in (x2.toInt64) 0 ((v4 - 1).toInt64)).bind fun (r5, _) => if r5 = 0 then (some ((-12), σ)) else (gld 4 (M_lanes σ) x1 fun v7 => if v7 = 0 then (f_X7_lay_b99 σ ((x3 <<< ((24 : Int32) &&& 31)) >>> ((24 : Int32) &&& 31)) (((40 : Int32) * x1) + x2)) else (gld 4 (M_lanes σ) x1 fun v8 => if v8 = 1 then (f_X7_lay_b99 σ ((x3 <<< ((16 : Int32) &&& 31)) >>> ((16 : Int32) &&& 31)) (((40 : Int32) * x1) + x2)) else (f_X7_lay_b99 σ x3 (((40 : Int32) * x1) + x2))))))
abbrev rm_X7_lay : Room := { frames := 2, cells := 0, slots := 0, locals := 37 }
set_option maxHeartbeats 4000000 in
theorem w_X7_lay_b99 {Γ : gG} {ad : Nat → Nat} {r : Int32} {u : gM} (X : gCX Γ cX7_lay 4 (some .int) RX7 rm_X7_lay) : ∀ (σ : gM) (t0 : Int32) (t1 : Int32), f_X7_lay_b99 σ t0 t1 = some (r, u) → gW Γ (gMQ Γ (gPi (gEo Γ) (wM (gEo Γ) ad) r u (gAo Γ)) 0 0) (wM (gEo Γ) ad σ) 4 0 0 99 [] [.int t0, .int t1, .ref (ad 12)] := by
  intro σ t0 t1 hf
  unfold f_X7_lay_b99 at hf
  refine g_iast X 12 (fun g9 => wM (gEo Γ) ad (M_cells_s σ g9)) rfl (fun _ => rfl) dX7_lay_99 hf (fun g9 hf => ?_)
  refine g_gs (wM (gEo Γ) ad) hf (fun s10 hf => ?_)
  refine g_iconst X 1 dX7_lay_100 rfl ?_
  exact g_iret X rfl dX7_lay_101 hf
set_option maxHeartbeats 4000000 in
theorem m_X7_lay (l : Launch) (E : gE) (ad : Nat → Nat) (σ : gM) (x1 : Int32) (x2 : Int32) (x3 : Int32) (r : Int32) (u : gM) (hf : f_X7_lay σ x1 x2 x3 = some (r, u)) (sz : Nat) : Met l yX7_lay (ws_ yX7_lay cX7_lay 4 (some .int)) rm_X7_lay (gPc [.ref (ad 0), .int x1, .int x2, .int x3] E (wM E ad σ) sz) (gPi E (wM E ad) r u (va_A (wM E ad σ) sz)) 0 0 (va_A (wM E ad σ) sz) := by
  refine gMet (Qc := gPi E (wM E ad) r u) (by decide) (Nat.le_of_ble_eq_true rfl) (fun Γ X hl hE => ?_)
  subst hl; subst hE
  unfold f_X7_lay at hf
  show gW Γ (gMQ Γ (gPi (gEo Γ) (wM (gEo Γ) ad) r u (gAo Γ)) 0 0) (wM (gEo Γ) ad σ) 4 0 0 0 [(0, .ref (ad 0)), (1, .int x1), (2, .int x2), (3, .int x3)] []
  refine g_iload_n X 1 dX7_lay_0 rfl ?_
  refine g_i2l X dX7_lay_1 ?_
  refine g_lconst X 0 dX7_lay_2 rfl ?_
  refine g_ldc2 X dX7_lay_3 q1111 ?_
  refine g_call0i X 3 (As := [.long (x1.toInt64), .long 0, .long 3]) (lw_S q1011 q1012 q67 q1013) (by decide +kernel) (fun r_ u_ h_ sz_ => m_X7_in (gl Γ) (gEo Γ) (x1.toInt64) 0 3 r_ u_ h_ sz_) rfl rfl ⟨by decide, by decide⟩ rfl (Nat.le_of_ble_eq_true rfl) ⟨Nat.zero_le _, Nat.zero_le _⟩ dX7_lay_6 hf (fun r1 _ hf => ?_)
  refine g_if_ne X 14 dX7_lay_9 rfl hf (fun hf => ?_) (fun hf => ?_)
  · refine g_aload_n X 0 dX7_lay_14 rfl ?_
    refine g_get X in_X7 0 25 rfl rfl (by decide) q942 rfl dX7_lay_15 ?_
    refine g_iload_n X 1 dX7_lay_18 rfl ?_
    refine g_iald X 10 rfl dX7_lay_19 hf (fun v3 hf => ?_)
    refine g_bipush X (-4) dX7_lay_20 rfl ?_
    refine g_icmp_ne X 28 dX7_lay_22 rfl hf (fun hf => ?_) (fun hf => ?_)
    · refine g_iload_n X 2 dX7_lay_28 rfl ?_
      refine g_i2l X dX7_lay_29 ?_
      refine g_lconst X 0 dX7_lay_30 rfl ?_
      refine g_aload_n X 0 dX7_lay_31 rfl ?_
      refine g_get X in_X7 0 26 rfl rfl (by decide) q943 rfl dX7_lay_32 ?_
      refine g_iload_n X 1 dX7_lay_35 rfl ?_
      refine g_iald X 11 rfl dX7_lay_36 hf (fun v4 hf => ?_)
      refine g_iconst X 1 dX7_lay_37 rfl ?_
      refine g_isub X dX7_lay_38 ?_
      refine g_i2l X dX7_lay_39 ?_
      refine g_call0i X 3 (As := [.long (x2.toInt64), .long 0, .long ((v4 - 1).toInt64)]) (lw_S q1011 q1012 q67 q1013) (by decide +kernel) (fun r_ u_ h_ sz_ => m_X7_in (gl Γ) (gEo Γ) (x2.toInt64) 0 ((v4 - 1).toInt64) r_ u_ h_ sz_) rfl rfl ⟨by decide, by decide⟩ rfl (Nat.le_of_ble_eq_true rfl) ⟨Nat.zero_le _, Nat.zero_le _⟩ dX7_lay_40 hf (fun r5 _ hf => ?_)
      refine g_if_ne X 49 dX7_lay_43 rfl hf (fun hf => ?_) (fun hf => ?_)
      · refine g_aload_n X 0 dX7_lay_49 rfl ?_
        refine g_get X in_X7 0 27 rfl rfl (by decide) q944 rfl dX7_lay_50 ?_
        refine g_bipush X 40 dX7_lay_53 rfl ?_
        refine g_iload_n X 1 dX7_lay_55 rfl ?_
        refine g_imul X dX7_lay_56 ?_
        refine g_iload_n X 2 dX7_lay_57 rfl ?_
        refine g_iadd X dX7_lay_58 ?_
        refine g_aload_n X 0 dX7_lay_59 rfl ?_
        refine g_get X in_X7 0 25 rfl rfl (by decide) q942 rfl dX7_lay_60 ?_
        refine g_iload_n X 1 dX7_lay_63 rfl ?_
        refine g_iald X 10 rfl dX7_lay_64 hf (fun v7 hf => ?_)
        refine g_if_ne X 78 dX7_lay_65 rfl hf (fun hf => ?_) (fun hf => ?_)
        · refine g_aload_n X 0 dX7_lay_78 rfl ?_
          refine g_get X in_X7 0 25 rfl rfl (by decide) q942 rfl dX7_lay_79 ?_
          refine g_iload_n X 1 dX7_lay_82 rfl ?_
          refine g_iald X 10 rfl dX7_lay_83 hf (fun v8 hf => ?_)
          refine g_iconst X 1 dX7_lay_84 rfl ?_
          refine g_icmp_ne X 98 dX7_lay_85 rfl hf (fun hf => ?_) (fun hf => ?_)
          · refine g_iload_n X 3 dX7_lay_98 rfl ?_
            refine g_sub [] [] rfl ?_
            exact w_X7_lay_b99 X σ x3 (((40 : Int32) * x1) + x2) hf
          · refine g_iload_n X 3 dX7_lay_88 rfl ?_
            refine g_bipush X 16 dX7_lay_89 rfl ?_
            refine g_ishl X dX7_lay_91 ?_
            refine g_bipush X 16 dX7_lay_92 rfl ?_
            refine g_ishr X dX7_lay_94 ?_
            refine g_goto X 99 dX7_lay_95 rfl ?_
            refine g_sub [] [] rfl ?_
            exact w_X7_lay_b99 X σ ((x3 <<< ((16 : Int32) &&& 31)) >>> ((16 : Int32) &&& 31)) (((40 : Int32) * x1) + x2) hf
        · refine g_iload_n X 3 dX7_lay_68 rfl ?_
          refine g_bipush X 24 dX7_lay_69 rfl ?_
          refine g_ishl X dX7_lay_71 ?_
          refine g_bipush X 24 dX7_lay_72 rfl ?_
          refine g_ishr X dX7_lay_74 ?_
          refine g_goto X 99 dX7_lay_75 rfl ?_
          refine g_sub [] [] rfl ?_
          exact w_X7_lay_b99 X σ ((x3 <<< ((24 : Int32) &&& 31)) >>> ((24 : Int32) &&& 31)) (((40 : Int32) * x1) + x2) hf
      · refine g_bipush X (-12) dX7_lay_46 rfl ?_
        exact g_iret X rfl dX7_lay_48 hf
    · refine g_bipush X (-11) dX7_lay_25 rfl ?_
      exact g_iret X rfl dX7_lay_27 hf
  · refine g_iconst X (-1) dX7_lay_12 rfl ?_
    exact g_iret X rfl dX7_lay_13 hf
def f_X7_does_b24 (σ : gM) (x1 : Int32) : Option (Int32 × gM) :=
  if x1 = 5 then ((f_X7_minuteOn σ 0).bind fun u10 => gzr 1 u10) else (if x1 = 6 then ((f_X7_tramOn σ 0).bind fun (r7, u8) => gzr 1 u8) else ((f_X7_thinksOn σ 0 x1).bind fun (r5, u6) => gzr 1 u6))
def f_X7_does (σ : gM) (x1 : Int32) : Option (Int32 × gM) :=
  (f_X7_isAct σ x1).bind fun (r1, u2) => if r1 = 0 then (gzr 0 u2) else (if 5 ≤ x1 then (f_X7_does_b24 u2 x1) else ((f_X7_waits u2 0 x1).bind fun (r3, u4) => if r3 = 0 then (gzr 0 u4) else (f_X7_does_b24 u4 x1)))
abbrev rm_X7_does : Room := { frames := 4, cells := 0, slots := 0, locals := 84 }
set_option maxHeartbeats 4000000 in
theorem w_X7_does_b24 {Γ : gG} {ad : Nat → Nat} {r : Int32} {u : gM} (X : gCX Γ cX7_does 2 (some .boolean) RX7 rm_X7_does) : ∀ (σ : gM) (x1 : Int32), f_X7_does_b24 σ x1 = some (r, u) → gW Γ (gMQ Γ (gPi (gEo Γ) (wM (gEo Γ) ad) r u (gAo Γ)) 0 0) (wM (gEo Γ) ad σ) 2 0 0 24 [(0, .ref (ad 0)), (1, .int x1)] [] := by
  intro σ x1 hf
  unfold f_X7_does_b24 at hf
  refine g_iload_n X 1 dX7_does_24 rfl ?_
  refine g_iconst X 5 dX7_does_25 rfl ?_
  refine g_icmp_ne X 37 dX7_does_26 rfl hf (fun hf => ?_) (fun hf => ?_)
  · refine g_iload_n X 1 dX7_does_37 rfl ?_
    refine g_bipush X 6 dX7_does_38 rfl ?_
    refine g_icmp_ne X 52 dX7_does_40 rfl hf (fun hf => ?_) (fun hf => ?_)
    · refine g_aload_n X 0 dX7_does_52 rfl ?_
      refine g_iconst X 0 dX7_does_53 rfl ?_
      refine g_iload_n X 1 dX7_does_54 rfl ?_
      refine g_callVi X 2 (As := [.int 0, .int x1]) (wfc := wM (gEo Γ) ad) (lw_V q1143 q1145 qs43 q67 q1146) (by decide +kernel) (fun r_ u_ h_ sz_ => m_X7_thinksOn (gl Γ) (gEo Γ) ad σ 0 x1 r_ u_ h_ sz_) (rq := 0) rfl rfl rfl rfl rfl ⟨by decide, by decide⟩ rfl (Nat.le_of_ble_eq_true rfl) ⟨Nat.zero_le _, Nat.zero_le _⟩ [0, 1, 2, 3, 4, 5, 6, 7, 8, 9, 10, 11, 12] [] [0, 1, 2, 3, 4, 5, 6, 7, 8, 9, 10, 11, 12] (fun u6 => wM (gEo Γ) ad u6) rfl rfl rfl rfl (by decide) rfl (fun _ => rfl) dX7_does_55 hf (fun r5 u6 _ hf => ?_)
      refine g_pop X dX7_does_58 rfl ?_
      refine g_iconst X 1 dX7_does_59 rfl ?_
      exact g_zret X rfl dX7_does_60 hf
    · refine g_aload_n X 0 dX7_does_43 rfl ?_
      refine g_iconst X 0 dX7_does_44 rfl ?_
      refine g_callVi X 1 (As := [.int 0]) (wfc := wM (gEo Γ) ad) (lw_V q1172 q1174 qs48 q67 q1175) (by decide +kernel) (fun r_ u_ h_ sz_ => m_X7_tramOn (gl Γ) (gEo Γ) ad σ 0 r_ u_ h_ sz_) (rq := 0) rfl rfl rfl rfl rfl ⟨by decide, by decide⟩ rfl (Nat.le_of_ble_eq_true rfl) ⟨Nat.zero_le _, Nat.zero_le _⟩ [0, 1, 2, 3, 4, 5, 6, 7, 8, 9, 10, 11, 12] [] [0, 1, 2, 3, 4, 5, 6, 7, 8, 9, 10, 11, 12] (fun u8 => wM (gEo Γ) ad u8) rfl rfl rfl rfl (by decide) rfl (fun _ => rfl) dX7_does_45 hf (fun r7 u8 _ hf => ?_)
      refine g_pop X dX7_does_48 rfl ?_
      refine g_goto X 59 dX7_does_49 rfl ?_
      refine g_iconst X 1 dX7_does_59 rfl ?_
      exact g_zret X rfl dX7_does_60 hf
  · refine g_aload_n X 0 dX7_does_29 rfl ?_
    refine g_iconst X 0 dX7_does_30 rfl ?_
    refine g_callVv X 1 (As := [.int 0]) (wfc := wM (gEo Γ) ad) (lw_V q1164 q1166 qs47 q67 q1167) (by decide +kernel) (fun u_ h_ sz_ => m_X7_minuteOn (gl Γ) (gEo Γ) ad σ 0 u_ h_ sz_) (rq := 0) rfl rfl rfl rfl rfl ⟨by decide, by decide⟩ rfl (Nat.le_of_ble_eq_true rfl) ⟨Nat.zero_le _, Nat.zero_le _⟩ [0, 1, 2, 3, 4, 5, 6, 7, 8, 9, 10, 11, 12] [] [0, 1, 2, 3, 4, 5, 6, 7, 8, 9, 10, 11, 12] (fun u10 => wM (gEo Γ) ad u10) rfl rfl rfl rfl (by decide) rfl (fun _ => rfl) dX7_does_31 hf (fun u10 _ hf => ?_)
    refine g_goto X 59 dX7_does_34 rfl ?_
    refine g_iconst X 1 dX7_does_59 rfl ?_
    exact g_zret X rfl dX7_does_60 hf
set_option maxHeartbeats 4000000 in
theorem m_X7_does (l : Launch) (E : gE) (ad : Nat → Nat) (σ : gM) (x1 : Int32) (r : Int32) (u : gM) (hf : f_X7_does σ x1 = some (r, u)) (sz : Nat) : Met l yX7_does (ws_ yX7_does cX7_does 2 (some .boolean)) rm_X7_does (gPc [.ref (ad 0), .int x1] E (wM E ad σ) sz) (gPi E (wM E ad) r u (va_A (wM E ad σ) sz)) 0 0 (va_A (wM E ad σ) sz) := by
  refine gMet (Qc := gPi E (wM E ad) r u) (by decide) (Nat.le_of_ble_eq_true rfl) (fun Γ X hl hE => ?_)
  subst hl; subst hE
  unfold f_X7_does at hf
  show gW Γ (gMQ Γ (gPi (gEo Γ) (wM (gEo Γ) ad) r u (gAo Γ)) 0 0) (wM (gEo Γ) ad σ) 2 0 0 0 [(0, .ref (ad 0)), (1, .int x1)] []
  refine g_aload_n X 0 dX7_does_0 rfl ?_
  refine g_iload_n X 1 dX7_does_1 rfl ?_
  refine g_callVi X 1 (As := [.int x1]) (wfc := wM (gEo Γ) ad) (lw_V q1131 q1133 qs42 q67 q1134) (by decide +kernel) (fun r_ u_ h_ sz_ => m_X7_isAct (gl Γ) (gEo Γ) ad σ x1 r_ u_ h_ sz_) (rq := 0) rfl rfl rfl rfl rfl ⟨by decide, by decide⟩ rfl (Nat.le_of_ble_eq_true rfl) ⟨Nat.zero_le _, Nat.zero_le _⟩ [0, 1, 2, 3, 4, 5, 6, 7, 8, 9, 10, 11, 12] [] [0, 1, 2, 3, 4, 5, 6, 7, 8, 9, 10, 11, 12] (fun u2 => wM (gEo Γ) ad u2) rfl rfl rfl rfl (by decide) rfl (fun _ => rfl) dX7_does_2 hf (fun r1 u2 _ hf => ?_)
  refine g_if_eq X 22 dX7_does_5 rfl hf (fun hf => ?_) (fun hf => ?_)
  · refine g_iconst X 0 dX7_does_22 rfl ?_
    exact g_zret X rfl dX7_does_23 hf
  · refine g_iload_n X 1 dX7_does_8 rfl ?_
    refine g_iconst X 5 dX7_does_9 rfl ?_
    refine g_icmp_ge X 24 dX7_does_10 rfl hf (fun hf => ?_) (fun hf => ?_)
    · exact w_X7_does_b24 X u2 x1 hf
    · refine g_aload_n X 0 dX7_does_13 rfl ?_
      refine g_iconst X 0 dX7_does_14 rfl ?_
      refine g_iload_n X 1 dX7_does_15 rfl ?_
      refine g_callVi X 2 (As := [.int 0, .int x1]) (wfc := wM (gEo Γ) ad) (lw_V q1075 q1077 qs37 q67 q1078) (by decide +kernel) (fun r_ u_ h_ sz_ => m_X7_waits (gl Γ) (gEo Γ) ad u2 0 x1 r_ u_ h_ sz_) (rq := 0) rfl rfl rfl rfl rfl ⟨by decide, by decide⟩ rfl (Nat.le_of_ble_eq_true rfl) ⟨Nat.zero_le _, Nat.zero_le _⟩ [0, 1, 2, 3, 4, 5, 6, 7, 8, 9, 10, 11, 12] [] [0, 1, 2, 3, 4, 5, 6, 7, 8, 9, 10, 11, 12] (fun u4 => wM (gEo Γ) ad u4) rfl rfl rfl rfl (by decide) rfl (fun _ => rfl) dX7_does_16 hf (fun r3 u4 _ hf => ?_)
      refine g_if_ne X 24 dX7_does_19 rfl hf (fun hf => ?_) (fun hf => ?_)
      · exact w_X7_does_b24 X u4 x1 hf
      · refine g_iconst X 0 dX7_does_22 rfl ?_
        exact g_zret X rfl dX7_does_23 hf
def f_X7_read_b167 (k55 : gM → Int32 → Int32 → Int32 → Int32 → Int32 → Int32 → Int32 → Option (Int32 × gM)) (σ : gM) (x1 : Int32) (x2 : Int32) (x3 : Int32) (x4 : Int32) (x5 : Int32) (x6 : Int32) (x7 : Int32) : Option (Int32 × gM) :=
  gv (x7 + 1) fun v21 => k55 σ x1 x2 x3 x4 x5 x6 v21
def f_X7_read_b123 (k55 : gM → Int32 → Int32 → Int32 → Int32 → Int32 → Int32 → Int32 → Option (Int32 × gM)) (σ : gM) (x1 : Int32) (x2 : Int32) (x3 : Int32) (x4 : Int32) (x6 : Int32) (x7 : Int32) (t0 : Int32) : Option (Int32 × gM) :=
  if t0 = 0 then (gld 160 (M_cells σ) ((((40 : Int32) * x1) + x3) + x7) fun v15 => (f_X7_does σ v15).bind fun (r16, u17) => if r16 = 0 then ((f_X7_copies u17 84 0).bind fun u20 => some (((-20) : Int32) - x6, u20)) else (gv (x6 + 1) fun v18 => f_X7_read_b167 k55 u17 x1 x2 x3 x4 t0 v18 x7)) else (f_X7_read_b167 k55 σ x1 x2 x3 x4 t0 x6 x7)
def f_X7_read_b173 (σ : gM) (x5 : Int32) (x6 : Int32) : Option (Int32 × gM) :=
  gs (M_torn_s σ x5) fun s14 => some (x6, s14)
def f_X7_read_b55 : Nat → gM → Int32 → Int32 → Int32 → Int32 → Int32 → Int32 → Int32 → Option (Int32 × gM)
  | 0 => fun _ _ _ _ _ _ _ _ => none
  | n_ + 1 => fun σ x1 x2 x3 x4 x5 x6 x7 =>
    if x4 ≤ x7 then (f_X7_read_b173 σ x5 x6) else (if x5 = 0 then (gld 4 (M_lanes σ) x1 fun v9 => if v9 = (-4) then (f_X7_read_b123 (f_X7_read_b55 n_) σ x1 x2 x3 x4 x6 x7 1) else (gld 4 (M_lanes σ) x1 fun v10 => if v10 = x2 then (gld 4 (M_lengths σ) x1 fun v11 => (f_X7_in ((x3.toInt64) + (x7.toInt64)) 0 ((v11 - 1).toInt64)).bind fun (r12, _) => if r12 = 0 then (f_X7_read_b123 (f_X7_read_b55 n_) σ x1 x2 x3 x4 x6 x7 2) else (f_X7_read_b123 (f_X7_read_b55 n_) σ x1 x2 x3 x4 x6 x7 0)) else (f_X7_read_b123 (f_X7_read_b55 n_) σ x1 x2 x3 x4 x6 x7 3))) else (f_X7_read_b173 σ x5 x6))
def f_X7_read (σ : gM) (x1 : Int32) (x2 : Int32) (x3 : Int32) (x4 : Int32) : Option (Int32 × gM) :=
  (f_X7_in (x1.toInt64) 0 3).bind fun (r1, _) => if r1 = 0 then (some ((-1), σ)) else ((f_X7_in (x2.toInt64) 0 2).bind fun (r3, _) => if r3 = 0 then (some ((-1), σ)) else ((f_X7_in (x4.toInt64) 0 20).bind fun (r5, _) => if r5 = 0 then (some ((-1), σ)) else ((f_X7_copies σ 0 84).bind fun u8 => f_X7_read_b55 2000 u8 x1 x2 x3 x4 0 0 0)))
abbrev rm_X7_read : Room := { frames := 5, cells := 0, slots := 0, locals := 105 }
set_option maxHeartbeats 4000000 in
theorem w_X7_read_b167 {Γ : gG} {ad : Nat → Nat} {r : Int32} {u : gM} (X : gCX Γ cX7_read 8 (some .int) RX7 rm_X7_read) {k55 : gM → Int32 → Int32 → Int32 → Int32 → Int32 → Int32 → Int32 → Option (Int32 × gM)} (H55 : ∀ (σ : gM) (x1 : Int32) (x2 : Int32) (x3 : Int32) (x4 : Int32) (x5 : Int32) (x6 : Int32) (x7 : Int32), k55 σ x1 x2 x3 x4 x5 x6 x7 = some (r, u) → gW Γ (gMQ Γ (gPi (gEo Γ) (wM (gEo Γ) ad) r u (gAo Γ)) 0 0) (wM (gEo Γ) ad σ) 8 0 0 55 [(0, .ref (ad 0)), (1, .int x1), (2, .int x2), (3, .int x3), (4, .int x4), (5, .int x5), (6, .int x6), (7, .int x7)] []) : ∀ (σ : gM) (x1 : Int32) (x2 : Int32) (x3 : Int32) (x4 : Int32) (x5 : Int32) (x6 : Int32) (x7 : Int32), f_X7_read_b167 k55 σ x1 x2 x3 x4 x5 x6 x7 = some (r, u) → gW Γ (gMQ Γ (gPi (gEo Γ) (wM (gEo Γ) ad) r u (gAo Γ)) 0 0) (wM (gEo Γ) ad σ) 8 0 0 167 [(0, .ref (ad 0)), (1, .int x1), (2, .int x2), (3, .int x3), (4, .int x4), (5, .int x5), (6, .int x6), (7, .int x7)] [] := by
  intro σ x1 x2 x3 x4 x5 x6 x7 hf
  unfold f_X7_read_b167 at hf
  refine g_iincV X 1 7 (fun v21 => [(7, .int v21), (0, .ref (ad 0)), (1, .int x1), (2, .int x2), (3, .int x3), (4, .int x4), (5, .int x5), (6, .int x6)]) dX7_read_167 rfl rfl (by decide) (fun _ => rfl) hf (fun v21 hf => ?_)
  refine g_goto X 55 dX7_read_170 rfl ?_
  refine g_sub [1, 2, 3, 4, 5, 6, 7, 0] [(0, .ref (ad 0)), (1, .int x1), (2, .int x2), (3, .int x3), (4, .int x4), (5, .int x5), (6, .int x6), (7, .int v21)] rfl ?_
  exact H55 σ x1 x2 x3 x4 x5 x6 v21 hf
set_option maxHeartbeats 4000000 in
theorem w_X7_read_b123 {Γ : gG} {ad : Nat → Nat} {r : Int32} {u : gM} (X : gCX Γ cX7_read 8 (some .int) RX7 rm_X7_read) {k55 : gM → Int32 → Int32 → Int32 → Int32 → Int32 → Int32 → Int32 → Option (Int32 × gM)} (H55 : ∀ (σ : gM) (x1 : Int32) (x2 : Int32) (x3 : Int32) (x4 : Int32) (x5 : Int32) (x6 : Int32) (x7 : Int32), k55 σ x1 x2 x3 x4 x5 x6 x7 = some (r, u) → gW Γ (gMQ Γ (gPi (gEo Γ) (wM (gEo Γ) ad) r u (gAo Γ)) 0 0) (wM (gEo Γ) ad σ) 8 0 0 55 [(0, .ref (ad 0)), (1, .int x1), (2, .int x2), (3, .int x3), (4, .int x4), (5, .int x5), (6, .int x6), (7, .int x7)] []) : ∀ (σ : gM) (x1 : Int32) (x2 : Int32) (x3 : Int32) (x4 : Int32) (x6 : Int32) (x7 : Int32) (t0 : Int32), f_X7_read_b123 k55 σ x1 x2 x3 x4 x6 x7 t0 = some (r, u) → gW Γ (gMQ Γ (gPi (gEo Γ) (wM (gEo Γ) ad) r u (gAo Γ)) 0 0) (wM (gEo Γ) ad σ) 8 0 0 123 [(0, .ref (ad 0)), (1, .int x1), (2, .int x2), (3, .int x3), (4, .int x4), (6, .int x6), (7, .int x7)] [.int t0] := by
  intro σ x1 x2 x3 x4 x6 x7 t0 hf
  unfold f_X7_read_b123 at hf
  refine g_istore X [(5, .int t0), (0, .ref (ad 0)), (1, .int x1), (2, .int x2), (3, .int x3), (4, .int x4), (6, .int x6), (7, .int x7)] dX7_read_123 (by decide) rfl ?_
  refine g_iload X 0 dX7_read_125 rfl ?_
  refine g_if_ne X 167 dX7_read_127 rfl hf (fun hf => ?_) (fun hf => ?_)
  · refine g_sub [1, 2, 3, 4, 5, 0, 6, 7] [(0, .ref (ad 0)), (1, .int x1), (2, .int x2), (3, .int x3), (4, .int x4), (5, .int t0), (6, .int x6), (7, .int x7)] rfl ?_
    exact w_X7_read_b167 X H55 σ x1 x2 x3 x4 t0 x6 x7 hf
  · refine g_aload_n X 1 dX7_read_130 rfl ?_
    refine g_aload_n X 1 dX7_read_131 rfl ?_
    refine g_get X in_X7 0 27 rfl rfl (by decide) q944 rfl dX7_read_132 ?_
    refine g_bipush X 40 dX7_read_135 rfl ?_
    refine g_iload_n X 2 dX7_read_137 rfl ?_
    refine g_imul X dX7_read_138 ?_
    refine g_iload_n X 4 dX7_read_139 rfl ?_
    refine g_iadd X dX7_read_140 ?_
    refine g_iload X 7 dX7_read_141 rfl ?_
    refine g_iadd X dX7_read_143 ?_
    refine g_iald X 12 rfl dX7_read_144 hf (fun v15 hf => ?_)
    refine g_callVi X 1 (As := [.int v15]) (wfc := wM (gEo Γ) ad) (lw_V q1319 q1321 qs58 q67 q1322) (by decide +kernel) (fun r_ u_ h_ sz_ => m_X7_does (gl Γ) (gEo Γ) ad σ v15 r_ u_ h_ sz_) (rq := 0) rfl rfl rfl rfl rfl ⟨by decide, by decide⟩ rfl (Nat.le_of_ble_eq_true rfl) ⟨Nat.zero_le _, Nat.zero_le _⟩ [0, 1, 2, 3, 4, 5, 6, 7, 8, 9, 10, 11, 12] [] [0, 1, 2, 3, 4, 5, 6, 7, 8, 9, 10, 11, 12] (fun u17 => wM (gEo Γ) ad u17) rfl rfl rfl rfl (by decide) rfl (fun _ => rfl) dX7_read_145 hf (fun r16 u17 _ hf => ?_)
    refine g_if_ne X 164 dX7_read_148 rfl hf (fun hf => ?_) (fun hf => ?_)
    · refine g_iincV X 1 6 (fun v18 => [(6, .int v18), (5, .int t0), (0, .ref (ad 0)), (1, .int x1), (2, .int x2), (3, .int x3), (4, .int x4), (7, .int x7)]) dX7_read_164 rfl rfl (by decide) (fun _ => rfl) hf (fun v18 hf => ?_)
      refine g_sub [2, 3, 4, 5, 6, 1, 0, 7] [(0, .ref (ad 0)), (1, .int x1), (2, .int x2), (3, .int x3), (4, .int x4), (5, .int t0), (6, .int v18), (7, .int x7)] rfl ?_
      exact w_X7_read_b167 X H55 u17 x1 x2 x3 x4 t0 v18 x7 hf
    · refine g_aload_n X 1 dX7_read_151 rfl ?_
      refine g_bipush X 84 dX7_read_152 rfl ?_
      refine g_iconst X 0 dX7_read_154 rfl ?_
      refine g_callVv X 2 (As := [.int 84, .int 0]) (wfc := wM (gEo Γ) ad) (lw_V q1199 q1201 qs51 q67 q1202) (by decide +kernel) (fun u_ h_ sz_ => m_X7_copies (gl Γ) (gEo Γ) ad u17 84 0 u_ h_ sz_) (rq := 0) rfl rfl rfl rfl rfl ⟨by decide, by decide⟩ rfl (Nat.le_of_ble_eq_true rfl) ⟨Nat.zero_le _, Nat.zero_le _⟩ [0, 1, 2, 3, 4, 5, 6, 7, 8, 9, 10, 11, 12] [] [0, 1, 2, 3, 4, 5, 6, 7, 8, 9, 10, 11, 12] (fun u20 => wM (gEo Γ) ad u20) rfl rfl rfl rfl (by decide) rfl (fun _ => rfl) dX7_read_155 hf (fun u20 _ hf => ?_)
      refine g_bipush X (-20) dX7_read_158 rfl ?_
      refine g_iload X 6 dX7_read_160 rfl ?_
      refine g_isub X dX7_read_162 ?_
      exact g_iret X rfl dX7_read_163 hf
set_option maxHeartbeats 4000000 in
theorem w_X7_read_b173 {Γ : gG} {ad : Nat → Nat} {r : Int32} {u : gM} (X : gCX Γ cX7_read 8 (some .int) RX7 rm_X7_read) : ∀ (σ : gM) (x5 : Int32) (x6 : Int32), f_X7_read_b173 σ x5 x6 = some (r, u) → gW Γ (gMQ Γ (gPi (gEo Γ) (wM (gEo Γ) ad) r u (gAo Γ)) 0 0) (wM (gEo Γ) ad σ) 8 0 0 173 [(0, .ref (ad 0)), (5, .int x5), (6, .int x6)] [] := by
  intro σ x5 x6 hf
  unfold f_X7_read_b173 at hf
  refine g_aload_n X 0 dX7_read_173 rfl ?_
  refine g_iload X 1 dX7_read_174 rfl ?_
  refine g_put X in_X7 tyX7_ok nmX7 0 28 (wM (gEo Γ) ad (M_torn_s σ x5)) rfl rfl (by decide) q945 rfl rfl rfl rfl (Nat.le_of_ble_eq_true rfl) rfl dX7_read_176 ?_
  refine g_gs (wM (gEo Γ) ad) hf (fun s14 hf => ?_)
  refine g_iload X 2 dX7_read_179 rfl ?_
  exact g_iret X rfl dX7_read_181 hf
set_option maxHeartbeats 4000000 in
theorem w_X7_read_b55 {Γ : gG} {ad : Nat → Nat} {r : Int32} {u : gM} (X : gCX Γ cX7_read 8 (some .int) RX7 rm_X7_read) : ∀ (n_ : Nat) (σ : gM) (x1 : Int32) (x2 : Int32) (x3 : Int32) (x4 : Int32) (x5 : Int32) (x6 : Int32) (x7 : Int32), f_X7_read_b55 n_ σ x1 x2 x3 x4 x5 x6 x7 = some (r, u) → gW Γ (gMQ Γ (gPi (gEo Γ) (wM (gEo Γ) ad) r u (gAo Γ)) 0 0) (wM (gEo Γ) ad σ) 8 0 0 55 [(0, .ref (ad 0)), (1, .int x1), (2, .int x2), (3, .int x3), (4, .int x4), (5, .int x5), (6, .int x6), (7, .int x7)] [] := by
  intro n_
  induction n_ with
  | zero => intro σ x1 x2 x3 x4 x5 x6 x7 hf; cases hf
  | succ n_ ih =>
    intro σ x1 x2 x3 x4 x5 x6 x7 hf
    simp only [f_X7_read_b55] at hf
    refine g_iload X 7 dX7_read_55 rfl ?_
    refine g_iload X 4 dX7_read_57 rfl ?_
    refine g_icmp_ge X 173 dX7_read_59 rfl hf (fun hf => ?_) (fun hf => ?_)
    · refine g_sub [0, 5, 6] [(0, .ref (ad 0)), (5, .int x5), (6, .int x6)] rfl ?_
      exact w_X7_read_b173 X σ x5 x6 hf
    · refine g_iload X 5 dX7_read_62 rfl ?_
      refine g_if_ne X 173 dX7_read_64 rfl hf (fun hf => ?_) (fun hf => ?_)
      · refine g_sub [0, 5, 6] [(0, .ref (ad 0)), (5, .int x5), (6, .int x6)] rfl ?_
        exact w_X7_read_b173 X σ x5 x6 hf
      · refine g_aload_n X 0 dX7_read_67 rfl ?_
        refine g_get X in_X7 0 25 rfl rfl (by decide) q942 rfl dX7_read_68 ?_
        refine g_iload_n X 1 dX7_read_71 rfl ?_
        refine g_iald X 10 rfl dX7_read_72 hf (fun v9 hf => ?_)
        refine g_bipush X (-4) dX7_read_73 rfl ?_
        refine g_icmp_ne X 82 dX7_read_75 rfl hf (fun hf => ?_) (fun hf => ?_)
        · refine g_aload_n X 0 dX7_read_82 rfl ?_
          refine g_get X in_X7 0 25 rfl rfl (by decide) q942 rfl dX7_read_83 ?_
          refine g_iload_n X 1 dX7_read_86 rfl ?_
          refine g_iald X 10 rfl dX7_read_87 hf (fun v10 hf => ?_)
          refine g_iload_n X 2 dX7_read_88 rfl ?_
          refine g_icmp_eq X 96 dX7_read_89 rfl hf (fun hf => ?_) (fun hf => ?_)
          · refine g_iload_n X 3 dX7_read_96 rfl ?_
            refine g_i2l X dX7_read_97 ?_
            refine g_iload X 7 dX7_read_98 rfl ?_
            refine g_i2l X dX7_read_100 ?_
            refine g_ladd X dX7_read_101 ?_
            refine g_lconst X 0 dX7_read_102 rfl ?_
            refine g_aload_n X 0 dX7_read_103 rfl ?_
            refine g_get X in_X7 0 26 rfl rfl (by decide) q943 rfl dX7_read_104 ?_
            refine g_iload_n X 1 dX7_read_107 rfl ?_
            refine g_iald X 11 rfl dX7_read_108 hf (fun v11 hf => ?_)
            refine g_iconst X 1 dX7_read_109 rfl ?_
            refine g_isub X dX7_read_110 ?_
            refine g_i2l X dX7_read_111 ?_
            refine g_call0i X 3 (As := [.long ((x3.toInt64) + (x7.toInt64)), .long 0, .long ((v11 - 1).toInt64)]) (lw_S q1011 q1012 q67 q1013) (by decide +kernel) (fun r_ u_ h_ sz_ => m_X7_in (gl Γ) (gEo Γ) ((x3.toInt64) + (x7.toInt64)) 0 ((v11 - 1).toInt64) r_ u_ h_ sz_) rfl rfl ⟨by decide, by decide⟩ rfl (Nat.le_of_ble_eq_true rfl) ⟨Nat.zero_le _, Nat.zero_le _⟩ dX7_read_112 hf (fun r12 _ hf => ?_)
            refine g_if_ne X 122 dX7_read_115 rfl hf (fun hf => ?_) (fun hf => ?_)
            · refine g_iconst X 0 dX7_read_122 rfl ?_
              refine g_sub [0, 1, 2, 3, 4, 6, 7] [(0, .ref (ad 0)), (1, .int x1), (2, .int x2), (3, .int x3), (4, .int x4), (6, .int x6), (7, .int x7)] rfl ?_
              exact w_X7_read_b123 X ih σ x1 x2 x3 x4 x6 x7 0 hf
            · refine g_iconst X 2 dX7_read_118 rfl ?_
              refine g_goto X 123 dX7_read_119 rfl ?_
              refine g_sub [0, 1, 2, 3, 4, 6, 7] [(0, .ref (ad 0)), (1, .int x1), (2, .int x2), (3, .int x3), (4, .int x4), (6, .int x6), (7, .int x7)] rfl ?_
              exact w_X7_read_b123 X ih σ x1 x2 x3 x4 x6 x7 2 hf
          · refine g_iconst X 3 dX7_read_92 rfl ?_
            refine g_goto X 123 dX7_read_93 rfl ?_
            refine g_sub [0, 1, 2, 3, 4, 6, 7] [(0, .ref (ad 0)), (1, .int x1), (2, .int x2), (3, .int x3), (4, .int x4), (6, .int x6), (7, .int x7)] rfl ?_
            exact w_X7_read_b123 X ih σ x1 x2 x3 x4 x6 x7 3 hf
        · refine g_iconst X 1 dX7_read_78 rfl ?_
          refine g_goto X 123 dX7_read_79 rfl ?_
          refine g_sub [0, 1, 2, 3, 4, 6, 7] [(0, .ref (ad 0)), (1, .int x1), (2, .int x2), (3, .int x3), (4, .int x4), (6, .int x6), (7, .int x7)] rfl ?_
          exact w_X7_read_b123 X ih σ x1 x2 x3 x4 x6 x7 1 hf
set_option maxHeartbeats 4000000 in
theorem m_X7_read (l : Launch) (E : gE) (ad : Nat → Nat) (σ : gM) (x1 : Int32) (x2 : Int32) (x3 : Int32) (x4 : Int32) (r : Int32) (u : gM) (hf : f_X7_read σ x1 x2 x3 x4 = some (r, u)) (sz : Nat) : Met l yX7_read (ws_ yX7_read cX7_read 8 (some .int)) rm_X7_read (gPc [.ref (ad 0), .int x1, .int x2, .int x3, .int x4] E (wM E ad σ) sz) (gPi E (wM E ad) r u (va_A (wM E ad σ) sz)) 0 0 (va_A (wM E ad σ) sz) := by
  refine gMet (Qc := gPi E (wM E ad) r u) (by decide) (Nat.le_of_ble_eq_true rfl) (fun Γ X hl hE => ?_)
  subst hl; subst hE
  unfold f_X7_read at hf
  show gW Γ (gMQ Γ (gPi (gEo Γ) (wM (gEo Γ) ad) r u (gAo Γ)) 0 0) (wM (gEo Γ) ad σ) 8 0 0 0 [(0, .ref (ad 0)), (1, .int x1), (2, .int x2), (3, .int x3), (4, .int x4)] []
  refine g_iload_n X 1 dX7_read_0 rfl ?_
  refine g_i2l X dX7_read_1 ?_
  refine g_lconst X 0 dX7_read_2 rfl ?_
  refine g_ldc2 X dX7_read_3 q1111 ?_
  refine g_call0i X 3 (As := [.long (x1.toInt64), .long 0, .long 3]) (lw_S q1011 q1012 q67 q1013) (by decide +kernel) (fun r_ u_ h_ sz_ => m_X7_in (gl Γ) (gEo Γ) (x1.toInt64) 0 3 r_ u_ h_ sz_) rfl rfl ⟨by decide, by decide⟩ rfl (Nat.le_of_ble_eq_true rfl) ⟨Nat.zero_le _, Nat.zero_le _⟩ dX7_read_6 hf (fun r1 _ hf => ?_)
  refine g_if_eq X 37 dX7_read_9 rfl hf (fun hf => ?_) (fun hf => ?_)
  · refine g_iconst X (-1) dX7_read_37 rfl ?_
    exact g_iret X rfl dX7_read_38 hf
  · refine g_iload_n X 2 dX7_read_12 rfl ?_
    refine g_i2l X dX7_read_13 ?_
    refine g_lconst X 0 dX7_read_14 rfl ?_
    refine g_ldc2 X dX7_read_15 q1309 ?_
    refine g_call0i X 3 (As := [.long (x2.toInt64), .long 0, .long 2]) (lw_S q1011 q1012 q67 q1013) (by decide +kernel) (fun r_ u_ h_ sz_ => m_X7_in (gl Γ) (gEo Γ) (x2.toInt64) 0 2 r_ u_ h_ sz_) rfl rfl ⟨by decide, by decide⟩ rfl (Nat.le_of_ble_eq_true rfl) ⟨Nat.zero_le _, Nat.zero_le _⟩ dX7_read_18 hf (fun r3 _ hf => ?_)
    refine g_if_eq X 37 dX7_read_21 rfl hf (fun hf => ?_) (fun hf => ?_)
    · refine g_iconst X (-1) dX7_read_37 rfl ?_
      exact g_iret X rfl dX7_read_38 hf
    · refine g_iload X 4 dX7_read_24 rfl ?_
      refine g_i2l X dX7_read_26 ?_
      refine g_lconst X 0 dX7_read_27 rfl ?_
      refine g_ldc2 X dX7_read_28 q1318 ?_
      refine g_call0i X 3 (As := [.long (x4.toInt64), .long 0, .long 20]) (lw_S q1011 q1012 q67 q1013) (by decide +kernel) (fun r_ u_ h_ sz_ => m_X7_in (gl Γ) (gEo Γ) (x4.toInt64) 0 20 r_ u_ h_ sz_) rfl rfl ⟨by decide, by decide⟩ rfl (Nat.le_of_ble_eq_true rfl) ⟨Nat.zero_le _, Nat.zero_le _⟩ dX7_read_31 hf (fun r5 _ hf => ?_)
      refine g_if_ne X 39 dX7_read_34 rfl hf (fun hf => ?_) (fun hf => ?_)
      · refine g_aload_n X 0 dX7_read_39 rfl ?_
        refine g_iconst X 0 dX7_read_40 rfl ?_
        refine g_bipush X 84 dX7_read_41 rfl ?_
        refine g_callVv X 2 (As := [.int 0, .int 84]) (wfc := wM (gEo Γ) ad) (lw_V q1199 q1201 qs51 q67 q1202) (by decide +kernel) (fun u_ h_ sz_ => m_X7_copies (gl Γ) (gEo Γ) ad σ 0 84 u_ h_ sz_) (rq := 0) rfl rfl rfl rfl rfl ⟨by decide, by decide⟩ rfl (Nat.le_of_ble_eq_true rfl) ⟨Nat.zero_le _, Nat.zero_le _⟩ [0, 1, 2, 3, 4, 5, 6, 7, 8, 9, 10, 11, 12] [] [0, 1, 2, 3, 4, 5, 6, 7, 8, 9, 10, 11, 12] (fun u8 => wM (gEo Γ) ad u8) rfl rfl rfl rfl (by decide) rfl (fun _ => rfl) dX7_read_43 hf (fun u8 _ hf => ?_)
        refine g_iconst X 0 dX7_read_46 rfl ?_
        refine g_istore X [(5, .int 0), (0, .ref (ad 0)), (1, .int x1), (2, .int x2), (3, .int x3), (4, .int x4)] dX7_read_47 (by decide) rfl ?_
        refine g_iconst X 0 dX7_read_49 rfl ?_
        refine g_istore X [(6, .int 0), (5, .int 0), (0, .ref (ad 0)), (1, .int x1), (2, .int x2), (3, .int x3), (4, .int x4)] dX7_read_50 (by decide) rfl ?_
        refine g_iconst X 0 dX7_read_52 rfl ?_
        refine g_istore X [(7, .int 0), (6, .int 0), (5, .int 0), (0, .ref (ad 0)), (1, .int x1), (2, .int x2), (3, .int x3), (4, .int x4)] dX7_read_53 (by decide) rfl ?_
        refine g_sub [3, 4, 5, 6, 7, 2, 1, 0] [(0, .ref (ad 0)), (1, .int x1), (2, .int x2), (3, .int x3), (4, .int x4), (5, .int 0), (6, .int 0), (7, .int 0)] rfl ?_
        exact w_X7_read_b55 X 2000 u8 x1 x2 x3 x4 0 0 0 hf
      · refine g_iconst X (-1) dX7_read_37 rfl ?_
        exact g_iret X rfl dX7_read_38 hf
def f_X7_torn (σ : gM) : Option (Int32 × gM) :=
  some ((M_torn σ), σ)
abbrev rm_X7_torn : Room := { frames := 1, cells := 0, slots := 0, locals := 12 }
set_option maxHeartbeats 4000000 in
theorem m_X7_torn (l : Launch) (E : gE) (ad : Nat → Nat) (σ : gM) (r : Int32) (u : gM) (hf : f_X7_torn σ = some (r, u)) (sz : Nat) : Met l yX7_torn (ws_ yX7_torn cX7_torn 1 (some .int)) rm_X7_torn (gPc [.ref (ad 0)] E (wM E ad σ) sz) (gPi E (wM E ad) r u (va_A (wM E ad σ) sz)) 0 0 (va_A (wM E ad σ) sz) := by
  refine gMet (Qc := gPi E (wM E ad) r u) (by decide) (Nat.le_of_ble_eq_true rfl) (fun Γ X hl hE => ?_)
  subst hl; subst hE
  unfold f_X7_torn at hf
  show gW Γ (gMQ Γ (gPi (gEo Γ) (wM (gEo Γ) ad) r u (gAo Γ)) 0 0) (wM (gEo Γ) ad σ) 1 0 0 0 [(0, .ref (ad 0))] []
  refine g_aload_n X 0 dX7_torn_0 rfl ?_
  refine g_get X in_X7 0 28 rfl rfl (by decide) q945 rfl dX7_torn_1 ?_
  exact g_iret X rfl dX7_torn_4 hf
def f_X7_count_b35 (k7 : gM → Int32 → Int32 → Int32 → Int32 → Option (Int32 × gM)) (σ : gM) (x1 : Int32) (x3 : Int32) (x4 : Int32) (t0 : Int32) (t1 : Int32) : Option (Int32 × gM) :=
  gv (t1 + t0) fun v10 => gv (x4 + 1) fun v11 => k7 σ x1 v10 x3 v11
def f_X7_count_b79 (k46 : gM → Int32 → Int32 → Int32 → Int32 → Option (Int32 × gM)) (σ : gM) (x1 : Int32) (x2 : Int32) (x4 : Int32) (t0 : Int32) (t1 : Int32) : Option (Int32 × gM) :=
  gv (t1 + t0) fun v8 => gv (x4 + 1) fun v9 => k46 σ x1 x2 v8 v9
def f_X7_count_b161 (σ : gM) (t0 : Int32) (t1 : Int32) : Option (Int32 × gM) :=
  some (t1 + t0, σ)
def f_X7_count_b147 (σ : gM) (t0 : Int32) : Option (Int32 × gM) :=
  gld 2 (M_isKept σ) 1 fun v7 => if v7 = 0 then (f_X7_count_b161 σ 0 t0) else (f_X7_count_b161 σ 1 t0)
def f_X7_count_b46 : Nat → gM → Int32 → Int32 → Int32 → Int32 → Option (Int32 × gM)
  | 0 => fun _ _ _ _ _ => none
  | n_ + 1 => fun σ x1 x2 x3 x4 =>
    gld 168 (M_state σ) 27 fun v2 => if v2 ≤ x4 then (gsw 6 x1 (fun k => match k with | 0 => (some ((M_seenMany σ), σ)) | 1 => (gld 2 (M_isKept σ) 0 fun v3 => if v3 = 0 then (f_X7_count_b147 σ 0) else (f_X7_count_b147 σ 1)) | 2 => (some ((M_taped σ), σ)) | 3 => (gld 4 (M_lanes σ) 0 fun v4 => if v4 = (-4) then (some ((-4), σ)) else (gld 4 (M_lengths σ) 0 fun v5 => some (v5, σ))) | 4 => (some (x2, σ)) | 5 => (some (x3, σ)) | _ => none) (some ((-1), σ))) else (gld 168 (M_state σ) ((19 : Int32) + x4) fun v6 => if v6 = 6 then (f_X7_count_b79 (f_X7_count_b46 n_) σ x1 x2 x4 1 x3) else (f_X7_count_b79 (f_X7_count_b46 n_) σ x1 x2 x4 0 x3))
def f_X7_count_b7 : Nat → gM → Int32 → Int32 → Int32 → Int32 → Option (Int32 × gM)
  | 0 => fun _ _ _ _ _ => none
  | n_ + 1 => fun σ x1 x2 x3 x4 =>
    if (M_oneMany σ) ≤ x4 then (f_X7_count_b46 2000 σ x1 x2 x3 0) else (gld 168 (M_state σ) ((10 : Int32) + x4) fun v1 => if v1 ≤ 0 then (f_X7_count_b35 (f_X7_count_b7 n_) σ x1 x3 x4 0 x2) else (f_X7_count_b35 (f_X7_count_b7 n_) σ x1 x3 x4 1 x2))
def f_X7_count (σ : gM) (x1 : Int32) : Option (Int32 × gM) :=
  f_X7_count_b7 2000 σ x1 0 0 0
abbrev rm_X7_count : Room := { frames := 1, cells := 0, slots := 0, locals := 12 }
set_option maxHeartbeats 4000000 in
theorem w_X7_count_b35 {Γ : gG} {ad : Nat → Nat} {r : Int32} {u : gM} (X : gCX Γ cX7_count 5 (some .int) RX7 rm_X7_count) {k7 : gM → Int32 → Int32 → Int32 → Int32 → Option (Int32 × gM)} (H7 : ∀ (σ : gM) (x1 : Int32) (x2 : Int32) (x3 : Int32) (x4 : Int32), k7 σ x1 x2 x3 x4 = some (r, u) → gW Γ (gMQ Γ (gPi (gEo Γ) (wM (gEo Γ) ad) r u (gAo Γ)) 0 0) (wM (gEo Γ) ad σ) 5 0 0 7 [(0, .ref (ad 0)), (1, .int x1), (2, .int x2), (3, .int x3), (4, .int x4)] []) : ∀ (σ : gM) (x1 : Int32) (x3 : Int32) (x4 : Int32) (t0 : Int32) (t1 : Int32), f_X7_count_b35 k7 σ x1 x3 x4 t0 t1 = some (r, u) → gW Γ (gMQ Γ (gPi (gEo Γ) (wM (gEo Γ) ad) r u (gAo Γ)) 0 0) (wM (gEo Γ) ad σ) 5 0 0 35 [(0, .ref (ad 0)), (1, .int x1), (3, .int x3), (4, .int x4)] [.int t0, .int t1] := by
  intro σ x1 x3 x4 t0 t1 hf
  unfold f_X7_count_b35 at hf
  refine g_iadd X dX7_count_35 ?_
  refine g_topi hf (fun v10 hf => ?_)
  refine g_istore_n X [(2, .int v10), (0, .ref (ad 0)), (1, .int x1), (3, .int x3), (4, .int x4)] dX7_count_36 (by decide) rfl ?_
  refine g_iincV X 1 4 (fun v11 => [(4, .int v11), (2, .int v10), (0, .ref (ad 0)), (1, .int x1), (3, .int x3)]) dX7_count_37 rfl rfl (by decide) (fun _ => rfl) hf (fun v11 hf => ?_)
  refine g_goto X 7 dX7_count_40 rfl ?_
  refine g_sub [2, 3, 1, 4, 0] [(0, .ref (ad 0)), (1, .int x1), (2, .int v10), (3, .int x3), (4, .int v11)] rfl ?_
  exact H7 σ x1 v10 x3 v11 hf
set_option maxHeartbeats 4000000 in
theorem w_X7_count_b79 {Γ : gG} {ad : Nat → Nat} {r : Int32} {u : gM} (X : gCX Γ cX7_count 5 (some .int) RX7 rm_X7_count) {k46 : gM → Int32 → Int32 → Int32 → Int32 → Option (Int32 × gM)} (H46 : ∀ (σ : gM) (x1 : Int32) (x2 : Int32) (x3 : Int32) (x4 : Int32), k46 σ x1 x2 x3 x4 = some (r, u) → gW Γ (gMQ Γ (gPi (gEo Γ) (wM (gEo Γ) ad) r u (gAo Γ)) 0 0) (wM (gEo Γ) ad σ) 5 0 0 46 [(0, .ref (ad 0)), (1, .int x1), (2, .int x2), (3, .int x3), (4, .int x4)] []) : ∀ (σ : gM) (x1 : Int32) (x2 : Int32) (x4 : Int32) (t0 : Int32) (t1 : Int32), f_X7_count_b79 k46 σ x1 x2 x4 t0 t1 = some (r, u) → gW Γ (gMQ Γ (gPi (gEo Γ) (wM (gEo Γ) ad) r u (gAo Γ)) 0 0) (wM (gEo Γ) ad σ) 5 0 0 79 [(0, .ref (ad 0)), (1, .int x1), (2, .int x2), (4, .int x4)] [.int t0, .int t1] := by
  intro σ x1 x2 x4 t0 t1 hf
  unfold f_X7_count_b79 at hf
  refine g_iadd X dX7_count_79 ?_
  refine g_topi hf (fun v8 hf => ?_)
  refine g_istore_n X [(3, .int v8), (0, .ref (ad 0)), (1, .int x1), (2, .int x2), (4, .int x4)] dX7_count_80 (by decide) rfl ?_
  refine g_iincV X 1 4 (fun v9 => [(4, .int v9), (3, .int v8), (0, .ref (ad 0)), (1, .int x1), (2, .int x2)]) dX7_count_81 rfl rfl (by decide) (fun _ => rfl) hf (fun v9 hf => ?_)
  refine g_goto X 46 dX7_count_84 rfl ?_
  refine g_sub [2, 3, 4, 1, 0] [(0, .ref (ad 0)), (1, .int x1), (2, .int x2), (3, .int v8), (4, .int v9)] rfl ?_
  exact H46 σ x1 x2 v8 v9 hf
set_option maxHeartbeats 4000000 in
theorem w_X7_count_b161 {Γ : gG} {ad : Nat → Nat} {r : Int32} {u : gM} (X : gCX Γ cX7_count 5 (some .int) RX7 rm_X7_count) : ∀ (σ : gM) (t0 : Int32) (t1 : Int32), f_X7_count_b161 σ t0 t1 = some (r, u) → gW Γ (gMQ Γ (gPi (gEo Γ) (wM (gEo Γ) ad) r u (gAo Γ)) 0 0) (wM (gEo Γ) ad σ) 5 0 0 161 [] [.int t0, .int t1] := by
  intro σ t0 t1 hf
  unfold f_X7_count_b161 at hf
  refine g_iadd X dX7_count_161 ?_
  exact g_iret X rfl dX7_count_162 hf
set_option maxHeartbeats 4000000 in
theorem w_X7_count_b147 {Γ : gG} {ad : Nat → Nat} {r : Int32} {u : gM} (X : gCX Γ cX7_count 5 (some .int) RX7 rm_X7_count) : ∀ (σ : gM) (t0 : Int32), f_X7_count_b147 σ t0 = some (r, u) → gW Γ (gMQ Γ (gPi (gEo Γ) (wM (gEo Γ) ad) r u (gAo Γ)) 0 0) (wM (gEo Γ) ad σ) 5 0 0 147 [(0, .ref (ad 0))] [.int t0] := by
  intro σ t0 hf
  unfold f_X7_count_b147 at hf
  refine g_aload_n X 0 dX7_count_147 rfl ?_
  refine g_get X in_X7 0 24 rfl rfl (by decide) q941 rfl dX7_count_148 ?_
  refine g_iconst X 1 dX7_count_151 rfl ?_
  refine g_zald X 9 rfl dX7_count_152 hf (fun v7 hf => ?_)
  refine g_if_eq X 160 dX7_count_153 rfl hf (fun hf => ?_) (fun hf => ?_)
  · refine g_iconst X 0 dX7_count_160 rfl ?_
    refine g_sub [] [] rfl ?_
    exact w_X7_count_b161 X σ 0 t0 hf
  · refine g_iconst X 1 dX7_count_156 rfl ?_
    refine g_goto X 161 dX7_count_157 rfl ?_
    refine g_sub [] [] rfl ?_
    exact w_X7_count_b161 X σ 1 t0 hf
set_option maxHeartbeats 4000000 in
theorem w_X7_count_b46 {Γ : gG} {ad : Nat → Nat} {r : Int32} {u : gM} (X : gCX Γ cX7_count 5 (some .int) RX7 rm_X7_count) : ∀ (n_ : Nat) (σ : gM) (x1 : Int32) (x2 : Int32) (x3 : Int32) (x4 : Int32), f_X7_count_b46 n_ σ x1 x2 x3 x4 = some (r, u) → gW Γ (gMQ Γ (gPi (gEo Γ) (wM (gEo Γ) ad) r u (gAo Γ)) 0 0) (wM (gEo Γ) ad σ) 5 0 0 46 [(0, .ref (ad 0)), (1, .int x1), (2, .int x2), (3, .int x3), (4, .int x4)] [] := by
  intro n_
  induction n_ with
  | zero => intro σ x1 x2 x3 x4 hf; cases hf
  | succ n_ ih =>
    intro σ x1 x2 x3 x4 hf
    simp only [f_X7_count_b46] at hf
    refine g_iload X 4 dX7_count_46 rfl ?_
    refine g_aload_n X 0 dX7_count_48 rfl ?_
    refine g_get X in_X7 0 0 rfl rfl (by decide) q917 rfl dX7_count_49 ?_
    refine g_bipush X 27 dX7_count_52 rfl ?_
    refine g_iald X 1 rfl dX7_count_54 hf (fun v2 hf => ?_)
    refine g_icmp_ge X 87 dX7_count_55 rfl hf (fun hf => ?_) (fun hf => ?_)
    · refine g_iload_n X 1 dX7_count_87 rfl ?_
      refine g_tsw X 6 (fun k => match k with | 0 => 128 | 1 => 133 | 2 => 163 | 3 => 168 | 4 => 191 | 5 => 193 | _ => 0) 195 dX7_count_88 rfl (fun k hk => ?_) rfl hf (fun k hk hf => ?_) (fun hf => ?_)
      · match k, hk with
        | 0, _ => exact ⟨_, rfl, rfl⟩
        | 1, _ => exact ⟨_, rfl, rfl⟩
        | 2, _ => exact ⟨_, rfl, rfl⟩
        | 3, _ => exact ⟨_, rfl, rfl⟩
        | 4, _ => exact ⟨_, rfl, rfl⟩
        | 5, _ => exact ⟨_, rfl, rfl⟩
        | k + 6, hk => exact absurd hk (by omega)
      · match k, hk, hf with
        | 0, _, hf =>
          refine g_aload_n X 0 dX7_count_128 rfl ?_
          refine g_get X in_X7 0 22 rfl rfl (by decide) q939 rfl dX7_count_129 ?_
          exact g_iret X rfl dX7_count_132 hf
        | 1, _, hf =>
          refine g_aload_n X 0 dX7_count_133 rfl ?_
          refine g_get X in_X7 0 24 rfl rfl (by decide) q941 rfl dX7_count_134 ?_
          refine g_iconst X 0 dX7_count_137 rfl ?_
          refine g_zald X 9 rfl dX7_count_138 hf (fun v3 hf => ?_)
          refine g_if_eq X 146 dX7_count_139 rfl hf (fun hf => ?_) (fun hf => ?_)
          · refine g_iconst X 0 dX7_count_146 rfl ?_
            refine g_sub [0] [(0, .ref (ad 0))] rfl ?_
            exact w_X7_count_b147 X σ 0 hf
          · refine g_iconst X 1 dX7_count_142 rfl ?_
            refine g_goto X 147 dX7_count_143 rfl ?_
            refine g_sub [0] [(0, .ref (ad 0))] rfl ?_
            exact w_X7_count_b147 X σ 1 hf
        | 2, _, hf =>
          refine g_aload_n X 0 dX7_count_163 rfl ?_
          refine g_get X in_X7 0 8 rfl rfl (by decide) q925 rfl dX7_count_164 ?_
          exact g_iret X rfl dX7_count_167 hf
        | 3, _, hf =>
          refine g_aload_n X 0 dX7_count_168 rfl ?_
          refine g_get X in_X7 0 25 rfl rfl (by decide) q942 rfl dX7_count_169 ?_
          refine g_iconst X 0 dX7_count_172 rfl ?_
          refine g_iald X 10 rfl dX7_count_173 hf (fun v4 hf => ?_)
          refine g_bipush X (-4) dX7_count_174 rfl ?_
          refine g_icmp_ne X 184 dX7_count_176 rfl hf (fun hf => ?_) (fun hf => ?_)
          · refine g_aload_n X 0 dX7_count_184 rfl ?_
            refine g_get X in_X7 0 26 rfl rfl (by decide) q943 rfl dX7_count_185 ?_
            refine g_iconst X 0 dX7_count_188 rfl ?_
            refine g_iald X 11 rfl dX7_count_189 hf (fun v5 hf => ?_)
            exact g_iret X rfl dX7_count_190 hf
          · refine g_bipush X (-4) dX7_count_179 rfl ?_
            refine g_goto X 190 dX7_count_181 rfl ?_
            exact g_iret X rfl dX7_count_190 hf
        | 4, _, hf =>
          refine g_iload_n X 2 dX7_count_191 rfl ?_
          exact g_iret X rfl dX7_count_192 hf
        | 5, _, hf =>
          refine g_iload_n X 3 dX7_count_193 rfl ?_
          exact g_iret X rfl dX7_count_194 hf
        | k + 6, hk, _ =>
          exact absurd hk (by omega)
      · refine g_iconst X (-1) dX7_count_195 rfl ?_
        exact g_iret X rfl dX7_count_196 hf
    · refine g_iload_n X 3 dX7_count_58 rfl ?_
      refine g_aload_n X 0 dX7_count_59 rfl ?_
      refine g_get X in_X7 0 0 rfl rfl (by decide) q917 rfl dX7_count_60 ?_
      refine g_bipush X 19 dX7_count_63 rfl ?_
      refine g_iload X 4 dX7_count_65 rfl ?_
      refine g_iadd X dX7_count_67 ?_
      refine g_iald X 1 rfl dX7_count_68 hf (fun v6 hf => ?_)
      refine g_bipush X 6 dX7_count_69 rfl ?_
      refine g_icmp_ne X 78 dX7_count_71 rfl hf (fun hf => ?_) (fun hf => ?_)
      · refine g_iconst X 0 dX7_count_78 rfl ?_
        refine g_sub [0, 1, 2, 4] [(0, .ref (ad 0)), (1, .int x1), (2, .int x2), (4, .int x4)] rfl ?_
        exact w_X7_count_b79 X ih σ x1 x2 x4 0 x3 hf
      · refine g_iconst X 1 dX7_count_74 rfl ?_
        refine g_goto X 79 dX7_count_75 rfl ?_
        refine g_sub [0, 1, 2, 4] [(0, .ref (ad 0)), (1, .int x1), (2, .int x2), (4, .int x4)] rfl ?_
        exact w_X7_count_b79 X ih σ x1 x2 x4 1 x3 hf
set_option maxHeartbeats 4000000 in
theorem w_X7_count_b7 {Γ : gG} {ad : Nat → Nat} {r : Int32} {u : gM} (X : gCX Γ cX7_count 5 (some .int) RX7 rm_X7_count) : ∀ (n_ : Nat) (σ : gM) (x1 : Int32) (x2 : Int32) (x3 : Int32) (x4 : Int32), f_X7_count_b7 n_ σ x1 x2 x3 x4 = some (r, u) → gW Γ (gMQ Γ (gPi (gEo Γ) (wM (gEo Γ) ad) r u (gAo Γ)) 0 0) (wM (gEo Γ) ad σ) 5 0 0 7 [(0, .ref (ad 0)), (1, .int x1), (2, .int x2), (3, .int x3), (4, .int x4)] [] := by
  intro n_
  induction n_ with
  | zero => intro σ x1 x2 x3 x4 hf; cases hf
  | succ n_ ih =>
    intro σ x1 x2 x3 x4 hf
    simp only [f_X7_count_b7] at hf
    refine g_iload X 4 dX7_count_7 rfl ?_
    refine g_aload_n X 0 dX7_count_9 rfl ?_
    refine g_get X in_X7 0 2 rfl rfl (by decide) q919 rfl dX7_count_10 ?_
    refine g_icmp_ge X 43 dX7_count_13 rfl hf (fun hf => ?_) (fun hf => ?_)
    · refine g_iconst X 0 dX7_count_43 rfl ?_
      refine g_istore X [(4, .int 0), (0, .ref (ad 0)), (1, .int x1), (2, .int x2), (3, .int x3)] dX7_count_44 (by decide) rfl ?_
      refine g_sub [1, 2, 3, 4, 0] [(0, .ref (ad 0)), (1, .int x1), (2, .int x2), (3, .int x3), (4, .int 0)] rfl ?_
      exact w_X7_count_b46 X 2000 σ x1 x2 x3 0 hf
    · refine g_iload_n X 2 dX7_count_16 rfl ?_
      refine g_aload_n X 0 dX7_count_17 rfl ?_
      refine g_get X in_X7 0 0 rfl rfl (by decide) q917 rfl dX7_count_18 ?_
      refine g_bipush X 10 dX7_count_21 rfl ?_
      refine g_iload X 4 dX7_count_23 rfl ?_
      refine g_iadd X dX7_count_25 ?_
      refine g_iald X 1 rfl dX7_count_26 hf (fun v1 hf => ?_)
      refine g_if_le X 34 dX7_count_27 rfl hf (fun hf => ?_) (fun hf => ?_)
      · refine g_iconst X 0 dX7_count_34 rfl ?_
        refine g_sub [0, 1, 3, 4] [(0, .ref (ad 0)), (1, .int x1), (3, .int x3), (4, .int x4)] rfl ?_
        exact w_X7_count_b35 X ih σ x1 x3 x4 0 x2 hf
      · refine g_iconst X 1 dX7_count_30 rfl ?_
        refine g_goto X 35 dX7_count_31 rfl ?_
        refine g_sub [0, 1, 3, 4] [(0, .ref (ad 0)), (1, .int x1), (3, .int x3), (4, .int x4)] rfl ?_
        exact w_X7_count_b35 X ih σ x1 x3 x4 1 x2 hf
set_option maxHeartbeats 4000000 in
theorem m_X7_count (l : Launch) (E : gE) (ad : Nat → Nat) (σ : gM) (x1 : Int32) (r : Int32) (u : gM) (hf : f_X7_count σ x1 = some (r, u)) (sz : Nat) : Met l yX7_count (ws_ yX7_count cX7_count 5 (some .int)) rm_X7_count (gPc [.ref (ad 0), .int x1] E (wM E ad σ) sz) (gPi E (wM E ad) r u (va_A (wM E ad σ) sz)) 0 0 (va_A (wM E ad σ) sz) := by
  refine gMet (Qc := gPi E (wM E ad) r u) (by decide) (Nat.le_of_ble_eq_true rfl) (fun Γ X hl hE => ?_)
  subst hl; subst hE
  unfold f_X7_count at hf
  show gW Γ (gMQ Γ (gPi (gEo Γ) (wM (gEo Γ) ad) r u (gAo Γ)) 0 0) (wM (gEo Γ) ad σ) 5 0 0 0 [(0, .ref (ad 0)), (1, .int x1)] []
  refine g_iconst X 0 dX7_count_0 rfl ?_
  refine g_istore_n X [(2, .int 0), (0, .ref (ad 0)), (1, .int x1)] dX7_count_1 (by decide) rfl ?_
  refine g_iconst X 0 dX7_count_2 rfl ?_
  refine g_istore_n X [(3, .int 0), (2, .int 0), (0, .ref (ad 0)), (1, .int x1)] dX7_count_3 (by decide) rfl ?_
  refine g_iconst X 0 dX7_count_4 rfl ?_
  refine g_istore X [(4, .int 0), (3, .int 0), (2, .int 0), (0, .ref (ad 0)), (1, .int x1)] dX7_count_5 (by decide) rfl ?_
  refine g_sub [3, 4, 2, 1, 0] [(0, .ref (ad 0)), (1, .int x1), (2, .int 0), (3, .int 0), (4, .int 0)] rfl ?_
  exact w_X7_count_b7 X 2000 σ x1 0 0 0 hf
