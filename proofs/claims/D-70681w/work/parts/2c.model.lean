set_option maxRecDepth 100000
def f_X7_act (σ : gM) (x1 : Int32) : Option (Int32 × gM) :=
  gld 168 (M_state σ) 27 fun v1 => (f_X7_in (x1.toInt64) 0 ((v1 - 1).toInt64)).bind fun (r2, _) => if r2 = 0 then (some ((-1), σ)) else (gld 168 (M_state σ) ((19 : Int32) + x1) fun v4 => some (v4, σ))
abbrev rm_X7_act : Room := { frames := 2, cells := 0, slots := 0, locals := 37 }
set_option maxHeartbeats 4000000 in
theorem m_X7_act (l : Launch) (E : gE) (ad : Nat → Nat) (σ : gM) (x1 : Int32) (r : Int32) (u : gM) (hf : f_X7_act σ x1 = some (r, u)) (sz : Nat) : Met l yX7_act (ws_ yX7_act cX7_act 2 (some .int)) rm_X7_act (gPc [.ref (ad 0), .int x1] E (wM E ad σ) sz) (gPi E (wM E ad) r u (va_A (wM E ad σ) sz)) 0 0 (va_A (wM E ad σ) sz) := by
  refine gMet (Qc := gPi E (wM E ad) r u) (by decide) (Nat.le_of_ble_eq_true rfl) (fun Γ X hl hE => ?_)
  subst hl; subst hE
  unfold f_X7_act at hf
  show gW Γ (gMQ Γ (gPi (gEo Γ) (wM (gEo Γ) ad) r u (gAo Γ)) 0 0) (wM (gEo Γ) ad σ) 2 0 0 0 [(0, .ref (ad 0)), (1, .int x1)] []
  refine g_iload_n X 1 dX7_act_0 rfl ?_
  refine g_i2l X dX7_act_1 ?_
  refine g_lconst X 0 dX7_act_2 rfl ?_
  refine g_aload_n X 0 dX7_act_3 rfl ?_
  refine g_get X in_X7 0 0 rfl rfl (by decide) q917 rfl dX7_act_4 ?_
  refine g_bipush X 27 dX7_act_7 rfl ?_
  refine g_iald X 1 rfl dX7_act_9 hf (fun v1 hf => ?_)
  refine g_iconst X 1 dX7_act_10 rfl ?_
  refine g_isub X dX7_act_11 ?_
  refine g_i2l X dX7_act_12 ?_
  refine g_call0i X 3 (As := [.long (x1.toInt64), .long 0, .long ((v1 - 1).toInt64)]) (lw_S q1011 q1012 q67 q1013) (by decide +kernel) (fun r_ u_ h_ sz_ => m_X7_in (gl Γ) (gEo Γ) (x1.toInt64) 0 ((v1 - 1).toInt64) r_ u_ h_ sz_) rfl rfl ⟨by decide, by decide⟩ rfl (Nat.le_of_ble_eq_true rfl) ⟨Nat.zero_le _, Nat.zero_le _⟩ dX7_act_13 hf (fun r2 _ hf => ?_)
  refine g_if_eq X 31 dX7_act_16 rfl hf (fun hf => ?_) (fun hf => ?_)
  · refine g_iconst X (-1) dX7_act_31 rfl ?_
    exact g_iret X rfl dX7_act_32 hf
  · refine g_aload_n X 0 dX7_act_19 rfl ?_
    refine g_get X in_X7 0 0 rfl rfl (by decide) q917 rfl dX7_act_20 ?_
    refine g_bipush X 19 dX7_act_23 rfl ?_
    refine g_iload_n X 1 dX7_act_25 rfl ?_
    refine g_iadd X dX7_act_26 ?_
    refine g_iald X 1 rfl dX7_act_27 hf (fun v4 hf => ?_)
    refine g_goto X 32 dX7_act_28 rfl ?_
    exact g_iret X rfl dX7_act_32 hf
def f_X7_placeOn_b30 (σ : gM) (x1 : Int32) (x2 : Int32) (t0 : Int32) : Option (Int32 × gM) :=
  if t0 = 0 then (gld 168 (M_state σ) ((x1 + 10) + x2) fun v3 => some (v3, σ)) else (some ((-1), σ))
def f_X7_placeOn_b29 (σ : gM) (x1 : Int32) (x2 : Int32) : Option (Int32 × gM) :=
  f_X7_placeOn_b30 σ x1 x2 0
def f_X7_placeOn (σ : gM) (x1 : Int32) (x2 : Int32) : Option (Int32 × gM) :=
  gld 168 (M_state σ) (x1 + x2) fun v1 => if v1 = 2 then (gld 168 (M_state σ) ((x1 + 5) + x2) fun v2 => if v2 = 0 then (f_X7_placeOn_b30 σ x1 x2 1) else (f_X7_placeOn_b29 σ x1 x2)) else (f_X7_placeOn_b29 σ x1 x2)
abbrev rm_X7_placeOn : Room := { frames := 1, cells := 0, slots := 0, locals := 12 }
set_option maxHeartbeats 4000000 in
theorem w_X7_placeOn_b30 {Γ : gG} {ad : Nat → Nat} {r : Int32} {u : gM} (X : gCX Γ cX7_placeOn 4 (some .int) RX7 rm_X7_placeOn) : ∀ (σ : gM) (x1 : Int32) (x2 : Int32) (t0 : Int32), f_X7_placeOn_b30 σ x1 x2 t0 = some (r, u) → gW Γ (gMQ Γ (gPi (gEo Γ) (wM (gEo Γ) ad) r u (gAo Γ)) 0 0) (wM (gEo Γ) ad σ) 4 0 0 30 [(0, .ref (ad 0)), (1, .int x1), (2, .int x2)] [.int t0] := by
  intro σ x1 x2 t0 hf
  unfold f_X7_placeOn_b30 at hf
  refine g_istore_n X [(3, .int t0), (0, .ref (ad 0)), (1, .int x1), (2, .int x2)] dX7_placeOn_30 (by decide) rfl ?_
  refine g_iload_n X 0 dX7_placeOn_31 rfl ?_
  refine g_if_eq X 39 dX7_placeOn_32 rfl hf (fun hf => ?_) (fun hf => ?_)
  · refine g_aload_n X 1 dX7_placeOn_39 rfl ?_
    refine g_get X in_X7 0 0 rfl rfl (by decide) q917 rfl dX7_placeOn_40 ?_
    refine g_iload_n X 2 dX7_placeOn_43 rfl ?_
    refine g_bipush X 10 dX7_placeOn_44 rfl ?_
    refine g_iadd X dX7_placeOn_46 ?_
    refine g_iload_n X 3 dX7_placeOn_47 rfl ?_
    refine g_iadd X dX7_placeOn_48 ?_
    refine g_iald X 1 rfl dX7_placeOn_49 hf (fun v3 hf => ?_)
    exact g_iret X rfl dX7_placeOn_50 hf
  · refine g_iconst X (-1) dX7_placeOn_35 rfl ?_
    refine g_goto X 50 dX7_placeOn_36 rfl ?_
    exact g_iret X rfl dX7_placeOn_50 hf
set_option maxHeartbeats 4000000 in
theorem w_X7_placeOn_b29 {Γ : gG} {ad : Nat → Nat} {r : Int32} {u : gM} (X : gCX Γ cX7_placeOn 4 (some .int) RX7 rm_X7_placeOn) : ∀ (σ : gM) (x1 : Int32) (x2 : Int32), f_X7_placeOn_b29 σ x1 x2 = some (r, u) → gW Γ (gMQ Γ (gPi (gEo Γ) (wM (gEo Γ) ad) r u (gAo Γ)) 0 0) (wM (gEo Γ) ad σ) 4 0 0 29 [(0, .ref (ad 0)), (1, .int x1), (2, .int x2)] [] := by
  intro σ x1 x2 hf
  unfold f_X7_placeOn_b29 at hf
  refine g_iconst X 0 dX7_placeOn_29 rfl ?_
  exact w_X7_placeOn_b30 X σ x1 x2 0 hf
set_option maxHeartbeats 4000000 in
theorem m_X7_placeOn (l : Launch) (E : gE) (ad : Nat → Nat) (σ : gM) (x1 : Int32) (x2 : Int32) (r : Int32) (u : gM) (hf : f_X7_placeOn σ x1 x2 = some (r, u)) (sz : Nat) : Met l yX7_placeOn (ws_ yX7_placeOn cX7_placeOn 4 (some .int)) rm_X7_placeOn (gPc [.ref (ad 0), .int x1, .int x2] E (wM E ad σ) sz) (gPi E (wM E ad) r u (va_A (wM E ad σ) sz)) 0 0 (va_A (wM E ad σ) sz) := by
  refine gMet (Qc := gPi E (wM E ad) r u) (by decide) (Nat.le_of_ble_eq_true rfl) (fun Γ X hl hE => ?_)
  subst hl; subst hE
  unfold f_X7_placeOn at hf
  show gW Γ (gMQ Γ (gPi (gEo Γ) (wM (gEo Γ) ad) r u (gAo Γ)) 0 0) (wM (gEo Γ) ad σ) 4 0 0 0 [(0, .ref (ad 0)), (1, .int x1), (2, .int x2)] []
  refine g_aload_n X 0 dX7_placeOn_0 rfl ?_
  refine g_get X in_X7 0 0 rfl rfl (by decide) q917 rfl dX7_placeOn_1 ?_
  refine g_iload_n X 1 dX7_placeOn_4 rfl ?_
  refine g_iload_n X 2 dX7_placeOn_5 rfl ?_
  refine g_iadd X dX7_placeOn_6 ?_
  refine g_iald X 1 rfl dX7_placeOn_7 hf (fun v1 hf => ?_)
  refine g_iconst X 2 dX7_placeOn_8 rfl ?_
  refine g_icmp_ne X 29 dX7_placeOn_9 rfl hf (fun hf => ?_) (fun hf => ?_)
  · exact w_X7_placeOn_b29 X σ x1 x2 hf
  · refine g_aload_n X 0 dX7_placeOn_12 rfl ?_
    refine g_get X in_X7 0 0 rfl rfl (by decide) q917 rfl dX7_placeOn_13 ?_
    refine g_iload_n X 1 dX7_placeOn_16 rfl ?_
    refine g_iconst X 5 dX7_placeOn_17 rfl ?_
    refine g_iadd X dX7_placeOn_18 ?_
    refine g_iload_n X 2 dX7_placeOn_19 rfl ?_
    refine g_iadd X dX7_placeOn_20 ?_
    refine g_iald X 1 rfl dX7_placeOn_21 hf (fun v2 hf => ?_)
    refine g_if_ne X 29 dX7_placeOn_22 rfl hf (fun hf => ?_) (fun hf => ?_)
    · exact w_X7_placeOn_b29 X σ x1 x2 hf
    · refine g_iconst X 1 dX7_placeOn_25 rfl ?_
      refine g_goto X 30 dX7_placeOn_26 rfl ?_
      exact w_X7_placeOn_b30 X σ x1 x2 1 hf
def f_X7_nextOn_b74 (k6 : gM → Int32 → Int32 → Int32 → Int32 → Option (Int32 × gM)) (σ : gM) (x1 : Int32) (x2 : Int32) (x4 : Int32) (t0 : Int32) : Option (Int32 × gM) :=
  gv (x4 + 1) fun v7 => k6 σ x1 x2 t0 v7
def f_X7_nextOn_b68 (k6 : gM → Int32 → Int32 → Int32 → Int32 → Option (Int32 × gM)) (σ : gM) (x1 : Int32) (x2 : Int32) (x4 : Int32) : Option (Int32 × gM) :=
  f_X7_nextOn_b74 k6 σ x1 x2 x4 x4
def f_X7_nextOn_b73 (k6 : gM → Int32 → Int32 → Int32 → Int32 → Option (Int32 × gM)) (σ : gM) (x1 : Int32) (x2 : Int32) (x3 : Int32) (x4 : Int32) : Option (Int32 × gM) :=
  f_X7_nextOn_b74 k6 σ x1 x2 x4 x3
def f_X7_nextOn_b39 (k6 : gM → Int32 → Int32 → Int32 → Int32 → Option (Int32 × gM)) (σ : gM) (x1 : Int32) (x2 : Int32) (x3 : Int32) (x4 : Int32) (t0 : Int32) : Option (Int32 × gM) :=
  if t0 = 0 then (f_X7_nextOn_b73 k6 σ x1 x2 x3 x4) else (if x3 = (-4) then (f_X7_nextOn_b68 k6 σ x1 x2 x4) else ((f_X7_placeOn σ x1 x4).bind fun (r3, u4) => (f_X7_placeOn u4 x1 x3).bind fun (r5, u6) => if r3 ≤ r5 then (f_X7_nextOn_b73 k6 u6 x1 x2 x3 x4) else (f_X7_nextOn_b68 k6 u6 x1 x2 x4)))
def f_X7_nextOn_b38 (k6 : gM → Int32 → Int32 → Int32 → Int32 → Option (Int32 × gM)) (σ : gM) (x1 : Int32) (x2 : Int32) (x3 : Int32) (x4 : Int32) : Option (Int32 × gM) :=
  f_X7_nextOn_b39 k6 σ x1 x2 x3 x4 0
def f_X7_nextOn_b6 : Nat → gM → Int32 → Int32 → Int32 → Int32 → Option (Int32 × gM)
  | 0 => fun _ _ _ _ _ => none
  | n_ + 1 => fun σ x1 x2 x3 x4 =>
    if (M_oneMany σ) ≤ x4 then (some (x3, σ)) else ((f_X7_waits σ x1 x4).bind fun (r1, u2) => if r1 = 0 then (f_X7_nextOn_b38 (f_X7_nextOn_b6 n_) u2 x1 x2 x3 x4) else (if ((x2 >>> (x4 &&& 31)) &&& 1) = 0 then (f_X7_nextOn_b39 (f_X7_nextOn_b6 n_) u2 x1 x2 x3 x4 1) else (f_X7_nextOn_b38 (f_X7_nextOn_b6 n_) u2 x1 x2 x3 x4)))
def f_X7_nextOn (σ : gM) (x1 : Int32) (x2 : Int32) : Option (Int32 × gM) :=
  f_X7_nextOn_b6 2000 σ x1 x2 (-4) 0
abbrev rm_X7_nextOn : Room := { frames := 2, cells := 0, slots := 0, locals := 35 }
set_option maxHeartbeats 4000000 in
theorem w_X7_nextOn_b74 {Γ : gG} {ad : Nat → Nat} {r : Int32} {u : gM} (X : gCX Γ cX7_nextOn 6 (some .int) RX7 rm_X7_nextOn) {k6 : gM → Int32 → Int32 → Int32 → Int32 → Option (Int32 × gM)} (H6 : ∀ (σ : gM) (x1 : Int32) (x2 : Int32) (x3 : Int32) (x4 : Int32), k6 σ x1 x2 x3 x4 = some (r, u) → gW Γ (gMQ Γ (gPi (gEo Γ) (wM (gEo Γ) ad) r u (gAo Γ)) 0 0) (wM (gEo Γ) ad σ) 6 0 0 6 [(0, .ref (ad 0)), (1, .int x1), (2, .int x2), (3, .int x3), (4, .int x4)] []) : ∀ (σ : gM) (x1 : Int32) (x2 : Int32) (x4 : Int32) (t0 : Int32), f_X7_nextOn_b74 k6 σ x1 x2 x4 t0 = some (r, u) → gW Γ (gMQ Γ (gPi (gEo Γ) (wM (gEo Γ) ad) r u (gAo Γ)) 0 0) (wM (gEo Γ) ad σ) 6 0 0 74 [(0, .ref (ad 0)), (1, .int x1), (2, .int x2), (4, .int x4)] [.int t0] := by
  intro σ x1 x2 x4 t0 hf
  unfold f_X7_nextOn_b74 at hf
  refine g_istore_n X [(3, .int t0), (0, .ref (ad 0)), (1, .int x1), (2, .int x2), (4, .int x4)] dX7_nextOn_74 (by decide) rfl ?_
  refine g_iincV X 1 4 (fun v7 => [(4, .int v7), (3, .int t0), (0, .ref (ad 0)), (1, .int x1), (2, .int x2)]) dX7_nextOn_75 rfl rfl (by decide) (fun _ => rfl) hf (fun v7 hf => ?_)
  refine g_goto X 6 dX7_nextOn_78 rfl ?_
  refine g_sub [2, 3, 4, 1, 0] [(0, .ref (ad 0)), (1, .int x1), (2, .int x2), (3, .int t0), (4, .int v7)] rfl ?_
  exact H6 σ x1 x2 t0 v7 hf
set_option maxHeartbeats 4000000 in
theorem w_X7_nextOn_b68 {Γ : gG} {ad : Nat → Nat} {r : Int32} {u : gM} (X : gCX Γ cX7_nextOn 6 (some .int) RX7 rm_X7_nextOn) {k6 : gM → Int32 → Int32 → Int32 → Int32 → Option (Int32 × gM)} (H6 : ∀ (σ : gM) (x1 : Int32) (x2 : Int32) (x3 : Int32) (x4 : Int32), k6 σ x1 x2 x3 x4 = some (r, u) → gW Γ (gMQ Γ (gPi (gEo Γ) (wM (gEo Γ) ad) r u (gAo Γ)) 0 0) (wM (gEo Γ) ad σ) 6 0 0 6 [(0, .ref (ad 0)), (1, .int x1), (2, .int x2), (3, .int x3), (4, .int x4)] []) : ∀ (σ : gM) (x1 : Int32) (x2 : Int32) (x4 : Int32), f_X7_nextOn_b68 k6 σ x1 x2 x4 = some (r, u) → gW Γ (gMQ Γ (gPi (gEo Γ) (wM (gEo Γ) ad) r u (gAo Γ)) 0 0) (wM (gEo Γ) ad σ) 6 0 0 68 [(0, .ref (ad 0)), (1, .int x1), (2, .int x2), (4, .int x4)] [] := by
  intro σ x1 x2 x4 hf
  unfold f_X7_nextOn_b68 at hf
  refine g_iload X 3 dX7_nextOn_68 rfl ?_
  refine g_goto X 74 dX7_nextOn_70 rfl ?_
  exact w_X7_nextOn_b74 X H6 σ x1 x2 x4 x4 hf
set_option maxHeartbeats 4000000 in
theorem w_X7_nextOn_b73 {Γ : gG} {ad : Nat → Nat} {r : Int32} {u : gM} (X : gCX Γ cX7_nextOn 6 (some .int) RX7 rm_X7_nextOn) {k6 : gM → Int32 → Int32 → Int32 → Int32 → Option (Int32 × gM)} (H6 : ∀ (σ : gM) (x1 : Int32) (x2 : Int32) (x3 : Int32) (x4 : Int32), k6 σ x1 x2 x3 x4 = some (r, u) → gW Γ (gMQ Γ (gPi (gEo Γ) (wM (gEo Γ) ad) r u (gAo Γ)) 0 0) (wM (gEo Γ) ad σ) 6 0 0 6 [(0, .ref (ad 0)), (1, .int x1), (2, .int x2), (3, .int x3), (4, .int x4)] []) : ∀ (σ : gM) (x1 : Int32) (x2 : Int32) (x3 : Int32) (x4 : Int32), f_X7_nextOn_b73 k6 σ x1 x2 x3 x4 = some (r, u) → gW Γ (gMQ Γ (gPi (gEo Γ) (wM (gEo Γ) ad) r u (gAo Γ)) 0 0) (wM (gEo Γ) ad σ) 6 0 0 73 [(0, .ref (ad 0)), (1, .int x1), (2, .int x2), (3, .int x3), (4, .int x4)] [] := by
  intro σ x1 x2 x3 x4 hf
  unfold f_X7_nextOn_b73 at hf
  refine g_iload_n X 3 dX7_nextOn_73 rfl ?_
  refine g_sub [0, 1, 2, 4] [(0, .ref (ad 0)), (1, .int x1), (2, .int x2), (4, .int x4)] rfl ?_
  exact w_X7_nextOn_b74 X H6 σ x1 x2 x4 x3 hf
set_option maxHeartbeats 4000000 in
theorem w_X7_nextOn_b39 {Γ : gG} {ad : Nat → Nat} {r : Int32} {u : gM} (X : gCX Γ cX7_nextOn 6 (some .int) RX7 rm_X7_nextOn) {k6 : gM → Int32 → Int32 → Int32 → Int32 → Option (Int32 × gM)} (H6 : ∀ (σ : gM) (x1 : Int32) (x2 : Int32) (x3 : Int32) (x4 : Int32), k6 σ x1 x2 x3 x4 = some (r, u) → gW Γ (gMQ Γ (gPi (gEo Γ) (wM (gEo Γ) ad) r u (gAo Γ)) 0 0) (wM (gEo Γ) ad σ) 6 0 0 6 [(0, .ref (ad 0)), (1, .int x1), (2, .int x2), (3, .int x3), (4, .int x4)] []) : ∀ (σ : gM) (x1 : Int32) (x2 : Int32) (x3 : Int32) (x4 : Int32) (t0 : Int32), f_X7_nextOn_b39 k6 σ x1 x2 x3 x4 t0 = some (r, u) → gW Γ (gMQ Γ (gPi (gEo Γ) (wM (gEo Γ) ad) r u (gAo Γ)) 0 0) (wM (gEo Γ) ad σ) 6 0 0 39 [(0, .ref (ad 0)), (1, .int x1), (2, .int x2), (3, .int x3), (4, .int x4)] [.int t0] := by
  intro σ x1 x2 x3 x4 t0 hf
  unfold f_X7_nextOn_b39 at hf
  refine g_istore X [(5, .int t0), (0, .ref (ad 0)), (1, .int x1), (2, .int x2), (3, .int x3), (4, .int x4)] dX7_nextOn_39 (by decide) rfl ?_
  refine g_iload X 0 dX7_nextOn_41 rfl ?_
  refine g_if_eq X 73 dX7_nextOn_43 rfl hf (fun hf => ?_) (fun hf => ?_)
  · refine g_sub [1, 2, 3, 4, 5] [(0, .ref (ad 0)), (1, .int x1), (2, .int x2), (3, .int x3), (4, .int x4)] rfl ?_
    exact w_X7_nextOn_b73 X H6 σ x1 x2 x3 x4 hf
  · refine g_iload_n X 4 dX7_nextOn_46 rfl ?_
    refine g_bipush X (-4) dX7_nextOn_47 rfl ?_
    refine g_icmp_eq X 68 dX7_nextOn_49 rfl hf (fun hf => ?_) (fun hf => ?_)
    · refine g_sub [1, 2, 3, 5] [(0, .ref (ad 0)), (1, .int x1), (2, .int x2), (4, .int x4)] rfl ?_
      exact w_X7_nextOn_b68 X H6 σ x1 x2 x4 hf
    · refine g_aload_n X 1 dX7_nextOn_52 rfl ?_
      refine g_iload_n X 2 dX7_nextOn_53 rfl ?_
      refine g_iload X 5 dX7_nextOn_54 rfl ?_
      refine g_callVi X 2 (As := [.int x1, .int x4]) (wfc := wM (gEo Γ) ad) (lw_V q1103 q1105 qs40 q67 q1106) (by decide +kernel) (fun r_ u_ h_ sz_ => m_X7_placeOn (gl Γ) (gEo Γ) ad σ x1 x4 r_ u_ h_ sz_) (rq := 0) rfl rfl rfl rfl rfl ⟨by decide, by decide⟩ rfl (Nat.le_of_ble_eq_true rfl) ⟨Nat.zero_le _, Nat.zero_le _⟩ [0, 1, 2, 3, 4, 5, 6, 7, 8, 9, 10, 11, 12] [] [0, 1, 2, 3, 4, 5, 6, 7, 8, 9, 10, 11, 12] (fun u4 => wM (gEo Γ) ad u4) rfl rfl rfl rfl (by decide) rfl (fun _ => rfl) dX7_nextOn_56 hf (fun r3 u4 _ hf => ?_)
      refine g_aload_n X 1 dX7_nextOn_59 rfl ?_
      refine g_iload_n X 2 dX7_nextOn_60 rfl ?_
      refine g_iload_n X 4 dX7_nextOn_61 rfl ?_
      refine g_callVi X 2 (As := [.int x1, .int x3]) (wfc := wM (gEo Γ) ad) (lw_V q1103 q1105 qs40 q67 q1106) (by decide +kernel) (fun r_ u_ h_ sz_ => m_X7_placeOn (gl Γ) (gEo Γ) ad u4 x1 x3 r_ u_ h_ sz_) (rq := 0) rfl rfl rfl rfl rfl ⟨by decide, by decide⟩ rfl (Nat.le_of_ble_eq_true rfl) ⟨Nat.zero_le _, Nat.zero_le _⟩ [0, 1, 2, 3, 4, 5, 6, 7, 8, 9, 10, 11, 12] [] [0, 1, 2, 3, 4, 5, 6, 7, 8, 9, 10, 11, 12] (fun u6 => wM (gEo Γ) ad u6) rfl rfl rfl rfl (by decide) rfl (fun _ => rfl) dX7_nextOn_62 hf (fun r5 u6 _ hf => ?_)
      refine g_icmp_le X 73 dX7_nextOn_65 rfl hf (fun hf => ?_) (fun hf => ?_)
      · refine g_sub [1, 2, 3, 4, 5] [(0, .ref (ad 0)), (1, .int x1), (2, .int x2), (3, .int x3), (4, .int x4)] rfl ?_
        exact w_X7_nextOn_b73 X H6 u6 x1 x2 x3 x4 hf
      · refine g_sub [1, 2, 3, 5] [(0, .ref (ad 0)), (1, .int x1), (2, .int x2), (4, .int x4)] rfl ?_
        exact w_X7_nextOn_b68 X H6 u6 x1 x2 x4 hf
set_option maxHeartbeats 4000000 in
theorem w_X7_nextOn_b38 {Γ : gG} {ad : Nat → Nat} {r : Int32} {u : gM} (X : gCX Γ cX7_nextOn 6 (some .int) RX7 rm_X7_nextOn) {k6 : gM → Int32 → Int32 → Int32 → Int32 → Option (Int32 × gM)} (H6 : ∀ (σ : gM) (x1 : Int32) (x2 : Int32) (x3 : Int32) (x4 : Int32), k6 σ x1 x2 x3 x4 = some (r, u) → gW Γ (gMQ Γ (gPi (gEo Γ) (wM (gEo Γ) ad) r u (gAo Γ)) 0 0) (wM (gEo Γ) ad σ) 6 0 0 6 [(0, .ref (ad 0)), (1, .int x1), (2, .int x2), (3, .int x3), (4, .int x4)] []) : ∀ (σ : gM) (x1 : Int32) (x2 : Int32) (x3 : Int32) (x4 : Int32), f_X7_nextOn_b38 k6 σ x1 x2 x3 x4 = some (r, u) → gW Γ (gMQ Γ (gPi (gEo Γ) (wM (gEo Γ) ad) r u (gAo Γ)) 0 0) (wM (gEo Γ) ad σ) 6 0 0 38 [(0, .ref (ad 0)), (1, .int x1), (2, .int x2), (3, .int x3), (4, .int x4)] [] := by
  intro σ x1 x2 x3 x4 hf
  unfold f_X7_nextOn_b38 at hf
  refine g_iconst X 0 dX7_nextOn_38 rfl ?_
  exact w_X7_nextOn_b39 X H6 σ x1 x2 x3 x4 0 hf
set_option maxHeartbeats 4000000 in
theorem w_X7_nextOn_b6 {Γ : gG} {ad : Nat → Nat} {r : Int32} {u : gM} (X : gCX Γ cX7_nextOn 6 (some .int) RX7 rm_X7_nextOn) : ∀ (n_ : Nat) (σ : gM) (x1 : Int32) (x2 : Int32) (x3 : Int32) (x4 : Int32), f_X7_nextOn_b6 n_ σ x1 x2 x3 x4 = some (r, u) → gW Γ (gMQ Γ (gPi (gEo Γ) (wM (gEo Γ) ad) r u (gAo Γ)) 0 0) (wM (gEo Γ) ad σ) 6 0 0 6 [(0, .ref (ad 0)), (1, .int x1), (2, .int x2), (3, .int x3), (4, .int x4)] [] := by
  intro n_
  induction n_ with
  | zero => intro σ x1 x2 x3 x4 hf; cases hf
  | succ n_ ih =>
    intro σ x1 x2 x3 x4 hf
    simp only [f_X7_nextOn_b6] at hf
    refine g_iload X 4 dX7_nextOn_6 rfl ?_
    refine g_aload_n X 0 dX7_nextOn_8 rfl ?_
    refine g_get X in_X7 0 2 rfl rfl (by decide) q919 rfl dX7_nextOn_9 ?_
    refine g_icmp_ge X 81 dX7_nextOn_12 rfl hf (fun hf => ?_) (fun hf => ?_)
    · refine g_iload_n X 3 dX7_nextOn_81 rfl ?_
      exact g_iret X rfl dX7_nextOn_82 hf
    · refine g_aload_n X 0 dX7_nextOn_15 rfl ?_
      refine g_iload_n X 1 dX7_nextOn_16 rfl ?_
      refine g_iload X 4 dX7_nextOn_17 rfl ?_
      refine g_callVi X 2 (As := [.int x1, .int x4]) (wfc := wM (gEo Γ) ad) (lw_V q1075 q1077 qs37 q67 q1078) (by decide +kernel) (fun r_ u_ h_ sz_ => m_X7_waits (gl Γ) (gEo Γ) ad σ x1 x4 r_ u_ h_ sz_) (rq := 0) rfl rfl rfl rfl rfl ⟨by decide, by decide⟩ rfl (Nat.le_of_ble_eq_true rfl) ⟨Nat.zero_le _, Nat.zero_le _⟩ [0, 1, 2, 3, 4, 5, 6, 7, 8, 9, 10, 11, 12] [] [0, 1, 2, 3, 4, 5, 6, 7, 8, 9, 10, 11, 12] (fun u2 => wM (gEo Γ) ad u2) rfl rfl rfl rfl (by decide) rfl (fun _ => rfl) dX7_nextOn_19 hf (fun r1 u2 _ hf => ?_)
      refine g_if_eq X 38 dX7_nextOn_22 rfl hf (fun hf => ?_) (fun hf => ?_)
      · exact w_X7_nextOn_b38 X ih u2 x1 x2 x3 x4 hf
      · refine g_iload_n X 2 dX7_nextOn_25 rfl ?_
        refine g_iload X 4 dX7_nextOn_26 rfl ?_
        refine g_ishr X dX7_nextOn_28 ?_
        refine g_iconst X 1 dX7_nextOn_29 rfl ?_
        refine g_iand X dX7_nextOn_30 ?_
        refine g_if_ne X 38 dX7_nextOn_31 rfl hf (fun hf => ?_) (fun hf => ?_)
        · exact w_X7_nextOn_b38 X ih u2 x1 x2 x3 x4 hf
        · refine g_iconst X 1 dX7_nextOn_34 rfl ?_
          refine g_goto X 39 dX7_nextOn_35 rfl ?_
          exact w_X7_nextOn_b39 X ih u2 x1 x2 x3 x4 1 hf
set_option maxHeartbeats 4000000 in
theorem m_X7_nextOn (l : Launch) (E : gE) (ad : Nat → Nat) (σ : gM) (x1 : Int32) (x2 : Int32) (r : Int32) (u : gM) (hf : f_X7_nextOn σ x1 x2 = some (r, u)) (sz : Nat) : Met l yX7_nextOn (ws_ yX7_nextOn cX7_nextOn 6 (some .int)) rm_X7_nextOn (gPc [.ref (ad 0), .int x1, .int x2] E (wM E ad σ) sz) (gPi E (wM E ad) r u (va_A (wM E ad σ) sz)) 0 0 (va_A (wM E ad σ) sz) := by
  refine gMet (Qc := gPi E (wM E ad) r u) (by decide) (Nat.le_of_ble_eq_true rfl) (fun Γ X hl hE => ?_)
  subst hl; subst hE
  unfold f_X7_nextOn at hf
  show gW Γ (gMQ Γ (gPi (gEo Γ) (wM (gEo Γ) ad) r u (gAo Γ)) 0 0) (wM (gEo Γ) ad σ) 6 0 0 0 [(0, .ref (ad 0)), (1, .int x1), (2, .int x2)] []
  refine g_bipush X (-4) dX7_nextOn_0 rfl ?_
  refine g_istore_n X [(3, .int (-4)), (0, .ref (ad 0)), (1, .int x1), (2, .int x2)] dX7_nextOn_2 (by decide) rfl ?_
  refine g_iconst X 0 dX7_nextOn_3 rfl ?_
  refine g_istore X [(4, .int 0), (3, .int (-4)), (0, .ref (ad 0)), (1, .int x1), (2, .int x2)] dX7_nextOn_4 (by decide) rfl ?_
  refine g_sub [2, 3, 4, 1, 0] [(0, .ref (ad 0)), (1, .int x1), (2, .int x2), (3, .int (-4)), (4, .int 0)] rfl ?_
  exact w_X7_nextOn_b6 X 2000 σ x1 x2 (-4) 0 hf
def f_X7_queue_b26 : Nat → gM → Int32 → Int32 → Int32 → Int32 → Option (Int32 × gM)
  | 0 => fun _ _ _ _ _ => none
  | n_ + 1 => fun σ x1 x2 x3 x4 =>
    if x1 ≤ x4 then (some (x3, σ)) else (if x3 = (-4) then (some (x3, σ)) else (gv (x2 ||| ((1 : Int32) <<< (x3 &&& 31))) fun v5 => (f_X7_nextOn σ 0 v5).bind fun (r6, u7) => gv (x4 + 1) fun v8 => (f_X7_queue_b26 n_) u7 x1 v5 r6 v8))
def f_X7_queue (σ : gM) (x1 : Int32) : Option (Int32 × gM) :=
  (f_X7_in (x1.toInt64) 0 4).bind fun (r1, _) => if r1 = 0 then (some ((-1), σ)) else ((f_X7_nextOn σ 0 0).bind fun (r3, u4) => f_X7_queue_b26 2000 u4 x1 0 r3 0)
abbrev rm_X7_queue : Room := { frames := 3, cells := 0, slots := 0, locals := 60 }
set_option maxHeartbeats 4000000 in
theorem w_X7_queue_b26 {Γ : gG} {ad : Nat → Nat} {r : Int32} {u : gM} (X : gCX Γ cX7_queue 5 (some .int) RX7 rm_X7_queue) : ∀ (n_ : Nat) (σ : gM) (x1 : Int32) (x2 : Int32) (x3 : Int32) (x4 : Int32), f_X7_queue_b26 n_ σ x1 x2 x3 x4 = some (r, u) → gW Γ (gMQ Γ (gPi (gEo Γ) (wM (gEo Γ) ad) r u (gAo Γ)) 0 0) (wM (gEo Γ) ad σ) 5 0 0 26 [(0, .ref (ad 0)), (1, .int x1), (2, .int x2), (3, .int x3), (4, .int x4)] [] := by
  intro n_
  induction n_ with
  | zero => intro σ x1 x2 x3 x4 hf; cases hf
  | succ n_ ih =>
    intro σ x1 x2 x3 x4 hf
    simp only [f_X7_queue_b26] at hf
    refine g_iload X 4 dX7_queue_26 rfl ?_
    refine g_iload_n X 1 dX7_queue_28 rfl ?_
    refine g_icmp_ge X 57 dX7_queue_29 rfl hf (fun hf => ?_) (fun hf => ?_)
    · refine g_iload_n X 3 dX7_queue_57 rfl ?_
      exact g_iret X rfl dX7_queue_58 hf
    · refine g_iload_n X 3 dX7_queue_32 rfl ?_
      refine g_bipush X (-4) dX7_queue_33 rfl ?_
      refine g_icmp_eq X 57 dX7_queue_35 rfl hf (fun hf => ?_) (fun hf => ?_)
      · refine g_iload_n X 3 dX7_queue_57 rfl ?_
        exact g_iret X rfl dX7_queue_58 hf
      · refine g_iload_n X 2 dX7_queue_38 rfl ?_
        refine g_iconst X 1 dX7_queue_39 rfl ?_
        refine g_iload_n X 3 dX7_queue_40 rfl ?_
        refine g_ishl X dX7_queue_41 ?_
        refine g_ior X dX7_queue_42 ?_
        refine g_topi hf (fun v5 hf => ?_)
        refine g_istore_n X [(2, .int v5), (0, .ref (ad 0)), (1, .int x1), (3, .int x3), (4, .int x4)] dX7_queue_43 (by decide) rfl ?_
        refine g_aload_n X 1 dX7_queue_44 rfl ?_
        refine g_iconst X 0 dX7_queue_45 rfl ?_
        refine g_iload_n X 0 dX7_queue_46 rfl ?_
        refine g_callVi X 2 (As := [.int 0, .int v5]) (wfc := wM (gEo Γ) ad) (lw_V q1099 q1101 qs39 q67 q1102) (by decide +kernel) (fun r_ u_ h_ sz_ => m_X7_nextOn (gl Γ) (gEo Γ) ad σ 0 v5 r_ u_ h_ sz_) (rq := 0) rfl rfl rfl rfl rfl ⟨by decide, by decide⟩ rfl (Nat.le_of_ble_eq_true rfl) ⟨Nat.zero_le _, Nat.zero_le _⟩ [0, 1, 2, 3, 4, 5, 6, 7, 8, 9, 10, 11, 12] [] [0, 1, 2, 3, 4, 5, 6, 7, 8, 9, 10, 11, 12] (fun u7 => wM (gEo Γ) ad u7) rfl rfl rfl rfl (by decide) rfl (fun _ => rfl) dX7_queue_47 hf (fun r6 u7 _ hf => ?_)
        refine g_istore_n X [(3, .int r6), (2, .int v5), (0, .ref (ad 0)), (1, .int x1), (4, .int x4)] dX7_queue_50 (by decide) rfl ?_
        refine g_iincV X 1 4 (fun v8 => [(4, .int v8), (3, .int r6), (2, .int v5), (0, .ref (ad 0)), (1, .int x1)]) dX7_queue_51 rfl rfl (by decide) (fun _ => rfl) hf (fun v8 hf => ?_)
        refine g_goto X 26 dX7_queue_54 rfl ?_
        refine g_sub [3, 4, 2, 1, 0] [(0, .ref (ad 0)), (1, .int x1), (2, .int v5), (3, .int r6), (4, .int v8)] rfl ?_
        exact ih u7 x1 v5 r6 v8 hf
set_option maxHeartbeats 4000000 in
theorem m_X7_queue (l : Launch) (E : gE) (ad : Nat → Nat) (σ : gM) (x1 : Int32) (r : Int32) (u : gM) (hf : f_X7_queue σ x1 = some (r, u)) (sz : Nat) : Met l yX7_queue (ws_ yX7_queue cX7_queue 5 (some .int)) rm_X7_queue (gPc [.ref (ad 0), .int x1] E (wM E ad σ) sz) (gPi E (wM E ad) r u (va_A (wM E ad σ) sz)) 0 0 (va_A (wM E ad σ) sz) := by
  refine gMet (Qc := gPi E (wM E ad) r u) (by decide) (Nat.le_of_ble_eq_true rfl) (fun Γ X hl hE => ?_)
  subst hl; subst hE
  unfold f_X7_queue at hf
  show gW Γ (gMQ Γ (gPi (gEo Γ) (wM (gEo Γ) ad) r u (gAo Γ)) 0 0) (wM (gEo Γ) ad σ) 5 0 0 0 [(0, .ref (ad 0)), (1, .int x1)] []
  refine g_iload_n X 1 dX7_queue_0 rfl ?_
  refine g_i2l X dX7_queue_1 ?_
  refine g_lconst X 0 dX7_queue_2 rfl ?_
  refine g_ldc2 X dX7_queue_3 q1098 ?_
  refine g_call0i X 3 (As := [.long (x1.toInt64), .long 0, .long 4]) (lw_S q1011 q1012 q67 q1013) (by decide +kernel) (fun r_ u_ h_ sz_ => m_X7_in (gl Γ) (gEo Γ) (x1.toInt64) 0 4 r_ u_ h_ sz_) rfl rfl ⟨by decide, by decide⟩ rfl (Nat.le_of_ble_eq_true rfl) ⟨Nat.zero_le _, Nat.zero_le _⟩ dX7_queue_6 hf (fun r1 _ hf => ?_)
  refine g_if_ne X 14 dX7_queue_9 rfl hf (fun hf => ?_) (fun hf => ?_)
  · refine g_iconst X 0 dX7_queue_14 rfl ?_
    refine g_istore_n X [(2, .int 0), (0, .ref (ad 0)), (1, .int x1)] dX7_queue_15 (by decide) rfl ?_
    refine g_aload_n X 1 dX7_queue_16 rfl ?_
    refine g_iconst X 0 dX7_queue_17 rfl ?_
    refine g_iload_n X 0 dX7_queue_18 rfl ?_
    refine g_callVi X 2 (As := [.int 0, .int 0]) (wfc := wM (gEo Γ) ad) (lw_V q1099 q1101 qs39 q67 q1102) (by decide +kernel) (fun r_ u_ h_ sz_ => m_X7_nextOn (gl Γ) (gEo Γ) ad σ 0 0 r_ u_ h_ sz_) (rq := 0) rfl rfl rfl rfl rfl ⟨by decide, by decide⟩ rfl (Nat.le_of_ble_eq_true rfl) ⟨Nat.zero_le _, Nat.zero_le _⟩ [0, 1, 2, 3, 4, 5, 6, 7, 8, 9, 10, 11, 12] [] [0, 1, 2, 3, 4, 5, 6, 7, 8, 9, 10, 11, 12] (fun u4 => wM (gEo Γ) ad u4) rfl rfl rfl rfl (by decide) rfl (fun _ => rfl) dX7_queue_19 hf (fun r3 u4 _ hf => ?_)
    refine g_istore_n X [(3, .int r3), (2, .int 0), (0, .ref (ad 0)), (1, .int x1)] dX7_queue_22 (by decide) rfl ?_
    refine g_iconst X 0 dX7_queue_23 rfl ?_
    refine g_istore X [(4, .int 0), (3, .int r3), (2, .int 0), (0, .ref (ad 0)), (1, .int x1)] dX7_queue_24 (by decide) rfl ?_
    refine g_sub [3, 4, 2, 1, 0] [(0, .ref (ad 0)), (1, .int x1), (2, .int 0), (3, .int r3), (4, .int 0)] rfl ?_
    exact w_X7_queue_b26 X 2000 u4 x1 0 r3 0 hf
  · refine g_iconst X (-1) dX7_queue_12 rfl ?_
    exact g_iret X rfl dX7_queue_13 hf
def f_X7_puts (σ : gM) (x1 : Int32) (x2 : Int32) (x3 : Int32) (x4 : Int32) : Option (Int32 × gM) :=
  if x1 = 0 then (some ((-1), σ)) else (gld 168 (M_state σ) x2 fun v1 => gv (v1 + x4) fun v2 => gst 168 (M_state σ) x2 (x3 - x4) fun g3 => gs (M_state_s σ g3) fun s4 => some (v2, s4))
abbrev rm_X7_puts : Room := { frames := 1, cells := 0, slots := 0, locals := 12 }
set_option maxHeartbeats 4000000 in
theorem m_X7_puts (l : Launch) (E : gE) (ad : Nat → Nat) (σ : gM) (x1 : Int32) (x2 : Int32) (x3 : Int32) (x4 : Int32) (r : Int32) (u : gM) (hf : f_X7_puts σ x1 x2 x3 x4 = some (r, u)) (sz : Nat) : Met l yX7_puts (ws_ yX7_puts cX7_puts 6 (some .int)) rm_X7_puts (gPc [.ref (ad 0), .int x1, .int x2, .int x3, .int x4] E (wM E ad σ) sz) (gPi E (wM E ad) r u (va_A (wM E ad σ) sz)) 0 0 (va_A (wM E ad σ) sz) := by
  refine gMet (Qc := gPi E (wM E ad) r u) (by decide) (Nat.le_of_ble_eq_true rfl) (fun Γ X hl hE => ?_)
  subst hl; subst hE
  unfold f_X7_puts at hf
  show gW Γ (gMQ Γ (gPi (gEo Γ) (wM (gEo Γ) ad) r u (gAo Γ)) 0 0) (wM (gEo Γ) ad σ) 6 0 0 0 [(0, .ref (ad 0)), (1, .int x1), (2, .int x2), (3, .int x3), (4, .int x4)] []
  refine g_iload_n X 1 dX7_puts_0 rfl ?_
  refine g_if_ne X 6 dX7_puts_1 rfl hf (fun hf => ?_) (fun hf => ?_)
  · refine g_aload_n X 0 dX7_puts_6 rfl ?_
    refine g_get X in_X7 0 0 rfl rfl (by decide) q917 rfl dX7_puts_7 ?_
    refine g_iload_n X 2 dX7_puts_10 rfl ?_
    refine g_iald X 1 rfl dX7_puts_11 hf (fun v1 hf => ?_)
    refine g_iload X 4 dX7_puts_12 rfl ?_
    refine g_iadd X dX7_puts_14 ?_
    refine g_topi hf (fun v2 hf => ?_)
    refine g_istore X [(5, .int v2), (0, .ref (ad 0)), (1, .int x1), (2, .int x2), (3, .int x3), (4, .int x4)] dX7_puts_15 (by decide) rfl ?_
    refine g_aload_n X 1 dX7_puts_17 rfl ?_
    refine g_get X in_X7 0 0 rfl rfl (by decide) q917 rfl dX7_puts_18 ?_
    refine g_iload_n X 3 dX7_puts_21 rfl ?_
    refine g_iload_n X 4 dX7_puts_22 rfl ?_
    refine g_iload X 5 dX7_puts_23 rfl ?_
    refine g_isub X dX7_puts_25 ?_
    refine g_iast X 1 (fun g3 => wM (gEo Γ) ad (M_state_s σ g3)) rfl (fun _ => rfl) dX7_puts_26 hf (fun g3 hf => ?_)
    refine g_gs (wM (gEo Γ) ad) hf (fun s4 hf => ?_)
    refine g_iload X 0 dX7_puts_27 rfl ?_
    exact g_iret X rfl dX7_puts_29 hf
  · refine g_iconst X (-1) dX7_puts_4 rfl ?_
    exact g_iret X rfl dX7_puts_5 hf
def f_X7_alter_b47 (σ : gM) (x1 : Int32) (x2 : Int32) (x3 : Int32) (t0 : Int32) : Option (Int32 × gM) :=
  (f_X7_puts σ t0 (((5 : Int32) * x2) + x1) x3 0).bind fun (r7, u8) => some (r7, u8)
def f_X7_alter_b42 (σ : gM) (x1 : Int32) (x2 : Int32) (x3 : Int32) : Option (Int32 × gM) :=
  f_X7_alter_b47 σ x1 x2 x3 1
def f_X7_alter_b46 (σ : gM) (x1 : Int32) (x2 : Int32) (x3 : Int32) : Option (Int32 × gM) :=
  f_X7_alter_b47 σ x1 x2 x3 0
def f_X7_alter_b25 (σ : gM) (x1 : Int32) (x2 : Int32) (x3 : Int32) : Option (Int32 × gM) :=
  if x2 = 1 then ((f_X7_in (x3.toInt64) 0 40).bind fun (r5, _) => if r5 = 0 then (f_X7_alter_b46 σ x1 x2 x3) else (f_X7_alter_b42 σ x1 x2 x3)) else (f_X7_alter_b46 σ x1 x2 x3)
def f_X7_alter (σ : gM) (x1 : Int32) (x2 : Int32) (x3 : Int32) : Option (Int32 × gM) :=
  (f_X7_isOne σ x1).bind fun (r1, u2) => if r1 = 0 then (f_X7_alter_b46 u2 x1 x2 x3) else (if x2 = 0 then ((f_X7_in (x3.toInt64) 0 3).bind fun (r3, _) => if r3 = 0 then (f_X7_alter_b25 u2 x1 x2 x3) else (f_X7_alter_b42 u2 x1 x2 x3)) else (f_X7_alter_b25 u2 x1 x2 x3))
abbrev rm_X7_alter : Room := { frames := 3, cells := 0, slots := 0, locals := 58 }
set_option maxHeartbeats 4000000 in
theorem w_X7_alter_b47 {Γ : gG} {ad : Nat → Nat} {r : Int32} {u : gM} (X : gCX Γ cX7_alter 4 (some .int) RX7 rm_X7_alter) : ∀ (σ : gM) (x1 : Int32) (x2 : Int32) (x3 : Int32) (t0 : Int32), f_X7_alter_b47 σ x1 x2 x3 t0 = some (r, u) → gW Γ (gMQ Γ (gPi (gEo Γ) (wM (gEo Γ) ad) r u (gAo Γ)) 0 0) (wM (gEo Γ) ad σ) 4 0 0 47 [(1, .int x1), (2, .int x2), (3, .int x3)] [.int t0, .ref (ad 0)] := by
  intro σ x1 x2 x3 t0 hf
  unfold f_X7_alter_b47 at hf
  refine g_iconst X 5 dX7_alter_47 rfl ?_
  refine g_iload_n X 1 dX7_alter_48 rfl ?_
  refine g_imul X dX7_alter_49 ?_
  refine g_iload_n X 0 dX7_alter_50 rfl ?_
  refine g_iadd X dX7_alter_51 ?_
  refine g_iload_n X 2 dX7_alter_52 rfl ?_
  refine g_iconst X 0 dX7_alter_53 rfl ?_
  refine g_callVi X 4 (As := [.int t0, .int (((5 : Int32) * x2) + x1), .int x3, .int 0]) (wfc := wM (gEo Γ) ad) (lw_V q1113 q1115 qs41 q67 q1116) (by decide +kernel) (fun r_ u_ h_ sz_ => m_X7_puts (gl Γ) (gEo Γ) ad σ t0 (((5 : Int32) * x2) + x1) x3 0 r_ u_ h_ sz_) (rq := 0) rfl rfl rfl rfl rfl ⟨by decide, by decide⟩ rfl (Nat.le_of_ble_eq_true rfl) ⟨Nat.zero_le _, Nat.zero_le _⟩ [0, 1, 2, 3, 4, 5, 6, 7, 8, 9, 10, 11, 12] [] [0, 1, 2, 3, 4, 5, 6, 7, 8, 9, 10, 11, 12] (fun u8 => wM (gEo Γ) ad u8) rfl rfl rfl rfl (by decide) rfl (fun _ => rfl) dX7_alter_54 hf (fun r7 u8 _ hf => ?_)
  exact g_iret X rfl dX7_alter_57 hf
set_option maxHeartbeats 4000000 in
theorem w_X7_alter_b42 {Γ : gG} {ad : Nat → Nat} {r : Int32} {u : gM} (X : gCX Γ cX7_alter 4 (some .int) RX7 rm_X7_alter) : ∀ (σ : gM) (x1 : Int32) (x2 : Int32) (x3 : Int32), f_X7_alter_b42 σ x1 x2 x3 = some (r, u) → gW Γ (gMQ Γ (gPi (gEo Γ) (wM (gEo Γ) ad) r u (gAo Γ)) 0 0) (wM (gEo Γ) ad σ) 4 0 0 42 [(1, .int x1), (2, .int x2), (3, .int x3)] [.ref (ad 0)] := by
  intro σ x1 x2 x3 hf
  unfold f_X7_alter_b42 at hf
  refine g_iconst X 1 dX7_alter_42 rfl ?_
  refine g_goto X 47 dX7_alter_43 rfl ?_
  exact w_X7_alter_b47 X σ x1 x2 x3 1 hf
set_option maxHeartbeats 4000000 in
theorem w_X7_alter_b46 {Γ : gG} {ad : Nat → Nat} {r : Int32} {u : gM} (X : gCX Γ cX7_alter 4 (some .int) RX7 rm_X7_alter) : ∀ (σ : gM) (x1 : Int32) (x2 : Int32) (x3 : Int32), f_X7_alter_b46 σ x1 x2 x3 = some (r, u) → gW Γ (gMQ Γ (gPi (gEo Γ) (wM (gEo Γ) ad) r u (gAo Γ)) 0 0) (wM (gEo Γ) ad σ) 4 0 0 46 [(1, .int x1), (2, .int x2), (3, .int x3)] [.ref (ad 0)] := by
  intro σ x1 x2 x3 hf
  unfold f_X7_alter_b46 at hf
  refine g_iconst X 0 dX7_alter_46 rfl ?_
  exact w_X7_alter_b47 X σ x1 x2 x3 0 hf
set_option maxHeartbeats 4000000 in
theorem w_X7_alter_b25 {Γ : gG} {ad : Nat → Nat} {r : Int32} {u : gM} (X : gCX Γ cX7_alter 4 (some .int) RX7 rm_X7_alter) : ∀ (σ : gM) (x1 : Int32) (x2 : Int32) (x3 : Int32), f_X7_alter_b25 σ x1 x2 x3 = some (r, u) → gW Γ (gMQ Γ (gPi (gEo Γ) (wM (gEo Γ) ad) r u (gAo Γ)) 0 0) (wM (gEo Γ) ad σ) 4 0 0 25 [(1, .int x1), (2, .int x2), (3, .int x3)] [.ref (ad 0)] := by
  intro σ x1 x2 x3 hf
  unfold f_X7_alter_b25 at hf
  refine g_iload_n X 1 dX7_alter_25 rfl ?_
  refine g_iconst X 1 dX7_alter_26 rfl ?_
  refine g_icmp_ne X 46 dX7_alter_27 rfl hf (fun hf => ?_) (fun hf => ?_)
  · exact w_X7_alter_b46 X σ x1 x2 x3 hf
  · refine g_iload_n X 2 dX7_alter_30 rfl ?_
    refine g_i2l X dX7_alter_31 ?_
    refine g_lconst X 0 dX7_alter_32 rfl ?_
    refine g_ldc2 X dX7_alter_33 q1112 ?_
    refine g_call0i X 3 (As := [.long (x3.toInt64), .long 0, .long 40]) (lw_S q1011 q1012 q67 q1013) (by decide +kernel) (fun r_ u_ h_ sz_ => m_X7_in (gl Γ) (gEo Γ) (x3.toInt64) 0 40 r_ u_ h_ sz_) rfl rfl ⟨by decide, by decide⟩ rfl (Nat.le_of_ble_eq_true rfl) ⟨Nat.zero_le _, Nat.zero_le _⟩ dX7_alter_36 hf (fun r5 _ hf => ?_)
    refine g_if_eq X 46 dX7_alter_39 rfl hf (fun hf => ?_) (fun hf => ?_)
    · exact w_X7_alter_b46 X σ x1 x2 x3 hf
    · exact w_X7_alter_b42 X σ x1 x2 x3 hf
set_option maxHeartbeats 4000000 in
theorem m_X7_alter (l : Launch) (E : gE) (ad : Nat → Nat) (σ : gM) (x1 : Int32) (x2 : Int32) (x3 : Int32) (r : Int32) (u : gM) (hf : f_X7_alter σ x1 x2 x3 = some (r, u)) (sz : Nat) : Met l yX7_alter (ws_ yX7_alter cX7_alter 4 (some .int)) rm_X7_alter (gPc [.ref (ad 0), .int x1, .int x2, .int x3] E (wM E ad σ) sz) (gPi E (wM E ad) r u (va_A (wM E ad σ) sz)) 0 0 (va_A (wM E ad σ) sz) := by
  refine gMet (Qc := gPi E (wM E ad) r u) (by decide) (Nat.le_of_ble_eq_true rfl) (fun Γ X hl hE => ?_)
  subst hl; subst hE
  unfold f_X7_alter at hf
  show gW Γ (gMQ Γ (gPi (gEo Γ) (wM (gEo Γ) ad) r u (gAo Γ)) 0 0) (wM (gEo Γ) ad σ) 4 0 0 0 [(0, .ref (ad 0)), (1, .int x1), (2, .int x2), (3, .int x3)] []
  refine g_aload_n X 0 dX7_alter_0 rfl ?_
  refine g_aload_n X 0 dX7_alter_1 rfl ?_
  refine g_iload_n X 1 dX7_alter_2 rfl ?_
  refine g_callVi X 1 (As := [.int x1]) (wfc := wM (gEo Γ) ad) (lw_V q1083 q1085 qs38 q67 q1086) (by decide +kernel) (fun r_ u_ h_ sz_ => m_X7_isOne (gl Γ) (gEo Γ) ad σ x1 r_ u_ h_ sz_) (rq := 0) rfl rfl rfl rfl rfl ⟨by decide, by decide⟩ rfl (Nat.le_of_ble_eq_true rfl) ⟨Nat.zero_le _, Nat.zero_le _⟩ [0, 1, 2, 3, 4, 5, 6, 7, 8, 9, 10, 11, 12] [] [0, 1, 2, 3, 4, 5, 6, 7, 8, 9, 10, 11, 12] (fun u2 => wM (gEo Γ) ad u2) rfl rfl rfl rfl (by decide) rfl (fun _ => rfl) dX7_alter_3 hf (fun r1 u2 _ hf => ?_)
  refine g_if_eq X 46 dX7_alter_6 rfl hf (fun hf => ?_) (fun hf => ?_)
  · refine g_sub [1, 2, 3] [(1, .int x1), (2, .int x2), (3, .int x3)] rfl ?_
    exact w_X7_alter_b46 X u2 x1 x2 x3 hf
  · refine g_iload_n X 2 dX7_alter_9 rfl ?_
    refine g_if_ne X 25 dX7_alter_10 rfl hf (fun hf => ?_) (fun hf => ?_)
    · refine g_sub [1, 2, 3] [(1, .int x1), (2, .int x2), (3, .int x3)] rfl ?_
      exact w_X7_alter_b25 X u2 x1 x2 x3 hf
    · refine g_iload_n X 3 dX7_alter_13 rfl ?_
      refine g_i2l X dX7_alter_14 ?_
      refine g_lconst X 0 dX7_alter_15 rfl ?_
      refine g_ldc2 X dX7_alter_16 q1111 ?_
      refine g_call0i X 3 (As := [.long (x3.toInt64), .long 0, .long 3]) (lw_S q1011 q1012 q67 q1013) (by decide +kernel) (fun r_ u_ h_ sz_ => m_X7_in (gl Γ) (gEo Γ) (x3.toInt64) 0 3 r_ u_ h_ sz_) rfl rfl ⟨by decide, by decide⟩ rfl (Nat.le_of_ble_eq_true rfl) ⟨Nat.zero_le _, Nat.zero_le _⟩ dX7_alter_19 hf (fun r3 _ hf => ?_)
      refine g_if_ne X 42 dX7_alter_22 rfl hf (fun hf => ?_) (fun hf => ?_)
      · refine g_sub [1, 2, 3] [(1, .int x1), (2, .int x2), (3, .int x3)] rfl ?_
        exact w_X7_alter_b42 X u2 x1 x2 x3 hf
      · refine g_sub [1, 2, 3] [(1, .int x1), (2, .int x2), (3, .int x3)] rfl ?_
        exact w_X7_alter_b25 X u2 x1 x2 x3 hf
def f_X7_room (σ : gM) (x1 : Int32) : Option (Int32 × gM) :=
  (f_X7_in (x1.toInt64) 1 5).bind fun (r1, _) => (f_X7_puts σ r1 17 x1 2).bind fun (r3, u4) => some (r3, u4)
abbrev rm_X7_room : Room := { frames := 2, cells := 0, slots := 0, locals := 37 }
set_option maxHeartbeats 4000000 in
theorem m_X7_room (l : Launch) (E : gE) (ad : Nat → Nat) (σ : gM) (x1 : Int32) (r : Int32) (u : gM) (hf : f_X7_room σ x1 = some (r, u)) (sz : Nat) : Met l yX7_room (ws_ yX7_room cX7_room 2 (some .int)) rm_X7_room (gPc [.ref (ad 0), .int x1] E (wM E ad σ) sz) (gPi E (wM E ad) r u (va_A (wM E ad σ) sz)) 0 0 (va_A (wM E ad σ) sz) := by
  refine gMet (Qc := gPi E (wM E ad) r u) (by decide) (Nat.le_of_ble_eq_true rfl) (fun Γ X hl hE => ?_)
  subst hl; subst hE
  unfold f_X7_room at hf
  show gW Γ (gMQ Γ (gPi (gEo Γ) (wM (gEo Γ) ad) r u (gAo Γ)) 0 0) (wM (gEo Γ) ad σ) 2 0 0 0 [(0, .ref (ad 0)), (1, .int x1)] []
  refine g_aload_n X 0 dX7_room_0 rfl ?_
  refine g_iload_n X 1 dX7_room_1 rfl ?_
  refine g_i2l X dX7_room_2 ?_
  refine g_lconst X 1 dX7_room_3 rfl ?_
  refine g_ldc2 X dX7_room_4 q1121 ?_
  refine g_call0i X 3 (As := [.long (x1.toInt64), .long 1, .long 5]) (lw_S q1011 q1012 q67 q1013) (by decide +kernel) (fun r_ u_ h_ sz_ => m_X7_in (gl Γ) (gEo Γ) (x1.toInt64) 1 5 r_ u_ h_ sz_) rfl rfl ⟨by decide, by decide⟩ rfl (Nat.le_of_ble_eq_true rfl) ⟨Nat.zero_le _, Nat.zero_le _⟩ dX7_room_7 hf (fun r1 _ hf => ?_)
  refine g_bipush X 17 dX7_room_10 rfl ?_
  refine g_iload_n X 1 dX7_room_12 rfl ?_
  refine g_iconst X 2 dX7_room_13 rfl ?_
  refine g_callVi X 4 (As := [.int r1, .int 17, .int x1, .int 2]) (wfc := wM (gEo Γ) ad) (lw_V q1113 q1115 qs41 q67 q1116) (by decide +kernel) (fun r_ u_ h_ sz_ => m_X7_puts (gl Γ) (gEo Γ) ad σ r1 17 x1 2 r_ u_ h_ sz_) (rq := 0) rfl rfl rfl rfl rfl ⟨by decide, by decide⟩ rfl (Nat.le_of_ble_eq_true rfl) ⟨Nat.zero_le _, Nat.zero_le _⟩ [0, 1, 2, 3, 4, 5, 6, 7, 8, 9, 10, 11, 12] [] [0, 1, 2, 3, 4, 5, 6, 7, 8, 9, 10, 11, 12] (fun u4 => wM (gEo Γ) ad u4) rfl rfl rfl rfl (by decide) rfl (fun _ => rfl) dX7_room_14 hf (fun r3 u4 _ hf => ?_)
  exact g_iret X rfl dX7_room_17 hf
def f_X7_think (σ : gM) (x1 : Int32) : Option (Int32 × gM) :=
  (f_X7_in (x1.toInt64) 1 9).bind fun (r1, _) => (f_X7_puts σ r1 18 x1 4).bind fun (r3, u4) => some (r3, u4)
abbrev rm_X7_think : Room := { frames := 2, cells := 0, slots := 0, locals := 37 }
set_option maxHeartbeats 4000000 in
theorem m_X7_think (l : Launch) (E : gE) (ad : Nat → Nat) (σ : gM) (x1 : Int32) (r : Int32) (u : gM) (hf : f_X7_think σ x1 = some (r, u)) (sz : Nat) : Met l yX7_think (ws_ yX7_think cX7_think 2 (some .int)) rm_X7_think (gPc [.ref (ad 0), .int x1] E (wM E ad σ) sz) (gPi E (wM E ad) r u (va_A (wM E ad σ) sz)) 0 0 (va_A (wM E ad σ) sz) := by
  refine gMet (Qc := gPi E (wM E ad) r u) (by decide) (Nat.le_of_ble_eq_true rfl) (fun Γ X hl hE => ?_)
  subst hl; subst hE
  unfold f_X7_think at hf
  show gW Γ (gMQ Γ (gPi (gEo Γ) (wM (gEo Γ) ad) r u (gAo Γ)) 0 0) (wM (gEo Γ) ad σ) 2 0 0 0 [(0, .ref (ad 0)), (1, .int x1)] []
  refine g_aload_n X 0 dX7_think_0 rfl ?_
  refine g_iload_n X 1 dX7_think_1 rfl ?_
  refine g_i2l X dX7_think_2 ?_
  refine g_lconst X 1 dX7_think_3 rfl ?_
  refine g_ldc2 X dX7_think_4 q1126 ?_
  refine g_call0i X 3 (As := [.long (x1.toInt64), .long 1, .long 9]) (lw_S q1011 q1012 q67 q1013) (by decide +kernel) (fun r_ u_ h_ sz_ => m_X7_in (gl Γ) (gEo Γ) (x1.toInt64) 1 9 r_ u_ h_ sz_) rfl rfl ⟨by decide, by decide⟩ rfl (Nat.le_of_ble_eq_true rfl) ⟨Nat.zero_le _, Nat.zero_le _⟩ dX7_think_7 hf (fun r1 _ hf => ?_)
  refine g_bipush X 18 dX7_think_10 rfl ?_
  refine g_iload_n X 1 dX7_think_12 rfl ?_
  refine g_iconst X 4 dX7_think_13 rfl ?_
  refine g_callVi X 4 (As := [.int r1, .int 18, .int x1, .int 4]) (wfc := wM (gEo Γ) ad) (lw_V q1113 q1115 qs41 q67 q1116) (by decide +kernel) (fun r_ u_ h_ sz_ => m_X7_puts (gl Γ) (gEo Γ) ad σ r1 18 x1 4 r_ u_ h_ sz_) (rq := 0) rfl rfl rfl rfl rfl ⟨by decide, by decide⟩ rfl (Nat.le_of_ble_eq_true rfl) ⟨Nat.zero_le _, Nat.zero_le _⟩ [0, 1, 2, 3, 4, 5, 6, 7, 8, 9, 10, 11, 12] [] [0, 1, 2, 3, 4, 5, 6, 7, 8, 9, 10, 11, 12] (fun u4 => wM (gEo Γ) ad u4) rfl rfl rfl rfl (by decide) rfl (fun _ => rfl) dX7_think_14 hf (fun r3 u4 _ hf => ?_)
  exact g_iret X rfl dX7_think_17 hf
def f_X7_isAct_b19 (σ : gM) : Option (Int32 × gM) :=
  gzr 1 σ
def f_X7_isAct (σ : gM) (x1 : Int32) : Option (Int32 × gM) :=
  (f_X7_isOne σ x1).bind fun (r1, u2) => if r1 = 0 then (if x1 = 5 then (f_X7_isAct_b19 u2) else (if x1 = 6 then (f_X7_isAct_b19 u2) else (gzr 0 u2))) else (f_X7_isAct_b19 u2)
abbrev rm_X7_isAct : Room := { frames := 3, cells := 0, slots := 0, locals := 58 }
set_option maxHeartbeats 4000000 in
theorem w_X7_isAct_b19 {Γ : gG} {ad : Nat → Nat} {r : Int32} {u : gM} (X : gCX Γ cX7_isAct 2 (some .boolean) RX7 rm_X7_isAct) : ∀ (σ : gM), f_X7_isAct_b19 σ  = some (r, u) → gW Γ (gMQ Γ (gPi (gEo Γ) (wM (gEo Γ) ad) r u (gAo Γ)) 0 0) (wM (gEo Γ) ad σ) 2 0 0 19 [] [] := by
  intro σ  hf
  unfold f_X7_isAct_b19 at hf
  refine g_iconst X 1 dX7_isAct_19 rfl ?_
  refine g_goto X 24 dX7_isAct_20 rfl ?_
  exact g_zret X rfl dX7_isAct_24 hf
set_option maxHeartbeats 4000000 in
theorem m_X7_isAct (l : Launch) (E : gE) (ad : Nat → Nat) (σ : gM) (x1 : Int32) (r : Int32) (u : gM) (hf : f_X7_isAct σ x1 = some (r, u)) (sz : Nat) : Met l yX7_isAct (ws_ yX7_isAct cX7_isAct 2 (some .boolean)) rm_X7_isAct (gPc [.ref (ad 0), .int x1] E (wM E ad σ) sz) (gPi E (wM E ad) r u (va_A (wM E ad σ) sz)) 0 0 (va_A (wM E ad σ) sz) := by
  refine gMet (Qc := gPi E (wM E ad) r u) (by decide) (Nat.le_of_ble_eq_true rfl) (fun Γ X hl hE => ?_)
  subst hl; subst hE
  unfold f_X7_isAct at hf
  show gW Γ (gMQ Γ (gPi (gEo Γ) (wM (gEo Γ) ad) r u (gAo Γ)) 0 0) (wM (gEo Γ) ad σ) 2 0 0 0 [(0, .ref (ad 0)), (1, .int x1)] []
  refine g_aload_n X 0 dX7_isAct_0 rfl ?_
  refine g_iload_n X 1 dX7_isAct_1 rfl ?_
  refine g_callVi X 1 (As := [.int x1]) (wfc := wM (gEo Γ) ad) (lw_V q1083 q1085 qs38 q67 q1086) (by decide +kernel) (fun r_ u_ h_ sz_ => m_X7_isOne (gl Γ) (gEo Γ) ad σ x1 r_ u_ h_ sz_) (rq := 0) rfl rfl rfl rfl rfl ⟨by decide, by decide⟩ rfl (Nat.le_of_ble_eq_true rfl) ⟨Nat.zero_le _, Nat.zero_le _⟩ [0, 1, 2, 3, 4, 5, 6, 7, 8, 9, 10, 11, 12] [] [0, 1, 2, 3, 4, 5, 6, 7, 8, 9, 10, 11, 12] (fun u2 => wM (gEo Γ) ad u2) rfl rfl rfl rfl (by decide) rfl (fun _ => rfl) dX7_isAct_2 hf (fun r1 u2 _ hf => ?_)
  refine g_if_ne X 19 dX7_isAct_5 rfl hf (fun hf => ?_) (fun hf => ?_)
  · refine g_sub [] [] rfl ?_
    exact w_X7_isAct_b19 X u2 hf
  · refine g_iload_n X 1 dX7_isAct_8 rfl ?_
    refine g_iconst X 5 dX7_isAct_9 rfl ?_
    refine g_icmp_eq X 19 dX7_isAct_10 rfl hf (fun hf => ?_) (fun hf => ?_)
    · refine g_sub [] [] rfl ?_
      exact w_X7_isAct_b19 X u2 hf
    · refine g_iload_n X 1 dX7_isAct_13 rfl ?_
      refine g_bipush X 6 dX7_isAct_14 rfl ?_
      refine g_icmp_ne X 23 dX7_isAct_16 rfl hf (fun hf => ?_) (fun hf => ?_)
      · refine g_iconst X 0 dX7_isAct_23 rfl ?_
        exact g_zret X rfl dX7_isAct_24 hf
      · refine g_sub [] [] rfl ?_
        exact w_X7_isAct_b19 X u2 hf
def f_X7_plan (σ : gM) (x1 : Int32) : Option (Int32 × gM) :=
  (f_X7_isAct σ x1).bind fun (r1, u2) => if r1 = 0 then (some ((-1), u2)) else (gld 168 (M_state u2) 27 fun v3 => if v3 = 8 then (some ((-3), u2)) else (gld 168 (M_state u2) 27 fun v4 => gst 168 (M_state u2) ((19 : Int32) + v4) x1 fun g5 => gs (M_state_s u2 g5) fun s6 => gld 168 (M_state s6) 27 fun v7 => gst 168 (M_state s6) 27 (v7 + 1) fun g8 => gs (M_state_s s6 g8) fun s9 => gld 168 (M_state s9) 27 fun v10 => some (v10, s9)))
abbrev rm_X7_plan : Room := { frames := 4, cells := 0, slots := 0, locals := 79 }
set_option maxHeartbeats 4000000 in
theorem m_X7_plan (l : Launch) (E : gE) (ad : Nat → Nat) (σ : gM) (x1 : Int32) (r : Int32) (u : gM) (hf : f_X7_plan σ x1 = some (r, u)) (sz : Nat) : Met l yX7_plan (ws_ yX7_plan cX7_plan 2 (some .int)) rm_X7_plan (gPc [.ref (ad 0), .int x1] E (wM E ad σ) sz) (gPi E (wM E ad) r u (va_A (wM E ad σ) sz)) 0 0 (va_A (wM E ad σ) sz) := by
  refine gMet (Qc := gPi E (wM E ad) r u) (by decide) (Nat.le_of_ble_eq_true rfl) (fun Γ X hl hE => ?_)
  subst hl; subst hE
  unfold f_X7_plan at hf
  show gW Γ (gMQ Γ (gPi (gEo Γ) (wM (gEo Γ) ad) r u (gAo Γ)) 0 0) (wM (gEo Γ) ad σ) 2 0 0 0 [(0, .ref (ad 0)), (1, .int x1)] []
  refine g_aload_n X 0 dX7_plan_0 rfl ?_
  refine g_iload_n X 1 dX7_plan_1 rfl ?_
  refine g_callVi X 1 (As := [.int x1]) (wfc := wM (gEo Γ) ad) (lw_V q1131 q1133 qs42 q67 q1134) (by decide +kernel) (fun r_ u_ h_ sz_ => m_X7_isAct (gl Γ) (gEo Γ) ad σ x1 r_ u_ h_ sz_) (rq := 0) rfl rfl rfl rfl rfl ⟨by decide, by decide⟩ rfl (Nat.le_of_ble_eq_true rfl) ⟨Nat.zero_le _, Nat.zero_le _⟩ [0, 1, 2, 3, 4, 5, 6, 7, 8, 9, 10, 11, 12] [] [0, 1, 2, 3, 4, 5, 6, 7, 8, 9, 10, 11, 12] (fun u2 => wM (gEo Γ) ad u2) rfl rfl rfl rfl (by decide) rfl (fun _ => rfl) dX7_plan_2 hf (fun r1 u2 _ hf => ?_)
  refine g_if_ne X 10 dX7_plan_5 rfl hf (fun hf => ?_) (fun hf => ?_)
  · refine g_aload_n X 0 dX7_plan_10 rfl ?_
    refine g_get X in_X7 0 0 rfl rfl (by decide) q917 rfl dX7_plan_11 ?_
    refine g_bipush X 27 dX7_plan_14 rfl ?_
    refine g_iald X 1 rfl dX7_plan_16 hf (fun v3 hf => ?_)
    refine g_bipush X 8 dX7_plan_17 rfl ?_
    refine g_icmp_ne X 25 dX7_plan_19 rfl hf (fun hf => ?_) (fun hf => ?_)
    · refine g_aload_n X 0 dX7_plan_25 rfl ?_
      refine g_get X in_X7 0 0 rfl rfl (by decide) q917 rfl dX7_plan_26 ?_
      refine g_bipush X 19 dX7_plan_29 rfl ?_
      refine g_aload_n X 0 dX7_plan_31 rfl ?_
      refine g_get X in_X7 0 0 rfl rfl (by decide) q917 rfl dX7_plan_32 ?_
      refine g_bipush X 27 dX7_plan_35 rfl ?_
      refine g_iald X 1 rfl dX7_plan_37 hf (fun v4 hf => ?_)
      refine g_iadd X dX7_plan_38 ?_
      refine g_iload_n X 1 dX7_plan_39 rfl ?_
      refine g_iast X 1 (fun g5 => wM (gEo Γ) ad (M_state_s u2 g5)) rfl (fun _ => rfl) dX7_plan_40 hf (fun g5 hf => ?_)
      refine g_gs (wM (gEo Γ) ad) hf (fun s6 hf => ?_)
      refine g_aload_n X 0 dX7_plan_41 rfl ?_
      refine g_get X in_X7 0 0 rfl rfl (by decide) q917 rfl dX7_plan_42 ?_
      refine g_bipush X 27 dX7_plan_45 rfl ?_
      refine g_dup2 X dX7_plan_47 rfl rfl ?_
      refine g_iald X 1 rfl dX7_plan_48 hf (fun v7 hf => ?_)
      refine g_iconst X 1 dX7_plan_49 rfl ?_
      refine g_iadd X dX7_plan_50 ?_
      refine g_iast X 1 (fun g8 => wM (gEo Γ) ad (M_state_s s6 g8)) rfl (fun _ => rfl) dX7_plan_51 hf (fun g8 hf => ?_)
      refine g_gs (wM (gEo Γ) ad) hf (fun s9 hf => ?_)
      refine g_aload_n X 0 dX7_plan_52 rfl ?_
      refine g_get X in_X7 0 0 rfl rfl (by decide) q917 rfl dX7_plan_53 ?_
      refine g_bipush X 27 dX7_plan_56 rfl ?_
      refine g_iald X 1 rfl dX7_plan_58 hf (fun v10 hf => ?_)
      exact g_iret X rfl dX7_plan_59 hf
    · refine g_bipush X (-3) dX7_plan_22 rfl ?_
      exact g_iret X rfl dX7_plan_24 hf
  · refine g_iconst X (-1) dX7_plan_8 rfl ?_
    exact g_iret X rfl dX7_plan_9 hf
