set_option maxRecDepth 100000
def f_X0_isRowPart (x0 : Int32) (x1 : Int32) : Option (Int32 × Unit) :=
  (f_X0_in (x0.toInt64) 10 ((((10 : Int32) + x1) - 1).toInt64)).bind fun (r1, _) => gzr r1 ()
abbrev rm_X0_isRowPart : Room := { frames := 2, cells := 0, slots := 0, locals := 37 }
set_option maxHeartbeats 4000000 in
theorem m_X0_isRowPart (l : Launch) (E : gE) (x0 : Int32) (x1 : Int32) (r : Int32) (u : Unit) (hf : f_X0_isRowPart x0 x1 = some (r, u)) (sz : Nat) : Met l yX0_isRowPart (ws_ yX0_isRowPart cX0_isRowPart 2 (some .boolean)) rm_X0_isRowPart (gPc [.int x0, .int x1] E [] sz) (gPi E (fun _ => []) r u (va_A [] sz)) 0 0 (va_A [] sz) := by
  refine gMet (Qc := gPi E (fun _ => []) r u) (by decide) (Nat.le_of_ble_eq_true rfl) (fun Γ X hl hE => ?_)
  subst hl; subst hE
  unfold f_X0_isRowPart at hf
  show gW Γ (gMQ Γ (gPi (gEo Γ) (fun _ => []) r u (gAo Γ)) 0 0) [] 2 0 0 0 [(0, .int x0), (1, .int x1)] []
  refine g_iload_n X 0 dX0_isRowPart_0 rfl ?_
  refine g_i2l X dX0_isRowPart_1 ?_
  refine g_ldc2 X dX0_isRowPart_2 q702 ?_
  refine g_bipush X 10 dX0_isRowPart_5 rfl ?_
  refine g_iload_n X 1 dX0_isRowPart_7 rfl ?_
  refine g_iadd X dX0_isRowPart_8 ?_
  refine g_iconst X 1 dX0_isRowPart_9 rfl ?_
  refine g_isub X dX0_isRowPart_10 ?_
  refine g_i2l X dX0_isRowPart_11 ?_
  refine g_call0i X 3 (As := [.long (x0.toInt64), .long 10, .long ((((10 : Int32) + x1) - 1).toInt64)]) (lw_S q243 q244 q60 q245) (by decide +kernel) (fun r_ u_ h_ sz_ => m_X0_in (gl Γ) (gEo Γ) (x0.toInt64) 10 ((((10 : Int32) + x1) - 1).toInt64) r_ u_ h_ sz_) rfl rfl ⟨by decide, by decide⟩ rfl (Nat.le_of_ble_eq_true rfl) ⟨Nat.zero_le _, Nat.zero_le _⟩ dX0_isRowPart_12 hf (fun r1 _ hf => ?_)
  exact g_zret X rfl dX0_isRowPart_15 hf
def f_X0_power_b4 : Nat → Unit → Int32 → Int32 → Int32 → Int32 → Option (Int32 × Unit)
  | 0 => fun _ _ _ _ _ => none
  | n_ + 1 => fun σ x0 x1 x2 x3 =>
    if x1 ≤ x3 then (some (x2, ())) else (gv (x2 * x0) fun v1 => gv (x3 + 1) fun v2 => (f_X0_power_b4 n_) () x0 x1 v1 v2)
def f_X0_power (x0 : Int32) (x1 : Int32) : Option (Int32 × Unit) :=
  f_X0_power_b4 2000 () x0 x1 1 0
abbrev rm_X0_power : Room := { frames := 1, cells := 0, slots := 0, locals := 12 }
set_option maxHeartbeats 4000000 in
theorem w_X0_power_b4 {Γ : gG} {r : Int32} {u : Unit} (X : gCX Γ cX0_power 4 (some .int) RX0 rm_X0_power) : ∀ (n_ : Nat) (σ : Unit) (x0 : Int32) (x1 : Int32) (x2 : Int32) (x3 : Int32), f_X0_power_b4 n_ σ x0 x1 x2 x3 = some (r, u) → gW Γ (gMQ Γ (gPi (gEo Γ) (fun _ => []) r u (gAo Γ)) 0 0) [] 4 0 0 4 [(0, .int x0), (1, .int x1), (2, .int x2), (3, .int x3)] [] := by
  intro n_
  induction n_ with
  | zero => intro σ x0 x1 x2 x3 hf; cases hf
  | succ n_ ih =>
    intro σ x0 x1 x2 x3 hf
    simp only [f_X0_power_b4] at hf
    refine g_iload_n X 3 dX0_power_4 rfl ?_
    refine g_iload_n X 1 dX0_power_5 rfl ?_
    refine g_icmp_ge X 19 dX0_power_6 rfl hf (fun hf => ?_) (fun hf => ?_)
    · refine g_iload_n X 2 dX0_power_19 rfl ?_
      exact g_iret X rfl dX0_power_20 hf
    · refine g_iload_n X 2 dX0_power_9 rfl ?_
      refine g_iload_n X 0 dX0_power_10 rfl ?_
      refine g_imul X dX0_power_11 ?_
      refine g_topi hf (fun v1 hf => ?_)
      refine g_istore_n X [(2, .int v1), (0, .int x0), (1, .int x1), (3, .int x3)] dX0_power_12 (by decide) rfl ?_
      refine g_iincV X 1 3 (fun v2 => [(3, .int v2), (2, .int v1), (0, .int x0), (1, .int x1)]) dX0_power_13 rfl rfl (by decide) (fun _ => rfl) hf (fun v2 hf => ?_)
      refine g_goto X 4 dX0_power_16 rfl ?_
      refine g_sub [2, 3, 1, 0] [(0, .int x0), (1, .int x1), (2, .int v1), (3, .int v2)] rfl ?_
      exact ih () x0 x1 v1 v2 hf
set_option maxHeartbeats 4000000 in
theorem m_X0_power (l : Launch) (E : gE) (x0 : Int32) (x1 : Int32) (r : Int32) (u : Unit) (hf : f_X0_power x0 x1 = some (r, u)) (sz : Nat) : Met l yX0_power (ws_ yX0_power cX0_power 4 (some .int)) rm_X0_power (gPc [.int x0, .int x1] E [] sz) (gPi E (fun _ => []) r u (va_A [] sz)) 0 0 (va_A [] sz) := by
  refine gMet (Qc := gPi E (fun _ => []) r u) (by decide) (Nat.le_of_ble_eq_true rfl) (fun Γ X hl hE => ?_)
  subst hl; subst hE
  unfold f_X0_power at hf
  show gW Γ (gMQ Γ (gPi (gEo Γ) (fun _ => []) r u (gAo Γ)) 0 0) [] 4 0 0 0 [(0, .int x0), (1, .int x1)] []
  refine g_iconst X 1 dX0_power_0 rfl ?_
  refine g_istore_n X [(2, .int 1), (0, .int x0), (1, .int x1)] dX0_power_1 (by decide) rfl ?_
  refine g_iconst X 0 dX0_power_2 rfl ?_
  refine g_istore_n X [(3, .int 0), (2, .int 1), (0, .int x0), (1, .int x1)] dX0_power_3 (by decide) rfl ?_
  refine g_sub [2, 3, 1, 0] [(0, .int x0), (1, .int x1), (2, .int 1), (3, .int 0)] rfl ?_
  exact w_X0_power_b4 X 2000 () x0 x1 1 0 hf
def f_X0_readRow_b8 : Nat → gX → Int32 → Int32 → Int32 → Option (gX)
  | 0 => fun _ _ _ _ => none
  | n_ + 1 => fun σ x3 x4 x5 =>
    if x5 < 0 then (some σ) else (gdv x3 <| gst 4 (X_row σ) x5 (vp_nar .byte ((x4 - x4 / x3 * x3).toInt8.toInt32)) fun g2 => gs (X_row_s σ g2) fun s3 => gdv x3 <| gv (x4 / x3) fun v4 => gv (x5 + (-1)) fun v5 => (f_X0_readRow_b8 n_) s3 x3 v4 v5)
def f_X0_readRow (σ : gX) (x1 : Int32) (x2 : Int32) (x3 : Int32) : Option (gX) :=
  gv (x2 - 1) fun v1 => f_X0_readRow_b8 2000 σ x3 x1 v1
abbrev rm_X0_readRow : Room := { frames := 1, cells := 0, slots := 0, locals := 12 }
set_option maxHeartbeats 4000000 in
theorem w_X0_readRow_b8 {Γ : gG} {ad : Nat → Nat} {u : gX} (X : gCX Γ cX0_readRow 6 none RX0 rm_X0_readRow) : ∀ (n_ : Nat) (σ : gX) (x3 : Int32) (x4 : Int32) (x5 : Int32), f_X0_readRow_b8 n_ σ x3 x4 x5 = some u → gW Γ (gMQ Γ (gPv (gEo Γ) (wX (gEo Γ) ad) u (gAo Γ)) 0 0) (wX (gEo Γ) ad σ) 6 0 0 8 [(0, .ref (ad 0)), (3, .int x3), (4, .int x4), (5, .int x5)] [] := by
  intro n_
  induction n_ with
  | zero => intro σ x3 x4 x5 hf; cases hf
  | succ n_ ih =>
    intro σ x3 x4 x5 hf
    simp only [f_X0_readRow_b8] at hf
    refine g_iload X 3 dX0_readRow_8 rfl ?_
    refine g_if_lt X 37 dX0_readRow_10 rfl hf (fun hf => ?_) (fun hf => ?_)
    · exact g_vret X rfl dX0_readRow_37 hf
    · refine g_aload_n X 0 dX0_readRow_13 rfl ?_
      refine g_get X in_X0 0 13 rfl rfl (by decide) q193 rfl dX0_readRow_14 ?_
      refine g_iload X 3 dX0_readRow_17 rfl ?_
      refine g_iload X 2 dX0_readRow_19 rfl ?_
      refine g_iload_n X 1 dX0_readRow_21 rfl ?_
      refine g_irem X dX0_readRow_22 hf (fun hf => ?_)
      refine g_i2b X dX0_readRow_23 ?_
      refine g_bast X 25 (fun g2 => wX (gEo Γ) ad (X_row_s σ g2)) rfl (fun _ => rfl) dX0_readRow_24 hf (fun g2 hf => ?_)
      refine g_gs (wX (gEo Γ) ad) hf (fun s3 hf => ?_)
      refine g_iload X 2 dX0_readRow_25 rfl ?_
      refine g_iload_n X 1 dX0_readRow_27 rfl ?_
      refine g_idiv X dX0_readRow_28 hf (fun hf => ?_)
      refine g_topi hf (fun v4 hf => ?_)
      refine g_istore X [(4, .int v4), (0, .ref (ad 0)), (3, .int x3), (5, .int x5)] dX0_readRow_29 (by decide) rfl ?_
      refine g_iincV X (-1) 3 (fun v5 => [(5, .int v5), (4, .int v4), (0, .ref (ad 0)), (3, .int x3)]) dX0_readRow_31 rfl rfl (by decide) (fun _ => rfl) hf (fun v5 hf => ?_)
      refine g_goto X 8 dX0_readRow_34 rfl ?_
      refine g_sub [2, 3, 1, 0] [(0, .ref (ad 0)), (3, .int x3), (4, .int v4), (5, .int v5)] rfl ?_
      exact ih s3 x3 v4 v5 hf
set_option maxHeartbeats 4000000 in
theorem m_X0_readRow (l : Launch) (E : gE) (ad : Nat → Nat) (σ : gX) (x1 : Int32) (x2 : Int32) (x3 : Int32) (u : gX) (hf : f_X0_readRow σ x1 x2 x3 = some u) (sz : Nat) : Met l yX0_readRow (ws_ yX0_readRow cX0_readRow 6 none) rm_X0_readRow (gPc [.ref (ad 0), .int x1, .int x2, .int x3] E (wX E ad σ) sz) (gPv E (wX E ad) u (va_A (wX E ad σ) sz)) 0 0 (va_A (wX E ad σ) sz) := by
  refine gMet (Qc := gPv E (wX E ad) u) (by decide) (Nat.le_of_ble_eq_true rfl) (fun Γ X hl hE => ?_)
  subst hl; subst hE
  unfold f_X0_readRow at hf
  show gW Γ (gMQ Γ (gPv (gEo Γ) (wX (gEo Γ) ad) u (gAo Γ)) 0 0) (wX (gEo Γ) ad σ) 6 0 0 0 [(0, .ref (ad 0)), (1, .int x1), (2, .int x2), (3, .int x3)] []
  refine g_iload_n X 1 dX0_readRow_0 rfl ?_
  refine g_istore X [(4, .int x1), (0, .ref (ad 0)), (1, .int x1), (2, .int x2), (3, .int x3)] dX0_readRow_1 (by decide) rfl ?_
  refine g_iload_n X 3 dX0_readRow_3 rfl ?_
  refine g_iconst X 1 dX0_readRow_4 rfl ?_
  refine g_isub X dX0_readRow_5 ?_
  refine g_topi hf (fun v1 hf => ?_)
  refine g_istore X [(5, .int v1), (4, .int x1), (0, .ref (ad 0)), (1, .int x1), (2, .int x2), (3, .int x3)] dX0_readRow_6 (by decide) rfl ?_
  refine g_sub [2, 5, 1, 0] [(0, .ref (ad 0)), (3, .int x3), (4, .int x1), (5, .int v1)] rfl ?_
  exact w_X0_readRow_b8 X 2000 σ x3 x1 v1 hf
def f_X0_rowAct (σ : gX) (x1 : Int32) : Option (Int32 × gX) :=
  gld 4 (X_row σ) x1 fun v1 => if v1 = ((S_people (X_now σ))) then (some (5, σ)) else (gld 4 (X_row σ) x1 fun v2 => some (v2, σ))
abbrev rm_X0_rowAct : Room := { frames := 1, cells := 0, slots := 0, locals := 12 }
set_option maxHeartbeats 4000000 in
theorem m_X0_rowAct (l : Launch) (E : gE) (ad : Nat → Nat) (σ : gX) (x1 : Int32) (r : Int32) (u : gX) (hf : f_X0_rowAct σ x1 = some (r, u)) (sz : Nat) : Met l yX0_rowAct (ws_ yX0_rowAct cX0_rowAct 2 (some .int)) rm_X0_rowAct (gPc [.ref (ad 0), .int x1] E (wX E ad σ) sz) (gPi E (wX E ad) r u (va_A (wX E ad σ) sz)) 0 0 (va_A (wX E ad σ) sz) := by
  refine gMet (Qc := gPi E (wX E ad) r u) (by decide) (Nat.le_of_ble_eq_true rfl) (fun Γ X hl hE => ?_)
  subst hl; subst hE
  unfold f_X0_rowAct at hf
  show gW Γ (gMQ Γ (gPi (gEo Γ) (wX (gEo Γ) ad) r u (gAo Γ)) 0 0) (wX (gEo Γ) ad σ) 2 0 0 0 [(0, .ref (ad 0)), (1, .int x1)] []
  refine g_aload_n X 0 dX0_rowAct_0 rfl ?_
  refine g_get X in_X0 0 13 rfl rfl (by decide) q193 rfl dX0_rowAct_1 ?_
  refine g_iload_n X 1 dX0_rowAct_4 rfl ?_
  refine g_bald X 25 rfl dX0_rowAct_5 hf (fun v1 hf => ?_)
  refine g_aload_n X 0 dX0_rowAct_6 rfl ?_
  refine g_get X in_X0 0 1 rfl rfl (by decide) q180 rfl dX0_rowAct_7 ?_
  refine g_getN X in_X5 6 0 rfl rfl (by decide) 0 rfl rfl dX0_rowAct_10 ?_
  refine g_icmp_ne X 20 dX0_rowAct_13 rfl hf (fun hf => ?_) (fun hf => ?_)
  · refine g_aload_n X 0 dX0_rowAct_20 rfl ?_
    refine g_get X in_X0 0 13 rfl rfl (by decide) q193 rfl dX0_rowAct_21 ?_
    refine g_iload_n X 1 dX0_rowAct_24 rfl ?_
    refine g_bald X 25 rfl dX0_rowAct_25 hf (fun v2 hf => ?_)
    exact g_iret X rfl dX0_rowAct_26 hf
  · refine g_iconst X 5 dX0_rowAct_16 rfl ?_
    refine g_goto X 26 dX0_rowAct_17 rfl ?_
    exact g_iret X rfl dX0_rowAct_26 hf
def f_X0_best_b194 (k51 : gX → Int32 → Int32 → Int32 → Int32 → Int32 → Int32 → Int32 → Option (Int32 × gX)) (σ : gX) (x1 : Int32) (x2 : Int32) (x4 : Int32) (x5 : Int32) (x6 : Int32) (x7 : Int32) (t0 : Int32) : Option (Int32 × gX) :=
  gv (x7 + 1) fun v30 => k51 σ x1 x2 t0 x4 x5 x6 v30
def f_X0_best_b181 (k51 : gX → Int32 → Int32 → Int32 → Int32 → Int32 → Int32 → Int32 → Option (Int32 × gX)) (σ : gX) (x1 : Int32) (x2 : Int32) (x3 : Int32) (x5 : Int32) (x6 : Int32) (x7 : Int32) (x8 : Int32) (x9 : Int32) (t0 : Int32) : Option (Int32 × gX) :=
  if x9 = 0 then (f_X0_best_b194 k51 σ x1 x2 t0 x5 x6 x7 x3) else (f_X0_best_b194 k51 σ x1 x2 t0 x5 x6 x7 x8)
def f_X0_best_b165 (k51 : gX → Int32 → Int32 → Int32 → Int32 → Int32 → Int32 → Int32 → Option (Int32 × gX)) (σ : gX) (x1 : Int32) (x2 : Int32) (x3 : Int32) (x4 : Int32) (x6 : Int32) (x7 : Int32) (x8 : Int32) (x9 : Int32) (t0 : Int32) : Option (Int32 × gX) :=
  if x9 = 0 then (f_X0_best_b181 k51 σ x1 x2 x3 t0 x6 x7 x8 x9 x4) else (f_X0_best_b181 k51 σ x1 x2 x3 t0 x6 x7 x8 x9 ((I_often (X_xi σ))))
def f_X0_best_b151 (k51 : gX → Int32 → Int32 → Int32 → Int32 → Int32 → Int32 → Int32 → Option (Int32 × gX)) (σ : gX) (x1 : Int32) (x2 : Int32) (x3 : Int32) (x4 : Int32) (x5 : Int32) (x6 : Int32) (x7 : Int32) (x8 : Int32) (t0 : Int32) : Option (Int32 × gX) :=
  if t0 = 0 then (f_X0_best_b165 k51 σ x1 x2 x3 x4 x6 x7 x8 t0 x5) else (f_X0_best_b165 k51 σ x1 x2 x3 x4 x6 x7 x8 t0 x7)
def f_X0_best_b146 (k51 : gX → Int32 → Int32 → Int32 → Int32 → Int32 → Int32 → Int32 → Option (Int32 × gX)) (σ : gX) (x1 : Int32) (x2 : Int32) (x3 : Int32) (x4 : Int32) (x5 : Int32) (x6 : Int32) (x7 : Int32) (x8 : Int32) : Option (Int32 × gX) :=
  f_X0_best_b151 k51 σ x1 x2 x3 x4 x5 x6 x7 x8 1
def f_X0_best_b150 (k51 : gX → Int32 → Int32 → Int32 → Int32 → Int32 → Int32 → Int32 → Option (Int32 × gX)) (σ : gX) (x1 : Int32) (x2 : Int32) (x3 : Int32) (x4 : Int32) (x5 : Int32) (x6 : Int32) (x7 : Int32) (x8 : Int32) : Option (Int32 × gX) :=
  f_X0_best_b151 k51 σ x1 x2 x3 x4 x5 x6 x7 x8 0
def f_X0_best_b89 (k51 : gX → Int32 → Int32 → Int32 → Int32 → Int32 → Int32 → Int32 → Option (Int32 × gX)) : Nat → gX → Int32 → Int32 → Int32 → Int32 → Int32 → Int32 → Int32 → Int32 → Option (Int32 × gX)
  | 0 => fun _ _ _ _ _ _ _ _ _ => none
  | n_ + 1 => fun σ x1 x2 x3 x4 x5 x6 x7 x8 =>
    if x1 ≤ x8 then ((f_J7_bitCount ((I_weepers (X_xi σ)))).bind fun (r22, _) => if x3 < r22 then (f_X0_best_b146 k51 σ x1 x2 x3 x4 x5 x6 x7 r22) else (if r22 = x3 then (if ((I_often (X_xi σ))) ≤ x4 then (f_X0_best_b150 k51 σ x1 x2 x3 x4 x5 x6 x7 r22) else (f_X0_best_b146 k51 σ x1 x2 x3 x4 x5 x6 x7 r22)) else (f_X0_best_b150 k51 σ x1 x2 x3 x4 x5 x6 x7 r22))) else ((f_X0_rowAct σ x8).bind fun (r24, u25) => (f_X0_acts ((X_xi u25), (X_tried u25)) r24).bind fun (r26, u27) => gs (X_tried_s (X_xi_s u25 u27.1) u27.2) fun s28 => gv (x8 + 1) fun v29 => (f_X0_best_b89 k51 n_) s28 x1 x2 x3 x4 x5 x6 x7 v29)
def f_X0_best_b51 : Nat → gX → Int32 → Int32 → Int32 → Int32 → Int32 → Int32 → Int32 → Option (Int32 × gX)
  | 0 => fun _ _ _ _ _ _ _ _ => none
  | n_ + 1 => fun σ x1 x2 x3 x4 x5 x6 x7 =>
    (f_X0_power x6 x1).bind fun (r8, _) => if r8 ≤ x7 then ((f_X0_readRow σ x5 x1 x6).bind fun u11 => if x2 = 0 then (some (x3, u11)) else (if x2 = 1 then (some (x4, u11)) else (if x1 ≤ (x2 - 10) then (some ((-4), u11)) else ((f_X0_rowAct u11 (x2 - 10)).bind fun (r12, u13) => some (r12, u13))))) else ((f_X0_readRow σ x7 x1 x6).bind fun u15 => (f_X5_as ((X_tried u15), (X_now u15))).bind fun u17 => gs (X_now_s (X_tried_s u15 u17.1) u17.2) fun s18 => (f_X0_begins ((X_xi s18))).bind fun u20 => gs (X_xi_s s18 u20) fun s21 => f_X0_best_b89 (f_X0_best_b51 n_) 2000 s21 x1 x2 x3 x4 x5 x6 x7 0)
def f_X0_best_b29 (σ : gX) (x1 : Int32) (x2 : Int32) : Option (Int32 × gX) :=
  gv (((S_people (X_now σ))) + 1) fun v7 => f_X0_best_b51 2000 σ x1 x2 (-1) (-1) 0 v7 0
def f_X0_best (σ : gX) (x1 : Int32) (x2 : Int32) : Option (Int32 × gX) :=
  (f_X0_in (x1.toInt64) 0 4).bind fun (r1, _) => if r1 = 0 then (some ((-1), σ)) else ((f_X0_isPart x2).bind fun (r3, _) => if r3 = 0 then ((f_X0_isRowPart x2 4).bind fun (r5, _) => if r5 = 0 then (some ((-1), σ)) else (f_X0_best_b29 σ x1 x2)) else (f_X0_best_b29 σ x1 x2))
abbrev rm_X0_best : Room := { frames := 8, cells := 0, slots := 0, locals := 183 }
set_option maxHeartbeats 4000000 in
theorem w_X0_best_b194 {Γ : gG} {ad : Nat → Nat} {r : Int32} {u : gX} (X : gCX Γ cX0_best 10 (some .int) RX0 rm_X0_best) {k51 : gX → Int32 → Int32 → Int32 → Int32 → Int32 → Int32 → Int32 → Option (Int32 × gX)} (H51 : ∀ (σ : gX) (x1 : Int32) (x2 : Int32) (x3 : Int32) (x4 : Int32) (x5 : Int32) (x6 : Int32) (x7 : Int32), k51 σ x1 x2 x3 x4 x5 x6 x7 = some (r, u) → gW Γ (gMQ Γ (gPi (gEo Γ) (wX (gEo Γ) ad) r u (gAo Γ)) 0 0) (wX (gEo Γ) ad σ) 10 0 0 51 [(0, .ref (ad 0)), (1, .int x1), (2, .int x2), (3, .int x3), (4, .int x4), (5, .int x5), (6, .int x6), (7, .int x7)] []) : ∀ (σ : gX) (x1 : Int32) (x2 : Int32) (x4 : Int32) (x5 : Int32) (x6 : Int32) (x7 : Int32) (t0 : Int32), f_X0_best_b194 k51 σ x1 x2 x4 x5 x6 x7 t0 = some (r, u) → gW Γ (gMQ Γ (gPi (gEo Γ) (wX (gEo Γ) ad) r u (gAo Γ)) 0 0) (wX (gEo Γ) ad σ) 10 0 0 194 [(0, .ref (ad 0)), (1, .int x1), (2, .int x2), (4, .int x4), (5, .int x5), (6, .int x6), (7, .int x7)] [.int t0] := by
  intro σ x1 x2 x4 x5 x6 x7 t0 hf
  unfold f_X0_best_b194 at hf
  refine g_istore_n X [(3, .int t0), (0, .ref (ad 0)), (1, .int x1), (2, .int x2), (4, .int x4), (5, .int x5), (6, .int x6), (7, .int x7)] dX0_best_194 (by decide) rfl ?_
  refine g_iincV X 1 7 (fun v30 => [(7, .int v30), (3, .int t0), (0, .ref (ad 0)), (1, .int x1), (2, .int x2), (4, .int x4), (5, .int x5), (6, .int x6)]) dX0_best_195 rfl rfl (by decide) (fun _ => rfl) hf (fun v30 hf => ?_)
  refine g_goto X 51 dX0_best_198 rfl ?_
  refine g_sub [2, 3, 4, 1, 5, 6, 7, 0] [(0, .ref (ad 0)), (1, .int x1), (2, .int x2), (3, .int t0), (4, .int x4), (5, .int x5), (6, .int x6), (7, .int v30)] rfl ?_
  exact H51 σ x1 x2 t0 x4 x5 x6 v30 hf
set_option maxHeartbeats 4000000 in
theorem w_X0_best_b181 {Γ : gG} {ad : Nat → Nat} {r : Int32} {u : gX} (X : gCX Γ cX0_best 10 (some .int) RX0 rm_X0_best) {k51 : gX → Int32 → Int32 → Int32 → Int32 → Int32 → Int32 → Int32 → Option (Int32 × gX)} (H51 : ∀ (σ : gX) (x1 : Int32) (x2 : Int32) (x3 : Int32) (x4 : Int32) (x5 : Int32) (x6 : Int32) (x7 : Int32), k51 σ x1 x2 x3 x4 x5 x6 x7 = some (r, u) → gW Γ (gMQ Γ (gPi (gEo Γ) (wX (gEo Γ) ad) r u (gAo Γ)) 0 0) (wX (gEo Γ) ad σ) 10 0 0 51 [(0, .ref (ad 0)), (1, .int x1), (2, .int x2), (3, .int x3), (4, .int x4), (5, .int x5), (6, .int x6), (7, .int x7)] []) : ∀ (σ : gX) (x1 : Int32) (x2 : Int32) (x3 : Int32) (x5 : Int32) (x6 : Int32) (x7 : Int32) (x8 : Int32) (x9 : Int32) (t0 : Int32), f_X0_best_b181 k51 σ x1 x2 x3 x5 x6 x7 x8 x9 t0 = some (r, u) → gW Γ (gMQ Γ (gPi (gEo Γ) (wX (gEo Γ) ad) r u (gAo Γ)) 0 0) (wX (gEo Γ) ad σ) 10 0 0 181 [(0, .ref (ad 0)), (1, .int x1), (2, .int x2), (3, .int x3), (5, .int x5), (6, .int x6), (7, .int x7), (8, .int x8), (9, .int x9)] [.int t0] := by
  intro σ x1 x2 x3 x5 x6 x7 x8 x9 t0 hf
  unfold f_X0_best_b181 at hf
  refine g_istore X [(4, .int t0), (0, .ref (ad 0)), (1, .int x1), (2, .int x2), (3, .int x3), (5, .int x5), (6, .int x6), (7, .int x7), (8, .int x8), (9, .int x9)] dX0_best_181 (by decide) rfl ?_
  refine g_iload X 9 dX0_best_183 rfl ?_
  refine g_if_eq X 193 dX0_best_185 rfl hf (fun hf => ?_) (fun hf => ?_)
  · refine g_iload_n X 4 dX0_best_193 rfl ?_
    refine g_sub [1, 2, 3, 0, 5, 6, 7] [(0, .ref (ad 0)), (1, .int x1), (2, .int x2), (4, .int t0), (5, .int x5), (6, .int x6), (7, .int x7)] rfl ?_
    exact w_X0_best_b194 X H51 σ x1 x2 t0 x5 x6 x7 x3 hf
  · refine g_iload X 8 dX0_best_188 rfl ?_
    refine g_goto X 194 dX0_best_190 rfl ?_
    refine g_sub [1, 2, 3, 0, 5, 6, 7] [(0, .ref (ad 0)), (1, .int x1), (2, .int x2), (4, .int t0), (5, .int x5), (6, .int x6), (7, .int x7)] rfl ?_
    exact w_X0_best_b194 X H51 σ x1 x2 t0 x5 x6 x7 x8 hf
set_option maxHeartbeats 4000000 in
theorem w_X0_best_b165 {Γ : gG} {ad : Nat → Nat} {r : Int32} {u : gX} (X : gCX Γ cX0_best 10 (some .int) RX0 rm_X0_best) {k51 : gX → Int32 → Int32 → Int32 → Int32 → Int32 → Int32 → Int32 → Option (Int32 × gX)} (H51 : ∀ (σ : gX) (x1 : Int32) (x2 : Int32) (x3 : Int32) (x4 : Int32) (x5 : Int32) (x6 : Int32) (x7 : Int32), k51 σ x1 x2 x3 x4 x5 x6 x7 = some (r, u) → gW Γ (gMQ Γ (gPi (gEo Γ) (wX (gEo Γ) ad) r u (gAo Γ)) 0 0) (wX (gEo Γ) ad σ) 10 0 0 51 [(0, .ref (ad 0)), (1, .int x1), (2, .int x2), (3, .int x3), (4, .int x4), (5, .int x5), (6, .int x6), (7, .int x7)] []) : ∀ (σ : gX) (x1 : Int32) (x2 : Int32) (x3 : Int32) (x4 : Int32) (x6 : Int32) (x7 : Int32) (x8 : Int32) (x9 : Int32) (t0 : Int32), f_X0_best_b165 k51 σ x1 x2 x3 x4 x6 x7 x8 x9 t0 = some (r, u) → gW Γ (gMQ Γ (gPi (gEo Γ) (wX (gEo Γ) ad) r u (gAo Γ)) 0 0) (wX (gEo Γ) ad σ) 10 0 0 165 [(0, .ref (ad 0)), (1, .int x1), (2, .int x2), (3, .int x3), (4, .int x4), (6, .int x6), (7, .int x7), (8, .int x8), (9, .int x9)] [.int t0] := by
  intro σ x1 x2 x3 x4 x6 x7 x8 x9 t0 hf
  unfold f_X0_best_b165 at hf
  refine g_istore X [(5, .int t0), (0, .ref (ad 0)), (1, .int x1), (2, .int x2), (3, .int x3), (4, .int x4), (6, .int x6), (7, .int x7), (8, .int x8), (9, .int x9)] dX0_best_165 (by decide) rfl ?_
  refine g_iload X 9 dX0_best_167 rfl ?_
  refine g_if_eq X 179 dX0_best_169 rfl hf (fun hf => ?_) (fun hf => ?_)
  · refine g_iload X 5 dX0_best_179 rfl ?_
    refine g_sub [1, 2, 3, 4, 0, 6, 7, 8, 9] [(0, .ref (ad 0)), (1, .int x1), (2, .int x2), (3, .int x3), (5, .int t0), (6, .int x6), (7, .int x7), (8, .int x8), (9, .int x9)] rfl ?_
    exact w_X0_best_b181 X H51 σ x1 x2 x3 t0 x6 x7 x8 x9 x4 hf
  · refine g_aload_n X 1 dX0_best_172 rfl ?_
    refine g_get X in_X0 0 8 rfl rfl (by decide) q187 rfl dX0_best_173 ?_
    refine g_goto X 181 dX0_best_176 rfl ?_
    refine g_sub [1, 2, 3, 4, 0, 6, 7, 8, 9] [(0, .ref (ad 0)), (1, .int x1), (2, .int x2), (3, .int x3), (5, .int t0), (6, .int x6), (7, .int x7), (8, .int x8), (9, .int x9)] rfl ?_
    exact w_X0_best_b181 X H51 σ x1 x2 x3 t0 x6 x7 x8 x9 ((I_often (X_xi σ))) hf
set_option maxHeartbeats 4000000 in
theorem w_X0_best_b151 {Γ : gG} {ad : Nat → Nat} {r : Int32} {u : gX} (X : gCX Γ cX0_best 10 (some .int) RX0 rm_X0_best) {k51 : gX → Int32 → Int32 → Int32 → Int32 → Int32 → Int32 → Int32 → Option (Int32 × gX)} (H51 : ∀ (σ : gX) (x1 : Int32) (x2 : Int32) (x3 : Int32) (x4 : Int32) (x5 : Int32) (x6 : Int32) (x7 : Int32), k51 σ x1 x2 x3 x4 x5 x6 x7 = some (r, u) → gW Γ (gMQ Γ (gPi (gEo Γ) (wX (gEo Γ) ad) r u (gAo Γ)) 0 0) (wX (gEo Γ) ad σ) 10 0 0 51 [(0, .ref (ad 0)), (1, .int x1), (2, .int x2), (3, .int x3), (4, .int x4), (5, .int x5), (6, .int x6), (7, .int x7)] []) : ∀ (σ : gX) (x1 : Int32) (x2 : Int32) (x3 : Int32) (x4 : Int32) (x5 : Int32) (x6 : Int32) (x7 : Int32) (x8 : Int32) (t0 : Int32), f_X0_best_b151 k51 σ x1 x2 x3 x4 x5 x6 x7 x8 t0 = some (r, u) → gW Γ (gMQ Γ (gPi (gEo Γ) (wX (gEo Γ) ad) r u (gAo Γ)) 0 0) (wX (gEo Γ) ad σ) 10 0 0 151 [(0, .ref (ad 0)), (1, .int x1), (2, .int x2), (3, .int x3), (4, .int x4), (5, .int x5), (6, .int x6), (7, .int x7), (8, .int x8)] [.int t0] := by
  intro σ x1 x2 x3 x4 x5 x6 x7 x8 t0 hf
  unfold f_X0_best_b151 at hf
  refine g_istore X [(9, .int t0), (0, .ref (ad 0)), (1, .int x1), (2, .int x2), (3, .int x3), (4, .int x4), (5, .int x5), (6, .int x6), (7, .int x7), (8, .int x8)] dX0_best_151 (by decide) rfl ?_
  refine g_iload X 0 dX0_best_153 rfl ?_
  refine g_if_eq X 163 dX0_best_155 rfl hf (fun hf => ?_) (fun hf => ?_)
  · refine g_iload X 6 dX0_best_163 rfl ?_
    refine g_sub [1, 2, 3, 4, 5, 7, 8, 9, 0] [(0, .ref (ad 0)), (1, .int x1), (2, .int x2), (3, .int x3), (4, .int x4), (6, .int x6), (7, .int x7), (8, .int x8), (9, .int t0)] rfl ?_
    exact w_X0_best_b165 X H51 σ x1 x2 x3 x4 x6 x7 x8 t0 x5 hf
  · refine g_iload X 8 dX0_best_158 rfl ?_
    refine g_goto X 165 dX0_best_160 rfl ?_
    refine g_sub [1, 2, 3, 4, 5, 7, 8, 9, 0] [(0, .ref (ad 0)), (1, .int x1), (2, .int x2), (3, .int x3), (4, .int x4), (6, .int x6), (7, .int x7), (8, .int x8), (9, .int t0)] rfl ?_
    exact w_X0_best_b165 X H51 σ x1 x2 x3 x4 x6 x7 x8 t0 x7 hf
set_option maxHeartbeats 4000000 in
theorem w_X0_best_b146 {Γ : gG} {ad : Nat → Nat} {r : Int32} {u : gX} (X : gCX Γ cX0_best 10 (some .int) RX0 rm_X0_best) {k51 : gX → Int32 → Int32 → Int32 → Int32 → Int32 → Int32 → Int32 → Option (Int32 × gX)} (H51 : ∀ (σ : gX) (x1 : Int32) (x2 : Int32) (x3 : Int32) (x4 : Int32) (x5 : Int32) (x6 : Int32) (x7 : Int32), k51 σ x1 x2 x3 x4 x5 x6 x7 = some (r, u) → gW Γ (gMQ Γ (gPi (gEo Γ) (wX (gEo Γ) ad) r u (gAo Γ)) 0 0) (wX (gEo Γ) ad σ) 10 0 0 51 [(0, .ref (ad 0)), (1, .int x1), (2, .int x2), (3, .int x3), (4, .int x4), (5, .int x5), (6, .int x6), (7, .int x7)] []) : ∀ (σ : gX) (x1 : Int32) (x2 : Int32) (x3 : Int32) (x4 : Int32) (x5 : Int32) (x6 : Int32) (x7 : Int32) (x8 : Int32), f_X0_best_b146 k51 σ x1 x2 x3 x4 x5 x6 x7 x8 = some (r, u) → gW Γ (gMQ Γ (gPi (gEo Γ) (wX (gEo Γ) ad) r u (gAo Γ)) 0 0) (wX (gEo Γ) ad σ) 10 0 0 146 [(0, .ref (ad 0)), (1, .int x1), (2, .int x2), (3, .int x3), (4, .int x4), (5, .int x5), (6, .int x6), (7, .int x7), (8, .int x8)] [] := by
  intro σ x1 x2 x3 x4 x5 x6 x7 x8 hf
  unfold f_X0_best_b146 at hf
  refine g_iconst X 1 dX0_best_146 rfl ?_
  refine g_goto X 151 dX0_best_147 rfl ?_
  exact w_X0_best_b151 X H51 σ x1 x2 x3 x4 x5 x6 x7 x8 1 hf
set_option maxHeartbeats 4000000 in
theorem w_X0_best_b150 {Γ : gG} {ad : Nat → Nat} {r : Int32} {u : gX} (X : gCX Γ cX0_best 10 (some .int) RX0 rm_X0_best) {k51 : gX → Int32 → Int32 → Int32 → Int32 → Int32 → Int32 → Int32 → Option (Int32 × gX)} (H51 : ∀ (σ : gX) (x1 : Int32) (x2 : Int32) (x3 : Int32) (x4 : Int32) (x5 : Int32) (x6 : Int32) (x7 : Int32), k51 σ x1 x2 x3 x4 x5 x6 x7 = some (r, u) → gW Γ (gMQ Γ (gPi (gEo Γ) (wX (gEo Γ) ad) r u (gAo Γ)) 0 0) (wX (gEo Γ) ad σ) 10 0 0 51 [(0, .ref (ad 0)), (1, .int x1), (2, .int x2), (3, .int x3), (4, .int x4), (5, .int x5), (6, .int x6), (7, .int x7)] []) : ∀ (σ : gX) (x1 : Int32) (x2 : Int32) (x3 : Int32) (x4 : Int32) (x5 : Int32) (x6 : Int32) (x7 : Int32) (x8 : Int32), f_X0_best_b150 k51 σ x1 x2 x3 x4 x5 x6 x7 x8 = some (r, u) → gW Γ (gMQ Γ (gPi (gEo Γ) (wX (gEo Γ) ad) r u (gAo Γ)) 0 0) (wX (gEo Γ) ad σ) 10 0 0 150 [(0, .ref (ad 0)), (1, .int x1), (2, .int x2), (3, .int x3), (4, .int x4), (5, .int x5), (6, .int x6), (7, .int x7), (8, .int x8)] [] := by
  intro σ x1 x2 x3 x4 x5 x6 x7 x8 hf
  unfold f_X0_best_b150 at hf
  refine g_iconst X 0 dX0_best_150 rfl ?_
  exact w_X0_best_b151 X H51 σ x1 x2 x3 x4 x5 x6 x7 x8 0 hf
set_option maxHeartbeats 4000000 in
theorem w_X0_best_b89 {Γ : gG} {ad : Nat → Nat} {r : Int32} {u : gX} (X : gCX Γ cX0_best 10 (some .int) RX0 rm_X0_best) {k51 : gX → Int32 → Int32 → Int32 → Int32 → Int32 → Int32 → Int32 → Option (Int32 × gX)} (H51 : ∀ (σ : gX) (x1 : Int32) (x2 : Int32) (x3 : Int32) (x4 : Int32) (x5 : Int32) (x6 : Int32) (x7 : Int32), k51 σ x1 x2 x3 x4 x5 x6 x7 = some (r, u) → gW Γ (gMQ Γ (gPi (gEo Γ) (wX (gEo Γ) ad) r u (gAo Γ)) 0 0) (wX (gEo Γ) ad σ) 10 0 0 51 [(0, .ref (ad 0)), (1, .int x1), (2, .int x2), (3, .int x3), (4, .int x4), (5, .int x5), (6, .int x6), (7, .int x7)] []) : ∀ (n_ : Nat) (σ : gX) (x1 : Int32) (x2 : Int32) (x3 : Int32) (x4 : Int32) (x5 : Int32) (x6 : Int32) (x7 : Int32) (x8 : Int32), f_X0_best_b89 k51 n_ σ x1 x2 x3 x4 x5 x6 x7 x8 = some (r, u) → gW Γ (gMQ Γ (gPi (gEo Γ) (wX (gEo Γ) ad) r u (gAo Γ)) 0 0) (wX (gEo Γ) ad σ) 10 0 0 89 [(0, .ref (ad 0)), (1, .int x1), (2, .int x2), (3, .int x3), (4, .int x4), (5, .int x5), (6, .int x6), (7, .int x7), (8, .int x8)] [] := by
  intro n_
  induction n_ with
  | zero => intro σ x1 x2 x3 x4 x5 x6 x7 x8 hf; cases hf
  | succ n_ ih =>
    intro σ x1 x2 x3 x4 x5 x6 x7 x8 hf
    simp only [f_X0_best_b89] at hf
    refine g_iload X 8 dX0_best_89 rfl ?_
    refine g_iload_n X 1 dX0_best_91 rfl ?_
    refine g_icmp_ge X 116 dX0_best_92 rfl hf (fun hf => ?_) (fun hf => ?_)
    · refine g_aload_n X 0 dX0_best_116 rfl ?_
      refine g_get X in_X0 0 7 rfl rfl (by decide) q186 rfl dX0_best_117 ?_
      refine g_call0i X 1 (As := [.int ((I_weepers (X_xi σ)))]) (lw_S q665 q666 q78 q667) (by decide +kernel) (fun r_ u_ h_ sz_ => m_J7_bitCount (gl Γ) (gEo Γ) ((I_weepers (X_xi σ))) r_ u_ h_ sz_) rfl rfl ⟨by decide, by decide⟩ rfl (Nat.le_of_ble_eq_true rfl) ⟨Nat.zero_le _, Nat.zero_le _⟩ dX0_best_120 hf (fun r22 _ hf => ?_)
      refine g_istore X [(8, .int r22), (0, .ref (ad 0)), (1, .int x1), (2, .int x2), (3, .int x3), (4, .int x4), (5, .int x5), (6, .int x6), (7, .int x7)] dX0_best_123 (by decide) rfl ?_
      refine g_iload X 0 dX0_best_125 rfl ?_
      refine g_iload_n X 4 dX0_best_127 rfl ?_
      refine g_icmp_gt X 146 dX0_best_128 rfl hf (fun hf => ?_) (fun hf => ?_)
      · refine g_sub [1, 2, 3, 4, 5, 6, 7, 8, 0] [(0, .ref (ad 0)), (1, .int x1), (2, .int x2), (3, .int x3), (4, .int x4), (5, .int x5), (6, .int x6), (7, .int x7), (8, .int r22)] rfl ?_
        exact w_X0_best_b146 X H51 σ x1 x2 x3 x4 x5 x6 x7 r22 hf
      · refine g_iload X 0 dX0_best_131 rfl ?_
        refine g_iload_n X 4 dX0_best_133 rfl ?_
        refine g_icmp_ne X 150 dX0_best_134 rfl hf (fun hf => ?_) (fun hf => ?_)
        · refine g_sub [1, 2, 3, 4, 5, 6, 7, 8, 0] [(0, .ref (ad 0)), (1, .int x1), (2, .int x2), (3, .int x3), (4, .int x4), (5, .int x5), (6, .int x6), (7, .int x7), (8, .int r22)] rfl ?_
          exact w_X0_best_b150 X H51 σ x1 x2 x3 x4 x5 x6 x7 r22 hf
        · refine g_aload_n X 1 dX0_best_137 rfl ?_
          refine g_get X in_X0 0 8 rfl rfl (by decide) q187 rfl dX0_best_138 ?_
          refine g_iload X 5 dX0_best_141 rfl ?_
          refine g_icmp_le X 150 dX0_best_143 rfl hf (fun hf => ?_) (fun hf => ?_)
          · refine g_sub [1, 2, 3, 4, 5, 6, 7, 8, 0] [(0, .ref (ad 0)), (1, .int x1), (2, .int x2), (3, .int x3), (4, .int x4), (5, .int x5), (6, .int x6), (7, .int x7), (8, .int r22)] rfl ?_
            exact w_X0_best_b150 X H51 σ x1 x2 x3 x4 x5 x6 x7 r22 hf
          · refine g_sub [1, 2, 3, 4, 5, 6, 7, 8, 0] [(0, .ref (ad 0)), (1, .int x1), (2, .int x2), (3, .int x3), (4, .int x4), (5, .int x5), (6, .int x6), (7, .int x7), (8, .int r22)] rfl ?_
            exact w_X0_best_b146 X H51 σ x1 x2 x3 x4 x5 x6 x7 r22 hf
    · refine g_aload_n X 0 dX0_best_95 rfl ?_
      refine g_aload_n X 0 dX0_best_96 rfl ?_
      refine g_get X in_X0 0 2 rfl rfl (by decide) q181 rfl dX0_best_97 ?_
      refine g_aload_n X 0 dX0_best_100 rfl ?_
      refine g_iload X 8 dX0_best_101 rfl ?_
      refine g_callVi X 1 (As := [.int x8]) (wfc := wX (gEo Γ) ad) (lw_V q710 q712 qs21 q60 q713) (by decide +kernel) (fun r_ u_ h_ sz_ => m_X0_rowAct (gl Γ) (gEo Γ) ad σ x8 r_ u_ h_ sz_) (rq := 0) rfl rfl rfl rfl rfl ⟨by decide, by decide⟩ rfl (Nat.le_of_ble_eq_true rfl) ⟨Nat.zero_le _, Nat.zero_le _⟩ [0, 1, 2, 3, 4, 5, 6, 7, 8, 9, 10, 11, 12, 13, 14, 15, 16, 17, 18, 19, 20, 21, 22, 23, 24, 25, 26, 27, 28, 29, 30] [] [0, 1, 2, 3, 4, 5, 6, 7, 8, 9, 10, 11, 12, 13, 14, 15, 16, 17, 18, 19, 20, 21, 22, 23, 24, 25, 26, 27, 28, 29, 30] (fun u25 => wX (gEo Γ) ad u25) rfl rfl rfl rfl (by decide) rfl (fun _ => rfl) dX0_best_103 hf (fun r24 u25 _ hf => ?_)
      refine g_callVi X 2 (As := [.ref (ad 10), .int r24]) (wfc := wA (gEo Γ) (fun i => ad ([0, 1, 2, 3, 4, 5, 10, 11, 12, 13, 6, 10, 14, 23, 24, 25, 26].getD i 0))) (lw_V q683 q685 qs19 q60 q686) (by decide +kernel) (fun r_ u_ h_ sz_ => m_X0_acts (gl Γ) (gEo Γ) (fun i => ad ([0, 1, 2, 3, 4, 5, 10, 11, 12, 13, 6, 10, 14, 23, 24, 25, 26].getD i 0)) ((X_xi u25), (X_tried u25)) r24 r_ u_ h_ sz_) (rq := 0) rfl rfl rfl rfl rfl ⟨by decide, by decide⟩ rfl (Nat.le_of_ble_eq_true rfl) ⟨Nat.zero_le _, Nat.zero_le _⟩ [0, 1, 2, 3, 4, 5, 10, 11, 12, 13] [6, 7, 8, 9, 14, 15, 16, 17, 18, 19, 20, 21, 22, 23, 24, 25, 26, 27, 28, 29, 30] [21, 22, 23, 24, 25, 26, 0, 1, 2, 3, 27, 28, 29, 30, 4, 5, 6, 7, 8, 9, 10, 11, 12, 13, 14, 15, 16, 17, 18, 19, 20] (fun u27 => wX (gEo Γ) ad (X_tried_s (X_xi_s u25 u27.1) u27.2)) rfl rfl rfl rfl (by decide) rfl (fun _ => rfl) dX0_best_106 hf (fun r26 u27 _ hf => ?_)
      refine g_gs (wX (gEo Γ) ad) hf (fun s28 hf => ?_)
      refine g_pop X dX0_best_109 rfl ?_
      refine g_iincV X 1 8 (fun v29 => [(8, .int v29), (0, .ref (ad 0)), (1, .int x1), (2, .int x2), (3, .int x3), (4, .int x4), (5, .int x5), (6, .int x6), (7, .int x7)]) dX0_best_110 rfl rfl (by decide) (fun _ => rfl) hf (fun v29 hf => ?_)
      refine g_goto X 89 dX0_best_113 rfl ?_
      refine g_sub [1, 2, 3, 4, 5, 6, 7, 8, 0] [(0, .ref (ad 0)), (1, .int x1), (2, .int x2), (3, .int x3), (4, .int x4), (5, .int x5), (6, .int x6), (7, .int x7), (8, .int v29)] rfl ?_
      exact ih s28 x1 x2 x3 x4 x5 x6 x7 v29 hf
set_option maxHeartbeats 4000000 in
theorem w_X0_best_b51 {Γ : gG} {ad : Nat → Nat} {r : Int32} {u : gX} (X : gCX Γ cX0_best 10 (some .int) RX0 rm_X0_best) : ∀ (n_ : Nat) (σ : gX) (x1 : Int32) (x2 : Int32) (x3 : Int32) (x4 : Int32) (x5 : Int32) (x6 : Int32) (x7 : Int32), f_X0_best_b51 n_ σ x1 x2 x3 x4 x5 x6 x7 = some (r, u) → gW Γ (gMQ Γ (gPi (gEo Γ) (wX (gEo Γ) ad) r u (gAo Γ)) 0 0) (wX (gEo Γ) ad σ) 10 0 0 51 [(0, .ref (ad 0)), (1, .int x1), (2, .int x2), (3, .int x3), (4, .int x4), (5, .int x5), (6, .int x6), (7, .int x7)] [] := by
  intro n_
  induction n_ with
  | zero => intro σ x1 x2 x3 x4 x5 x6 x7 hf; cases hf
  | succ n_ ih =>
    intro σ x1 x2 x3 x4 x5 x6 x7 hf
    simp only [f_X0_best_b51] at hf
    refine g_iload X 7 dX0_best_51 rfl ?_
    refine g_iload X 6 dX0_best_53 rfl ?_
    refine g_iload_n X 1 dX0_best_55 rfl ?_
    refine g_call0i X 2 (As := [.int x6, .int x1]) (lw_S q703 q704 q60 q705) (by decide +kernel) (fun r_ u_ h_ sz_ => m_X0_power (gl Γ) (gEo Γ) x6 x1 r_ u_ h_ sz_) rfl rfl ⟨by decide, by decide⟩ rfl (Nat.le_of_ble_eq_true rfl) ⟨Nat.zero_le _, Nat.zero_le _⟩ dX0_best_56 hf (fun r8 _ hf => ?_)
    refine g_icmp_ge X 201 dX0_best_59 rfl hf (fun hf => ?_) (fun hf => ?_)
    · refine g_aload_n X 0 dX0_best_201 rfl ?_
      refine g_iload X 5 dX0_best_202 rfl ?_
      refine g_iload_n X 1 dX0_best_204 rfl ?_
      refine g_iload X 6 dX0_best_205 rfl ?_
      refine g_callVv X 3 (As := [.int x5, .int x1, .int x6]) (wfc := wX (gEo Γ) ad) (lw_V q706 q708 qs20 q60 q709) (by decide +kernel) (fun u_ h_ sz_ => m_X0_readRow (gl Γ) (gEo Γ) ad σ x5 x1 x6 u_ h_ sz_) (rq := 0) rfl rfl rfl rfl rfl ⟨by decide, by decide⟩ rfl (Nat.le_of_ble_eq_true rfl) ⟨Nat.zero_le _, Nat.zero_le _⟩ [0, 1, 2, 3, 4, 5, 6, 7, 8, 9, 10, 11, 12, 13, 14, 15, 16, 17, 18, 19, 20, 21, 22, 23, 24, 25, 26, 27, 28, 29, 30] [] [0, 1, 2, 3, 4, 5, 6, 7, 8, 9, 10, 11, 12, 13, 14, 15, 16, 17, 18, 19, 20, 21, 22, 23, 24, 25, 26, 27, 28, 29, 30] (fun u11 => wX (gEo Γ) ad u11) rfl rfl rfl rfl (by decide) rfl (fun _ => rfl) dX0_best_207 hf (fun u11 _ hf => ?_)
      refine g_iload_n X 2 dX0_best_210 rfl ?_
      refine g_if_ne X 218 dX0_best_211 rfl hf (fun hf => ?_) (fun hf => ?_)
      · refine g_iload_n X 2 dX0_best_218 rfl ?_
        refine g_iconst X 1 dX0_best_219 rfl ?_
        refine g_icmp_ne X 228 dX0_best_220 rfl hf (fun hf => ?_) (fun hf => ?_)
        · refine g_iload_n X 2 dX0_best_228 rfl ?_
          refine g_bipush X 10 dX0_best_229 rfl ?_
          refine g_isub X dX0_best_231 ?_
          refine g_iload_n X 1 dX0_best_232 rfl ?_
          refine g_icmp_ge X 247 dX0_best_233 rfl hf (fun hf => ?_) (fun hf => ?_)
          · refine g_bipush X (-4) dX0_best_247 rfl ?_
            exact g_iret X rfl dX0_best_249 hf
          · refine g_aload_n X 0 dX0_best_236 rfl ?_
            refine g_iload_n X 2 dX0_best_237 rfl ?_
            refine g_bipush X 10 dX0_best_238 rfl ?_
            refine g_isub X dX0_best_240 ?_
            refine g_callVi X 1 (As := [.int (x2 - 10)]) (wfc := wX (gEo Γ) ad) (lw_V q710 q712 qs21 q60 q713) (by decide +kernel) (fun r_ u_ h_ sz_ => m_X0_rowAct (gl Γ) (gEo Γ) ad u11 (x2 - 10) r_ u_ h_ sz_) (rq := 0) rfl rfl rfl rfl rfl ⟨by decide, by decide⟩ rfl (Nat.le_of_ble_eq_true rfl) ⟨Nat.zero_le _, Nat.zero_le _⟩ [0, 1, 2, 3, 4, 5, 6, 7, 8, 9, 10, 11, 12, 13, 14, 15, 16, 17, 18, 19, 20, 21, 22, 23, 24, 25, 26, 27, 28, 29, 30] [] [0, 1, 2, 3, 4, 5, 6, 7, 8, 9, 10, 11, 12, 13, 14, 15, 16, 17, 18, 19, 20, 21, 22, 23, 24, 25, 26, 27, 28, 29, 30] (fun u13 => wX (gEo Γ) ad u13) rfl rfl rfl rfl (by decide) rfl (fun _ => rfl) dX0_best_241 hf (fun r12 u13 _ hf => ?_)
            refine g_goto X 249 dX0_best_244 rfl ?_
            exact g_iret X rfl dX0_best_249 hf
        · refine g_iload X 4 dX0_best_223 rfl ?_
          refine g_goto X 249 dX0_best_225 rfl ?_
          exact g_iret X rfl dX0_best_249 hf
      · refine g_iload_n X 3 dX0_best_214 rfl ?_
        refine g_goto X 249 dX0_best_215 rfl ?_
        exact g_iret X rfl dX0_best_249 hf
    · refine g_aload_n X 0 dX0_best_62 rfl ?_
      refine g_iload X 7 dX0_best_63 rfl ?_
      refine g_iload_n X 1 dX0_best_65 rfl ?_
      refine g_iload X 6 dX0_best_66 rfl ?_
      refine g_callVv X 3 (As := [.int x7, .int x1, .int x6]) (wfc := wX (gEo Γ) ad) (lw_V q706 q708 qs20 q60 q709) (by decide +kernel) (fun u_ h_ sz_ => m_X0_readRow (gl Γ) (gEo Γ) ad σ x7 x1 x6 u_ h_ sz_) (rq := 0) rfl rfl rfl rfl rfl ⟨by decide, by decide⟩ rfl (Nat.le_of_ble_eq_true rfl) ⟨Nat.zero_le _, Nat.zero_le _⟩ [0, 1, 2, 3, 4, 5, 6, 7, 8, 9, 10, 11, 12, 13, 14, 15, 16, 17, 18, 19, 20, 21, 22, 23, 24, 25, 26, 27, 28, 29, 30] [] [0, 1, 2, 3, 4, 5, 6, 7, 8, 9, 10, 11, 12, 13, 14, 15, 16, 17, 18, 19, 20, 21, 22, 23, 24, 25, 26, 27, 28, 29, 30] (fun u15 => wX (gEo Γ) ad u15) rfl rfl rfl rfl (by decide) rfl (fun _ => rfl) dX0_best_68 hf (fun u15 _ hf => ?_)
      refine g_aload_n X 0 dX0_best_71 rfl ?_
      refine g_get X in_X0 0 2 rfl rfl (by decide) q181 rfl dX0_best_72 ?_
      refine g_aload_n X 0 dX0_best_75 rfl ?_
      refine g_get X in_X0 0 1 rfl rfl (by decide) q180 rfl dX0_best_76 ?_
      refine g_callVv X 1 (As := [.ref (ad 6)]) (wfc := wSS (gEo Γ) (fun i => ad ([10, 11, 12, 13, 6, 7, 8, 9].getD i 0))) (lw_V q486 q487 q488 q65 q489) (by decide +kernel) (fun u_ h_ sz_ => m_X5_as (gl Γ) (gEo Γ) (fun i => ad ([10, 11, 12, 13, 6, 7, 8, 9].getD i 0)) ((X_tried u15), (X_now u15)) u_ h_ sz_) (rq := 0) rfl rfl rfl rfl rfl ⟨by decide, by decide⟩ rfl (Nat.le_of_ble_eq_true rfl) ⟨Nat.zero_le _, Nat.zero_le _⟩ [10, 11, 12, 13, 6, 7, 8, 9] [0, 1, 2, 3, 4, 5, 14, 15, 16, 17, 18, 19, 20, 21, 22, 23, 24, 25, 26, 27, 28, 29, 30] [0, 1, 2, 3, 4, 5, 27, 28, 29, 30, 23, 24, 25, 26, 6, 7, 8, 9, 10, 11, 12, 13, 14, 15, 16, 17, 18, 19, 20, 21, 22] (fun u17 => wX (gEo Γ) ad (X_now_s (X_tried_s u15 u17.1) u17.2)) rfl rfl rfl rfl (by decide) rfl (fun _ => rfl) dX0_best_79 hf (fun u17 _ hf => ?_)
      refine g_gs (wX (gEo Γ) ad) hf (fun s18 hf => ?_)
      refine g_aload_n X 0 dX0_best_82 rfl ?_
      refine g_callVv X 0 (As := []) (wfc := wO (gEo Γ) (fun i => ad ([0, 1, 6, 10, 14, 23, 24, 25, 26].getD i 0))) (lw_V q679 q681 qs18 q60 q682) (by decide +kernel) (fun u_ h_ sz_ => m_X0_begins (gl Γ) (gEo Γ) (fun i => ad ([0, 1, 6, 10, 14, 23, 24, 25, 26].getD i 0)) ((X_xi s18)) u_ h_ sz_) (rq := 0) rfl rfl rfl rfl rfl ⟨by decide, by decide⟩ rfl (Nat.le_of_ble_eq_true rfl) ⟨Nat.zero_le _, Nat.zero_le _⟩ [0] [1, 2, 3, 4, 5, 6, 7, 8, 9, 10, 11, 12, 13, 14, 15, 16, 17, 18, 19, 20, 21, 22, 23, 24, 25, 26, 27, 28, 29, 30] [30, 0, 1, 2, 3, 4, 5, 6, 7, 8, 9, 10, 11, 12, 13, 14, 15, 16, 17, 18, 19, 20, 21, 22, 23, 24, 25, 26, 27, 28, 29] (fun u20 => wX (gEo Γ) ad (X_xi_s s18 u20)) rfl rfl rfl rfl (by decide) rfl (fun _ => rfl) dX0_best_83 hf (fun u20 _ hf => ?_)
      refine g_gs (wX (gEo Γ) ad) hf (fun s21 hf => ?_)
      refine g_iconst X 0 dX0_best_86 rfl ?_
      refine g_istore X [(8, .int 0), (0, .ref (ad 0)), (1, .int x1), (2, .int x2), (3, .int x3), (4, .int x4), (5, .int x5), (6, .int x6), (7, .int x7)] dX0_best_87 (by decide) rfl ?_
      refine g_sub [1, 2, 3, 4, 5, 6, 7, 8, 0] [(0, .ref (ad 0)), (1, .int x1), (2, .int x2), (3, .int x3), (4, .int x4), (5, .int x5), (6, .int x6), (7, .int x7), (8, .int 0)] rfl ?_
      exact w_X0_best_b89 X ih 2000 s21 x1 x2 x3 x4 x5 x6 x7 0 hf
set_option maxHeartbeats 4000000 in
theorem w_X0_best_b29 {Γ : gG} {ad : Nat → Nat} {r : Int32} {u : gX} (X : gCX Γ cX0_best 10 (some .int) RX0 rm_X0_best) : ∀ (σ : gX) (x1 : Int32) (x2 : Int32), f_X0_best_b29 σ x1 x2 = some (r, u) → gW Γ (gMQ Γ (gPi (gEo Γ) (wX (gEo Γ) ad) r u (gAo Γ)) 0 0) (wX (gEo Γ) ad σ) 10 0 0 29 [(0, .ref (ad 0)), (1, .int x1), (2, .int x2)] [] := by
  intro σ x1 x2 hf
  unfold f_X0_best_b29 at hf
  refine g_iconst X (-1) dX0_best_29 rfl ?_
  refine g_istore_n X [(3, .int (-1)), (0, .ref (ad 0)), (1, .int x1), (2, .int x2)] dX0_best_30 (by decide) rfl ?_
  refine g_iconst X (-1) dX0_best_31 rfl ?_
  refine g_istore X [(4, .int (-1)), (3, .int (-1)), (0, .ref (ad 0)), (1, .int x1), (2, .int x2)] dX0_best_32 (by decide) rfl ?_
  refine g_iconst X 0 dX0_best_34 rfl ?_
  refine g_istore X [(5, .int 0), (4, .int (-1)), (3, .int (-1)), (0, .ref (ad 0)), (1, .int x1), (2, .int x2)] dX0_best_35 (by decide) rfl ?_
  refine g_aload_n X 3 dX0_best_37 rfl ?_
  refine g_get X in_X0 0 1 rfl rfl (by decide) q180 rfl dX0_best_38 ?_
  refine g_getN X in_X5 6 0 rfl rfl (by decide) 0 rfl rfl dX0_best_41 ?_
  refine g_iconst X 1 dX0_best_44 rfl ?_
  refine g_iadd X dX0_best_45 ?_
  refine g_topi hf (fun v7 hf => ?_)
  refine g_istore X [(6, .int v7), (5, .int 0), (4, .int (-1)), (3, .int (-1)), (0, .ref (ad 0)), (1, .int x1), (2, .int x2)] dX0_best_46 (by decide) rfl ?_
  refine g_iconst X 0 dX0_best_48 rfl ?_
  refine g_istore X [(7, .int 0), (6, .int v7), (5, .int 0), (4, .int (-1)), (3, .int (-1)), (0, .ref (ad 0)), (1, .int x1), (2, .int x2)] dX0_best_49 (by decide) rfl ?_
  refine g_sub [5, 6, 7, 4, 3, 2, 1, 0] [(0, .ref (ad 0)), (1, .int x1), (2, .int x2), (3, .int (-1)), (4, .int (-1)), (5, .int 0), (6, .int v7), (7, .int 0)] rfl ?_
  exact w_X0_best_b51 X 2000 σ x1 x2 (-1) (-1) 0 v7 0 hf
set_option maxHeartbeats 4000000 in
theorem m_X0_best (l : Launch) (E : gE) (ad : Nat → Nat) (σ : gX) (x1 : Int32) (x2 : Int32) (r : Int32) (u : gX) (hf : f_X0_best σ x1 x2 = some (r, u)) (sz : Nat) : Met l yX0_best (ws_ yX0_best cX0_best 10 (some .int)) rm_X0_best (gPc [.ref (ad 0), .int x1, .int x2] E (wX E ad σ) sz) (gPi E (wX E ad) r u (va_A (wX E ad σ) sz)) 0 0 (va_A (wX E ad σ) sz) := by
  refine gMet (Qc := gPi E (wX E ad) r u) (by decide) (Nat.le_of_ble_eq_true rfl) (fun Γ X hl hE => ?_)
  subst hl; subst hE
  unfold f_X0_best at hf
  show gW Γ (gMQ Γ (gPi (gEo Γ) (wX (gEo Γ) ad) r u (gAo Γ)) 0 0) (wX (gEo Γ) ad σ) 10 0 0 0 [(0, .ref (ad 0)), (1, .int x1), (2, .int x2)] []
  refine g_iload_n X 1 dX0_best_0 rfl ?_
  refine g_i2l X dX0_best_1 ?_
  refine g_lconst X 0 dX0_best_2 rfl ?_
  refine g_ldc2 X dX0_best_3 q555 ?_
  refine g_call0i X 3 (As := [.long (x1.toInt64), .long 0, .long 4]) (lw_S q243 q244 q60 q245) (by decide +kernel) (fun r_ u_ h_ sz_ => m_X0_in (gl Γ) (gEo Γ) (x1.toInt64) 0 4 r_ u_ h_ sz_) rfl rfl ⟨by decide, by decide⟩ rfl (Nat.le_of_ble_eq_true rfl) ⟨Nat.zero_le _, Nat.zero_le _⟩ dX0_best_6 hf (fun r1 _ hf => ?_)
  refine g_if_eq X 27 dX0_best_9 rfl hf (fun hf => ?_) (fun hf => ?_)
  · refine g_iconst X (-1) dX0_best_27 rfl ?_
    exact g_iret X rfl dX0_best_28 hf
  · refine g_iload_n X 2 dX0_best_12 rfl ?_
    refine g_call0i X 1 (As := [.int x2]) (lw_S q579 q580 q60 q581) (by decide +kernel) (fun r_ u_ h_ sz_ => m_X0_isPart (gl Γ) (gEo Γ) x2 r_ u_ h_ sz_) rfl rfl ⟨by decide, by decide⟩ rfl (Nat.le_of_ble_eq_true rfl) ⟨Nat.zero_le _, Nat.zero_le _⟩ dX0_best_13 hf (fun r3 _ hf => ?_)
    refine g_if_ne X 29 dX0_best_16 rfl hf (fun hf => ?_) (fun hf => ?_)
    · exact w_X0_best_b29 X σ x1 x2 hf
    · refine g_iload_n X 2 dX0_best_19 rfl ?_
      refine g_iconst X 4 dX0_best_20 rfl ?_
      refine g_call0i X 2 (As := [.int x2, .int 4]) (lw_S q699 q700 q60 q701) (by decide +kernel) (fun r_ u_ h_ sz_ => m_X0_isRowPart (gl Γ) (gEo Γ) x2 4 r_ u_ h_ sz_) rfl rfl ⟨by decide, by decide⟩ rfl (Nat.le_of_ble_eq_true rfl) ⟨Nat.zero_le _, Nat.zero_le _⟩ dX0_best_21 hf (fun r5 _ hf => ?_)
      refine g_if_ne X 29 dX0_best_24 rfl hf (fun hf => ?_) (fun hf => ?_)
      · exact w_X0_best_b29 X σ x1 x2 hf
      · refine g_iconst X (-1) dX0_best_27 rfl ?_
        exact g_iret X rfl dX0_best_28 hf
def f_X0_isHome_b13 : Nat → gX → Int32 → Int32 → Int32 → Option (Int32 × gX)
  | 0 => fun _ _ _ _ => none
  | n_ + 1 => fun σ x1 x2 x3 =>
    if x2 ≤ x3 then ((f_X5_tramComes (X_tried σ)).bind fun (r4, u5) => gs (X_tried_s σ u5) fun s6 => (f_X0_has r4 x1).bind fun (r7, _) => gzr r7 s6) else (gld 4 (X_row σ) x3 fun v9 => (f_X0_acts ((X_xi σ), (X_tried σ)) v9).bind fun (r10, u11) => gs (X_tried_s (X_xi_s σ u11.1) u11.2) fun s12 => gv (x3 + 1) fun v13 => (f_X0_isHome_b13 n_) s12 x1 x2 v13)
def f_X0_isHome (σ : gX) (x1 : Int32) (x2 : Int32) : Option (Int32 × gX) :=
  (f_X5_as ((X_tried σ), (X_now σ))).bind fun u2 => gs (X_now_s (X_tried_s σ u2.1) u2.2) fun s3 => f_X0_isHome_b13 2000 s3 x1 x2 0
abbrev rm_X0_isHome : Room := { frames := 8, cells := 0, slots := 0, locals := 183 }
set_option maxHeartbeats 4000000 in
theorem w_X0_isHome_b13 {Γ : gG} {ad : Nat → Nat} {r : Int32} {u : gX} (X : gCX Γ cX0_isHome 4 (some .boolean) RX0 rm_X0_isHome) : ∀ (n_ : Nat) (σ : gX) (x1 : Int32) (x2 : Int32) (x3 : Int32), f_X0_isHome_b13 n_ σ x1 x2 x3 = some (r, u) → gW Γ (gMQ Γ (gPi (gEo Γ) (wX (gEo Γ) ad) r u (gAo Γ)) 0 0) (wX (gEo Γ) ad σ) 4 0 0 13 [(0, .ref (ad 0)), (1, .int x1), (2, .int x2), (3, .int x3)] [] := by
  intro n_
  induction n_ with
  | zero => intro σ x1 x2 x3 hf; cases hf
  | succ n_ ih =>
    intro σ x1 x2 x3 hf
    simp only [f_X0_isHome_b13] at hf
    refine g_iload_n X 3 dX0_isHome_13 rfl ?_
    refine g_iload_n X 2 dX0_isHome_14 rfl ?_
    refine g_icmp_ge X 39 dX0_isHome_15 rfl hf (fun hf => ?_) (fun hf => ?_)
    · refine g_aload_n X 0 dX0_isHome_39 rfl ?_
      refine g_get X in_X0 0 2 rfl rfl (by decide) q181 rfl dX0_isHome_40 ?_
      refine g_callVi X 0 (As := []) (wfc := wS (gEo Γ) (fun i => ad (i + 10))) (lw_V q648 q649 q650 q65 q651) (by decide +kernel) (fun r_ u_ h_ sz_ => m_X5_tramComes (gl Γ) (gEo Γ) (fun i => ad (i + 10)) (X_tried σ) r_ u_ h_ sz_) (rq := 0) rfl rfl rfl rfl rfl ⟨by decide, by decide⟩ rfl (Nat.le_of_ble_eq_true rfl) ⟨Nat.zero_le _, Nat.zero_le _⟩ [10, 11, 12, 13] [0, 1, 2, 3, 4, 5, 6, 7, 8, 9, 14, 15, 16, 17, 18, 19, 20, 21, 22, 23, 24, 25, 26, 27, 28, 29, 30] [0, 1, 2, 3, 4, 5, 6, 7, 8, 9, 27, 28, 29, 30, 10, 11, 12, 13, 14, 15, 16, 17, 18, 19, 20, 21, 22, 23, 24, 25, 26] (fun u5 => wX (gEo Γ) ad (X_tried_s σ u5)) rfl rfl rfl rfl (by decide) rfl (fun _ => rfl) dX0_isHome_43 hf (fun r4 u5 _ hf => ?_)
      refine g_gs (wX (gEo Γ) ad) hf (fun s6 hf => ?_)
      refine g_iload_n X 1 dX0_isHome_46 rfl ?_
      refine g_call0i X 2 (As := [.int r4, .int x1]) (lw_S q628 q460 q60 q461) (by decide +kernel) (fun r_ u_ h_ sz_ => m_X0_has (gl Γ) (gEo Γ) r4 x1 r_ u_ h_ sz_) rfl rfl ⟨by decide, by decide⟩ rfl (Nat.le_of_ble_eq_true rfl) ⟨Nat.zero_le _, Nat.zero_le _⟩ dX0_isHome_47 hf (fun r7 _ hf => ?_)
      exact g_zret X rfl dX0_isHome_50 hf
    · refine g_aload_n X 0 dX0_isHome_18 rfl ?_
      refine g_aload_n X 0 dX0_isHome_19 rfl ?_
      refine g_get X in_X0 0 2 rfl rfl (by decide) q181 rfl dX0_isHome_20 ?_
      refine g_aload_n X 0 dX0_isHome_23 rfl ?_
      refine g_get X in_X0 0 13 rfl rfl (by decide) q193 rfl dX0_isHome_24 ?_
      refine g_iload_n X 3 dX0_isHome_27 rfl ?_
      refine g_bald X 25 rfl dX0_isHome_28 hf (fun v9 hf => ?_)
      refine g_callVi X 2 (As := [.ref (ad 10), .int v9]) (wfc := wA (gEo Γ) (fun i => ad ([0, 1, 2, 3, 4, 5, 10, 11, 12, 13, 6, 10, 14, 23, 24, 25, 26].getD i 0))) (lw_V q683 q685 qs19 q60 q686) (by decide +kernel) (fun r_ u_ h_ sz_ => m_X0_acts (gl Γ) (gEo Γ) (fun i => ad ([0, 1, 2, 3, 4, 5, 10, 11, 12, 13, 6, 10, 14, 23, 24, 25, 26].getD i 0)) ((X_xi σ), (X_tried σ)) v9 r_ u_ h_ sz_) (rq := 0) rfl rfl rfl rfl rfl ⟨by decide, by decide⟩ rfl (Nat.le_of_ble_eq_true rfl) ⟨Nat.zero_le _, Nat.zero_le _⟩ [0, 1, 2, 3, 4, 5, 10, 11, 12, 13] [6, 7, 8, 9, 14, 15, 16, 17, 18, 19, 20, 21, 22, 23, 24, 25, 26, 27, 28, 29, 30] [21, 22, 23, 24, 25, 26, 0, 1, 2, 3, 27, 28, 29, 30, 4, 5, 6, 7, 8, 9, 10, 11, 12, 13, 14, 15, 16, 17, 18, 19, 20] (fun u11 => wX (gEo Γ) ad (X_tried_s (X_xi_s σ u11.1) u11.2)) rfl rfl rfl rfl (by decide) rfl (fun _ => rfl) dX0_isHome_29 hf (fun r10 u11 _ hf => ?_)
      refine g_gs (wX (gEo Γ) ad) hf (fun s12 hf => ?_)
      refine g_pop X dX0_isHome_32 rfl ?_
      refine g_iincV X 1 3 (fun v13 => [(3, .int v13), (0, .ref (ad 0)), (1, .int x1), (2, .int x2)]) dX0_isHome_33 rfl rfl (by decide) (fun _ => rfl) hf (fun v13 hf => ?_)
      refine g_goto X 13 dX0_isHome_36 rfl ?_
      refine g_sub [1, 2, 3, 0] [(0, .ref (ad 0)), (1, .int x1), (2, .int x2), (3, .int v13)] rfl ?_
      exact ih s12 x1 x2 v13 hf
set_option maxHeartbeats 4000000 in
theorem m_X0_isHome (l : Launch) (E : gE) (ad : Nat → Nat) (σ : gX) (x1 : Int32) (x2 : Int32) (r : Int32) (u : gX) (hf : f_X0_isHome σ x1 x2 = some (r, u)) (sz : Nat) : Met l yX0_isHome (ws_ yX0_isHome cX0_isHome 4 (some .boolean)) rm_X0_isHome (gPc [.ref (ad 0), .int x1, .int x2] E (wX E ad σ) sz) (gPi E (wX E ad) r u (va_A (wX E ad σ) sz)) 0 0 (va_A (wX E ad σ) sz) := by
  refine gMet (Qc := gPi E (wX E ad) r u) (by decide) (Nat.le_of_ble_eq_true rfl) (fun Γ X hl hE => ?_)
  subst hl; subst hE
  unfold f_X0_isHome at hf
  show gW Γ (gMQ Γ (gPi (gEo Γ) (wX (gEo Γ) ad) r u (gAo Γ)) 0 0) (wX (gEo Γ) ad σ) 4 0 0 0 [(0, .ref (ad 0)), (1, .int x1), (2, .int x2)] []
  refine g_aload_n X 0 dX0_isHome_0 rfl ?_
  refine g_get X in_X0 0 2 rfl rfl (by decide) q181 rfl dX0_isHome_1 ?_
  refine g_aload_n X 0 dX0_isHome_4 rfl ?_
  refine g_get X in_X0 0 1 rfl rfl (by decide) q180 rfl dX0_isHome_5 ?_
  refine g_callVv X 1 (As := [.ref (ad 6)]) (wfc := wSS (gEo Γ) (fun i => ad ([10, 11, 12, 13, 6, 7, 8, 9].getD i 0))) (lw_V q486 q487 q488 q65 q489) (by decide +kernel) (fun u_ h_ sz_ => m_X5_as (gl Γ) (gEo Γ) (fun i => ad ([10, 11, 12, 13, 6, 7, 8, 9].getD i 0)) ((X_tried σ), (X_now σ)) u_ h_ sz_) (rq := 0) rfl rfl rfl rfl rfl ⟨by decide, by decide⟩ rfl (Nat.le_of_ble_eq_true rfl) ⟨Nat.zero_le _, Nat.zero_le _⟩ [10, 11, 12, 13, 6, 7, 8, 9] [0, 1, 2, 3, 4, 5, 14, 15, 16, 17, 18, 19, 20, 21, 22, 23, 24, 25, 26, 27, 28, 29, 30] [0, 1, 2, 3, 4, 5, 27, 28, 29, 30, 23, 24, 25, 26, 6, 7, 8, 9, 10, 11, 12, 13, 14, 15, 16, 17, 18, 19, 20, 21, 22] (fun u2 => wX (gEo Γ) ad (X_now_s (X_tried_s σ u2.1) u2.2)) rfl rfl rfl rfl (by decide) rfl (fun _ => rfl) dX0_isHome_8 hf (fun u2 _ hf => ?_)
  refine g_gs (wX (gEo Γ) ad) hf (fun s3 hf => ?_)
  refine g_iconst X 0 dX0_isHome_11 rfl ?_
  refine g_istore_n X [(3, .int 0), (0, .ref (ad 0)), (1, .int x1), (2, .int x2)] dX0_isHome_12 (by decide) rfl ?_
  refine g_sub [1, 2, 3, 0] [(0, .ref (ad 0)), (1, .int x1), (2, .int x2), (3, .int 0)] rfl ?_
  exact w_X0_isHome_b13 X 2000 s3 x1 x2 0 hf
def f_X0_home_b46 (k38 : gX → Int32 → Int32 → Int32 → Option (Int32 × gX)) : Nat → gX → Int32 → Int32 → Int32 → Int32 → Option (Int32 × gX)
  | 0 => fun _ _ _ _ _ => none
  | n_ + 1 => fun σ x1 x2 x3 x4 =>
    (f_X0_power ((S_people (X_now σ))) x3).bind fun (r8, _) => if r8 ≤ x4 then (gv (x3 + 1) fun v10 => k38 σ x1 x2 v10) else ((f_X0_readRow σ x4 x3 ((S_people (X_now σ)))).bind fun u12 => (f_X0_isHome u12 x1 x3).bind fun (r13, u14) => if r13 = 0 then (gv (x4 + 1) fun v15 => (f_X0_home_b46 k38 n_) u14 x1 x2 x3 v15) else (if x2 = 0 then (some (x3, u14)) else (if x3 ≤ (x2 - 10) then (some ((-4), u14)) else (gld 4 (X_row u14) (x2 - 10) fun v16 => some (v16, u14)))))
def f_X0_home_b38 : Nat → gX → Int32 → Int32 → Int32 → Option (Int32 × gX)
  | 0 => fun _ _ _ _ => none
  | n_ + 1 => fun σ x1 x2 x3 =>
    if 3 < x3 then (some ((-4), σ)) else (f_X0_home_b46 (f_X0_home_b38 n_) 2000 σ x1 x2 x3 0)
def f_X0_home_b22 (σ : gX) (x1 : Int32) (x2 : Int32) : Option (Int32 × gX) :=
  (f_X5_waits (X_now σ) x1).bind fun (r5, u6) => gs (X_now_s σ u6) fun s7 => if r5 = 0 then (some ((-2), s7)) else (f_X0_home_b38 2000 s7 x1 x2 0)
def f_X0_home (σ : gX) (x1 : Int32) (x2 : Int32) : Option (Int32 × gX) :=
  (f_X0_isOne σ x1).bind fun (r1, u2) => if r1 = 0 then (some ((-1), u2)) else (if x2 = 0 then (f_X0_home_b22 u2 x1 x2) else ((f_X0_isRowPart x2 3).bind fun (r3, _) => if r3 = 0 then (some ((-1), u2)) else (f_X0_home_b22 u2 x1 x2)))
abbrev rm_X0_home : Room := { frames := 9, cells := 0, slots := 0, locals := 206 }
set_option maxHeartbeats 4000000 in
theorem w_X0_home_b46 {Γ : gG} {ad : Nat → Nat} {r : Int32} {u : gX} (X : gCX Γ cX0_home 5 (some .int) RX0 rm_X0_home) {k38 : gX → Int32 → Int32 → Int32 → Option (Int32 × gX)} (H38 : ∀ (σ : gX) (x1 : Int32) (x2 : Int32) (x3 : Int32), k38 σ x1 x2 x3 = some (r, u) → gW Γ (gMQ Γ (gPi (gEo Γ) (wX (gEo Γ) ad) r u (gAo Γ)) 0 0) (wX (gEo Γ) ad σ) 5 0 0 38 [(0, .ref (ad 0)), (1, .int x1), (2, .int x2), (3, .int x3)] []) : ∀ (n_ : Nat) (σ : gX) (x1 : Int32) (x2 : Int32) (x3 : Int32) (x4 : Int32), f_X0_home_b46 k38 n_ σ x1 x2 x3 x4 = some (r, u) → gW Γ (gMQ Γ (gPi (gEo Γ) (wX (gEo Γ) ad) r u (gAo Γ)) 0 0) (wX (gEo Γ) ad σ) 5 0 0 46 [(0, .ref (ad 0)), (1, .int x1), (2, .int x2), (3, .int x3), (4, .int x4)] [] := by
  intro n_
  induction n_ with
  | zero => intro σ x1 x2 x3 x4 hf; cases hf
  | succ n_ ih =>
    intro σ x1 x2 x3 x4 hf
    simp only [f_X0_home_b46] at hf
    refine g_iload X 4 dX0_home_46 rfl ?_
    refine g_aload_n X 0 dX0_home_48 rfl ?_
    refine g_get X in_X0 0 1 rfl rfl (by decide) q180 rfl dX0_home_49 ?_
    refine g_getN X in_X5 6 0 rfl rfl (by decide) 0 rfl rfl dX0_home_52 ?_
    refine g_iload_n X 3 dX0_home_55 rfl ?_
    refine g_call0i X 2 (As := [.int ((S_people (X_now σ))), .int x3]) (lw_S q703 q704 q60 q705) (by decide +kernel) (fun r_ u_ h_ sz_ => m_X0_power (gl Γ) (gEo Γ) ((S_people (X_now σ))) x3 r_ u_ h_ sz_) rfl rfl ⟨by decide, by decide⟩ rfl (Nat.le_of_ble_eq_true rfl) ⟨Nat.zero_le _, Nat.zero_le _⟩ dX0_home_56 hf (fun r8 _ hf => ?_)
    refine g_icmp_ge X 122 dX0_home_59 rfl hf (fun hf => ?_) (fun hf => ?_)
    · refine g_iincV X 1 3 (fun v10 => [(3, .int v10), (0, .ref (ad 0)), (1, .int x1), (2, .int x2), (4, .int x4)]) dX0_home_122 rfl rfl (by decide) (fun _ => rfl) hf (fun v10 hf => ?_)
      refine g_goto X 38 dX0_home_125 rfl ?_
      refine g_sub [1, 2, 3, 0] [(0, .ref (ad 0)), (1, .int x1), (2, .int x2), (3, .int v10)] rfl ?_
      exact H38 σ x1 x2 v10 hf
    · refine g_aload_n X 0 dX0_home_62 rfl ?_
      refine g_iload X 4 dX0_home_63 rfl ?_
      refine g_iload_n X 3 dX0_home_65 rfl ?_
      refine g_aload_n X 0 dX0_home_66 rfl ?_
      refine g_get X in_X0 0 1 rfl rfl (by decide) q180 rfl dX0_home_67 ?_
      refine g_getN X in_X5 6 0 rfl rfl (by decide) 0 rfl rfl dX0_home_70 ?_
      refine g_callVv X 3 (As := [.int x4, .int x3, .int ((S_people (X_now σ)))]) (wfc := wX (gEo Γ) ad) (lw_V q706 q708 qs20 q60 q709) (by decide +kernel) (fun u_ h_ sz_ => m_X0_readRow (gl Γ) (gEo Γ) ad σ x4 x3 ((S_people (X_now σ))) u_ h_ sz_) (rq := 0) rfl rfl rfl rfl rfl ⟨by decide, by decide⟩ rfl (Nat.le_of_ble_eq_true rfl) ⟨Nat.zero_le _, Nat.zero_le _⟩ [0, 1, 2, 3, 4, 5, 6, 7, 8, 9, 10, 11, 12, 13, 14, 15, 16, 17, 18, 19, 20, 21, 22, 23, 24, 25, 26, 27, 28, 29, 30] [] [0, 1, 2, 3, 4, 5, 6, 7, 8, 9, 10, 11, 12, 13, 14, 15, 16, 17, 18, 19, 20, 21, 22, 23, 24, 25, 26, 27, 28, 29, 30] (fun u12 => wX (gEo Γ) ad u12) rfl rfl rfl rfl (by decide) rfl (fun _ => rfl) dX0_home_73 hf (fun u12 _ hf => ?_)
      refine g_aload_n X 0 dX0_home_76 rfl ?_
      refine g_iload_n X 1 dX0_home_77 rfl ?_
      refine g_iload_n X 3 dX0_home_78 rfl ?_
      refine g_callVi X 2 (As := [.int x1, .int x3]) (wfc := wX (gEo Γ) ad) (lw_V q718 q720 qs22 q60 q721) (by decide +kernel) (fun r_ u_ h_ sz_ => m_X0_isHome (gl Γ) (gEo Γ) ad u12 x1 x3 r_ u_ h_ sz_) (rq := 0) rfl rfl rfl rfl rfl ⟨by decide, by decide⟩ rfl (Nat.le_of_ble_eq_true rfl) ⟨Nat.zero_le _, Nat.zero_le _⟩ [0, 1, 2, 3, 4, 5, 6, 7, 8, 9, 10, 11, 12, 13, 14, 15, 16, 17, 18, 19, 20, 21, 22, 23, 24, 25, 26, 27, 28, 29, 30] [] [0, 1, 2, 3, 4, 5, 6, 7, 8, 9, 10, 11, 12, 13, 14, 15, 16, 17, 18, 19, 20, 21, 22, 23, 24, 25, 26, 27, 28, 29, 30] (fun u14 => wX (gEo Γ) ad u14) rfl rfl rfl rfl (by decide) rfl (fun _ => rfl) dX0_home_79 hf (fun r13 u14 _ hf => ?_)
      refine g_if_eq X 116 dX0_home_82 rfl hf (fun hf => ?_) (fun hf => ?_)
      · refine g_iincV X 1 4 (fun v15 => [(4, .int v15), (0, .ref (ad 0)), (1, .int x1), (2, .int x2), (3, .int x3)]) dX0_home_116 rfl rfl (by decide) (fun _ => rfl) hf (fun v15 hf => ?_)
        refine g_goto X 46 dX0_home_119 rfl ?_
        refine g_sub [1, 2, 3, 4, 0] [(0, .ref (ad 0)), (1, .int x1), (2, .int x2), (3, .int x3), (4, .int v15)] rfl ?_
        exact ih u14 x1 x2 x3 v15 hf
      · refine g_iload_n X 2 dX0_home_85 rfl ?_
        refine g_if_ne X 93 dX0_home_86 rfl hf (fun hf => ?_) (fun hf => ?_)
        · refine g_iload_n X 2 dX0_home_93 rfl ?_
          refine g_bipush X 10 dX0_home_94 rfl ?_
          refine g_isub X dX0_home_96 ?_
          refine g_iload_n X 3 dX0_home_97 rfl ?_
          refine g_icmp_ge X 113 dX0_home_98 rfl hf (fun hf => ?_) (fun hf => ?_)
          · refine g_bipush X (-4) dX0_home_113 rfl ?_
            exact g_iret X rfl dX0_home_115 hf
          · refine g_aload_n X 0 dX0_home_101 rfl ?_
            refine g_get X in_X0 0 13 rfl rfl (by decide) q193 rfl dX0_home_102 ?_
            refine g_iload_n X 2 dX0_home_105 rfl ?_
            refine g_bipush X 10 dX0_home_106 rfl ?_
            refine g_isub X dX0_home_108 ?_
            refine g_bald X 25 rfl dX0_home_109 hf (fun v16 hf => ?_)
            refine g_goto X 115 dX0_home_110 rfl ?_
            exact g_iret X rfl dX0_home_115 hf
        · refine g_iload_n X 3 dX0_home_89 rfl ?_
          refine g_goto X 115 dX0_home_90 rfl ?_
          exact g_iret X rfl dX0_home_115 hf
set_option maxHeartbeats 4000000 in
theorem w_X0_home_b38 {Γ : gG} {ad : Nat → Nat} {r : Int32} {u : gX} (X : gCX Γ cX0_home 5 (some .int) RX0 rm_X0_home) : ∀ (n_ : Nat) (σ : gX) (x1 : Int32) (x2 : Int32) (x3 : Int32), f_X0_home_b38 n_ σ x1 x2 x3 = some (r, u) → gW Γ (gMQ Γ (gPi (gEo Γ) (wX (gEo Γ) ad) r u (gAo Γ)) 0 0) (wX (gEo Γ) ad σ) 5 0 0 38 [(0, .ref (ad 0)), (1, .int x1), (2, .int x2), (3, .int x3)] [] := by
  intro n_
  induction n_ with
  | zero => intro σ x1 x2 x3 hf; cases hf
  | succ n_ ih =>
    intro σ x1 x2 x3 hf
    simp only [f_X0_home_b38] at hf
    refine g_iload_n X 3 dX0_home_38 rfl ?_
    refine g_iconst X 3 dX0_home_39 rfl ?_
    refine g_icmp_gt X 128 dX0_home_40 rfl hf (fun hf => ?_) (fun hf => ?_)
    · refine g_bipush X (-4) dX0_home_128 rfl ?_
      exact g_iret X rfl dX0_home_130 hf
    · refine g_iconst X 0 dX0_home_43 rfl ?_
      refine g_istore X [(4, .int 0), (0, .ref (ad 0)), (1, .int x1), (2, .int x2), (3, .int x3)] dX0_home_44 (by decide) rfl ?_
      refine g_sub [1, 2, 3, 4, 0] [(0, .ref (ad 0)), (1, .int x1), (2, .int x2), (3, .int x3), (4, .int 0)] rfl ?_
      exact w_X0_home_b46 X ih 2000 σ x1 x2 x3 0 hf
set_option maxHeartbeats 4000000 in
theorem w_X0_home_b22 {Γ : gG} {ad : Nat → Nat} {r : Int32} {u : gX} (X : gCX Γ cX0_home 5 (some .int) RX0 rm_X0_home) : ∀ (σ : gX) (x1 : Int32) (x2 : Int32), f_X0_home_b22 σ x1 x2 = some (r, u) → gW Γ (gMQ Γ (gPi (gEo Γ) (wX (gEo Γ) ad) r u (gAo Γ)) 0 0) (wX (gEo Γ) ad σ) 5 0 0 22 [(0, .ref (ad 0)), (1, .int x1), (2, .int x2)] [] := by
  intro σ x1 x2 hf
  unfold f_X0_home_b22 at hf
  refine g_aload_n X 0 dX0_home_22 rfl ?_
  refine g_get X in_X0 0 1 rfl rfl (by decide) q180 rfl dX0_home_23 ?_
  refine g_iload_n X 1 dX0_home_26 rfl ?_
  refine g_callVi X 1 (As := [.int x1]) (wfc := wS (gEo Γ) (fun i => ad (i + 6))) (lw_V q611 q506 q507 q65 q508) (by decide +kernel) (fun r_ u_ h_ sz_ => m_X5_waits (gl Γ) (gEo Γ) (fun i => ad (i + 6)) (X_now σ) x1 r_ u_ h_ sz_) (rq := 0) rfl rfl rfl rfl rfl ⟨by decide, by decide⟩ rfl (Nat.le_of_ble_eq_true rfl) ⟨Nat.zero_le _, Nat.zero_le _⟩ [6, 7, 8, 9] [0, 1, 2, 3, 4, 5, 10, 11, 12, 13, 14, 15, 16, 17, 18, 19, 20, 21, 22, 23, 24, 25, 26, 27, 28, 29, 30] [0, 1, 2, 3, 4, 5, 27, 28, 29, 30, 6, 7, 8, 9, 10, 11, 12, 13, 14, 15, 16, 17, 18, 19, 20, 21, 22, 23, 24, 25, 26] (fun u6 => wX (gEo Γ) ad (X_now_s σ u6)) rfl rfl rfl rfl (by decide) rfl (fun _ => rfl) dX0_home_27 hf (fun r5 u6 _ hf => ?_)
  refine g_gs (wX (gEo Γ) ad) hf (fun s7 hf => ?_)
  refine g_if_ne X 36 dX0_home_30 rfl hf (fun hf => ?_) (fun hf => ?_)
  · refine g_iconst X 0 dX0_home_36 rfl ?_
    refine g_istore_n X [(3, .int 0), (0, .ref (ad 0)), (1, .int x1), (2, .int x2)] dX0_home_37 (by decide) rfl ?_
    refine g_sub [1, 2, 3, 0] [(0, .ref (ad 0)), (1, .int x1), (2, .int x2), (3, .int 0)] rfl ?_
    exact w_X0_home_b38 X 2000 s7 x1 x2 0 hf
  · refine g_bipush X (-2) dX0_home_33 rfl ?_
    exact g_iret X rfl dX0_home_35 hf
set_option maxHeartbeats 4000000 in
theorem m_X0_home (l : Launch) (E : gE) (ad : Nat → Nat) (σ : gX) (x1 : Int32) (x2 : Int32) (r : Int32) (u : gX) (hf : f_X0_home σ x1 x2 = some (r, u)) (sz : Nat) : Met l yX0_home (ws_ yX0_home cX0_home 5 (some .int)) rm_X0_home (gPc [.ref (ad 0), .int x1, .int x2] E (wX E ad σ) sz) (gPi E (wX E ad) r u (va_A (wX E ad σ) sz)) 0 0 (va_A (wX E ad σ) sz) := by
  refine gMet (Qc := gPi E (wX E ad) r u) (by decide) (Nat.le_of_ble_eq_true rfl) (fun Γ X hl hE => ?_)
  subst hl; subst hE
  unfold f_X0_home at hf
  show gW Γ (gMQ Γ (gPi (gEo Γ) (wX (gEo Γ) ad) r u (gAo Γ)) 0 0) (wX (gEo Γ) ad σ) 5 0 0 0 [(0, .ref (ad 0)), (1, .int x1), (2, .int x2)] []
  refine g_aload_n X 0 dX0_home_0 rfl ?_
  refine g_iload_n X 1 dX0_home_1 rfl ?_
  refine g_callVi X 1 (As := [.int x1]) (wfc := wX (gEo Γ) ad) (lw_V q521 q523 qs12 q60 q524) (by decide +kernel) (fun r_ u_ h_ sz_ => m_X0_isOne (gl Γ) (gEo Γ) ad σ x1 r_ u_ h_ sz_) (rq := 0) rfl rfl rfl rfl rfl ⟨by decide, by decide⟩ rfl (Nat.le_of_ble_eq_true rfl) ⟨Nat.zero_le _, Nat.zero_le _⟩ [0, 1, 2, 3, 4, 5, 6, 7, 8, 9, 10, 11, 12, 13, 14, 15, 16, 17, 18, 19, 20, 21, 22, 23, 24, 25, 26, 27, 28, 29, 30] [] [0, 1, 2, 3, 4, 5, 6, 7, 8, 9, 10, 11, 12, 13, 14, 15, 16, 17, 18, 19, 20, 21, 22, 23, 24, 25, 26, 27, 28, 29, 30] (fun u2 => wX (gEo Γ) ad u2) rfl rfl rfl rfl (by decide) rfl (fun _ => rfl) dX0_home_2 hf (fun r1 u2 _ hf => ?_)
  refine g_if_eq X 20 dX0_home_5 rfl hf (fun hf => ?_) (fun hf => ?_)
  · refine g_iconst X (-1) dX0_home_20 rfl ?_
    exact g_iret X rfl dX0_home_21 hf
  · refine g_iload_n X 2 dX0_home_8 rfl ?_
    refine g_if_eq X 22 dX0_home_9 rfl hf (fun hf => ?_) (fun hf => ?_)
    · exact w_X0_home_b22 X u2 x1 x2 hf
    · refine g_iload_n X 2 dX0_home_12 rfl ?_
      refine g_iconst X 3 dX0_home_13 rfl ?_
      refine g_call0i X 2 (As := [.int x2, .int 3]) (lw_S q699 q700 q60 q701) (by decide +kernel) (fun r_ u_ h_ sz_ => m_X0_isRowPart (gl Γ) (gEo Γ) x2 3 r_ u_ h_ sz_) rfl rfl ⟨by decide, by decide⟩ rfl (Nat.le_of_ble_eq_true rfl) ⟨Nat.zero_le _, Nat.zero_le _⟩ dX0_home_14 hf (fun r3 _ hf => ?_)
      refine g_if_ne X 22 dX0_home_17 rfl hf (fun hf => ?_) (fun hf => ?_)
      · exact w_X0_home_b22 X u2 x1 x2 hf
      · refine g_iconst X (-1) dX0_home_20 rfl ?_
        exact g_iret X rfl dX0_home_21 hf
def f_X0_swap_b144 (k24 : gX → Int32 → Int32 → Int32 → Int32 → Option (Int32 × gX)) (k42 : gX → Int32 → Int32 → Int32 → Int32 → Int32 → Option (Int32 × gX)) (σ : gX) (x1 : Int32) (x2 : Int32) (x4 : Int32) (x5 : Int32) (x6 : Int32) (t0 : Int32) : Option (Int32 × gX) :=
  gv (if x2 < x6 then x6 else x2) fun v26 => gv (x5 + 1) fun v27 => k42 σ x1 v26 t0 x4 v27
def f_X0_swap_b42 (k24 : gX → Int32 → Int32 → Int32 → Int32 → Option (Int32 × gX)) : Nat → gX → Int32 → Int32 → Int32 → Int32 → Int32 → Option (Int32 × gX)
  | 0 => fun _ _ _ _ _ _ => none
  | n_ + 1 => fun σ x1 x2 x3 x4 x5 =>
    if ((S_planned (X_now σ))) ≤ x5 then (gv (x4 + 1) fun v8 => k24 σ x1 x2 x3 v8) else ((f_X5_as ((X_tried σ), (X_now σ))).bind fun u10 => gs (X_now_s (X_tried_s σ u10.1) u10.2) fun s11 => gld 8 (S_plan (X_now s11)) x5 fun v12 => gst 8 (S_plan (X_tried s11)) x4 (vp_nar .byte v12) fun g13 => gs (X_tried_s s11 (S_plan_s (X_tried s11) g13)) fun s14 => gld 8 (S_plan (X_now s14)) x4 fun v15 => gst 8 (S_plan (X_tried s14)) x5 (vp_nar .byte v15) fun g16 => gs (X_tried_s s14 (S_plan_s (X_tried s14) g16)) fun s17 => (f_X0_goes ((X_xi s17), (X_tried s17)) 0).bind fun u19 => gs (X_tried_s (X_xi_s s17 u19.1) u19.2) fun s20 => (f_X5_gone (X_tried s20)).bind fun (r21, u22) => gs (X_tried_s s20 u22) fun s23 => (f_J7_bitCount r21).bind fun (r24, _) => if r24 ≤ x2 then (f_X0_swap_b144 k24 (f_X0_swap_b42 k24 n_) s23 x1 x2 x4 x5 r24 x3) else (f_X0_swap_b144 k24 (f_X0_swap_b42 k24 n_) s23 x1 x2 x4 x5 r24 (((10 : Int32) * x4) + x5)))
def f_X0_swap_b24 : Nat → gX → Int32 → Int32 → Int32 → Int32 → Option (Int32 × gX)
  | 0 => fun _ _ _ _ _ => none
  | n_ + 1 => fun σ x1 x2 x3 x4 =>
    if ((S_planned (X_now σ))) ≤ x4 then (if x3 = (-4) then (some ((-4), σ)) else (if x1 = 0 then (some (x3, σ)) else (some (x2, σ)))) else (gv (x4 + 1) fun v7 => f_X0_swap_b42 (f_X0_swap_b24 n_) 2000 σ x1 x2 x3 x4 v7)
def f_X0_swap (σ : gX) (x1 : Int32) : Option (Int32 × gX) :=
  (f_X0_isPart x1).bind fun (r1, _) => if r1 = 0 then (some ((-1), σ)) else ((f_X0_runs σ 0).bind fun (r3, u4) => (f_J7_bitCount r3).bind fun (r5, _) => f_X0_swap_b24 2000 u4 x1 r5 (-4) 0)
abbrev rm_X0_swap : Room := { frames := 10, cells := 0, slots := 0, locals := 228 }
set_option maxHeartbeats 4000000 in
theorem w_X0_swap_b144 {Γ : gG} {ad : Nat → Nat} {r : Int32} {u : gX} (X : gCX Γ cX0_swap 7 (some .int) RX0 rm_X0_swap) {k24 : gX → Int32 → Int32 → Int32 → Int32 → Option (Int32 × gX)} (H24 : ∀ (σ : gX) (x1 : Int32) (x2 : Int32) (x3 : Int32) (x4 : Int32), k24 σ x1 x2 x3 x4 = some (r, u) → gW Γ (gMQ Γ (gPi (gEo Γ) (wX (gEo Γ) ad) r u (gAo Γ)) 0 0) (wX (gEo Γ) ad σ) 7 0 0 24 [(0, .ref (ad 0)), (1, .int x1), (2, .int x2), (3, .int x3), (4, .int x4)] []) {k42 : gX → Int32 → Int32 → Int32 → Int32 → Int32 → Option (Int32 × gX)} (H42 : ∀ (σ : gX) (x1 : Int32) (x2 : Int32) (x3 : Int32) (x4 : Int32) (x5 : Int32), k42 σ x1 x2 x3 x4 x5 = some (r, u) → gW Γ (gMQ Γ (gPi (gEo Γ) (wX (gEo Γ) ad) r u (gAo Γ)) 0 0) (wX (gEo Γ) ad σ) 7 0 0 42 [(0, .ref (ad 0)), (1, .int x1), (2, .int x2), (3, .int x3), (4, .int x4), (5, .int x5)] []) : ∀ (σ : gX) (x1 : Int32) (x2 : Int32) (x4 : Int32) (x5 : Int32) (x6 : Int32) (t0 : Int32), f_X0_swap_b144 k24 k42 σ x1 x2 x4 x5 x6 t0 = some (r, u) → gW Γ (gMQ Γ (gPi (gEo Γ) (wX (gEo Γ) ad) r u (gAo Γ)) 0 0) (wX (gEo Γ) ad σ) 7 0 0 144 [(0, .ref (ad 0)), (1, .int x1), (2, .int x2), (4, .int x4), (5, .int x5), (6, .int x6)] [.int t0] := by
  intro σ x1 x2 x4 x5 x6 t0 hf
  unfold f_X0_swap_b144 at hf
  refine g_istore_n X [(3, .int t0), (0, .ref (ad 0)), (1, .int x1), (2, .int x2), (4, .int x4), (5, .int x5), (6, .int x6)] dX0_swap_144 (by decide) rfl ?_
  refine g_iload_n X 3 dX0_swap_145 rfl ?_
  refine g_iload X 6 dX0_swap_146 rfl ?_
  refine g_max X q727 q480 q76 q481 (by decide) (Nat.le_of_ble_eq_true rfl) (by decide) dX0_swap_148 ?_
  refine g_topi hf (fun v26 hf => ?_)
  refine g_istore_n X [(2, .int v26), (3, .int t0), (0, .ref (ad 0)), (1, .int x1), (4, .int x4), (5, .int x5), (6, .int x6)] dX0_swap_151 (by decide) rfl ?_
  refine g_iincV X 1 5 (fun v27 => [(5, .int v27), (2, .int v26), (3, .int t0), (0, .ref (ad 0)), (1, .int x1), (4, .int x4), (6, .int x6)]) dX0_swap_152 rfl rfl (by decide) (fun _ => rfl) hf (fun v27 hf => ?_)
  refine g_goto X 42 dX0_swap_155 rfl ?_
  refine g_sub [3, 4, 1, 2, 5, 0] [(0, .ref (ad 0)), (1, .int x1), (2, .int v26), (3, .int t0), (4, .int x4), (5, .int v27)] rfl ?_
  exact H42 σ x1 v26 t0 x4 v27 hf
set_option maxHeartbeats 4000000 in
theorem w_X0_swap_b42 {Γ : gG} {ad : Nat → Nat} {r : Int32} {u : gX} (X : gCX Γ cX0_swap 7 (some .int) RX0 rm_X0_swap) {k24 : gX → Int32 → Int32 → Int32 → Int32 → Option (Int32 × gX)} (H24 : ∀ (σ : gX) (x1 : Int32) (x2 : Int32) (x3 : Int32) (x4 : Int32), k24 σ x1 x2 x3 x4 = some (r, u) → gW Γ (gMQ Γ (gPi (gEo Γ) (wX (gEo Γ) ad) r u (gAo Γ)) 0 0) (wX (gEo Γ) ad σ) 7 0 0 24 [(0, .ref (ad 0)), (1, .int x1), (2, .int x2), (3, .int x3), (4, .int x4)] []) : ∀ (n_ : Nat) (σ : gX) (x1 : Int32) (x2 : Int32) (x3 : Int32) (x4 : Int32) (x5 : Int32), f_X0_swap_b42 k24 n_ σ x1 x2 x3 x4 x5 = some (r, u) → gW Γ (gMQ Γ (gPi (gEo Γ) (wX (gEo Γ) ad) r u (gAo Γ)) 0 0) (wX (gEo Γ) ad σ) 7 0 0 42 [(0, .ref (ad 0)), (1, .int x1), (2, .int x2), (3, .int x3), (4, .int x4), (5, .int x5)] [] := by
  intro n_
  induction n_ with
  | zero => intro σ x1 x2 x3 x4 x5 hf; cases hf
  | succ n_ ih =>
    intro σ x1 x2 x3 x4 x5 hf
    simp only [f_X0_swap_b42] at hf
    refine g_iload X 5 dX0_swap_42 rfl ?_
    refine g_aload_n X 0 dX0_swap_44 rfl ?_
    refine g_get X in_X0 0 1 rfl rfl (by decide) q180 rfl dX0_swap_45 ?_
    refine g_getN X in_X5 6 6 rfl rfl (by decide) 5 rfl rfl dX0_swap_48 ?_
    refine g_icmp_ge X 158 dX0_swap_51 rfl hf (fun hf => ?_) (fun hf => ?_)
    · refine g_iincV X 1 4 (fun v8 => [(4, .int v8), (0, .ref (ad 0)), (1, .int x1), (2, .int x2), (3, .int x3), (5, .int x5)]) dX0_swap_158 rfl rfl (by decide) (fun _ => rfl) hf (fun v8 hf => ?_)
      refine g_goto X 24 dX0_swap_161 rfl ?_
      refine g_sub [1, 2, 3, 4, 0] [(0, .ref (ad 0)), (1, .int x1), (2, .int x2), (3, .int x3), (4, .int v8)] rfl ?_
      exact H24 σ x1 x2 x3 v8 hf
    · refine g_aload_n X 0 dX0_swap_54 rfl ?_
      refine g_get X in_X0 0 2 rfl rfl (by decide) q181 rfl dX0_swap_55 ?_
      refine g_aload_n X 0 dX0_swap_58 rfl ?_
      refine g_get X in_X0 0 1 rfl rfl (by decide) q180 rfl dX0_swap_59 ?_
      refine g_callVv X 1 (As := [.ref (ad 6)]) (wfc := wSS (gEo Γ) (fun i => ad ([10, 11, 12, 13, 6, 7, 8, 9].getD i 0))) (lw_V q486 q487 q488 q65 q489) (by decide +kernel) (fun u_ h_ sz_ => m_X5_as (gl Γ) (gEo Γ) (fun i => ad ([10, 11, 12, 13, 6, 7, 8, 9].getD i 0)) ((X_tried σ), (X_now σ)) u_ h_ sz_) (rq := 0) rfl rfl rfl rfl rfl ⟨by decide, by decide⟩ rfl (Nat.le_of_ble_eq_true rfl) ⟨Nat.zero_le _, Nat.zero_le _⟩ [10, 11, 12, 13, 6, 7, 8, 9] [0, 1, 2, 3, 4, 5, 14, 15, 16, 17, 18, 19, 20, 21, 22, 23, 24, 25, 26, 27, 28, 29, 30] [0, 1, 2, 3, 4, 5, 27, 28, 29, 30, 23, 24, 25, 26, 6, 7, 8, 9, 10, 11, 12, 13, 14, 15, 16, 17, 18, 19, 20, 21, 22] (fun u10 => wX (gEo Γ) ad (X_now_s (X_tried_s σ u10.1) u10.2)) rfl rfl rfl rfl (by decide) rfl (fun _ => rfl) dX0_swap_62 hf (fun u10 _ hf => ?_)
      refine g_gs (wX (gEo Γ) ad) hf (fun s11 hf => ?_)
      refine g_aload_n X 0 dX0_swap_65 rfl ?_
      refine g_get X in_X0 0 2 rfl rfl (by decide) q181 rfl dX0_swap_66 ?_
      refine g_getN X in_X5 10 7 rfl rfl (by decide) 6 rfl rfl dX0_swap_69 ?_
      refine g_iload X 4 dX0_swap_72 rfl ?_
      refine g_aload_n X 0 dX0_swap_74 rfl ?_
      refine g_get X in_X0 0 1 rfl rfl (by decide) q180 rfl dX0_swap_75 ?_
      refine g_getN X in_X5 6 7 rfl rfl (by decide) 6 rfl rfl dX0_swap_78 ?_
      refine g_iload X 5 dX0_swap_81 rfl ?_
      refine g_bald X 9 rfl dX0_swap_83 hf (fun v12 hf => ?_)
      refine g_bast X 13 (fun g13 => wX (gEo Γ) ad (X_tried_s s11 (S_plan_s (X_tried s11) g13))) rfl (fun _ => rfl) dX0_swap_84 hf (fun g13 hf => ?_)
      refine g_gs (wX (gEo Γ) ad) hf (fun s14 hf => ?_)
      refine g_aload_n X 0 dX0_swap_85 rfl ?_
      refine g_get X in_X0 0 2 rfl rfl (by decide) q181 rfl dX0_swap_86 ?_
      refine g_getN X in_X5 10 7 rfl rfl (by decide) 6 rfl rfl dX0_swap_89 ?_
      refine g_iload X 5 dX0_swap_92 rfl ?_
      refine g_aload_n X 0 dX0_swap_94 rfl ?_
      refine g_get X in_X0 0 1 rfl rfl (by decide) q180 rfl dX0_swap_95 ?_
      refine g_getN X in_X5 6 7 rfl rfl (by decide) 6 rfl rfl dX0_swap_98 ?_
      refine g_iload X 4 dX0_swap_101 rfl ?_
      refine g_bald X 9 rfl dX0_swap_103 hf (fun v15 hf => ?_)
      refine g_bast X 13 (fun g16 => wX (gEo Γ) ad (X_tried_s s14 (S_plan_s (X_tried s14) g16))) rfl (fun _ => rfl) dX0_swap_104 hf (fun g16 hf => ?_)
      refine g_gs (wX (gEo Γ) ad) hf (fun s17 hf => ?_)
      refine g_aload_n X 0 dX0_swap_105 rfl ?_
      refine g_aload_n X 0 dX0_swap_106 rfl ?_
      refine g_get X in_X0 0 2 rfl rfl (by decide) q181 rfl dX0_swap_107 ?_
      refine g_iconst X 0 dX0_swap_110 rfl ?_
      refine g_callVv X 2 (As := [.ref (ad 10), .int 0]) (wfc := wA (gEo Γ) (fun i => ad ([0, 1, 2, 3, 4, 5, 10, 11, 12, 13, 6, 10, 14, 23, 24, 25, 26].getD i 0))) (lw_V q675 q677 qs17 q60 q678) (by decide +kernel) (fun u_ h_ sz_ => m_X0_goes (gl Γ) (gEo Γ) (fun i => ad ([0, 1, 2, 3, 4, 5, 10, 11, 12, 13, 6, 10, 14, 23, 24, 25, 26].getD i 0)) ((X_xi s17), (X_tried s17)) 0 u_ h_ sz_) (rq := 0) rfl rfl rfl rfl rfl ⟨by decide, by decide⟩ rfl (Nat.le_of_ble_eq_true rfl) ⟨Nat.zero_le _, Nat.zero_le _⟩ [0, 1, 2, 3, 4, 5, 10, 11, 12, 13] [6, 7, 8, 9, 14, 15, 16, 17, 18, 19, 20, 21, 22, 23, 24, 25, 26, 27, 28, 29, 30] [21, 22, 23, 24, 25, 26, 0, 1, 2, 3, 27, 28, 29, 30, 4, 5, 6, 7, 8, 9, 10, 11, 12, 13, 14, 15, 16, 17, 18, 19, 20] (fun u19 => wX (gEo Γ) ad (X_tried_s (X_xi_s s17 u19.1) u19.2)) rfl rfl rfl rfl (by decide) rfl (fun _ => rfl) dX0_swap_111 hf (fun u19 _ hf => ?_)
      refine g_gs (wX (gEo Γ) ad) hf (fun s20 hf => ?_)
      refine g_aload_n X 0 dX0_swap_114 rfl ?_
      refine g_get X in_X0 0 2 rfl rfl (by decide) q181 rfl dX0_swap_115 ?_
      refine g_callVi X 0 (As := []) (wfc := wS (gEo Γ) (fun i => ad (i + 10))) (lw_V q661 q662 q663 q65 q664) (by decide +kernel) (fun r_ u_ h_ sz_ => m_X5_gone (gl Γ) (gEo Γ) (fun i => ad (i + 10)) (X_tried s20) r_ u_ h_ sz_) (rq := 0) rfl rfl rfl rfl rfl ⟨by decide, by decide⟩ rfl (Nat.le_of_ble_eq_true rfl) ⟨Nat.zero_le _, Nat.zero_le _⟩ [10, 11, 12, 13] [0, 1, 2, 3, 4, 5, 6, 7, 8, 9, 14, 15, 16, 17, 18, 19, 20, 21, 22, 23, 24, 25, 26, 27, 28, 29, 30] [0, 1, 2, 3, 4, 5, 6, 7, 8, 9, 27, 28, 29, 30, 10, 11, 12, 13, 14, 15, 16, 17, 18, 19, 20, 21, 22, 23, 24, 25, 26] (fun u22 => wX (gEo Γ) ad (X_tried_s s20 u22)) rfl rfl rfl rfl (by decide) rfl (fun _ => rfl) dX0_swap_118 hf (fun r21 u22 _ hf => ?_)
      refine g_gs (wX (gEo Γ) ad) hf (fun s23 hf => ?_)
      refine g_call0i X 1 (As := [.int r21]) (lw_S q665 q666 q78 q667) (by decide +kernel) (fun r_ u_ h_ sz_ => m_J7_bitCount (gl Γ) (gEo Γ) r21 r_ u_ h_ sz_) rfl rfl ⟨by decide, by decide⟩ rfl (Nat.le_of_ble_eq_true rfl) ⟨Nat.zero_le _, Nat.zero_le _⟩ dX0_swap_121 hf (fun r24 _ hf => ?_)
      refine g_istore X [(6, .int r24), (0, .ref (ad 0)), (1, .int x1), (2, .int x2), (3, .int x3), (4, .int x4), (5, .int x5)] dX0_swap_124 (by decide) rfl ?_
      refine g_iload X 0 dX0_swap_126 rfl ?_
      refine g_iload_n X 3 dX0_swap_128 rfl ?_
      refine g_icmp_le X 143 dX0_swap_129 rfl hf (fun hf => ?_) (fun hf => ?_)
      · refine g_iload_n X 4 dX0_swap_143 rfl ?_
        refine g_sub [1, 2, 3, 5, 6, 0] [(0, .ref (ad 0)), (1, .int x1), (2, .int x2), (4, .int x4), (5, .int x5), (6, .int r24)] rfl ?_
        exact w_X0_swap_b144 X H24 ih s23 x1 x2 x4 x5 r24 x3 hf
      · refine g_bipush X 10 dX0_swap_132 rfl ?_
        refine g_iload X 5 dX0_swap_134 rfl ?_
        refine g_imul X dX0_swap_136 ?_
        refine g_iload X 6 dX0_swap_137 rfl ?_
        refine g_iadd X dX0_swap_139 ?_
        refine g_goto X 144 dX0_swap_140 rfl ?_
        refine g_sub [1, 2, 3, 5, 6, 0] [(0, .ref (ad 0)), (1, .int x1), (2, .int x2), (4, .int x4), (5, .int x5), (6, .int r24)] rfl ?_
        exact w_X0_swap_b144 X H24 ih s23 x1 x2 x4 x5 r24 (((10 : Int32) * x4) + x5) hf
set_option maxHeartbeats 4000000 in
theorem w_X0_swap_b24 {Γ : gG} {ad : Nat → Nat} {r : Int32} {u : gX} (X : gCX Γ cX0_swap 7 (some .int) RX0 rm_X0_swap) : ∀ (n_ : Nat) (σ : gX) (x1 : Int32) (x2 : Int32) (x3 : Int32) (x4 : Int32), f_X0_swap_b24 n_ σ x1 x2 x3 x4 = some (r, u) → gW Γ (gMQ Γ (gPi (gEo Γ) (wX (gEo Γ) ad) r u (gAo Γ)) 0 0) (wX (gEo Γ) ad σ) 7 0 0 24 [(0, .ref (ad 0)), (1, .int x1), (2, .int x2), (3, .int x3), (4, .int x4)] [] := by
  intro n_
  induction n_ with
  | zero => intro σ x1 x2 x3 x4 hf; cases hf
  | succ n_ ih =>
    intro σ x1 x2 x3 x4 hf
    simp only [f_X0_swap_b24] at hf
    refine g_iload X 4 dX0_swap_24 rfl ?_
    refine g_aload_n X 0 dX0_swap_26 rfl ?_
    refine g_get X in_X0 0 1 rfl rfl (by decide) q180 rfl dX0_swap_27 ?_
    refine g_getN X in_X5 6 6 rfl rfl (by decide) 5 rfl rfl dX0_swap_30 ?_
    refine g_icmp_ge X 164 dX0_swap_33 rfl hf (fun hf => ?_) (fun hf => ?_)
    · refine g_iload_n X 3 dX0_swap_164 rfl ?_
      refine g_bipush X (-4) dX0_swap_165 rfl ?_
      refine g_icmp_ne X 175 dX0_swap_167 rfl hf (fun hf => ?_) (fun hf => ?_)
      · refine g_iload_n X 1 dX0_swap_175 rfl ?_
        refine g_if_ne X 183 dX0_swap_176 rfl hf (fun hf => ?_) (fun hf => ?_)
        · refine g_iload_n X 2 dX0_swap_183 rfl ?_
          exact g_iret X rfl dX0_swap_184 hf
        · refine g_iload_n X 3 dX0_swap_179 rfl ?_
          refine g_goto X 184 dX0_swap_180 rfl ?_
          exact g_iret X rfl dX0_swap_184 hf
      · refine g_bipush X (-4) dX0_swap_170 rfl ?_
        refine g_goto X 184 dX0_swap_172 rfl ?_
        exact g_iret X rfl dX0_swap_184 hf
    · refine g_iload X 4 dX0_swap_36 rfl ?_
      refine g_iconst X 1 dX0_swap_38 rfl ?_
      refine g_iadd X dX0_swap_39 ?_
      refine g_topi hf (fun v7 hf => ?_)
      refine g_istore X [(5, .int v7), (0, .ref (ad 0)), (1, .int x1), (2, .int x2), (3, .int x3), (4, .int x4)] dX0_swap_40 (by decide) rfl ?_
      refine g_sub [1, 2, 3, 4, 5, 0] [(0, .ref (ad 0)), (1, .int x1), (2, .int x2), (3, .int x3), (4, .int x4), (5, .int v7)] rfl ?_
      exact w_X0_swap_b42 X ih 2000 σ x1 x2 x3 x4 v7 hf
set_option maxHeartbeats 4000000 in
theorem m_X0_swap (l : Launch) (E : gE) (ad : Nat → Nat) (σ : gX) (x1 : Int32) (r : Int32) (u : gX) (hf : f_X0_swap σ x1 = some (r, u)) (sz : Nat) : Met l yX0_swap (ws_ yX0_swap cX0_swap 7 (some .int)) rm_X0_swap (gPc [.ref (ad 0), .int x1] E (wX E ad σ) sz) (gPi E (wX E ad) r u (va_A (wX E ad σ) sz)) 0 0 (va_A (wX E ad σ) sz) := by
  refine gMet (Qc := gPi E (wX E ad) r u) (by decide) (Nat.le_of_ble_eq_true rfl) (fun Γ X hl hE => ?_)
  subst hl; subst hE
  unfold f_X0_swap at hf
  show gW Γ (gMQ Γ (gPi (gEo Γ) (wX (gEo Γ) ad) r u (gAo Γ)) 0 0) (wX (gEo Γ) ad σ) 7 0 0 0 [(0, .ref (ad 0)), (1, .int x1)] []
  refine g_iload_n X 1 dX0_swap_0 rfl ?_
  refine g_call0i X 1 (As := [.int x1]) (lw_S q579 q580 q60 q581) (by decide +kernel) (fun r_ u_ h_ sz_ => m_X0_isPart (gl Γ) (gEo Γ) x1 r_ u_ h_ sz_) rfl rfl ⟨by decide, by decide⟩ rfl (Nat.le_of_ble_eq_true rfl) ⟨Nat.zero_le _, Nat.zero_le _⟩ dX0_swap_1 hf (fun r1 _ hf => ?_)
  refine g_if_ne X 9 dX0_swap_4 rfl hf (fun hf => ?_) (fun hf => ?_)
  · refine g_aload_n X 0 dX0_swap_9 rfl ?_
    refine g_iconst X 0 dX0_swap_10 rfl ?_
    refine g_callVi X 1 (As := [.int 0]) (wfc := wX (gEo Γ) ad) (lw_V q726 q672 q673 q60 q674) (by decide +kernel) (fun r_ u_ h_ sz_ => m_X0_runs (gl Γ) (gEo Γ) ad σ 0 r_ u_ h_ sz_) (rq := 0) rfl rfl rfl rfl rfl ⟨by decide, by decide⟩ rfl (Nat.le_of_ble_eq_true rfl) ⟨Nat.zero_le _, Nat.zero_le _⟩ [0, 1, 2, 3, 4, 5, 6, 7, 8, 9, 10, 11, 12, 13, 14, 15, 16, 17, 18, 19, 20, 21, 22, 23, 24, 25, 26, 27, 28, 29, 30] [] [0, 1, 2, 3, 4, 5, 6, 7, 8, 9, 10, 11, 12, 13, 14, 15, 16, 17, 18, 19, 20, 21, 22, 23, 24, 25, 26, 27, 28, 29, 30] (fun u4 => wX (gEo Γ) ad u4) rfl rfl rfl rfl (by decide) rfl (fun _ => rfl) dX0_swap_11 hf (fun r3 u4 _ hf => ?_)
    refine g_call0i X 1 (As := [.int r3]) (lw_S q665 q666 q78 q667) (by decide +kernel) (fun r_ u_ h_ sz_ => m_J7_bitCount (gl Γ) (gEo Γ) r3 r_ u_ h_ sz_) rfl rfl ⟨by decide, by decide⟩ rfl (Nat.le_of_ble_eq_true rfl) ⟨Nat.zero_le _, Nat.zero_le _⟩ dX0_swap_14 hf (fun r5 _ hf => ?_)
    refine g_istore_n X [(2, .int r5), (0, .ref (ad 0)), (1, .int x1)] dX0_swap_17 (by decide) rfl ?_
    refine g_bipush X (-4) dX0_swap_18 rfl ?_
    refine g_istore_n X [(3, .int (-4)), (2, .int r5), (0, .ref (ad 0)), (1, .int x1)] dX0_swap_20 (by decide) rfl ?_
    refine g_iconst X 0 dX0_swap_21 rfl ?_
    refine g_istore X [(4, .int 0), (3, .int (-4)), (2, .int r5), (0, .ref (ad 0)), (1, .int x1)] dX0_swap_22 (by decide) rfl ?_
    refine g_sub [3, 4, 2, 1, 0] [(0, .ref (ad 0)), (1, .int x1), (2, .int r5), (3, .int (-4)), (4, .int 0)] rfl ?_
    exact w_X0_swap_b24 X 2000 u4 x1 r5 (-4) 0 hf
  · refine g_iconst X (-1) dX0_swap_7 rfl ?_
    exact g_iret X rfl dX0_swap_8 hf
def f_X0_enough_b2 : Nat → gX → Int32 → Option (Int32 × gX)
  | 0 => fun _ _ => none
  | n_ + 1 => fun σ x1 =>
    if 5 < x1 then (some ((-4), σ)) else ((f_X5_as ((X_tried σ), (X_now σ))).bind fun u2 => gs (X_now_s (X_tried_s σ u2.1) u2.2) fun s3 => gs (X_tried_s s3 (S_room_s (X_tried s3) x1)) fun s4 => (f_X0_goes ((X_xi s4), (X_tried s4)) 0).bind fun u6 => gs (X_tried_s (X_xi_s s4 u6.1) u6.2) fun s7 => (f_X5_waiting (X_tried s7)).bind fun (r8, u9) => gs (X_tried_s s7 u9) fun s10 => if r8 = 0 then (some (x1, s10)) else (gv (x1 + 1) fun v11 => (f_X0_enough_b2 n_) s10 v11))
def f_X0_enough (σ : gX) : Option (Int32 × gX) :=
  f_X0_enough_b2 2000 σ 1
abbrev rm_X0_enough : Room := { frames := 9, cells := 0, slots := 0, locals := 207 }
set_option maxHeartbeats 4000000 in
theorem w_X0_enough_b2 {Γ : gG} {ad : Nat → Nat} {r : Int32} {u : gX} (X : gCX Γ cX0_enough 2 (some .int) RX0 rm_X0_enough) : ∀ (n_ : Nat) (σ : gX) (x1 : Int32), f_X0_enough_b2 n_ σ x1 = some (r, u) → gW Γ (gMQ Γ (gPi (gEo Γ) (wX (gEo Γ) ad) r u (gAo Γ)) 0 0) (wX (gEo Γ) ad σ) 2 0 0 2 [(0, .ref (ad 0)), (1, .int x1)] [] := by
  intro n_
  induction n_ with
  | zero => intro σ x1 hf; cases hf
  | succ n_ ih =>
    intro σ x1 hf
    simp only [f_X0_enough_b2] at hf
    refine g_iload_n X 1 dX0_enough_2 rfl ?_
    refine g_iconst X 5 dX0_enough_3 rfl ?_
    refine g_icmp_gt X 53 dX0_enough_4 rfl hf (fun hf => ?_) (fun hf => ?_)
    · refine g_bipush X (-4) dX0_enough_53 rfl ?_
      exact g_iret X rfl dX0_enough_55 hf
    · refine g_aload_n X 0 dX0_enough_7 rfl ?_
      refine g_get X in_X0 0 2 rfl rfl (by decide) q181 rfl dX0_enough_8 ?_
      refine g_aload_n X 0 dX0_enough_11 rfl ?_
      refine g_get X in_X0 0 1 rfl rfl (by decide) q180 rfl dX0_enough_12 ?_
      refine g_callVv X 1 (As := [.ref (ad 6)]) (wfc := wSS (gEo Γ) (fun i => ad ([10, 11, 12, 13, 6, 7, 8, 9].getD i 0))) (lw_V q486 q487 q488 q65 q489) (by decide +kernel) (fun u_ h_ sz_ => m_X5_as (gl Γ) (gEo Γ) (fun i => ad ([10, 11, 12, 13, 6, 7, 8, 9].getD i 0)) ((X_tried σ), (X_now σ)) u_ h_ sz_) (rq := 0) rfl rfl rfl rfl rfl ⟨by decide, by decide⟩ rfl (Nat.le_of_ble_eq_true rfl) ⟨Nat.zero_le _, Nat.zero_le _⟩ [10, 11, 12, 13, 6, 7, 8, 9] [0, 1, 2, 3, 4, 5, 14, 15, 16, 17, 18, 19, 20, 21, 22, 23, 24, 25, 26, 27, 28, 29, 30] [0, 1, 2, 3, 4, 5, 27, 28, 29, 30, 23, 24, 25, 26, 6, 7, 8, 9, 10, 11, 12, 13, 14, 15, 16, 17, 18, 19, 20, 21, 22] (fun u2 => wX (gEo Γ) ad (X_now_s (X_tried_s σ u2.1) u2.2)) rfl rfl rfl rfl (by decide) rfl (fun _ => rfl) dX0_enough_15 hf (fun u2 _ hf => ?_)
      refine g_gs (wX (gEo Γ) ad) hf (fun s3 hf => ?_)
      refine g_aload_n X 0 dX0_enough_18 rfl ?_
      refine g_get X in_X0 0 2 rfl rfl (by decide) q181 rfl dX0_enough_19 ?_
      refine g_iload_n X 1 dX0_enough_22 rfl ?_
      refine g_putN X in_X5 tyX5_ok nmX5 10 4 (wX (gEo Γ) ad (X_tried_s s3 (S_room_s (X_tried s3) x1))) rfl rfl (by decide) 3 rfl rfl rfl rfl rfl (Nat.le_of_ble_eq_true rfl) rfl dX0_enough_23 ?_
      refine g_gs (wX (gEo Γ) ad) hf (fun s4 hf => ?_)
      refine g_aload_n X 0 dX0_enough_26 rfl ?_
      refine g_aload_n X 0 dX0_enough_27 rfl ?_
      refine g_get X in_X0 0 2 rfl rfl (by decide) q181 rfl dX0_enough_28 ?_
      refine g_iconst X 0 dX0_enough_31 rfl ?_
      refine g_callVv X 2 (As := [.ref (ad 10), .int 0]) (wfc := wA (gEo Γ) (fun i => ad ([0, 1, 2, 3, 4, 5, 10, 11, 12, 13, 6, 10, 14, 23, 24, 25, 26].getD i 0))) (lw_V q675 q677 qs17 q60 q678) (by decide +kernel) (fun u_ h_ sz_ => m_X0_goes (gl Γ) (gEo Γ) (fun i => ad ([0, 1, 2, 3, 4, 5, 10, 11, 12, 13, 6, 10, 14, 23, 24, 25, 26].getD i 0)) ((X_xi s4), (X_tried s4)) 0 u_ h_ sz_) (rq := 0) rfl rfl rfl rfl rfl ⟨by decide, by decide⟩ rfl (Nat.le_of_ble_eq_true rfl) ⟨Nat.zero_le _, Nat.zero_le _⟩ [0, 1, 2, 3, 4, 5, 10, 11, 12, 13] [6, 7, 8, 9, 14, 15, 16, 17, 18, 19, 20, 21, 22, 23, 24, 25, 26, 27, 28, 29, 30] [21, 22, 23, 24, 25, 26, 0, 1, 2, 3, 27, 28, 29, 30, 4, 5, 6, 7, 8, 9, 10, 11, 12, 13, 14, 15, 16, 17, 18, 19, 20] (fun u6 => wX (gEo Γ) ad (X_tried_s (X_xi_s s4 u6.1) u6.2)) rfl rfl rfl rfl (by decide) rfl (fun _ => rfl) dX0_enough_32 hf (fun u6 _ hf => ?_)
      refine g_gs (wX (gEo Γ) ad) hf (fun s7 hf => ?_)
      refine g_aload_n X 0 dX0_enough_35 rfl ?_
      refine g_get X in_X0 0 2 rfl rfl (by decide) q181 rfl dX0_enough_36 ?_
      refine g_callVi X 0 (As := []) (wfc := wS (gEo Γ) (fun i => ad (i + 10))) (lw_V q501 q502 q503 q65 q504) (by decide +kernel) (fun r_ u_ h_ sz_ => m_X5_waiting (gl Γ) (gEo Γ) (fun i => ad (i + 10)) (X_tried s7) r_ u_ h_ sz_) (rq := 0) rfl rfl rfl rfl rfl ⟨by decide, by decide⟩ rfl (Nat.le_of_ble_eq_true rfl) ⟨Nat.zero_le _, Nat.zero_le _⟩ [10, 11, 12, 13] [0, 1, 2, 3, 4, 5, 6, 7, 8, 9, 14, 15, 16, 17, 18, 19, 20, 21, 22, 23, 24, 25, 26, 27, 28, 29, 30] [0, 1, 2, 3, 4, 5, 6, 7, 8, 9, 27, 28, 29, 30, 10, 11, 12, 13, 14, 15, 16, 17, 18, 19, 20, 21, 22, 23, 24, 25, 26] (fun u9 => wX (gEo Γ) ad (X_tried_s s7 u9)) rfl rfl rfl rfl (by decide) rfl (fun _ => rfl) dX0_enough_39 hf (fun r8 u9 _ hf => ?_)
      refine g_gs (wX (gEo Γ) ad) hf (fun s10 hf => ?_)
      refine g_if_ne X 47 dX0_enough_42 rfl hf (fun hf => ?_) (fun hf => ?_)
      · refine g_iincV X 1 1 (fun v11 => [(1, .int v11), (0, .ref (ad 0))]) dX0_enough_47 rfl rfl (by decide) (fun _ => rfl) hf (fun v11 hf => ?_)
        refine g_goto X 2 dX0_enough_50 rfl ?_
        refine g_sub [1, 0] [(0, .ref (ad 0)), (1, .int v11)] rfl ?_
        exact ih s10 v11 hf
      · refine g_iload_n X 1 dX0_enough_45 rfl ?_
        exact g_iret X rfl dX0_enough_46 hf
set_option maxHeartbeats 4000000 in
theorem m_X0_enough (l : Launch) (E : gE) (ad : Nat → Nat) (σ : gX) (r : Int32) (u : gX) (hf : f_X0_enough σ = some (r, u)) (sz : Nat) : Met l yX0_enough (ws_ yX0_enough cX0_enough 2 (some .int)) rm_X0_enough (gPc [.ref (ad 0)] E (wX E ad σ) sz) (gPi E (wX E ad) r u (va_A (wX E ad σ) sz)) 0 0 (va_A (wX E ad σ) sz) := by
  refine gMet (Qc := gPi E (wX E ad) r u) (by decide) (Nat.le_of_ble_eq_true rfl) (fun Γ X hl hE => ?_)
  subst hl; subst hE
  unfold f_X0_enough at hf
  show gW Γ (gMQ Γ (gPi (gEo Γ) (wX (gEo Γ) ad) r u (gAo Γ)) 0 0) (wX (gEo Γ) ad σ) 2 0 0 0 [(0, .ref (ad 0))] []
  refine g_iconst X 1 dX0_enough_0 rfl ?_
  refine g_istore_n X [(1, .int 1), (0, .ref (ad 0))] dX0_enough_1 (by decide) rfl ?_
  refine g_sub [1, 0] [(0, .ref (ad 0)), (1, .int 1)] rfl ?_
  exact w_X0_enough_b2 X 2000 σ 1 hf
def f_X0_findOdds_b86 (k20 : gX → Int32 → Int32 → Int32 → Int32 → Option (gX)) (σ : gX) (x1 : Int32) (x2 : Int32) (x3 : Int32) (x4 : Int32) (t0 : Int64) (t1 : Int64) : Option (gX) :=
  gvl (t1 * t0) fun v33 => gs (X_xi_s σ (I_allWays_s (X_xi σ) v33)) fun s34 => gv (x4 + 1) fun v35 => k20 s34 x1 x2 x3 v35
def f_X0_findOdds_b67 (k20 : gX → Int32 → Int32 → Int32 → Int32 → Option (gX)) (σ : gX) (x1 : Int32) (x2 : Int32) (x4 : Int32) (x5 : Int32) (t0 : Int32) (t1 : Int32) : Option (gX) :=
  gv (t1 ||| t0) fun v32 => if x5 = 0 then (f_X0_findOdds_b86 k20 σ x1 x2 v32 x4 1 ((I_allWays (X_xi σ)))) else (f_X0_findOdds_b86 k20 σ x1 x2 v32 x4 10 ((I_allWays (X_xi σ))))
def f_X0_findOdds_b51 (k20 : gX → Int32 → Int32 → Int32 → Int32 → Option (gX)) (σ : gX) (x1 : Int32) (x2 : Int32) (x3 : Int32) (x4 : Int32) (t0 : Int32) : Option (gX) :=
  if t0 = 0 then (f_X0_findOdds_b67 k20 σ x1 x2 x4 t0 0 x3) else (f_X0_findOdds_b67 k20 σ x1 x2 x4 t0 ((1 : Int32) <<< (x4 &&& 31)) x3)
def f_X0_findOdds_b175 (k99 : gX → Int32 → Int32 → Int32 → Int32 → Option (gX)) (k128 : gX → Int32 → Int32 → Int32 → Int32 → Int64 → Int32 → Option (gX)) (σ : gX) (x1 : Int32) (x2 : Int32) (x3 : Int32) (x4 : Int32) (x7 : Int32) (t0 : Int64) (t1 : Int64) : Option (gX) :=
  gvl (t1 * t0) fun v30 => gv (x7 + 1) fun v31 => k128 σ x1 x2 x3 x4 v30 v31
def f_X0_findOdds_b257 (k99 : gX → Int32 → Int32 → Int32 → Int32 → Option (gX)) (σ : gX) (x1 : Int32) (x2 : Int32) (x3 : Int32) (x4 : Int32) : Option (gX) :=
  gv (x4 + 1) fun v29 => k99 σ x1 x2 x3 v29
def f_X0_findOdds_b230 (k99 : gX → Int32 → Int32 → Int32 → Int32 → Option (gX)) (σ : gX) (x1 : Int32) (x2 : Int32) (x3 : Int32) (x4 : Int32) (x5 : Int64) (t0 : Int64) (t1 : Int64) : Option (gX) :=
  gvl (t1 + t0) fun v20 => gs (X_xi_s σ (I_goneSum_s (X_xi σ) v20)) fun s21 => (f_X5_gone (X_tried s21)).bind fun (r22, u23) => gs (X_tried_s s21 u23) fun s24 => (f_J7_bitCount r22).bind fun (r25, _) => gvl (((I_manySum (X_xi s21))) + (x5 * (r25.toInt64))) fun v27 => gs (X_xi_s s24 (I_manySum_s (X_xi s24) v27)) fun s28 => f_X0_findOdds_b257 k99 s28 x1 x2 x3 x4
def f_X0_findOdds_b128 (k99 : gX → Int32 → Int32 → Int32 → Int32 → Option (gX)) : Nat → gX → Int32 → Int32 → Int32 → Int32 → Int64 → Int32 → Option (gX)
  | 0 => fun _ _ _ _ _ _ _ => none
  | n_ + 1 => fun σ x1 x2 x3 x4 x5 x7 =>
    if ((S_planned (X_now σ))) ≤ x7 then ((f_X5_as ((X_tried σ), (X_now σ))).bind fun u6 => gs (X_now_s (X_tried_s σ u6.1) u6.2) fun s7 => (f_X0_goes ((X_xi s7), (X_tried s7)) x4).bind fun u9 => gs (X_tried_s (X_xi_s s7 u9.1) u9.2) fun s10 => (f_X5_gone (X_tried s10)).bind fun (r11, u12) => gs (X_tried_s s10 u12) fun s13 => (f_X0_has r11 x2).bind fun (r14, _) => if r14 = 0 then (f_X0_findOdds_b230 k99 s13 x1 x2 x3 x4 x5 0 ((I_goneSum (X_xi s10)))) else (f_X0_findOdds_b230 k99 s13 x1 x2 x3 x4 x5 x5 ((I_goneSum (X_xi s10))))) else ((f_X0_has x3 x7).bind fun (r16, _) => if r16 = 0 then (f_X0_findOdds_b175 k99 (f_X0_findOdds_b128 k99 n_) σ x1 x2 x3 x4 x7 1 x5) else ((f_X0_has x4 x7).bind fun (r18, _) => if r18 = 0 then (f_X0_findOdds_b175 k99 (f_X0_findOdds_b128 k99 n_) σ x1 x2 x3 x4 x7 (((10 : Int32) - x1).toInt64) x5) else (f_X0_findOdds_b175 k99 (f_X0_findOdds_b128 k99 n_) σ x1 x2 x3 x4 x7 (x1.toInt64) x5)))
def f_X0_findOdds_b99 : Nat → gX → Int32 → Int32 → Int32 → Int32 → Option (gX)
  | 0 => fun _ _ _ _ _ => none
  | n_ + 1 => fun σ x1 x2 x3 x4 =>
    if ((1 : Int32) <<< (((S_planned (X_now σ))) &&& 31)) ≤ x4 then (some σ) else (if (x4 &&& (x3 ^^^ (-1))) = 0 then (f_X0_findOdds_b128 (f_X0_findOdds_b99 n_) 2000 σ x1 x2 x3 x4 1 0) else (f_X0_findOdds_b257 (f_X0_findOdds_b99 n_) σ x1 x2 x3 x4))
def f_X0_findOdds_b20 : Nat → gX → Int32 → Int32 → Int32 → Int32 → Option (gX)
  | 0 => fun _ _ _ _ _ => none
  | n_ + 1 => fun σ x1 x2 x3 x4 =>
    if ((S_planned (X_now σ))) ≤ x4 then (f_X0_findOdds_b99 2000 σ x1 x2 x3 0) else (gld 8 (S_plan (X_now σ)) x4 fun v4 => if 5 ≤ v4 then (f_X0_findOdds_b51 (f_X0_findOdds_b20 n_) σ x1 x2 x3 x4 0) else (f_X0_findOdds_b51 (f_X0_findOdds_b20 n_) σ x1 x2 x3 x4 1))
def f_X0_findOdds (σ : gX) (x1 : Int32) (x2 : Int32) : Option (gX) :=
  gs (X_xi_s σ (I_goneSum_s (X_xi σ) 0)) fun s1 => gs (X_xi_s s1 (I_manySum_s (X_xi s1) 0)) fun s2 => gs (X_xi_s s2 (I_allWays_s (X_xi s2) 1)) fun s3 => f_X0_findOdds_b20 2000 s3 x1 x2 0 0
abbrev rm_X0_findOdds : Room := { frames := 9, cells := 0, slots := 0, locals := 207 }
set_option maxHeartbeats 4000000 in
theorem w_X0_findOdds_b86 {Γ : gG} {ad : Nat → Nat} {u : gX} (X : gCX Γ cX0_findOdds 8 none RX0 rm_X0_findOdds) {k20 : gX → Int32 → Int32 → Int32 → Int32 → Option (gX)} (H20 : ∀ (σ : gX) (x1 : Int32) (x2 : Int32) (x3 : Int32) (x4 : Int32), k20 σ x1 x2 x3 x4 = some u → gW Γ (gMQ Γ (gPv (gEo Γ) (wX (gEo Γ) ad) u (gAo Γ)) 0 0) (wX (gEo Γ) ad σ) 8 0 0 20 [(0, .ref (ad 0)), (1, .int x1), (2, .int x2), (3, .int x3), (4, .int x4)] []) : ∀ (σ : gX) (x1 : Int32) (x2 : Int32) (x3 : Int32) (x4 : Int32) (t0 : Int64) (t1 : Int64), f_X0_findOdds_b86 k20 σ x1 x2 x3 x4 t0 t1 = some u → gW Γ (gMQ Γ (gPv (gEo Γ) (wX (gEo Γ) ad) u (gAo Γ)) 0 0) (wX (gEo Γ) ad σ) 8 0 0 86 [(0, .ref (ad 0)), (1, .int x1), (2, .int x2), (3, .int x3), (4, .int x4)] [.long t0, .long t1, .ref (ad 0)] := by
  intro σ x1 x2 x3 x4 t0 t1 hf
  unfold f_X0_findOdds_b86 at hf
  refine g_lmul X dX0_findOdds_86 ?_
  refine g_topl hf (fun v33 hf => ?_)
  refine g_put X in_X0 tyX0_ok nmX0 0 16 (wX (gEo Γ) ad (X_xi_s σ (I_allWays_s (X_xi σ) v33))) rfl rfl (by decide) q196 rfl rfl rfl rfl (Nat.le_of_ble_eq_true rfl) rfl dX0_findOdds_87 ?_
  refine g_gs (wX (gEo Γ) ad) hf (fun s34 hf => ?_)
  refine g_iincV X 1 4 (fun v35 => [(4, .int v35), (0, .ref (ad 0)), (1, .int x1), (2, .int x2), (3, .int x3)]) dX0_findOdds_90 rfl rfl (by decide) (fun _ => rfl) hf (fun v35 hf => ?_)
  refine g_goto X 20 dX0_findOdds_93 rfl ?_
  refine g_sub [1, 2, 3, 4, 0] [(0, .ref (ad 0)), (1, .int x1), (2, .int x2), (3, .int x3), (4, .int v35)] rfl ?_
  exact H20 s34 x1 x2 x3 v35 hf
set_option maxHeartbeats 4000000 in
theorem w_X0_findOdds_b67 {Γ : gG} {ad : Nat → Nat} {u : gX} (X : gCX Γ cX0_findOdds 8 none RX0 rm_X0_findOdds) {k20 : gX → Int32 → Int32 → Int32 → Int32 → Option (gX)} (H20 : ∀ (σ : gX) (x1 : Int32) (x2 : Int32) (x3 : Int32) (x4 : Int32), k20 σ x1 x2 x3 x4 = some u → gW Γ (gMQ Γ (gPv (gEo Γ) (wX (gEo Γ) ad) u (gAo Γ)) 0 0) (wX (gEo Γ) ad σ) 8 0 0 20 [(0, .ref (ad 0)), (1, .int x1), (2, .int x2), (3, .int x3), (4, .int x4)] []) : ∀ (σ : gX) (x1 : Int32) (x2 : Int32) (x4 : Int32) (x5 : Int32) (t0 : Int32) (t1 : Int32), f_X0_findOdds_b67 k20 σ x1 x2 x4 x5 t0 t1 = some u → gW Γ (gMQ Γ (gPv (gEo Γ) (wX (gEo Γ) ad) u (gAo Γ)) 0 0) (wX (gEo Γ) ad σ) 8 0 0 67 [(0, .ref (ad 0)), (1, .int x1), (2, .int x2), (4, .int x4), (5, .int x5)] [.int t0, .int t1] := by
  intro σ x1 x2 x4 x5 t0 t1 hf
  unfold f_X0_findOdds_b67 at hf
  refine g_ior X dX0_findOdds_67 ?_
  refine g_topi hf (fun v32 hf => ?_)
  refine g_istore_n X [(3, .int v32), (0, .ref (ad 0)), (1, .int x1), (2, .int x2), (4, .int x4), (5, .int x5)] dX0_findOdds_68 (by decide) rfl ?_
  refine g_aload_n X 1 dX0_findOdds_69 rfl ?_
  refine g_dup X dX0_findOdds_70 rfl ?_
  refine g_get X in_X0 0 16 rfl rfl (by decide) q196 rfl dX0_findOdds_71 ?_
  refine g_iload X 5 dX0_findOdds_74 rfl ?_
  refine g_if_eq X 85 dX0_findOdds_76 rfl hf (fun hf => ?_) (fun hf => ?_)
  · refine g_lconst X 1 dX0_findOdds_85 rfl ?_
    refine g_sub [1, 2, 3, 0, 4] [(0, .ref (ad 0)), (1, .int x1), (2, .int x2), (3, .int v32), (4, .int x4)] rfl ?_
    exact w_X0_findOdds_b86 X H20 σ x1 x2 v32 x4 1 ((I_allWays (X_xi σ))) hf
  · refine g_ldc2 X dX0_findOdds_79 q702 ?_
    refine g_goto X 86 dX0_findOdds_82 rfl ?_
    refine g_sub [1, 2, 3, 0, 4] [(0, .ref (ad 0)), (1, .int x1), (2, .int x2), (3, .int v32), (4, .int x4)] rfl ?_
    exact w_X0_findOdds_b86 X H20 σ x1 x2 v32 x4 10 ((I_allWays (X_xi σ))) hf
set_option maxHeartbeats 4000000 in
theorem w_X0_findOdds_b51 {Γ : gG} {ad : Nat → Nat} {u : gX} (X : gCX Γ cX0_findOdds 8 none RX0 rm_X0_findOdds) {k20 : gX → Int32 → Int32 → Int32 → Int32 → Option (gX)} (H20 : ∀ (σ : gX) (x1 : Int32) (x2 : Int32) (x3 : Int32) (x4 : Int32), k20 σ x1 x2 x3 x4 = some u → gW Γ (gMQ Γ (gPv (gEo Γ) (wX (gEo Γ) ad) u (gAo Γ)) 0 0) (wX (gEo Γ) ad σ) 8 0 0 20 [(0, .ref (ad 0)), (1, .int x1), (2, .int x2), (3, .int x3), (4, .int x4)] []) : ∀ (σ : gX) (x1 : Int32) (x2 : Int32) (x3 : Int32) (x4 : Int32) (t0 : Int32), f_X0_findOdds_b51 k20 σ x1 x2 x3 x4 t0 = some u → gW Γ (gMQ Γ (gPv (gEo Γ) (wX (gEo Γ) ad) u (gAo Γ)) 0 0) (wX (gEo Γ) ad σ) 8 0 0 51 [(0, .ref (ad 0)), (1, .int x1), (2, .int x2), (3, .int x3), (4, .int x4)] [.int t0] := by
  intro σ x1 x2 x3 x4 t0 hf
  unfold f_X0_findOdds_b51 at hf
  refine g_istore X [(5, .int t0), (0, .ref (ad 0)), (1, .int x1), (2, .int x2), (3, .int x3), (4, .int x4)] dX0_findOdds_51 (by decide) rfl ?_
  refine g_iload_n X 4 dX0_findOdds_53 rfl ?_
  refine g_iload X 0 dX0_findOdds_54 rfl ?_
  refine g_if_eq X 66 dX0_findOdds_56 rfl hf (fun hf => ?_) (fun hf => ?_)
  · refine g_iconst X 0 dX0_findOdds_66 rfl ?_
    refine g_sub [1, 2, 3, 5, 0] [(0, .ref (ad 0)), (1, .int x1), (2, .int x2), (4, .int x4), (5, .int t0)] rfl ?_
    exact w_X0_findOdds_b67 X H20 σ x1 x2 x4 t0 0 x3 hf
  · refine g_iconst X 1 dX0_findOdds_59 rfl ?_
    refine g_iload X 5 dX0_findOdds_60 rfl ?_
    refine g_ishl X dX0_findOdds_62 ?_
    refine g_goto X 67 dX0_findOdds_63 rfl ?_
    refine g_sub [1, 2, 3, 5, 0] [(0, .ref (ad 0)), (1, .int x1), (2, .int x2), (4, .int x4), (5, .int t0)] rfl ?_
    exact w_X0_findOdds_b67 X H20 σ x1 x2 x4 t0 ((1 : Int32) <<< (x4 &&& 31)) x3 hf
set_option maxHeartbeats 4000000 in
theorem w_X0_findOdds_b175 {Γ : gG} {ad : Nat → Nat} {u : gX} (X : gCX Γ cX0_findOdds 8 none RX0 rm_X0_findOdds) {k99 : gX → Int32 → Int32 → Int32 → Int32 → Option (gX)} (H99 : ∀ (σ : gX) (x1 : Int32) (x2 : Int32) (x3 : Int32) (x4 : Int32), k99 σ x1 x2 x3 x4 = some u → gW Γ (gMQ Γ (gPv (gEo Γ) (wX (gEo Γ) ad) u (gAo Γ)) 0 0) (wX (gEo Γ) ad σ) 8 0 0 99 [(0, .ref (ad 0)), (1, .int x1), (2, .int x2), (3, .int x3), (4, .int x4)] []) {k128 : gX → Int32 → Int32 → Int32 → Int32 → Int64 → Int32 → Option (gX)} (H128 : ∀ (σ : gX) (x1 : Int32) (x2 : Int32) (x3 : Int32) (x4 : Int32) (x5 : Int64) (x7 : Int32), k128 σ x1 x2 x3 x4 x5 x7 = some u → gW Γ (gMQ Γ (gPv (gEo Γ) (wX (gEo Γ) ad) u (gAo Γ)) 0 0) (wX (gEo Γ) ad σ) 8 0 0 128 [(0, .ref (ad 0)), (1, .int x1), (2, .int x2), (3, .int x3), (4, .int x4), (5, .long x5), (7, .int x7)] []) : ∀ (σ : gX) (x1 : Int32) (x2 : Int32) (x3 : Int32) (x4 : Int32) (x7 : Int32) (t0 : Int64) (t1 : Int64), f_X0_findOdds_b175 k99 k128 σ x1 x2 x3 x4 x7 t0 t1 = some u → gW Γ (gMQ Γ (gPv (gEo Γ) (wX (gEo Γ) ad) u (gAo Γ)) 0 0) (wX (gEo Γ) ad σ) 8 0 0 175 [(0, .ref (ad 0)), (1, .int x1), (2, .int x2), (3, .int x3), (4, .int x4), (7, .int x7)] [.long t0, .long t1] := by
  intro σ x1 x2 x3 x4 x7 t0 t1 hf
  unfold f_X0_findOdds_b175 at hf
  refine g_lmul X dX0_findOdds_175 ?_
  refine g_topl hf (fun v30 hf => ?_)
  refine g_lstore X [(5, .long v30), (0, .ref (ad 0)), (1, .int x1), (2, .int x2), (3, .int x3), (4, .int x4), (7, .int x7)] dX0_findOdds_176 (by decide) rfl ?_
  refine g_iincV X 1 6 (fun v31 => [(7, .int v31), (5, .long v30), (0, .ref (ad 0)), (1, .int x1), (2, .int x2), (3, .int x3), (4, .int x4)]) dX0_findOdds_178 rfl rfl (by decide) (fun _ => rfl) hf (fun v31 hf => ?_)
  refine g_goto X 128 dX0_findOdds_181 rfl ?_
  refine g_sub [2, 3, 4, 5, 6, 1, 0] [(0, .ref (ad 0)), (1, .int x1), (2, .int x2), (3, .int x3), (4, .int x4), (5, .long v30), (7, .int v31)] rfl ?_
  exact H128 σ x1 x2 x3 x4 v30 v31 hf
set_option maxHeartbeats 4000000 in
theorem w_X0_findOdds_b257 {Γ : gG} {ad : Nat → Nat} {u : gX} (X : gCX Γ cX0_findOdds 8 none RX0 rm_X0_findOdds) {k99 : gX → Int32 → Int32 → Int32 → Int32 → Option (gX)} (H99 : ∀ (σ : gX) (x1 : Int32) (x2 : Int32) (x3 : Int32) (x4 : Int32), k99 σ x1 x2 x3 x4 = some u → gW Γ (gMQ Γ (gPv (gEo Γ) (wX (gEo Γ) ad) u (gAo Γ)) 0 0) (wX (gEo Γ) ad σ) 8 0 0 99 [(0, .ref (ad 0)), (1, .int x1), (2, .int x2), (3, .int x3), (4, .int x4)] []) : ∀ (σ : gX) (x1 : Int32) (x2 : Int32) (x3 : Int32) (x4 : Int32), f_X0_findOdds_b257 k99 σ x1 x2 x3 x4 = some u → gW Γ (gMQ Γ (gPv (gEo Γ) (wX (gEo Γ) ad) u (gAo Γ)) 0 0) (wX (gEo Γ) ad σ) 8 0 0 257 [(0, .ref (ad 0)), (1, .int x1), (2, .int x2), (3, .int x3), (4, .int x4)] [] := by
  intro σ x1 x2 x3 x4 hf
  unfold f_X0_findOdds_b257 at hf
  refine g_iincV X 1 4 (fun v29 => [(4, .int v29), (0, .ref (ad 0)), (1, .int x1), (2, .int x2), (3, .int x3)]) dX0_findOdds_257 rfl rfl (by decide) (fun _ => rfl) hf (fun v29 hf => ?_)
  refine g_goto X 99 dX0_findOdds_260 rfl ?_
  refine g_sub [1, 2, 3, 4, 0] [(0, .ref (ad 0)), (1, .int x1), (2, .int x2), (3, .int x3), (4, .int v29)] rfl ?_
  exact H99 σ x1 x2 x3 v29 hf
set_option maxHeartbeats 4000000 in
theorem w_X0_findOdds_b230 {Γ : gG} {ad : Nat → Nat} {u : gX} (X : gCX Γ cX0_findOdds 8 none RX0 rm_X0_findOdds) {k99 : gX → Int32 → Int32 → Int32 → Int32 → Option (gX)} (H99 : ∀ (σ : gX) (x1 : Int32) (x2 : Int32) (x3 : Int32) (x4 : Int32), k99 σ x1 x2 x3 x4 = some u → gW Γ (gMQ Γ (gPv (gEo Γ) (wX (gEo Γ) ad) u (gAo Γ)) 0 0) (wX (gEo Γ) ad σ) 8 0 0 99 [(0, .ref (ad 0)), (1, .int x1), (2, .int x2), (3, .int x3), (4, .int x4)] []) : ∀ (σ : gX) (x1 : Int32) (x2 : Int32) (x3 : Int32) (x4 : Int32) (x5 : Int64) (t0 : Int64) (t1 : Int64), f_X0_findOdds_b230 k99 σ x1 x2 x3 x4 x5 t0 t1 = some u → gW Γ (gMQ Γ (gPv (gEo Γ) (wX (gEo Γ) ad) u (gAo Γ)) 0 0) (wX (gEo Γ) ad σ) 8 0 0 230 [(0, .ref (ad 0)), (1, .int x1), (2, .int x2), (3, .int x3), (4, .int x4), (5, .long x5)] [.long t0, .long t1, .ref (ad 0)] := by
  intro σ x1 x2 x3 x4 x5 t0 t1 hf
  unfold f_X0_findOdds_b230 at hf
  refine g_ladd X dX0_findOdds_230 ?_
  refine g_topl hf (fun v20 hf => ?_)
  refine g_put X in_X0 tyX0_ok nmX0 0 14 (wX (gEo Γ) ad (X_xi_s σ (I_goneSum_s (X_xi σ) v20))) rfl rfl (by decide) q194 rfl rfl rfl rfl (Nat.le_of_ble_eq_true rfl) rfl dX0_findOdds_231 ?_
  refine g_gs (wX (gEo Γ) ad) hf (fun s21 hf => ?_)
  refine g_aload_n X 0 dX0_findOdds_234 rfl ?_
  refine g_dup X dX0_findOdds_235 rfl ?_
  refine g_get X in_X0 0 15 rfl rfl (by decide) q195 rfl dX0_findOdds_236 ?_
  refine g_lload X 5 dX0_findOdds_239 rfl ?_
  refine g_aload_n X 0 dX0_findOdds_241 rfl ?_
  refine g_get X in_X0 0 2 rfl rfl (by decide) q181 rfl dX0_findOdds_242 ?_
  refine g_callVi X 0 (As := []) (wfc := wS (gEo Γ) (fun i => ad (i + 10))) (lw_V q661 q662 q663 q65 q664) (by decide +kernel) (fun r_ u_ h_ sz_ => m_X5_gone (gl Γ) (gEo Γ) (fun i => ad (i + 10)) (X_tried s21) r_ u_ h_ sz_) (rq := 0) rfl rfl rfl rfl rfl ⟨by decide, by decide⟩ rfl (Nat.le_of_ble_eq_true rfl) ⟨Nat.zero_le _, Nat.zero_le _⟩ [10, 11, 12, 13] [0, 1, 2, 3, 4, 5, 6, 7, 8, 9, 14, 15, 16, 17, 18, 19, 20, 21, 22, 23, 24, 25, 26, 27, 28, 29, 30] [0, 1, 2, 3, 4, 5, 6, 7, 8, 9, 27, 28, 29, 30, 10, 11, 12, 13, 14, 15, 16, 17, 18, 19, 20, 21, 22, 23, 24, 25, 26] (fun u23 => wX (gEo Γ) ad (X_tried_s s21 u23)) rfl rfl rfl rfl (by decide) rfl (fun _ => rfl) dX0_findOdds_245 hf (fun r22 u23 _ hf => ?_)
  refine g_gs (wX (gEo Γ) ad) hf (fun s24 hf => ?_)
  refine g_call0i X 1 (As := [.int r22]) (lw_S q665 q666 q78 q667) (by decide +kernel) (fun r_ u_ h_ sz_ => m_J7_bitCount (gl Γ) (gEo Γ) r22 r_ u_ h_ sz_) rfl rfl ⟨by decide, by decide⟩ rfl (Nat.le_of_ble_eq_true rfl) ⟨Nat.zero_le _, Nat.zero_le _⟩ dX0_findOdds_248 hf (fun r25 _ hf => ?_)
  refine g_i2l X dX0_findOdds_251 ?_
  refine g_lmul X dX0_findOdds_252 ?_
  refine g_ladd X dX0_findOdds_253 ?_
  refine g_topl hf (fun v27 hf => ?_)
  refine g_put X in_X0 tyX0_ok nmX0 0 15 (wX (gEo Γ) ad (X_xi_s s24 (I_manySum_s (X_xi s24) v27))) rfl rfl (by decide) q195 rfl rfl rfl rfl (Nat.le_of_ble_eq_true rfl) rfl dX0_findOdds_254 ?_
  refine g_gs (wX (gEo Γ) ad) hf (fun s28 hf => ?_)
  refine g_sub [0, 1, 2, 3, 4] [(0, .ref (ad 0)), (1, .int x1), (2, .int x2), (3, .int x3), (4, .int x4)] rfl ?_
  exact w_X0_findOdds_b257 X H99 s28 x1 x2 x3 x4 hf
set_option maxHeartbeats 4000000 in
theorem w_X0_findOdds_b128 {Γ : gG} {ad : Nat → Nat} {u : gX} (X : gCX Γ cX0_findOdds 8 none RX0 rm_X0_findOdds) {k99 : gX → Int32 → Int32 → Int32 → Int32 → Option (gX)} (H99 : ∀ (σ : gX) (x1 : Int32) (x2 : Int32) (x3 : Int32) (x4 : Int32), k99 σ x1 x2 x3 x4 = some u → gW Γ (gMQ Γ (gPv (gEo Γ) (wX (gEo Γ) ad) u (gAo Γ)) 0 0) (wX (gEo Γ) ad σ) 8 0 0 99 [(0, .ref (ad 0)), (1, .int x1), (2, .int x2), (3, .int x3), (4, .int x4)] []) : ∀ (n_ : Nat) (σ : gX) (x1 : Int32) (x2 : Int32) (x3 : Int32) (x4 : Int32) (x5 : Int64) (x7 : Int32), f_X0_findOdds_b128 k99 n_ σ x1 x2 x3 x4 x5 x7 = some u → gW Γ (gMQ Γ (gPv (gEo Γ) (wX (gEo Γ) ad) u (gAo Γ)) 0 0) (wX (gEo Γ) ad σ) 8 0 0 128 [(0, .ref (ad 0)), (1, .int x1), (2, .int x2), (3, .int x3), (4, .int x4), (5, .long x5), (7, .int x7)] [] := by
  intro n_
  induction n_ with
  | zero => intro σ x1 x2 x3 x4 x5 x7 hf; cases hf
  | succ n_ ih =>
    intro σ x1 x2 x3 x4 x5 x7 hf
    simp only [f_X0_findOdds_b128] at hf
    refine g_iload X 6 dX0_findOdds_128 rfl ?_
    refine g_aload_n X 0 dX0_findOdds_130 rfl ?_
    refine g_get X in_X0 0 1 rfl rfl (by decide) q180 rfl dX0_findOdds_131 ?_
    refine g_getN X in_X5 6 6 rfl rfl (by decide) 5 rfl rfl dX0_findOdds_134 ?_
    refine g_icmp_ge X 184 dX0_findOdds_137 rfl hf (fun hf => ?_) (fun hf => ?_)
    · refine g_aload_n X 0 dX0_findOdds_184 rfl ?_
      refine g_get X in_X0 0 2 rfl rfl (by decide) q181 rfl dX0_findOdds_185 ?_
      refine g_aload_n X 0 dX0_findOdds_188 rfl ?_
      refine g_get X in_X0 0 1 rfl rfl (by decide) q180 rfl dX0_findOdds_189 ?_
      refine g_callVv X 1 (As := [.ref (ad 6)]) (wfc := wSS (gEo Γ) (fun i => ad ([10, 11, 12, 13, 6, 7, 8, 9].getD i 0))) (lw_V q486 q487 q488 q65 q489) (by decide +kernel) (fun u_ h_ sz_ => m_X5_as (gl Γ) (gEo Γ) (fun i => ad ([10, 11, 12, 13, 6, 7, 8, 9].getD i 0)) ((X_tried σ), (X_now σ)) u_ h_ sz_) (rq := 0) rfl rfl rfl rfl rfl ⟨by decide, by decide⟩ rfl (Nat.le_of_ble_eq_true rfl) ⟨Nat.zero_le _, Nat.zero_le _⟩ [10, 11, 12, 13, 6, 7, 8, 9] [0, 1, 2, 3, 4, 5, 14, 15, 16, 17, 18, 19, 20, 21, 22, 23, 24, 25, 26, 27, 28, 29, 30] [0, 1, 2, 3, 4, 5, 27, 28, 29, 30, 23, 24, 25, 26, 6, 7, 8, 9, 10, 11, 12, 13, 14, 15, 16, 17, 18, 19, 20, 21, 22] (fun u6 => wX (gEo Γ) ad (X_now_s (X_tried_s σ u6.1) u6.2)) rfl rfl rfl rfl (by decide) rfl (fun _ => rfl) dX0_findOdds_192 hf (fun u6 _ hf => ?_)
      refine g_gs (wX (gEo Γ) ad) hf (fun s7 hf => ?_)
      refine g_aload_n X 0 dX0_findOdds_195 rfl ?_
      refine g_aload_n X 0 dX0_findOdds_196 rfl ?_
      refine g_get X in_X0 0 2 rfl rfl (by decide) q181 rfl dX0_findOdds_197 ?_
      refine g_iload X 4 dX0_findOdds_200 rfl ?_
      refine g_callVv X 2 (As := [.ref (ad 10), .int x4]) (wfc := wA (gEo Γ) (fun i => ad ([0, 1, 2, 3, 4, 5, 10, 11, 12, 13, 6, 10, 14, 23, 24, 25, 26].getD i 0))) (lw_V q675 q677 qs17 q60 q678) (by decide +kernel) (fun u_ h_ sz_ => m_X0_goes (gl Γ) (gEo Γ) (fun i => ad ([0, 1, 2, 3, 4, 5, 10, 11, 12, 13, 6, 10, 14, 23, 24, 25, 26].getD i 0)) ((X_xi s7), (X_tried s7)) x4 u_ h_ sz_) (rq := 0) rfl rfl rfl rfl rfl ⟨by decide, by decide⟩ rfl (Nat.le_of_ble_eq_true rfl) ⟨Nat.zero_le _, Nat.zero_le _⟩ [0, 1, 2, 3, 4, 5, 10, 11, 12, 13] [6, 7, 8, 9, 14, 15, 16, 17, 18, 19, 20, 21, 22, 23, 24, 25, 26, 27, 28, 29, 30] [21, 22, 23, 24, 25, 26, 0, 1, 2, 3, 27, 28, 29, 30, 4, 5, 6, 7, 8, 9, 10, 11, 12, 13, 14, 15, 16, 17, 18, 19, 20] (fun u9 => wX (gEo Γ) ad (X_tried_s (X_xi_s s7 u9.1) u9.2)) rfl rfl rfl rfl (by decide) rfl (fun _ => rfl) dX0_findOdds_202 hf (fun u9 _ hf => ?_)
      refine g_gs (wX (gEo Γ) ad) hf (fun s10 hf => ?_)
      refine g_aload_n X 0 dX0_findOdds_205 rfl ?_
      refine g_dup X dX0_findOdds_206 rfl ?_
      refine g_get X in_X0 0 14 rfl rfl (by decide) q194 rfl dX0_findOdds_207 ?_
      refine g_aload_n X 0 dX0_findOdds_210 rfl ?_
      refine g_get X in_X0 0 2 rfl rfl (by decide) q181 rfl dX0_findOdds_211 ?_
      refine g_callVi X 0 (As := []) (wfc := wS (gEo Γ) (fun i => ad (i + 10))) (lw_V q661 q662 q663 q65 q664) (by decide +kernel) (fun r_ u_ h_ sz_ => m_X5_gone (gl Γ) (gEo Γ) (fun i => ad (i + 10)) (X_tried s10) r_ u_ h_ sz_) (rq := 0) rfl rfl rfl rfl rfl ⟨by decide, by decide⟩ rfl (Nat.le_of_ble_eq_true rfl) ⟨Nat.zero_le _, Nat.zero_le _⟩ [10, 11, 12, 13] [0, 1, 2, 3, 4, 5, 6, 7, 8, 9, 14, 15, 16, 17, 18, 19, 20, 21, 22, 23, 24, 25, 26, 27, 28, 29, 30] [0, 1, 2, 3, 4, 5, 6, 7, 8, 9, 27, 28, 29, 30, 10, 11, 12, 13, 14, 15, 16, 17, 18, 19, 20, 21, 22, 23, 24, 25, 26] (fun u12 => wX (gEo Γ) ad (X_tried_s s10 u12)) rfl rfl rfl rfl (by decide) rfl (fun _ => rfl) dX0_findOdds_214 hf (fun r11 u12 _ hf => ?_)
      refine g_gs (wX (gEo Γ) ad) hf (fun s13 hf => ?_)
      refine g_iload_n X 2 dX0_findOdds_217 rfl ?_
      refine g_call0i X 2 (As := [.int r11, .int x2]) (lw_S q628 q460 q60 q461) (by decide +kernel) (fun r_ u_ h_ sz_ => m_X0_has (gl Γ) (gEo Γ) r11 x2 r_ u_ h_ sz_) rfl rfl ⟨by decide, by decide⟩ rfl (Nat.le_of_ble_eq_true rfl) ⟨Nat.zero_le _, Nat.zero_le _⟩ dX0_findOdds_218 hf (fun r14 _ hf => ?_)
      refine g_if_eq X 229 dX0_findOdds_221 rfl hf (fun hf => ?_) (fun hf => ?_)
      · refine g_lconst X 0 dX0_findOdds_229 rfl ?_
        refine g_sub [0, 1, 2, 3, 4, 5] [(0, .ref (ad 0)), (1, .int x1), (2, .int x2), (3, .int x3), (4, .int x4), (5, .long x5)] rfl ?_
        exact w_X0_findOdds_b230 X H99 s13 x1 x2 x3 x4 x5 0 ((I_goneSum (X_xi s10))) hf
      · refine g_lload X 5 dX0_findOdds_224 rfl ?_
        refine g_goto X 230 dX0_findOdds_226 rfl ?_
        refine g_sub [0, 1, 2, 3, 4, 5] [(0, .ref (ad 0)), (1, .int x1), (2, .int x2), (3, .int x3), (4, .int x4), (5, .long x5)] rfl ?_
        exact w_X0_findOdds_b230 X H99 s13 x1 x2 x3 x4 x5 x5 ((I_goneSum (X_xi s10))) hf
    · refine g_lload X 5 dX0_findOdds_140 rfl ?_
      refine g_iload_n X 3 dX0_findOdds_142 rfl ?_
      refine g_iload X 6 dX0_findOdds_143 rfl ?_
      refine g_call0i X 2 (As := [.int x3, .int x7]) (lw_S q628 q460 q60 q461) (by decide +kernel) (fun r_ u_ h_ sz_ => m_X0_has (gl Γ) (gEo Γ) x3 x7 r_ u_ h_ sz_) rfl rfl ⟨by decide, by decide⟩ rfl (Nat.le_of_ble_eq_true rfl) ⟨Nat.zero_le _, Nat.zero_le _⟩ dX0_findOdds_145 hf (fun r16 _ hf => ?_)
      refine g_if_ne X 155 dX0_findOdds_148 rfl hf (fun hf => ?_) (fun hf => ?_)
      · refine g_iload X 4 dX0_findOdds_155 rfl ?_
        refine g_iload X 6 dX0_findOdds_157 rfl ?_
        refine g_call0i X 2 (As := [.int x4, .int x7]) (lw_S q628 q460 q60 q461) (by decide +kernel) (fun r_ u_ h_ sz_ => m_X0_has (gl Γ) (gEo Γ) x4 x7 r_ u_ h_ sz_) rfl rfl ⟨by decide, by decide⟩ rfl (Nat.le_of_ble_eq_true rfl) ⟨Nat.zero_le _, Nat.zero_le _⟩ dX0_findOdds_159 hf (fun r18 _ hf => ?_)
        refine g_if_eq X 170 dX0_findOdds_162 rfl hf (fun hf => ?_) (fun hf => ?_)
        · refine g_bipush X 10 dX0_findOdds_170 rfl ?_
          refine g_iload_n X 1 dX0_findOdds_172 rfl ?_
          refine g_isub X dX0_findOdds_173 ?_
          refine g_i2l X dX0_findOdds_174 ?_
          refine g_sub [0, 1, 2, 3, 4, 6] [(0, .ref (ad 0)), (1, .int x1), (2, .int x2), (3, .int x3), (4, .int x4), (7, .int x7)] rfl ?_
          exact w_X0_findOdds_b175 X H99 ih σ x1 x2 x3 x4 x7 (((10 : Int32) - x1).toInt64) x5 hf
        · refine g_iload_n X 1 dX0_findOdds_165 rfl ?_
          refine g_i2l X dX0_findOdds_166 ?_
          refine g_goto X 175 dX0_findOdds_167 rfl ?_
          refine g_sub [0, 1, 2, 3, 4, 6] [(0, .ref (ad 0)), (1, .int x1), (2, .int x2), (3, .int x3), (4, .int x4), (7, .int x7)] rfl ?_
          exact w_X0_findOdds_b175 X H99 ih σ x1 x2 x3 x4 x7 (x1.toInt64) x5 hf
      · refine g_lconst X 1 dX0_findOdds_151 rfl ?_
        refine g_goto X 175 dX0_findOdds_152 rfl ?_
        refine g_sub [0, 1, 2, 3, 4, 6] [(0, .ref (ad 0)), (1, .int x1), (2, .int x2), (3, .int x3), (4, .int x4), (7, .int x7)] rfl ?_
        exact w_X0_findOdds_b175 X H99 ih σ x1 x2 x3 x4 x7 1 x5 hf
set_option maxHeartbeats 4000000 in
theorem w_X0_findOdds_b99 {Γ : gG} {ad : Nat → Nat} {u : gX} (X : gCX Γ cX0_findOdds 8 none RX0 rm_X0_findOdds) : ∀ (n_ : Nat) (σ : gX) (x1 : Int32) (x2 : Int32) (x3 : Int32) (x4 : Int32), f_X0_findOdds_b99 n_ σ x1 x2 x3 x4 = some u → gW Γ (gMQ Γ (gPv (gEo Γ) (wX (gEo Γ) ad) u (gAo Γ)) 0 0) (wX (gEo Γ) ad σ) 8 0 0 99 [(0, .ref (ad 0)), (1, .int x1), (2, .int x2), (3, .int x3), (4, .int x4)] [] := by
  intro n_
  induction n_ with
  | zero => intro σ x1 x2 x3 x4 hf; cases hf
  | succ n_ ih =>
    intro σ x1 x2 x3 x4 hf
    simp only [f_X0_findOdds_b99] at hf
    refine g_iload X 4 dX0_findOdds_99 rfl ?_
    refine g_iconst X 1 dX0_findOdds_101 rfl ?_
    refine g_aload_n X 0 dX0_findOdds_102 rfl ?_
    refine g_get X in_X0 0 1 rfl rfl (by decide) q180 rfl dX0_findOdds_103 ?_
    refine g_getN X in_X5 6 6 rfl rfl (by decide) 5 rfl rfl dX0_findOdds_106 ?_
    refine g_ishl X dX0_findOdds_109 ?_
    refine g_icmp_ge X 263 dX0_findOdds_110 rfl hf (fun hf => ?_) (fun hf => ?_)
    · exact g_vret X rfl dX0_findOdds_263 hf
    · refine g_iload X 4 dX0_findOdds_113 rfl ?_
      refine g_iload_n X 3 dX0_findOdds_115 rfl ?_
      refine g_iconst X (-1) dX0_findOdds_116 rfl ?_
      refine g_ixor X dX0_findOdds_117 ?_
      refine g_iand X dX0_findOdds_118 ?_
      refine g_if_ne X 257 dX0_findOdds_119 rfl hf (fun hf => ?_) (fun hf => ?_)
      · exact w_X0_findOdds_b257 X ih σ x1 x2 x3 x4 hf
      · refine g_lconst X 1 dX0_findOdds_122 rfl ?_
        refine g_lstore X [(5, .long 1), (0, .ref (ad 0)), (1, .int x1), (2, .int x2), (3, .int x3), (4, .int x4)] dX0_findOdds_123 (by decide) rfl ?_
        refine g_iconst X 0 dX0_findOdds_125 rfl ?_
        refine g_istore X [(7, .int 0), (5, .long 1), (0, .ref (ad 0)), (1, .int x1), (2, .int x2), (3, .int x3), (4, .int x4)] dX0_findOdds_126 (by decide) rfl ?_
        refine g_sub [2, 3, 4, 5, 6, 1, 0] [(0, .ref (ad 0)), (1, .int x1), (2, .int x2), (3, .int x3), (4, .int x4), (5, .long 1), (7, .int 0)] rfl ?_
        exact w_X0_findOdds_b128 X ih 2000 σ x1 x2 x3 x4 1 0 hf
set_option maxHeartbeats 4000000 in
theorem w_X0_findOdds_b20 {Γ : gG} {ad : Nat → Nat} {u : gX} (X : gCX Γ cX0_findOdds 8 none RX0 rm_X0_findOdds) : ∀ (n_ : Nat) (σ : gX) (x1 : Int32) (x2 : Int32) (x3 : Int32) (x4 : Int32), f_X0_findOdds_b20 n_ σ x1 x2 x3 x4 = some u → gW Γ (gMQ Γ (gPv (gEo Γ) (wX (gEo Γ) ad) u (gAo Γ)) 0 0) (wX (gEo Γ) ad σ) 8 0 0 20 [(0, .ref (ad 0)), (1, .int x1), (2, .int x2), (3, .int x3), (4, .int x4)] [] := by
  intro n_
  induction n_ with
  | zero => intro σ x1 x2 x3 x4 hf; cases hf
  | succ n_ ih =>
    intro σ x1 x2 x3 x4 hf
    simp only [f_X0_findOdds_b20] at hf
    refine g_iload X 4 dX0_findOdds_20 rfl ?_
    refine g_aload_n X 0 dX0_findOdds_22 rfl ?_
    refine g_get X in_X0 0 1 rfl rfl (by decide) q180 rfl dX0_findOdds_23 ?_
    refine g_getN X in_X5 6 6 rfl rfl (by decide) 5 rfl rfl dX0_findOdds_26 ?_
    refine g_icmp_ge X 96 dX0_findOdds_29 rfl hf (fun hf => ?_) (fun hf => ?_)
    · refine g_iconst X 0 dX0_findOdds_96 rfl ?_
      refine g_istore X [(4, .int 0), (0, .ref (ad 0)), (1, .int x1), (2, .int x2), (3, .int x3)] dX0_findOdds_97 (by decide) rfl ?_
      refine g_sub [1, 2, 3, 4, 0] [(0, .ref (ad 0)), (1, .int x1), (2, .int x2), (3, .int x3), (4, .int 0)] rfl ?_
      exact w_X0_findOdds_b99 X 2000 σ x1 x2 x3 0 hf
    · refine g_aload_n X 0 dX0_findOdds_32 rfl ?_
      refine g_get X in_X0 0 1 rfl rfl (by decide) q180 rfl dX0_findOdds_33 ?_
      refine g_getN X in_X5 6 7 rfl rfl (by decide) 6 rfl rfl dX0_findOdds_36 ?_
      refine g_iload X 4 dX0_findOdds_39 rfl ?_
      refine g_bald X 9 rfl dX0_findOdds_41 hf (fun v4 hf => ?_)
      refine g_iconst X 5 dX0_findOdds_42 rfl ?_
      refine g_icmp_ge X 50 dX0_findOdds_43 rfl hf (fun hf => ?_) (fun hf => ?_)
      · refine g_iconst X 0 dX0_findOdds_50 rfl ?_
        exact w_X0_findOdds_b51 X ih σ x1 x2 x3 x4 0 hf
      · refine g_iconst X 1 dX0_findOdds_46 rfl ?_
        refine g_goto X 51 dX0_findOdds_47 rfl ?_
        exact w_X0_findOdds_b51 X ih σ x1 x2 x3 x4 1 hf
set_option maxHeartbeats 4000000 in
theorem m_X0_findOdds (l : Launch) (E : gE) (ad : Nat → Nat) (σ : gX) (x1 : Int32) (x2 : Int32) (u : gX) (hf : f_X0_findOdds σ x1 x2 = some u) (sz : Nat) : Met l yX0_findOdds (ws_ yX0_findOdds cX0_findOdds 8 none) rm_X0_findOdds (gPc [.ref (ad 0), .int x1, .int x2] E (wX E ad σ) sz) (gPv E (wX E ad) u (va_A (wX E ad σ) sz)) 0 0 (va_A (wX E ad σ) sz) := by
  refine gMet (Qc := gPv E (wX E ad) u) (by decide) (Nat.le_of_ble_eq_true rfl) (fun Γ X hl hE => ?_)
  subst hl; subst hE
  unfold f_X0_findOdds at hf
  show gW Γ (gMQ Γ (gPv (gEo Γ) (wX (gEo Γ) ad) u (gAo Γ)) 0 0) (wX (gEo Γ) ad σ) 8 0 0 0 [(0, .ref (ad 0)), (1, .int x1), (2, .int x2)] []
  refine g_iconst X 0 dX0_findOdds_0 rfl ?_
  refine g_istore_n X [(3, .int 0), (0, .ref (ad 0)), (1, .int x1), (2, .int x2)] dX0_findOdds_1 (by decide) rfl ?_
  refine g_aload_n X 1 dX0_findOdds_2 rfl ?_
  refine g_lconst X 0 dX0_findOdds_3 rfl ?_
  refine g_put X in_X0 tyX0_ok nmX0 0 14 (wX (gEo Γ) ad (X_xi_s σ (I_goneSum_s (X_xi σ) 0))) rfl rfl (by decide) q194 rfl rfl rfl rfl (Nat.le_of_ble_eq_true rfl) rfl dX0_findOdds_4 ?_
  refine g_gs (wX (gEo Γ) ad) hf (fun s1 hf => ?_)
  refine g_aload_n X 1 dX0_findOdds_7 rfl ?_
  refine g_lconst X 0 dX0_findOdds_8 rfl ?_
  refine g_put X in_X0 tyX0_ok nmX0 0 15 (wX (gEo Γ) ad (X_xi_s s1 (I_manySum_s (X_xi s1) 0))) rfl rfl (by decide) q195 rfl rfl rfl rfl (Nat.le_of_ble_eq_true rfl) rfl dX0_findOdds_9 ?_
  refine g_gs (wX (gEo Γ) ad) hf (fun s2 hf => ?_)
  refine g_aload_n X 1 dX0_findOdds_12 rfl ?_
  refine g_lconst X 1 dX0_findOdds_13 rfl ?_
  refine g_put X in_X0 tyX0_ok nmX0 0 16 (wX (gEo Γ) ad (X_xi_s s2 (I_allWays_s (X_xi s2) 1))) rfl rfl (by decide) q196 rfl rfl rfl rfl (Nat.le_of_ble_eq_true rfl) rfl dX0_findOdds_14 ?_
  refine g_gs (wX (gEo Γ) ad) hf (fun s3 hf => ?_)
  refine g_iconst X 0 dX0_findOdds_17 rfl ?_
  refine g_istore X [(4, .int 0), (3, .int 0), (0, .ref (ad 0)), (1, .int x1), (2, .int x2)] dX0_findOdds_18 (by decide) rfl ?_
  refine g_sub [2, 3, 4, 1, 0] [(0, .ref (ad 0)), (1, .int x1), (2, .int x2), (3, .int 0), (4, .int 0)] rfl ?_
  exact w_X0_findOdds_b20 X 2000 s3 x1 x2 0 0 hf
