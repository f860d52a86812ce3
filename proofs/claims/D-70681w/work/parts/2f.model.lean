set_option maxRecDepth 100000
def f_X7_powerOf_b4 : Nat → Unit → Int32 → Int32 → Int32 → Int32 → Option (Int32 × Unit)
  | 0 => fun _ _ _ _ _ => none
  | n_ + 1 => fun σ x0 x1 x2 x3 =>
    if x1 ≤ x3 then (some (x2, ())) else (gv (x2 * x0) fun v1 => gv (x3 + 1) fun v2 => (f_X7_powerOf_b4 n_) () x0 x1 v1 v2)
def f_X7_powerOf (x0 : Int32) (x1 : Int32) : Option (Int32 × Unit) :=
  f_X7_powerOf_b4 2000 () x0 x1 1 0
abbrev rm_X7_powerOf : Room := { frames := 1, cells := 0, slots := 0, locals := 12 }
set_option maxHeartbeats 4000000 in
theorem w_X7_powerOf_b4 {Γ : gG} {r : Int32} {u : Unit} (X : gCX Γ cX7_powerOf 4 (some .int) RX7 rm_X7_powerOf) : ∀ (n_ : Nat) (σ : Unit) (x0 : Int32) (x1 : Int32) (x2 : Int32) (x3 : Int32), f_X7_powerOf_b4 n_ σ x0 x1 x2 x3 = some (r, u) → gW Γ (gMQ Γ (gPi (gEo Γ) (fun _ => []) r u (gAo Γ)) 0 0) [] 4 0 0 4 [(0, .int x0), (1, .int x1), (2, .int x2), (3, .int x3)] [] := by
  intro n_
  induction n_ with
  | zero => intro σ x0 x1 x2 x3 hf; cases hf
  | succ n_ ih =>
    intro σ x0 x1 x2 x3 hf
    simp only [f_X7_powerOf_b4] at hf
    refine g_iload_n X 3 dX7_powerOf_4 rfl ?_
    refine g_iload_n X 1 dX7_powerOf_5 rfl ?_
    refine g_icmp_ge X 19 dX7_powerOf_6 rfl hf (fun hf => ?_) (fun hf => ?_)
    · refine g_iload_n X 2 dX7_powerOf_19 rfl ?_
      exact g_iret X rfl dX7_powerOf_20 hf
    · refine g_iload_n X 2 dX7_powerOf_9 rfl ?_
      refine g_iload_n X 0 dX7_powerOf_10 rfl ?_
      refine g_imul X dX7_powerOf_11 ?_
      refine g_topi hf (fun v1 hf => ?_)
      refine g_istore_n X [(2, .int v1), (0, .int x0), (1, .int x1), (3, .int x3)] dX7_powerOf_12 (by decide) rfl ?_
      refine g_iincV X 1 3 (fun v2 => [(3, .int v2), (2, .int v1), (0, .int x0), (1, .int x1)]) dX7_powerOf_13 rfl rfl (by decide) (fun _ => rfl) hf (fun v2 hf => ?_)
      refine g_goto X 4 dX7_powerOf_16 rfl ?_
      refine g_sub [2, 3, 1, 0] [(0, .int x0), (1, .int x1), (2, .int v1), (3, .int v2)] rfl ?_
      exact ih () x0 x1 v1 v2 hf
set_option maxHeartbeats 4000000 in
theorem m_X7_powerOf (l : Launch) (E : gE) (x0 : Int32) (x1 : Int32) (r : Int32) (u : Unit) (hf : f_X7_powerOf x0 x1 = some (r, u)) (sz : Nat) : Met l yX7_powerOf (ws_ yX7_powerOf cX7_powerOf 4 (some .int)) rm_X7_powerOf (gPc [.int x0, .int x1] E [] sz) (gPi E (fun _ => []) r u (va_A [] sz)) 0 0 (va_A [] sz) := by
  refine gMet (Qc := gPi E (fun _ => []) r u) (by decide) (Nat.le_of_ble_eq_true rfl) (fun Γ X hl hE => ?_)
  subst hl; subst hE
  unfold f_X7_powerOf at hf
  show gW Γ (gMQ Γ (gPi (gEo Γ) (fun _ => []) r u (gAo Γ)) 0 0) [] 4 0 0 0 [(0, .int x0), (1, .int x1)] []
  refine g_iconst X 1 dX7_powerOf_0 rfl ?_
  refine g_istore_n X [(2, .int 1), (0, .int x0), (1, .int x1)] dX7_powerOf_1 (by decide) rfl ?_
  refine g_iconst X 0 dX7_powerOf_2 rfl ?_
  refine g_istore_n X [(3, .int 0), (2, .int 1), (0, .int x0), (1, .int x1)] dX7_powerOf_3 (by decide) rfl ?_
  refine g_sub [2, 3, 1, 0] [(0, .int x0), (1, .int x1), (2, .int 1), (3, .int 0)] rfl ?_
  exact w_X7_powerOf_b4 X 2000 () x0 x1 1 0 hf
def f_X7_figureOf (x0 : Int32) (x1 : Int32) (x2 : Int32) (x3 : Int32) : Option (Int32 × Unit) :=
  (f_X7_powerOf x1 ((x2 - 1) - x3)).bind fun (r1, _) => gdv r1 <| gdv x1 <| some ((x0 / r1) - (x0 / r1) / x1 * x1, ())
abbrev rm_X7_figureOf : Room := { frames := 2, cells := 0, slots := 0, locals := 35 }
set_option maxHeartbeats 4000000 in
theorem m_X7_figureOf (l : Launch) (E : gE) (x0 : Int32) (x1 : Int32) (x2 : Int32) (x3 : Int32) (r : Int32) (u : Unit) (hf : f_X7_figureOf x0 x1 x2 x3 = some (r, u)) (sz : Nat) : Met l yX7_figureOf (ws_ yX7_figureOf cX7_figureOf 4 (some .int)) rm_X7_figureOf (gPc [.int x0, .int x1, .int x2, .int x3] E [] sz) (gPi E (fun _ => []) r u (va_A [] sz)) 0 0 (va_A [] sz) := by
  refine gMet (Qc := gPi E (fun _ => []) r u) (by decide) (Nat.le_of_ble_eq_true rfl) (fun Γ X hl hE => ?_)
  subst hl; subst hE
  unfold f_X7_figureOf at hf
  show gW Γ (gMQ Γ (gPi (gEo Γ) (fun _ => []) r u (gAo Γ)) 0 0) [] 4 0 0 0 [(0, .int x0), (1, .int x1), (2, .int x2), (3, .int x3)] []
  refine g_iload_n X 0 dX7_figureOf_0 rfl ?_
  refine g_iload_n X 1 dX7_figureOf_1 rfl ?_
  refine g_iload_n X 2 dX7_figureOf_2 rfl ?_
  refine g_iconst X 1 dX7_figureOf_3 rfl ?_
  refine g_isub X dX7_figureOf_4 ?_
  refine g_iload_n X 3 dX7_figureOf_5 rfl ?_
  refine g_isub X dX7_figureOf_6 ?_
  refine g_call0i X 2 (As := [.int x1, .int ((x2 - 1) - x3)]) (lw_S q1221 q1222 q67 q1223) (by decide +kernel) (fun r_ u_ h_ sz_ => m_X7_powerOf (gl Γ) (gEo Γ) x1 ((x2 - 1) - x3) r_ u_ h_ sz_) rfl rfl ⟨by decide, by decide⟩ rfl (Nat.le_of_ble_eq_true rfl) ⟨Nat.zero_le _, Nat.zero_le _⟩ dX7_figureOf_7 hf (fun r1 _ hf => ?_)
  refine g_idiv X dX7_figureOf_10 hf (fun hf => ?_)
  refine g_iload_n X 1 dX7_figureOf_11 rfl ?_
  refine g_irem X dX7_figureOf_12 hf (fun hf => ?_)
  exact g_iret X rfl dX7_figureOf_13 hf
def f_X7_rowGoes_b8 : Nat → gM → Int32 → Int32 → Int32 → Int32 → Option (Int32 × gM)
  | 0 => fun _ _ _ _ _ => none
  | n_ + 1 => fun σ x1 x2 x3 x4 =>
    if x3 ≤ x4 then (gzr 1 σ) else ((f_X7_figureOf x1 x2 x3 x4).bind fun (r3, _) => (f_X7_isAct σ r3).bind fun (r5, u6) => if r5 = 0 then (gzr 0 u6) else ((f_X7_acts u6 r3).bind fun (r7, u8) => gv (x4 + 1) fun v9 => (f_X7_rowGoes_b8 n_) u8 x1 x2 x3 v9))
def f_X7_rowGoes (σ : gM) (x1 : Int32) (x2 : Int32) (x3 : Int32) : Option (Int32 × gM) :=
  (f_X7_begins σ 0).bind fun u2 => f_X7_rowGoes_b8 2000 u2 x1 x2 x3 0
abbrev rm_X7_rowGoes : Room := { frames := 5, cells := 0, slots := 0, locals := 106 }
set_option maxHeartbeats 4000000 in
theorem w_X7_rowGoes_b8 {Γ : gG} {ad : Nat → Nat} {r : Int32} {u : gM} (X : gCX Γ cX7_rowGoes 6 (some .boolean) RX7 rm_X7_rowGoes) : ∀ (n_ : Nat) (σ : gM) (x1 : Int32) (x2 : Int32) (x3 : Int32) (x4 : Int32), f_X7_rowGoes_b8 n_ σ x1 x2 x3 x4 = some (r, u) → gW Γ (gMQ Γ (gPi (gEo Γ) (wM (gEo Γ) ad) r u (gAo Γ)) 0 0) (wM (gEo Γ) ad σ) 6 0 0 8 [(0, .ref (ad 0)), (1, .int x1), (2, .int x2), (3, .int x3), (4, .int x4)] [] := by
  intro n_
  induction n_ with
  | zero => intro σ x1 x2 x3 x4 hf; cases hf
  | succ n_ ih =>
    intro σ x1 x2 x3 x4 hf
    simp only [f_X7_rowGoes_b8] at hf
    refine g_iload X 4 dX7_rowGoes_8 rfl ?_
    refine g_iload_n X 3 dX7_rowGoes_10 rfl ?_
    refine g_icmp_ge X 48 dX7_rowGoes_11 rfl hf (fun hf => ?_) (fun hf => ?_)
    · refine g_iconst X 1 dX7_rowGoes_48 rfl ?_
      exact g_zret X rfl dX7_rowGoes_49 hf
    · refine g_iload_n X 1 dX7_rowGoes_14 rfl ?_
      refine g_iload_n X 2 dX7_rowGoes_15 rfl ?_
      refine g_iload_n X 3 dX7_rowGoes_16 rfl ?_
      refine g_iload X 4 dX7_rowGoes_17 rfl ?_
      refine g_call0i X 4 (As := [.int x1, .int x2, .int x3, .int x4]) (lw_S q1228 q1229 q67 q1230) (by decide +kernel) (fun r_ u_ h_ sz_ => m_X7_figureOf (gl Γ) (gEo Γ) x1 x2 x3 x4 r_ u_ h_ sz_) rfl rfl ⟨by decide, by decide⟩ rfl (Nat.le_of_ble_eq_true rfl) ⟨Nat.zero_le _, Nat.zero_le _⟩ dX7_rowGoes_19 hf (fun r3 _ hf => ?_)
      refine g_istore X [(5, .int r3), (0, .ref (ad 0)), (1, .int x1), (2, .int x2), (3, .int x3), (4, .int x4)] dX7_rowGoes_22 (by decide) rfl ?_
      refine g_aload_n X 1 dX7_rowGoes_24 rfl ?_
      refine g_iload X 0 dX7_rowGoes_25 rfl ?_
      refine g_callVi X 1 (As := [.int r3]) (wfc := wM (gEo Γ) ad) (lw_V q1131 q1133 qs42 q67 q1134) (by decide +kernel) (fun r_ u_ h_ sz_ => m_X7_isAct (gl Γ) (gEo Γ) ad σ r3 r_ u_ h_ sz_) (rq := 0) rfl rfl rfl rfl rfl ⟨by decide, by decide⟩ rfl (Nat.le_of_ble_eq_true rfl) ⟨Nat.zero_le _, Nat.zero_le _⟩ [0, 1, 2, 3, 4, 5, 6, 7, 8, 9, 10, 11, 12] [] [0, 1, 2, 3, 4, 5, 6, 7, 8, 9, 10, 11, 12] (fun u6 => wM (gEo Γ) ad u6) rfl rfl rfl rfl (by decide) rfl (fun _ => rfl) dX7_rowGoes_27 hf (fun r5 u6 _ hf => ?_)
      refine g_if_ne X 35 dX7_rowGoes_30 rfl hf (fun hf => ?_) (fun hf => ?_)
      · refine g_aload_n X 1 dX7_rowGoes_35 rfl ?_
        refine g_iload X 0 dX7_rowGoes_36 rfl ?_
        refine g_callVi X 1 (As := [.int r3]) (wfc := wM (gEo Γ) ad) (lw_V q1203 q1205 qs52 q67 q1206) (by decide +kernel) (fun r_ u_ h_ sz_ => m_X7_acts (gl Γ) (gEo Γ) ad u6 r3 r_ u_ h_ sz_) (rq := 0) rfl rfl rfl rfl rfl ⟨by decide, by decide⟩ rfl (Nat.le_of_ble_eq_true rfl) ⟨Nat.zero_le _, Nat.zero_le _⟩ [0, 1, 2, 3, 4, 5, 6, 7, 8, 9, 10, 11, 12] [] [0, 1, 2, 3, 4, 5, 6, 7, 8, 9, 10, 11, 12] (fun u8 => wM (gEo Γ) ad u8) rfl rfl rfl rfl (by decide) rfl (fun _ => rfl) dX7_rowGoes_38 hf (fun r7 u8 _ hf => ?_)
        refine g_pop X dX7_rowGoes_41 rfl ?_
        refine g_iincV X 1 5 (fun v9 => [(4, .int v9), (5, .int r3), (0, .ref (ad 0)), (1, .int x1), (2, .int x2), (3, .int x3)]) dX7_rowGoes_42 rfl rfl (by decide) (fun _ => rfl) hf (fun v9 hf => ?_)
        refine g_goto X 8 dX7_rowGoes_45 rfl ?_
        refine g_sub [2, 3, 4, 5, 0] [(0, .ref (ad 0)), (1, .int x1), (2, .int x2), (3, .int x3), (4, .int v9)] rfl ?_
        exact ih u8 x1 x2 x3 v9 hf
      · refine g_iconst X 0 dX7_rowGoes_33 rfl ?_
        exact g_zret X rfl dX7_rowGoes_34 hf
set_option maxHeartbeats 4000000 in
theorem m_X7_rowGoes (l : Launch) (E : gE) (ad : Nat → Nat) (σ : gM) (x1 : Int32) (x2 : Int32) (x3 : Int32) (r : Int32) (u : gM) (hf : f_X7_rowGoes σ x1 x2 x3 = some (r, u)) (sz : Nat) : Met l yX7_rowGoes (ws_ yX7_rowGoes cX7_rowGoes 6 (some .boolean)) rm_X7_rowGoes (gPc [.ref (ad 0), .int x1, .int x2, .int x3] E (wM E ad σ) sz) (gPi E (wM E ad) r u (va_A (wM E ad σ) sz)) 0 0 (va_A (wM E ad σ) sz) := by
  refine gMet (Qc := gPi E (wM E ad) r u) (by decide) (Nat.le_of_ble_eq_true rfl) (fun Γ X hl hE => ?_)
  subst hl; subst hE
  unfold f_X7_rowGoes at hf
  show gW Γ (gMQ Γ (gPi (gEo Γ) (wM (gEo Γ) ad) r u (gAo Γ)) 0 0) (wM (gEo Γ) ad σ) 6 0 0 0 [(0, .ref (ad 0)), (1, .int x1), (2, .int x2), (3, .int x3)] []
  refine g_aload_n X 0 dX7_rowGoes_0 rfl ?_
  refine g_iconst X 0 dX7_rowGoes_1 rfl ?_
  refine g_callVv X 1 (As := [.int 0]) (wfc := wM (gEo Γ) ad) (lw_V q1195 q1197 qs50 q67 q1198) (by decide +kernel) (fun u_ h_ sz_ => m_X7_begins (gl Γ) (gEo Γ) ad σ 0 u_ h_ sz_) (rq := 0) rfl rfl rfl rfl rfl ⟨by decide, by decide⟩ rfl (Nat.le_of_ble_eq_true rfl) ⟨Nat.zero_le _, Nat.zero_le _⟩ [0, 1, 2, 3, 4, 5, 6, 7, 8, 9, 10, 11, 12] [] [0, 1, 2, 3, 4, 5, 6, 7, 8, 9, 10, 11, 12] (fun u2 => wM (gEo Γ) ad u2) rfl rfl rfl rfl (by decide) rfl (fun _ => rfl) dX7_rowGoes_2 hf (fun u2 _ hf => ?_)
  refine g_iconst X 0 dX7_rowGoes_5 rfl ?_
  refine g_istore X [(4, .int 0), (0, .ref (ad 0)), (1, .int x1), (2, .int x2), (3, .int x3)] dX7_rowGoes_6 (by decide) rfl ?_
  refine g_sub [1, 2, 3, 4, 0] [(0, .ref (ad 0)), (1, .int x1), (2, .int x2), (3, .int x3), (4, .int 0)] rfl ?_
  exact w_X7_rowGoes_b8 X 2000 u2 x1 x2 x3 0 hf
def f_X7_best_b151 (k49 : gM → Int32 → Int32 → Int32 → Int32 → Int32 → Int32 → Option (Int32 × gM)) (σ : gM) (x1 : Int32) (x2 : Int32) (x3 : Int32) (x4 : Int32) (x5 : Int32) (x6 : Int32) : Option (Int32 × gM) :=
  gv (x6 + 1) fun v15 => k49 σ x1 x2 x3 x4 x5 v15
def f_X7_best_b149 (k49 : gM → Int32 → Int32 → Int32 → Int32 → Int32 → Int32 → Option (Int32 × gM)) (σ : gM) (x1 : Int32) (x2 : Int32) (x3 : Int32) (x5 : Int32) (x6 : Int32) (t0 : Int32) : Option (Int32 × gM) :=
  f_X7_best_b151 k49 σ x1 x2 x3 t0 x5 x6
def f_X7_best_b134 (k49 : gM → Int32 → Int32 → Int32 → Int32 → Int32 → Int32 → Option (Int32 × gM)) (σ : gM) (x1 : Int32) (x2 : Int32) (x4 : Int32) (x5 : Int32) (x6 : Int32) (x8 : Int32) (t0 : Int32) : Option (Int32 × gM) :=
  if x8 = 0 then (f_X7_best_b149 k49 σ x1 x2 t0 x5 x6 x4) else (f_X7_best_b149 k49 σ x1 x2 t0 x5 x6 (M_weptTimes σ))
def f_X7_best_b121 (k49 : gM → Int32 → Int32 → Int32 → Int32 → Int32 → Int32 → Option (Int32 × gM)) (σ : gM) (x1 : Int32) (x2 : Int32) (x3 : Int32) (x4 : Int32) (x6 : Int32) (x7 : Int32) (x8 : Int32) (t0 : Int32) : Option (Int32 × gM) :=
  if x8 = 0 then (f_X7_best_b134 k49 σ x1 x2 x4 t0 x6 x8 x3) else (f_X7_best_b134 k49 σ x1 x2 x4 t0 x6 x8 x7)
def f_X7_best_b107 (k49 : gM → Int32 → Int32 → Int32 → Int32 → Int32 → Int32 → Option (Int32 × gM)) (σ : gM) (x1 : Int32) (x2 : Int32) (x3 : Int32) (x4 : Int32) (x5 : Int32) (x6 : Int32) (x7 : Int32) (t0 : Int32) : Option (Int32 × gM) :=
  if t0 = 0 then (f_X7_best_b121 k49 σ x1 x2 x3 x4 x6 x7 t0 x5) else (f_X7_best_b121 k49 σ x1 x2 x3 x4 x6 x7 t0 x6)
def f_X7_best_b102 (k49 : gM → Int32 → Int32 → Int32 → Int32 → Int32 → Int32 → Option (Int32 × gM)) (σ : gM) (x1 : Int32) (x2 : Int32) (x3 : Int32) (x4 : Int32) (x5 : Int32) (x6 : Int32) (x7 : Int32) : Option (Int32 × gM) :=
  f_X7_best_b107 k49 σ x1 x2 x3 x4 x5 x6 x7 1
def f_X7_best_b106 (k49 : gM → Int32 → Int32 → Int32 → Int32 → Int32 → Int32 → Option (Int32 × gM)) (σ : gM) (x1 : Int32) (x2 : Int32) (x3 : Int32) (x4 : Int32) (x5 : Int32) (x6 : Int32) (x7 : Int32) : Option (Int32 × gM) :=
  f_X7_best_b107 k49 σ x1 x2 x3 x4 x5 x6 x7 0
def f_X7_best_b49 : Nat → gM → Int32 → Int32 → Int32 → Int32 → Int32 → Int32 → Option (Int32 × gM)
  | 0 => fun _ _ _ _ _ _ _ => none
  | n_ + 1 => fun σ x1 x2 x3 x4 x5 x6 =>
    (f_X7_powerOf 6 x1).bind fun (r7, _) => if r7 ≤ x6 then (if x2 = 0 then (some (x3, σ)) else (if x2 = 1 then (some (x4, σ)) else (if x1 ≤ (x2 - 10) then (some ((-4), σ)) else ((f_X7_figureOf x5 6 x1 (x2 - 10)).bind fun (r9, _) => some (r9, σ))))) else ((f_X7_rowGoes σ x6 6 x1).bind fun (r11, u12) => if r11 = 0 then (f_X7_best_b151 (f_X7_best_b49 n_) u12 x1 x2 x3 x4 x5 x6) else ((f_X7_bitsOf (M_weptBits u12)).bind fun (r13, _) => if x3 < r13 then (f_X7_best_b102 (f_X7_best_b49 n_) u12 x1 x2 x3 x4 x5 x6 r13) else (if r13 = x3 then (if (M_weptTimes u12) ≤ x4 then (f_X7_best_b106 (f_X7_best_b49 n_) u12 x1 x2 x3 x4 x5 x6 r13) else (f_X7_best_b102 (f_X7_best_b49 n_) u12 x1 x2 x3 x4 x5 x6 r13)) else (f_X7_best_b106 (f_X7_best_b49 n_) u12 x1 x2 x3 x4 x5 x6 r13))))
def f_X7_best_b38 (σ : gM) (x1 : Int32) (x2 : Int32) : Option (Int32 × gM) :=
  f_X7_best_b49 2000 σ x1 x2 (-1) (-1) 0 0
def f_X7_best (σ : gM) (x1 : Int32) (x2 : Int32) : Option (Int32 × gM) :=
  (f_X7_in (x1.toInt64) 0 4).bind fun (r1, _) => if r1 = 0 then (some ((-1), σ)) else ((f_X7_in (x2.toInt64) 0 1).bind fun (r3, _) => if r3 = 0 then ((f_X7_in (x2.toInt64) 10 13).bind fun (r5, _) => if r5 = 0 then (some ((-1), σ)) else (f_X7_best_b38 σ x1 x2)) else (f_X7_best_b38 σ x1 x2))
abbrev rm_X7_best : Room := { frames := 6, cells := 0, slots := 0, locals := 131 }
set_option maxHeartbeats 4000000 in
theorem w_X7_best_b151 {Γ : gG} {ad : Nat → Nat} {r : Int32} {u : gM} (X : gCX Γ cX7_best 9 (some .int) RX7 rm_X7_best) {k49 : gM → Int32 → Int32 → Int32 → Int32 → Int32 → Int32 → Option (Int32 × gM)} (H49 : ∀ (σ : gM) (x1 : Int32) (x2 : Int32) (x3 : Int32) (x4 : Int32) (x5 : Int32) (x6 : Int32), k49 σ x1 x2 x3 x4 x5 x6 = some (r, u) → gW Γ (gMQ Γ (gPi (gEo Γ) (wM (gEo Γ) ad) r u (gAo Γ)) 0 0) (wM (gEo Γ) ad σ) 9 0 0 49 [(0, .ref (ad 0)), (1, .int x1), (2, .int x2), (3, .int x3), (4, .int x4), (5, .int x5), (6, .int x6)] []) : ∀ (σ : gM) (x1 : Int32) (x2 : Int32) (x3 : Int32) (x4 : Int32) (x5 : Int32) (x6 : Int32), f_X7_best_b151 k49 σ x1 x2 x3 x4 x5 x6 = some (r, u) → gW Γ (gMQ Γ (gPi (gEo Γ) (wM (gEo Γ) ad) r u (gAo Γ)) 0 0) (wM (gEo Γ) ad σ) 9 0 0 151 [(0, .ref (ad 0)), (1, .int x1), (2, .int x2), (3, .int x3), (4, .int x4), (5, .int x5), (6, .int x6)] [] := by
  intro σ x1 x2 x3 x4 x5 x6 hf
  unfold f_X7_best_b151 at hf
  refine g_iincV X 1 6 (fun v15 => [(6, .int v15), (0, .ref (ad 0)), (1, .int x1), (2, .int x2), (3, .int x3), (4, .int x4), (5, .int x5)]) dX7_best_151 rfl rfl (by decide) (fun _ => rfl) hf (fun v15 hf => ?_)
  refine g_goto X 49 dX7_best_154 rfl ?_
  refine g_sub [1, 2, 3, 4, 5, 6, 0] [(0, .ref (ad 0)), (1, .int x1), (2, .int x2), (3, .int x3), (4, .int x4), (5, .int x5), (6, .int v15)] rfl ?_
  exact H49 σ x1 x2 x3 x4 x5 v15 hf
set_option maxHeartbeats 4000000 in
theorem w_X7_best_b149 {Γ : gG} {ad : Nat → Nat} {r : Int32} {u : gM} (X : gCX Γ cX7_best 9 (some .int) RX7 rm_X7_best) {k49 : gM → Int32 → Int32 → Int32 → Int32 → Int32 → Int32 → Option (Int32 × gM)} (H49 : ∀ (σ : gM) (x1 : Int32) (x2 : Int32) (x3 : Int32) (x4 : Int32) (x5 : Int32) (x6 : Int32), k49 σ x1 x2 x3 x4 x5 x6 = some (r, u) → gW Γ (gMQ Γ (gPi (gEo Γ) (wM (gEo Γ) ad) r u (gAo Γ)) 0 0) (wM (gEo Γ) ad σ) 9 0 0 49 [(0, .ref (ad 0)), (1, .int x1), (2, .int x2), (3, .int x3), (4, .int x4), (5, .int x5), (6, .int x6)] []) : ∀ (σ : gM) (x1 : Int32) (x2 : Int32) (x3 : Int32) (x5 : Int32) (x6 : Int32) (t0 : Int32), f_X7_best_b149 k49 σ x1 x2 x3 x5 x6 t0 = some (r, u) → gW Γ (gMQ Γ (gPi (gEo Γ) (wM (gEo Γ) ad) r u (gAo Γ)) 0 0) (wM (gEo Γ) ad σ) 9 0 0 149 [(0, .ref (ad 0)), (1, .int x1), (2, .int x2), (3, .int x3), (5, .int x5), (6, .int x6)] [.int t0] := by
  intro σ x1 x2 x3 x5 x6 t0 hf
  unfold f_X7_best_b149 at hf
  refine g_istore X [(4, .int t0), (0, .ref (ad 0)), (1, .int x1), (2, .int x2), (3, .int x3), (5, .int x5), (6, .int x6)] dX7_best_149 (by decide) rfl ?_
  refine g_sub [1, 2, 3, 4, 0, 5, 6] [(0, .ref (ad 0)), (1, .int x1), (2, .int x2), (3, .int x3), (4, .int t0), (5, .int x5), (6, .int x6)] rfl ?_
  exact w_X7_best_b151 X H49 σ x1 x2 x3 t0 x5 x6 hf
set_option maxHeartbeats 4000000 in
theorem w_X7_best_b134 {Γ : gG} {ad : Nat → Nat} {r : Int32} {u : gM} (X : gCX Γ cX7_best 9 (some .int) RX7 rm_X7_best) {k49 : gM → Int32 → Int32 → Int32 → Int32 → Int32 → Int32 → Option (Int32 × gM)} (H49 : ∀ (σ : gM) (x1 : Int32) (x2 : Int32) (x3 : Int32) (x4 : Int32) (x5 : Int32) (x6 : Int32), k49 σ x1 x2 x3 x4 x5 x6 = some (r, u) → gW Γ (gMQ Γ (gPi (gEo Γ) (wM (gEo Γ) ad) r u (gAo Γ)) 0 0) (wM (gEo Γ) ad σ) 9 0 0 49 [(0, .ref (ad 0)), (1, .int x1), (2, .int x2), (3, .int x3), (4, .int x4), (5, .int x5), (6, .int x6)] []) : ∀ (σ : gM) (x1 : Int32) (x2 : Int32) (x4 : Int32) (x5 : Int32) (x6 : Int32) (x8 : Int32) (t0 : Int32), f_X7_best_b134 k49 σ x1 x2 x4 x5 x6 x8 t0 = some (r, u) → gW Γ (gMQ Γ (gPi (gEo Γ) (wM (gEo Γ) ad) r u (gAo Γ)) 0 0) (wM (gEo Γ) ad σ) 9 0 0 134 [(0, .ref (ad 0)), (1, .int x1), (2, .int x2), (4, .int x4), (5, .int x5), (6, .int x6), (8, .int x8)] [.int t0] := by
  intro σ x1 x2 x4 x5 x6 x8 t0 hf
  unfold f_X7_best_b134 at hf
  refine g_istore_n X [(3, .int t0), (0, .ref (ad 0)), (1, .int x1), (2, .int x2), (4, .int x4), (5, .int x5), (6, .int x6), (8, .int x8)] dX7_best_134 (by decide) rfl ?_
  refine g_iload X 7 dX7_best_135 rfl ?_
  refine g_if_eq X 147 dX7_best_137 rfl hf (fun hf => ?_) (fun hf => ?_)
  · refine g_iload X 4 dX7_best_147 rfl ?_
    refine g_sub [1, 2, 3, 0, 5, 6] [(0, .ref (ad 0)), (1, .int x1), (2, .int x2), (3, .int t0), (5, .int x5), (6, .int x6)] rfl ?_
    exact w_X7_best_b149 X H49 σ x1 x2 t0 x5 x6 x4 hf
  · refine g_aload_n X 1 dX7_best_140 rfl ?_
    refine g_get X in_X7 0 19 rfl rfl (by decide) q936 rfl dX7_best_141 ?_
    refine g_goto X 149 dX7_best_144 rfl ?_
    refine g_sub [1, 2, 3, 0, 5, 6] [(0, .ref (ad 0)), (1, .int x1), (2, .int x2), (3, .int t0), (5, .int x5), (6, .int x6)] rfl ?_
    exact w_X7_best_b149 X H49 σ x1 x2 t0 x5 x6 (M_weptTimes σ) hf
set_option maxHeartbeats 4000000 in
theorem w_X7_best_b121 {Γ : gG} {ad : Nat → Nat} {r : Int32} {u : gM} (X : gCX Γ cX7_best 9 (some .int) RX7 rm_X7_best) {k49 : gM → Int32 → Int32 → Int32 → Int32 → Int32 → Int32 → Option (Int32 × gM)} (H49 : ∀ (σ : gM) (x1 : Int32) (x2 : Int32) (x3 : Int32) (x4 : Int32) (x5 : Int32) (x6 : Int32), k49 σ x1 x2 x3 x4 x5 x6 = some (r, u) → gW Γ (gMQ Γ (gPi (gEo Γ) (wM (gEo Γ) ad) r u (gAo Γ)) 0 0) (wM (gEo Γ) ad σ) 9 0 0 49 [(0, .ref (ad 0)), (1, .int x1), (2, .int x2), (3, .int x3), (4, .int x4), (5, .int x5), (6, .int x6)] []) : ∀ (σ : gM) (x1 : Int32) (x2 : Int32) (x3 : Int32) (x4 : Int32) (x6 : Int32) (x7 : Int32) (x8 : Int32) (t0 : Int32), f_X7_best_b121 k49 σ x1 x2 x3 x4 x6 x7 x8 t0 = some (r, u) → gW Γ (gMQ Γ (gPi (gEo Γ) (wM (gEo Γ) ad) r u (gAo Γ)) 0 0) (wM (gEo Γ) ad σ) 9 0 0 121 [(0, .ref (ad 0)), (1, .int x1), (2, .int x2), (3, .int x3), (4, .int x4), (6, .int x6), (7, .int x7), (8, .int x8)] [.int t0] := by
  intro σ x1 x2 x3 x4 x6 x7 x8 t0 hf
  unfold f_X7_best_b121 at hf
  refine g_istore X [(5, .int t0), (0, .ref (ad 0)), (1, .int x1), (2, .int x2), (3, .int x3), (4, .int x4), (6, .int x6), (7, .int x7), (8, .int x8)] dX7_best_121 (by decide) rfl ?_
  refine g_iload X 8 dX7_best_123 rfl ?_
  refine g_if_eq X 133 dX7_best_125 rfl hf (fun hf => ?_) (fun hf => ?_)
  · refine g_iload_n X 4 dX7_best_133 rfl ?_
    refine g_sub [1, 2, 3, 5, 0, 6, 8] [(0, .ref (ad 0)), (1, .int x1), (2, .int x2), (4, .int x4), (5, .int t0), (6, .int x6), (8, .int x8)] rfl ?_
    exact w_X7_best_b134 X H49 σ x1 x2 x4 t0 x6 x8 x3 hf
  · refine g_iload X 7 dX7_best_128 rfl ?_
    refine g_goto X 134 dX7_best_130 rfl ?_
    refine g_sub [1, 2, 3, 5, 0, 6, 8] [(0, .ref (ad 0)), (1, .int x1), (2, .int x2), (4, .int x4), (5, .int t0), (6, .int x6), (8, .int x8)] rfl ?_
    exact w_X7_best_b134 X H49 σ x1 x2 x4 t0 x6 x8 x7 hf
set_option maxHeartbeats 4000000 in
theorem w_X7_best_b107 {Γ : gG} {ad : Nat → Nat} {r : Int32} {u : gM} (X : gCX Γ cX7_best 9 (some .int) RX7 rm_X7_best) {k49 : gM → Int32 → Int32 → Int32 → Int32 → Int32 → Int32 → Option (Int32 × gM)} (H49 : ∀ (σ : gM) (x1 : Int32) (x2 : Int32) (x3 : Int32) (x4 : Int32) (x5 : Int32) (x6 : Int32), k49 σ x1 x2 x3 x4 x5 x6 = some (r, u) → gW Γ (gMQ Γ (gPi (gEo Γ) (wM (gEo Γ) ad) r u (gAo Γ)) 0 0) (wM (gEo Γ) ad σ) 9 0 0 49 [(0, .ref (ad 0)), (1, .int x1), (2, .int x2), (3, .int x3), (4, .int x4), (5, .int x5), (6, .int x6)] []) : ∀ (σ : gM) (x1 : Int32) (x2 : Int32) (x3 : Int32) (x4 : Int32) (x5 : Int32) (x6 : Int32) (x7 : Int32) (t0 : Int32), f_X7_best_b107 k49 σ x1 x2 x3 x4 x5 x6 x7 t0 = some (r, u) → gW Γ (gMQ Γ (gPi (gEo Γ) (wM (gEo Γ) ad) r u (gAo Γ)) 0 0) (wM (gEo Γ) ad σ) 9 0 0 107 [(0, .ref (ad 0)), (1, .int x1), (2, .int x2), (3, .int x3), (4, .int x4), (5, .int x5), (6, .int x6), (7, .int x7)] [.int t0] := by
  intro σ x1 x2 x3 x4 x5 x6 x7 t0 hf
  unfold f_X7_best_b107 at hf
  refine g_istore X [(8, .int t0), (0, .ref (ad 0)), (1, .int x1), (2, .int x2), (3, .int x3), (4, .int x4), (5, .int x5), (6, .int x6), (7, .int x7)] dX7_best_107 (by decide) rfl ?_
  refine g_iload X 0 dX7_best_109 rfl ?_
  refine g_if_eq X 119 dX7_best_111 rfl hf (fun hf => ?_) (fun hf => ?_)
  · refine g_iload X 6 dX7_best_119 rfl ?_
    refine g_sub [1, 2, 3, 4, 5, 7, 8, 0] [(0, .ref (ad 0)), (1, .int x1), (2, .int x2), (3, .int x3), (4, .int x4), (6, .int x6), (7, .int x7), (8, .int t0)] rfl ?_
    exact w_X7_best_b121 X H49 σ x1 x2 x3 x4 x6 x7 t0 x5 hf
  · refine g_iload X 7 dX7_best_114 rfl ?_
    refine g_goto X 121 dX7_best_116 rfl ?_
    refine g_sub [1, 2, 3, 4, 5, 7, 8, 0] [(0, .ref (ad 0)), (1, .int x1), (2, .int x2), (3, .int x3), (4, .int x4), (6, .int x6), (7, .int x7), (8, .int t0)] rfl ?_
    exact w_X7_best_b121 X H49 σ x1 x2 x3 x4 x6 x7 t0 x6 hf
set_option maxHeartbeats 4000000 in
theorem w_X7_best_b102 {Γ : gG} {ad : Nat → Nat} {r : Int32} {u : gM} (X : gCX Γ cX7_best 9 (some .int) RX7 rm_X7_best) {k49 : gM → Int32 → Int32 → Int32 → Int32 → Int32 → Int32 → Option (Int32 × gM)} (H49 : ∀ (σ : gM) (x1 : Int32) (x2 : Int32) (x3 : Int32) (x4 : Int32) (x5 : Int32) (x6 : Int32), k49 σ x1 x2 x3 x4 x5 x6 = some (r, u) → gW Γ (gMQ Γ (gPi (gEo Γ) (wM (gEo Γ) ad) r u (gAo Γ)) 0 0) (wM (gEo Γ) ad σ) 9 0 0 49 [(0, .ref (ad 0)), (1, .int x1), (2, .int x2), (3, .int x3), (4, .int x4), (5, .int x5), (6, .int x6)] []) : ∀ (σ : gM) (x1 : Int32) (x2 : Int32) (x3 : Int32) (x4 : Int32) (x5 : Int32) (x6 : Int32) (x7 : Int32), f_X7_best_b102 k49 σ x1 x2 x3 x4 x5 x6 x7 = some (r, u) → gW Γ (gMQ Γ (gPi (gEo Γ) (wM (gEo Γ) ad) r u (gAo Γ)) 0 0) (wM (gEo Γ) ad σ) 9 0 0 102 [(0, .ref (ad 0)), (1, .int x1), (2, .int x2), (3, .int x3), (4, .int x4), (5, .int x5), (6, .int x6), (7, .int x7)] [] := by
  intro σ x1 x2 x3 x4 x5 x6 x7 hf
  unfold f_X7_best_b102 at hf
  refine g_iconst X 1 dX7_best_102 rfl ?_
  refine g_goto X 107 dX7_best_103 rfl ?_
  exact w_X7_best_b107 X H49 σ x1 x2 x3 x4 x5 x6 x7 1 hf
set_option maxHeartbeats 4000000 in
theorem w_X7_best_b106 {Γ : gG} {ad : Nat → Nat} {r : Int32} {u : gM} (X : gCX Γ cX7_best 9 (some .int) RX7 rm_X7_best) {k49 : gM → Int32 → Int32 → Int32 → Int32 → Int32 → Int32 → Option (Int32 × gM)} (H49 : ∀ (σ : gM) (x1 : Int32) (x2 : Int32) (x3 : Int32) (x4 : Int32) (x5 : Int32) (x6 : Int32), k49 σ x1 x2 x3 x4 x5 x6 = some (r, u) → gW Γ (gMQ Γ (gPi (gEo Γ) (wM (gEo Γ) ad) r u (gAo Γ)) 0 0) (wM (gEo Γ) ad σ) 9 0 0 49 [(0, .ref (ad 0)), (1, .int x1), (2, .int x2), (3, .int x3), (4, .int x4), (5, .int x5), (6, .int x6)] []) : ∀ (σ : gM) (x1 : Int32) (x2 : Int32) (x3 : Int32) (x4 : Int32) (x5 : Int32) (x6 : Int32) (x7 : Int32), f_X7_best_b106 k49 σ x1 x2 x3 x4 x5 x6 x7 = some (r, u) → gW Γ (gMQ Γ (gPi (gEo Γ) (wM (gEo Γ) ad) r u (gAo Γ)) 0 0) (wM (gEo Γ) ad σ) 9 0 0 106 [(0, .ref (ad 0)), (1, .int x1), (2, .int x2), (3, .int x3), (4, .int x4), (5, .int x5), (6, .int x6), (7, .int x7)] [] := by
  intro σ x1 x2 x3 x4 x5 x6 x7 hf
  unfold f_X7_best_b106 at hf
  refine g_iconst X 0 dX7_best_106 rfl ?_
  exact w_X7_best_b107 X H49 σ x1 x2 x3 x4 x5 x6 x7 0 hf
set_option maxHeartbeats 4000000 in
theorem w_X7_best_b49 {Γ : gG} {ad : Nat → Nat} {r : Int32} {u : gM} (X : gCX Γ cX7_best 9 (some .int) RX7 rm_X7_best) : ∀ (n_ : Nat) (σ : gM) (x1 : Int32) (x2 : Int32) (x3 : Int32) (x4 : Int32) (x5 : Int32) (x6 : Int32), f_X7_best_b49 n_ σ x1 x2 x3 x4 x5 x6 = some (r, u) → gW Γ (gMQ Γ (gPi (gEo Γ) (wM (gEo Γ) ad) r u (gAo Γ)) 0 0) (wM (gEo Γ) ad σ) 9 0 0 49 [(0, .ref (ad 0)), (1, .int x1), (2, .int x2), (3, .int x3), (4, .int x4), (5, .int x5), (6, .int x6)] [] := by
  intro n_
  induction n_ with
  | zero => intro σ x1 x2 x3 x4 x5 x6 hf; cases hf
  | succ n_ ih =>
    intro σ x1 x2 x3 x4 x5 x6 hf
    simp only [f_X7_best_b49] at hf
    refine g_iload X 6 dX7_best_49 rfl ?_
    refine g_bipush X 6 dX7_best_51 rfl ?_
    refine g_iload_n X 1 dX7_best_53 rfl ?_
    refine g_call0i X 2 (As := [.int 6, .int x1]) (lw_S q1221 q1222 q67 q1223) (by decide +kernel) (fun r_ u_ h_ sz_ => m_X7_powerOf (gl Γ) (gEo Γ) 6 x1 r_ u_ h_ sz_) rfl rfl ⟨by decide, by decide⟩ rfl (Nat.le_of_ble_eq_true rfl) ⟨Nat.zero_le _, Nat.zero_le _⟩ dX7_best_54 hf (fun r7 _ hf => ?_)
    refine g_icmp_ge X 157 dX7_best_57 rfl hf (fun hf => ?_) (fun hf => ?_)
    · refine g_iload_n X 2 dX7_best_157 rfl ?_
      refine g_if_ne X 165 dX7_best_158 rfl hf (fun hf => ?_) (fun hf => ?_)
      · refine g_iload_n X 2 dX7_best_165 rfl ?_
        refine g_iconst X 1 dX7_best_166 rfl ?_
        refine g_icmp_ne X 175 dX7_best_167 rfl hf (fun hf => ?_) (fun hf => ?_)
        · refine g_iload_n X 2 dX7_best_175 rfl ?_
          refine g_bipush X 10 dX7_best_176 rfl ?_
          refine g_isub X dX7_best_178 ?_
          refine g_iload_n X 1 dX7_best_179 rfl ?_
          refine g_icmp_ge X 198 dX7_best_180 rfl hf (fun hf => ?_) (fun hf => ?_)
          · refine g_bipush X (-4) dX7_best_198 rfl ?_
            exact g_iret X rfl dX7_best_200 hf
          · refine g_iload X 5 dX7_best_183 rfl ?_
            refine g_bipush X 6 dX7_best_185 rfl ?_
            refine g_iload_n X 1 dX7_best_187 rfl ?_
            refine g_iload_n X 2 dX7_best_188 rfl ?_
            refine g_bipush X 10 dX7_best_189 rfl ?_
            refine g_isub X dX7_best_191 ?_
            refine g_call0i X 4 (As := [.int x5, .int 6, .int x1, .int (x2 - 10)]) (lw_S q1228 q1229 q67 q1230) (by decide +kernel) (fun r_ u_ h_ sz_ => m_X7_figureOf (gl Γ) (gEo Γ) x5 6 x1 (x2 - 10) r_ u_ h_ sz_) rfl rfl ⟨by decide, by decide⟩ rfl (Nat.le_of_ble_eq_true rfl) ⟨Nat.zero_le _, Nat.zero_le _⟩ dX7_best_192 hf (fun r9 _ hf => ?_)
            refine g_goto X 200 dX7_best_195 rfl ?_
            exact g_iret X rfl dX7_best_200 hf
        · refine g_iload X 4 dX7_best_170 rfl ?_
          refine g_goto X 200 dX7_best_172 rfl ?_
          exact g_iret X rfl dX7_best_200 hf
      · refine g_iload_n X 3 dX7_best_161 rfl ?_
        refine g_goto X 200 dX7_best_162 rfl ?_
        exact g_iret X rfl dX7_best_200 hf
    · refine g_aload_n X 0 dX7_best_60 rfl ?_
      refine g_iload X 6 dX7_best_61 rfl ?_
      refine g_bipush X 6 dX7_best_63 rfl ?_
      refine g_iload_n X 1 dX7_best_65 rfl ?_
      refine g_callVi X 3 (As := [.int x6, .int 6, .int x1]) (wfc := wM (gEo Γ) ad) (lw_V q1224 q1226 qs53 q67 q1227) (by decide +kernel) (fun r_ u_ h_ sz_ => m_X7_rowGoes (gl Γ) (gEo Γ) ad σ x6 6 x1 r_ u_ h_ sz_) (rq := 0) rfl rfl rfl rfl rfl ⟨by decide, by decide⟩ rfl (Nat.le_of_ble_eq_true rfl) ⟨Nat.zero_le _, Nat.zero_le _⟩ [0, 1, 2, 3, 4, 5, 6, 7, 8, 9, 10, 11, 12] [] [0, 1, 2, 3, 4, 5, 6, 7, 8, 9, 10, 11, 12] (fun u12 => wM (gEo Γ) ad u12) rfl rfl rfl rfl (by decide) rfl (fun _ => rfl) dX7_best_66 hf (fun r11 u12 _ hf => ?_)
      refine g_if_eq X 151 dX7_best_69 rfl hf (fun hf => ?_) (fun hf => ?_)
      · exact w_X7_best_b151 X ih u12 x1 x2 x3 x4 x5 x6 hf
      · refine g_aload_n X 0 dX7_best_72 rfl ?_
        refine g_get X in_X7 0 18 rfl rfl (by decide) q935 rfl dX7_best_73 ?_
        refine g_call0i X 1 (As := [.int (M_weptBits u12)]) (lw_S q1184 q1185 q67 q1186) (by decide +kernel) (fun r_ u_ h_ sz_ => m_X7_bitsOf (gl Γ) (gEo Γ) (M_weptBits u12) r_ u_ h_ sz_) rfl rfl ⟨by decide, by decide⟩ rfl (Nat.le_of_ble_eq_true rfl) ⟨Nat.zero_le _, Nat.zero_le _⟩ dX7_best_76 hf (fun r13 _ hf => ?_)
        refine g_istore X [(7, .int r13), (0, .ref (ad 0)), (1, .int x1), (2, .int x2), (3, .int x3), (4, .int x4), (5, .int x5), (6, .int x6)] dX7_best_79 (by decide) rfl ?_
        refine g_iload X 0 dX7_best_81 rfl ?_
        refine g_iload_n X 4 dX7_best_83 rfl ?_
        refine g_icmp_gt X 102 dX7_best_84 rfl hf (fun hf => ?_) (fun hf => ?_)
        · refine g_sub [1, 2, 3, 4, 5, 6, 7, 0] [(0, .ref (ad 0)), (1, .int x1), (2, .int x2), (3, .int x3), (4, .int x4), (5, .int x5), (6, .int x6), (7, .int r13)] rfl ?_
          exact w_X7_best_b102 X ih u12 x1 x2 x3 x4 x5 x6 r13 hf
        · refine g_iload X 0 dX7_best_87 rfl ?_
          refine g_iload_n X 4 dX7_best_89 rfl ?_
          refine g_icmp_ne X 106 dX7_best_90 rfl hf (fun hf => ?_) (fun hf => ?_)
          · refine g_sub [1, 2, 3, 4, 5, 6, 7, 0] [(0, .ref (ad 0)), (1, .int x1), (2, .int x2), (3, .int x3), (4, .int x4), (5, .int x5), (6, .int x6), (7, .int r13)] rfl ?_
            exact w_X7_best_b106 X ih u12 x1 x2 x3 x4 x5 x6 r13 hf
          · refine g_aload_n X 1 dX7_best_93 rfl ?_
            refine g_get X in_X7 0 19 rfl rfl (by decide) q936 rfl dX7_best_94 ?_
            refine g_iload X 5 dX7_best_97 rfl ?_
            refine g_icmp_le X 106 dX7_best_99 rfl hf (fun hf => ?_) (fun hf => ?_)
            · refine g_sub [1, 2, 3, 4, 5, 6, 7, 0] [(0, .ref (ad 0)), (1, .int x1), (2, .int x2), (3, .int x3), (4, .int x4), (5, .int x5), (6, .int x6), (7, .int r13)] rfl ?_
              exact w_X7_best_b106 X ih u12 x1 x2 x3 x4 x5 x6 r13 hf
            · refine g_sub [1, 2, 3, 4, 5, 6, 7, 0] [(0, .ref (ad 0)), (1, .int x1), (2, .int x2), (3, .int x3), (4, .int x4), (5, .int x5), (6, .int x6), (7, .int r13)] rfl ?_
              exact w_X7_best_b102 X ih u12 x1 x2 x3 x4 x5 x6 r13 hf
set_option maxHeartbeats 4000000 in
theorem w_X7_best_b38 {Γ : gG} {ad : Nat → Nat} {r : Int32} {u : gM} (X : gCX Γ cX7_best 9 (some .int) RX7 rm_X7_best) : ∀ (σ : gM) (x1 : Int32) (x2 : Int32), f_X7_best_b38 σ x1 x2 = some (r, u) → gW Γ (gMQ Γ (gPi (gEo Γ) (wM (gEo Γ) ad) r u (gAo Γ)) 0 0) (wM (gEo Γ) ad σ) 9 0 0 38 [(0, .ref (ad 0)), (1, .int x1), (2, .int x2)] [] := by
  intro σ x1 x2 hf
  unfold f_X7_best_b38 at hf
  refine g_iconst X (-1) dX7_best_38 rfl ?_
  refine g_istore_n X [(3, .int (-1)), (0, .ref (ad 0)), (1, .int x1), (2, .int x2)] dX7_best_39 (by decide) rfl ?_
  refine g_iconst X (-1) dX7_best_40 rfl ?_
  refine g_istore X [(4, .int (-1)), (3, .int (-1)), (0, .ref (ad 0)), (1, .int x1), (2, .int x2)] dX7_best_41 (by decide) rfl ?_
  refine g_iconst X 0 dX7_best_43 rfl ?_
  refine g_istore X [(5, .int 0), (4, .int (-1)), (3, .int (-1)), (0, .ref (ad 0)), (1, .int x1), (2, .int x2)] dX7_best_44 (by decide) rfl ?_
  refine g_iconst X 0 dX7_best_46 rfl ?_
  refine g_istore X [(6, .int 0), (5, .int 0), (4, .int (-1)), (3, .int (-1)), (0, .ref (ad 0)), (1, .int x1), (2, .int x2)] dX7_best_47 (by decide) rfl ?_
  refine g_sub [4, 5, 6, 3, 2, 1, 0] [(0, .ref (ad 0)), (1, .int x1), (2, .int x2), (3, .int (-1)), (4, .int (-1)), (5, .int 0), (6, .int 0)] rfl ?_
  exact w_X7_best_b49 X 2000 σ x1 x2 (-1) (-1) 0 0 hf
set_option maxHeartbeats 4000000 in
theorem m_X7_best (l : Launch) (E : gE) (ad : Nat → Nat) (σ : gM) (x1 : Int32) (x2 : Int32) (r : Int32) (u : gM) (hf : f_X7_best σ x1 x2 = some (r, u)) (sz : Nat) : Met l yX7_best (ws_ yX7_best cX7_best 9 (some .int)) rm_X7_best (gPc [.ref (ad 0), .int x1, .int x2] E (wM E ad σ) sz) (gPi E (wM E ad) r u (va_A (wM E ad σ) sz)) 0 0 (va_A (wM E ad σ) sz) := by
  refine gMet (Qc := gPi E (wM E ad) r u) (by decide) (Nat.le_of_ble_eq_true rfl) (fun Γ X hl hE => ?_)
  subst hl; subst hE
  unfold f_X7_best at hf
  show gW Γ (gMQ Γ (gPi (gEo Γ) (wM (gEo Γ) ad) r u (gAo Γ)) 0 0) (wM (gEo Γ) ad σ) 9 0 0 0 [(0, .ref (ad 0)), (1, .int x1), (2, .int x2)] []
  refine g_iload_n X 1 dX7_best_0 rfl ?_
  refine g_i2l X dX7_best_1 ?_
  refine g_lconst X 0 dX7_best_2 rfl ?_
  refine g_ldc2 X dX7_best_3 q1098 ?_
  refine g_call0i X 3 (As := [.long (x1.toInt64), .long 0, .long 4]) (lw_S q1011 q1012 q67 q1013) (by decide +kernel) (fun r_ u_ h_ sz_ => m_X7_in (gl Γ) (gEo Γ) (x1.toInt64) 0 4 r_ u_ h_ sz_) rfl rfl ⟨by decide, by decide⟩ rfl (Nat.le_of_ble_eq_true rfl) ⟨Nat.zero_le _, Nat.zero_le _⟩ dX7_best_6 hf (fun r1 _ hf => ?_)
  refine g_if_eq X 36 dX7_best_9 rfl hf (fun hf => ?_) (fun hf => ?_)
  · refine g_iconst X (-1) dX7_best_36 rfl ?_
    exact g_iret X rfl dX7_best_37 hf
  · refine g_iload_n X 2 dX7_best_12 rfl ?_
    refine g_i2l X dX7_best_13 ?_
    refine g_lconst X 0 dX7_best_14 rfl ?_
    refine g_lconst X 1 dX7_best_15 rfl ?_
    refine g_call0i X 3 (As := [.long (x2.toInt64), .long 0, .long 1]) (lw_S q1011 q1012 q67 q1013) (by decide +kernel) (fun r_ u_ h_ sz_ => m_X7_in (gl Γ) (gEo Γ) (x2.toInt64) 0 1 r_ u_ h_ sz_) rfl rfl ⟨by decide, by decide⟩ rfl (Nat.le_of_ble_eq_true rfl) ⟨Nat.zero_le _, Nat.zero_le _⟩ dX7_best_16 hf (fun r3 _ hf => ?_)
    refine g_if_ne X 38 dX7_best_19 rfl hf (fun hf => ?_) (fun hf => ?_)
    · exact w_X7_best_b38 X σ x1 x2 hf
    · refine g_iload_n X 2 dX7_best_22 rfl ?_
      refine g_i2l X dX7_best_23 ?_
      refine g_ldc2 X dX7_best_24 q1219 ?_
      refine g_ldc2 X dX7_best_27 q1220 ?_
      refine g_call0i X 3 (As := [.long (x2.toInt64), .long 10, .long 13]) (lw_S q1011 q1012 q67 q1013) (by decide +kernel) (fun r_ u_ h_ sz_ => m_X7_in (gl Γ) (gEo Γ) (x2.toInt64) 10 13 r_ u_ h_ sz_) rfl rfl ⟨by decide, by decide⟩ rfl (Nat.le_of_ble_eq_true rfl) ⟨Nat.zero_le _, Nat.zero_le _⟩ dX7_best_30 hf (fun r5 _ hf => ?_)
      refine g_if_ne X 38 dX7_best_33 rfl hf (fun hf => ?_) (fun hf => ?_)
      · exact w_X7_best_b38 X σ x1 x2 hf
      · refine g_iconst X (-1) dX7_best_36 rfl ?_
        exact g_iret X rfl dX7_best_37 hf
def f_X7_home_b118 (k42 : gM → Int32 → Int32 → Int32 → Option (Int32 × gM)) (k50 : gM → Int32 → Int32 → Int32 → Int32 → Option (Int32 × gM)) (σ : gM) (x1 : Int32) (x2 : Int32) (x3 : Int32) (x4 : Int32) : Option (Int32 × gM) :=
  gv (x4 + 1) fun v16 => k50 σ x1 x2 x3 v16
def f_X7_home_b50 (k42 : gM → Int32 → Int32 → Int32 → Option (Int32 × gM)) : Nat → gM → Int32 → Int32 → Int32 → Int32 → Option (Int32 × gM)
  | 0 => fun _ _ _ _ _ => none
  | n_ + 1 => fun σ x1 x2 x3 x4 =>
    (f_X7_powerOf 5 x3).bind fun (r7, _) => if r7 ≤ x4 then (gv (x3 + 1) fun v9 => k42 σ x1 x2 v9) else ((f_X7_rowGoes σ x4 5 x3).bind fun (r10, u11) => if r10 = 0 then (f_X7_home_b118 k42 (f_X7_home_b50 k42 n_) u11 x1 x2 x3 x4) else ((f_X7_tramOn u11 112).bind fun (r12, u13) => if ((r12 >>> (x1 &&& 31)) &&& 1) = 1 then (if x2 = 0 then (some (x3, u13)) else (if x3 ≤ (x2 - 10) then (some ((-4), u13)) else ((f_X7_figureOf x4 5 x3 (x2 - 10)).bind fun (r14, _) => some (r14, u13)))) else (f_X7_home_b118 k42 (f_X7_home_b50 k42 n_) u13 x1 x2 x3 x4)))
def f_X7_home_b42 : Nat → gM → Int32 → Int32 → Int32 → Option (Int32 × gM)
  | 0 => fun _ _ _ _ => none
  | n_ + 1 => fun σ x1 x2 x3 =>
    if 4 ≤ x3 then (some ((-4), σ)) else (f_X7_home_b50 (f_X7_home_b42 n_) 2000 σ x1 x2 x3 0)
def f_X7_home_b28 (σ : gM) (x1 : Int32) (x2 : Int32) : Option (Int32 × gM) :=
  (f_X7_waits σ 0 x1).bind fun (r5, u6) => if r5 = 0 then (some ((-2), u6)) else (f_X7_home_b42 2000 u6 x1 x2 0)
def f_X7_home (σ : gM) (x1 : Int32) (x2 : Int32) : Option (Int32 × gM) :=
  (f_X7_isOne σ x1).bind fun (r1, u2) => if r1 = 0 then (some ((-1), u2)) else (if x2 = 0 then (f_X7_home_b28 u2 x1 x2) else ((f_X7_in (x2.toInt64) 10 12).bind fun (r3, _) => if r3 = 0 then (some ((-1), u2)) else (f_X7_home_b28 u2 x1 x2)))
abbrev rm_X7_home : Room := { frames := 6, cells := 0, slots := 0, locals := 131 }
set_option maxHeartbeats 4000000 in
theorem w_X7_home_b118 {Γ : gG} {ad : Nat → Nat} {r : Int32} {u : gM} (X : gCX Γ cX7_home 5 (some .int) RX7 rm_X7_home) {k42 : gM → Int32 → Int32 → Int32 → Option (Int32 × gM)} (H42 : ∀ (σ : gM) (x1 : Int32) (x2 : Int32) (x3 : Int32), k42 σ x1 x2 x3 = some (r, u) → gW Γ (gMQ Γ (gPi (gEo Γ) (wM (gEo Γ) ad) r u (gAo Γ)) 0 0) (wM (gEo Γ) ad σ) 5 0 0 42 [(0, .ref (ad 0)), (1, .int x1), (2, .int x2), (3, .int x3)] []) {k50 : gM → Int32 → Int32 → Int32 → Int32 → Option (Int32 × gM)} (H50 : ∀ (σ : gM) (x1 : Int32) (x2 : Int32) (x3 : Int32) (x4 : Int32), k50 σ x1 x2 x3 x4 = some (r, u) → gW Γ (gMQ Γ (gPi (gEo Γ) (wM (gEo Γ) ad) r u (gAo Γ)) 0 0) (wM (gEo Γ) ad σ) 5 0 0 50 [(0, .ref (ad 0)), (1, .int x1), (2, .int x2), (3, .int x3), (4, .int x4)] []) : ∀ (σ : gM) (x1 : Int32) (x2 : Int32) (x3 : Int32) (x4 : Int32), f_X7_home_b118 k42 k50 σ x1 x2 x3 x4 = some (r, u) → gW Γ (gMQ Γ (gPi (gEo Γ) (wM (gEo Γ) ad) r u (gAo Γ)) 0 0) (wM (gEo Γ) ad σ) 5 0 0 118 [(0, .ref (ad 0)), (1, .int x1), (2, .int x2), (3, .int x3), (4, .int x4)] [] := by
  intro σ x1 x2 x3 x4 hf
  unfold f_X7_home_b118 at hf
  refine g_iincV X 1 4 (fun v16 => [(4, .int v16), (0, .ref (ad 0)), (1, .int x1), (2, .int x2), (3, .int x3)]) dX7_home_118 rfl rfl (by decide) (fun _ => rfl) hf (fun v16 hf => ?_)
  refine g_goto X 50 dX7_home_121 rfl ?_
  refine g_sub [1, 2, 3, 4, 0] [(0, .ref (ad 0)), (1, .int x1), (2, .int x2), (3, .int x3), (4, .int v16)] rfl ?_
  exact H50 σ x1 x2 x3 v16 hf
set_option maxHeartbeats 4000000 in
theorem w_X7_home_b50 {Γ : gG} {ad : Nat → Nat} {r : Int32} {u : gM} (X : gCX Γ cX7_home 5 (some .int) RX7 rm_X7_home) {k42 : gM → Int32 → Int32 → Int32 → Option (Int32 × gM)} (H42 : ∀ (σ : gM) (x1 : Int32) (x2 : Int32) (x3 : Int32), k42 σ x1 x2 x3 = some (r, u) → gW Γ (gMQ Γ (gPi (gEo Γ) (wM (gEo Γ) ad) r u (gAo Γ)) 0 0) (wM (gEo Γ) ad σ) 5 0 0 42 [(0, .ref (ad 0)), (1, .int x1), (2, .int x2), (3, .int x3)] []) : ∀ (n_ : Nat) (σ : gM) (x1 : Int32) (x2 : Int32) (x3 : Int32) (x4 : Int32), f_X7_home_b50 k42 n_ σ x1 x2 x3 x4 = some (r, u) → gW Γ (gMQ Γ (gPi (gEo Γ) (wM (gEo Γ) ad) r u (gAo Γ)) 0 0) (wM (gEo Γ) ad σ) 5 0 0 50 [(0, .ref (ad 0)), (1, .int x1), (2, .int x2), (3, .int x3), (4, .int x4)] [] := by
  intro n_
  induction n_ with
  | zero => intro σ x1 x2 x3 x4 hf; cases hf
  | succ n_ ih =>
    intro σ x1 x2 x3 x4 hf
    simp only [f_X7_home_b50] at hf
    refine g_iload X 4 dX7_home_50 rfl ?_
    refine g_iconst X 5 dX7_home_52 rfl ?_
    refine g_iload_n X 3 dX7_home_53 rfl ?_
    refine g_call0i X 2 (As := [.int 5, .int x3]) (lw_S q1221 q1222 q67 q1223) (by decide +kernel) (fun r_ u_ h_ sz_ => m_X7_powerOf (gl Γ) (gEo Γ) 5 x3 r_ u_ h_ sz_) rfl rfl ⟨by decide, by decide⟩ rfl (Nat.le_of_ble_eq_true rfl) ⟨Nat.zero_le _, Nat.zero_le _⟩ dX7_home_54 hf (fun r7 _ hf => ?_)
    refine g_icmp_ge X 124 dX7_home_57 rfl hf (fun hf => ?_) (fun hf => ?_)
    · refine g_iincV X 1 3 (fun v9 => [(3, .int v9), (0, .ref (ad 0)), (1, .int x1), (2, .int x2), (4, .int x4)]) dX7_home_124 rfl rfl (by decide) (fun _ => rfl) hf (fun v9 hf => ?_)
      refine g_goto X 42 dX7_home_127 rfl ?_
      refine g_sub [1, 2, 3, 0] [(0, .ref (ad 0)), (1, .int x1), (2, .int x2), (3, .int v9)] rfl ?_
      exact H42 σ x1 x2 v9 hf
    · refine g_aload_n X 0 dX7_home_60 rfl ?_
      refine g_iload X 4 dX7_home_61 rfl ?_
      refine g_iconst X 5 dX7_home_63 rfl ?_
      refine g_iload_n X 3 dX7_home_64 rfl ?_
      refine g_callVi X 3 (As := [.int x4, .int 5, .int x3]) (wfc := wM (gEo Γ) ad) (lw_V q1224 q1226 qs53 q67 q1227) (by decide +kernel) (fun r_ u_ h_ sz_ => m_X7_rowGoes (gl Γ) (gEo Γ) ad σ x4 5 x3 r_ u_ h_ sz_) (rq := 0) rfl rfl rfl rfl rfl ⟨by decide, by decide⟩ rfl (Nat.le_of_ble_eq_true rfl) ⟨Nat.zero_le _, Nat.zero_le _⟩ [0, 1, 2, 3, 4, 5, 6, 7, 8, 9, 10, 11, 12] [] [0, 1, 2, 3, 4, 5, 6, 7, 8, 9, 10, 11, 12] (fun u11 => wM (gEo Γ) ad u11) rfl rfl rfl rfl (by decide) rfl (fun _ => rfl) dX7_home_65 hf (fun r10 u11 _ hf => ?_)
      refine g_if_eq X 118 dX7_home_68 rfl hf (fun hf => ?_) (fun hf => ?_)
      · exact w_X7_home_b118 X H42 ih u11 x1 x2 x3 x4 hf
      · refine g_aload_n X 0 dX7_home_71 rfl ?_
        refine g_bipush X 112 dX7_home_72 rfl ?_
        refine g_callVi X 1 (As := [.int 112]) (wfc := wM (gEo Γ) ad) (lw_V q1172 q1174 qs48 q67 q1175) (by decide +kernel) (fun r_ u_ h_ sz_ => m_X7_tramOn (gl Γ) (gEo Γ) ad u11 112 r_ u_ h_ sz_) (rq := 0) rfl rfl rfl rfl rfl ⟨by decide, by decide⟩ rfl (Nat.le_of_ble_eq_true rfl) ⟨Nat.zero_le _, Nat.zero_le _⟩ [0, 1, 2, 3, 4, 5, 6, 7, 8, 9, 10, 11, 12] [] [0, 1, 2, 3, 4, 5, 6, 7, 8, 9, 10, 11, 12] (fun u13 => wM (gEo Γ) ad u13) rfl rfl rfl rfl (by decide) rfl (fun _ => rfl) dX7_home_74 hf (fun r12 u13 _ hf => ?_)
        refine g_iload_n X 1 dX7_home_77 rfl ?_
        refine g_ishr X dX7_home_78 ?_
        refine g_iconst X 1 dX7_home_79 rfl ?_
        refine g_iand X dX7_home_80 ?_
        refine g_iconst X 1 dX7_home_81 rfl ?_
        refine g_icmp_ne X 118 dX7_home_82 rfl hf (fun hf => ?_) (fun hf => ?_)
        · exact w_X7_home_b118 X H42 ih u13 x1 x2 x3 x4 hf
        · refine g_iload_n X 2 dX7_home_85 rfl ?_
          refine g_if_ne X 93 dX7_home_86 rfl hf (fun hf => ?_) (fun hf => ?_)
          · refine g_iload_n X 2 dX7_home_93 rfl ?_
            refine g_bipush X 10 dX7_home_94 rfl ?_
            refine g_isub X dX7_home_96 ?_
            refine g_iload_n X 3 dX7_home_97 rfl ?_
            refine g_icmp_ge X 115 dX7_home_98 rfl hf (fun hf => ?_) (fun hf => ?_)
            · refine g_bipush X (-4) dX7_home_115 rfl ?_
              exact g_iret X rfl dX7_home_117 hf
            · refine g_iload X 4 dX7_home_101 rfl ?_
              refine g_iconst X 5 dX7_home_103 rfl ?_
              refine g_iload_n X 3 dX7_home_104 rfl ?_
              refine g_iload_n X 2 dX7_home_105 rfl ?_
              refine g_bipush X 10 dX7_home_106 rfl ?_
              refine g_isub X dX7_home_108 ?_
              refine g_call0i X 4 (As := [.int x4, .int 5, .int x3, .int (x2 - 10)]) (lw_S q1228 q1229 q67 q1230) (by decide +kernel) (fun r_ u_ h_ sz_ => m_X7_figureOf (gl Γ) (gEo Γ) x4 5 x3 (x2 - 10) r_ u_ h_ sz_) rfl rfl ⟨by decide, by decide⟩ rfl (Nat.le_of_ble_eq_true rfl) ⟨Nat.zero_le _, Nat.zero_le _⟩ dX7_home_109 hf (fun r14 _ hf => ?_)
              refine g_goto X 117 dX7_home_112 rfl ?_
              exact g_iret X rfl dX7_home_117 hf
          · refine g_iload_n X 3 dX7_home_89 rfl ?_
            refine g_goto X 117 dX7_home_90 rfl ?_
            exact g_iret X rfl dX7_home_117 hf
set_option maxHeartbeats 4000000 in
theorem w_X7_home_b42 {Γ : gG} {ad : Nat → Nat} {r : Int32} {u : gM} (X : gCX Γ cX7_home 5 (some .int) RX7 rm_X7_home) : ∀ (n_ : Nat) (σ : gM) (x1 : Int32) (x2 : Int32) (x3 : Int32), f_X7_home_b42 n_ σ x1 x2 x3 = some (r, u) → gW Γ (gMQ Γ (gPi (gEo Γ) (wM (gEo Γ) ad) r u (gAo Γ)) 0 0) (wM (gEo Γ) ad σ) 5 0 0 42 [(0, .ref (ad 0)), (1, .int x1), (2, .int x2), (3, .int x3)] [] := by
  intro n_
  induction n_ with
  | zero => intro σ x1 x2 x3 hf; cases hf
  | succ n_ ih =>
    intro σ x1 x2 x3 hf
    simp only [f_X7_home_b42] at hf
    refine g_iload_n X 3 dX7_home_42 rfl ?_
    refine g_iconst X 4 dX7_home_43 rfl ?_
    refine g_icmp_ge X 130 dX7_home_44 rfl hf (fun hf => ?_) (fun hf => ?_)
    · refine g_bipush X (-4) dX7_home_130 rfl ?_
      exact g_iret X rfl dX7_home_132 hf
    · refine g_iconst X 0 dX7_home_47 rfl ?_
      refine g_istore X [(4, .int 0), (0, .ref (ad 0)), (1, .int x1), (2, .int x2), (3, .int x3)] dX7_home_48 (by decide) rfl ?_
      refine g_sub [1, 2, 3, 4, 0] [(0, .ref (ad 0)), (1, .int x1), (2, .int x2), (3, .int x3), (4, .int 0)] rfl ?_
      exact w_X7_home_b50 X ih 2000 σ x1 x2 x3 0 hf
set_option maxHeartbeats 4000000 in
theorem w_X7_home_b28 {Γ : gG} {ad : Nat → Nat} {r : Int32} {u : gM} (X : gCX Γ cX7_home 5 (some .int) RX7 rm_X7_home) : ∀ (σ : gM) (x1 : Int32) (x2 : Int32), f_X7_home_b28 σ x1 x2 = some (r, u) → gW Γ (gMQ Γ (gPi (gEo Γ) (wM (gEo Γ) ad) r u (gAo Γ)) 0 0) (wM (gEo Γ) ad σ) 5 0 0 28 [(0, .ref (ad 0)), (1, .int x1), (2, .int x2)] [] := by
  intro σ x1 x2 hf
  unfold f_X7_home_b28 at hf
  refine g_aload_n X 0 dX7_home_28 rfl ?_
  refine g_iconst X 0 dX7_home_29 rfl ?_
  refine g_iload_n X 1 dX7_home_30 rfl ?_
  refine g_callVi X 2 (As := [.int 0, .int x1]) (wfc := wM (gEo Γ) ad) (lw_V q1075 q1077 qs37 q67 q1078) (by decide +kernel) (fun r_ u_ h_ sz_ => m_X7_waits (gl Γ) (gEo Γ) ad σ 0 x1 r_ u_ h_ sz_) (rq := 0) rfl rfl rfl rfl rfl ⟨by decide, by decide⟩ rfl (Nat.le_of_ble_eq_true rfl) ⟨Nat.zero_le _, Nat.zero_le _⟩ [0, 1, 2, 3, 4, 5, 6, 7, 8, 9, 10, 11, 12] [] [0, 1, 2, 3, 4, 5, 6, 7, 8, 9, 10, 11, 12] (fun u6 => wM (gEo Γ) ad u6) rfl rfl rfl rfl (by decide) rfl (fun _ => rfl) dX7_home_31 hf (fun r5 u6 _ hf => ?_)
  refine g_if_ne X 40 dX7_home_34 rfl hf (fun hf => ?_) (fun hf => ?_)
  · refine g_iconst X 0 dX7_home_40 rfl ?_
    refine g_istore_n X [(3, .int 0), (0, .ref (ad 0)), (1, .int x1), (2, .int x2)] dX7_home_41 (by decide) rfl ?_
    refine g_sub [1, 2, 3, 0] [(0, .ref (ad 0)), (1, .int x1), (2, .int x2), (3, .int 0)] rfl ?_
    exact w_X7_home_b42 X 2000 u6 x1 x2 0 hf
  · refine g_bipush X (-2) dX7_home_37 rfl ?_
    exact g_iret X rfl dX7_home_39 hf
set_option maxHeartbeats 4000000 in
theorem m_X7_home (l : Launch) (E : gE) (ad : Nat → Nat) (σ : gM) (x1 : Int32) (x2 : Int32) (r : Int32) (u : gM) (hf : f_X7_home σ x1 x2 = some (r, u)) (sz : Nat) : Met l yX7_home (ws_ yX7_home cX7_home 5 (some .int)) rm_X7_home (gPc [.ref (ad 0), .int x1, .int x2] E (wM E ad σ) sz) (gPi E (wM E ad) r u (va_A (wM E ad σ) sz)) 0 0 (va_A (wM E ad σ) sz) := by
  refine gMet (Qc := gPi E (wM E ad) r u) (by decide) (Nat.le_of_ble_eq_true rfl) (fun Γ X hl hE => ?_)
  subst hl; subst hE
  unfold f_X7_home at hf
  show gW Γ (gMQ Γ (gPi (gEo Γ) (wM (gEo Γ) ad) r u (gAo Γ)) 0 0) (wM (gEo Γ) ad σ) 5 0 0 0 [(0, .ref (ad 0)), (1, .int x1), (2, .int x2)] []
  refine g_aload_n X 0 dX7_home_0 rfl ?_
  refine g_iload_n X 1 dX7_home_1 rfl ?_
  refine g_callVi X 1 (As := [.int x1]) (wfc := wM (gEo Γ) ad) (lw_V q1083 q1085 qs38 q67 q1086) (by decide +kernel) (fun r_ u_ h_ sz_ => m_X7_isOne (gl Γ) (gEo Γ) ad σ x1 r_ u_ h_ sz_) (rq := 0) rfl rfl rfl rfl rfl ⟨by decide, by decide⟩ rfl (Nat.le_of_ble_eq_true rfl) ⟨Nat.zero_le _, Nat.zero_le _⟩ [0, 1, 2, 3, 4, 5, 6, 7, 8, 9, 10, 11, 12] [] [0, 1, 2, 3, 4, 5, 6, 7, 8, 9, 10, 11, 12] (fun u2 => wM (gEo Γ) ad u2) rfl rfl rfl rfl (by decide) rfl (fun _ => rfl) dX7_home_2 hf (fun r1 u2 _ hf => ?_)
  refine g_if_eq X 26 dX7_home_5 rfl hf (fun hf => ?_) (fun hf => ?_)
  · refine g_iconst X (-1) dX7_home_26 rfl ?_
    exact g_iret X rfl dX7_home_27 hf
  · refine g_iload_n X 2 dX7_home_8 rfl ?_
    refine g_if_eq X 28 dX7_home_9 rfl hf (fun hf => ?_) (fun hf => ?_)
    · exact w_X7_home_b28 X u2 x1 x2 hf
    · refine g_iload_n X 2 dX7_home_12 rfl ?_
      refine g_i2l X dX7_home_13 ?_
      refine g_ldc2 X dX7_home_14 q1219 ?_
      refine g_ldc2 X dX7_home_17 q1235 ?_
      refine g_call0i X 3 (As := [.long (x2.toInt64), .long 10, .long 12]) (lw_S q1011 q1012 q67 q1013) (by decide +kernel) (fun r_ u_ h_ sz_ => m_X7_in (gl Γ) (gEo Γ) (x2.toInt64) 10 12 r_ u_ h_ sz_) rfl rfl ⟨by decide, by decide⟩ rfl (Nat.le_of_ble_eq_true rfl) ⟨Nat.zero_le _, Nat.zero_le _⟩ dX7_home_20 hf (fun r3 _ hf => ?_)
      refine g_if_ne X 28 dX7_home_23 rfl hf (fun hf => ?_) (fun hf => ?_)
      · exact w_X7_home_b28 X u2 x1 x2 hf
      · refine g_iconst X (-1) dX7_home_26 rfl ?_
        exact g_iret X rfl dX7_home_27 hf
def f_X7_goneThen (σ : gM) : Option (Int32 × gM) :=
  gld 168 (M_state σ) 127 fun v1 => (f_X7_bitsOf v1).bind fun (r2, _) => some (r2, σ)
abbrev rm_X7_goneThen : Room := { frames := 2, cells := 0, slots := 0, locals := 34 }
set_option maxHeartbeats 4000000 in
theorem m_X7_goneThen (l : Launch) (E : gE) (ad : Nat → Nat) (σ : gM) (r : Int32) (u : gM) (hf : f_X7_goneThen σ = some (r, u)) (sz : Nat) : Met l yX7_goneThen (ws_ yX7_goneThen cX7_goneThen 1 (some .int)) rm_X7_goneThen (gPc [.ref (ad 0)] E (wM E ad σ) sz) (gPi E (wM E ad) r u (va_A (wM E ad σ) sz)) 0 0 (va_A (wM E ad σ) sz) := by
  refine gMet (Qc := gPi E (wM E ad) r u) (by decide) (Nat.le_of_ble_eq_true rfl) (fun Γ X hl hE => ?_)
  subst hl; subst hE
  unfold f_X7_goneThen at hf
  show gW Γ (gMQ Γ (gPi (gEo Γ) (wM (gEo Γ) ad) r u (gAo Γ)) 0 0) (wM (gEo Γ) ad σ) 1 0 0 0 [(0, .ref (ad 0))] []
  refine g_aload_n X 0 dX7_goneThen_0 rfl ?_
  refine g_get X in_X7 0 0 rfl rfl (by decide) q917 rfl dX7_goneThen_1 ?_
  refine g_bipush X 127 dX7_goneThen_4 rfl ?_
  refine g_iald X 1 rfl dX7_goneThen_6 hf (fun v1 hf => ?_)
  refine g_call0i X 1 (As := [.int v1]) (lw_S q1184 q1185 q67 q1186) (by decide +kernel) (fun r_ u_ h_ sz_ => m_X7_bitsOf (gl Γ) (gEo Γ) v1 r_ u_ h_ sz_) rfl rfl ⟨by decide, by decide⟩ rfl (Nat.le_of_ble_eq_true rfl) ⟨Nat.zero_le _, Nat.zero_le _⟩ dX7_goneThen_7 hf (fun r2 _ hf => ?_)
  exact g_iret X rfl dX7_goneThen_10 hf
def f_X7_swap_b154 (k29 : gM → Int32 → Int32 → Int32 → Int32 → Option (Int32 × gM)) (k47 : gM → Int32 → Int32 → Int32 → Int32 → Int32 → Option (Int32 × gM)) (σ : gM) (x1 : Int32) (x3 : Int32) (x4 : Int32) (x5 : Int32) (t0 : Int32) : Option (Int32 × gM) :=
  gv (x5 + 1) fun v27 => k47 σ x1 t0 x3 x4 v27
def f_X7_swap_b137 (k29 : gM → Int32 → Int32 → Int32 → Int32 → Option (Int32 × gM)) (k47 : gM → Int32 → Int32 → Int32 → Int32 → Int32 → Option (Int32 × gM)) (σ : gM) (x1 : Int32) (x2 : Int32) (x4 : Int32) (x5 : Int32) (t0 : Int32) : Option (Int32 × gM) :=
  (f_X7_goneThen σ).bind fun (r23, u24) => if r23 ≤ x2 then (f_X7_swap_b154 k29 k47 u24 x1 t0 x4 x5 x2) else ((f_X7_goneThen u24).bind fun (r25, u26) => f_X7_swap_b154 k29 k47 u26 x1 t0 x4 x5 r25)
def f_X7_swap_b47 (k29 : gM → Int32 → Int32 → Int32 → Int32 → Option (Int32 × gM)) : Nat → gM → Int32 → Int32 → Int32 → Int32 → Int32 → Option (Int32 × gM)
  | 0 => fun _ _ _ _ _ _ => none
  | n_ + 1 => fun σ x1 x2 x3 x4 x5 =>
    gld 168 (M_state σ) 27 fun v9 => if v9 ≤ x5 then (gv (x4 + 1) fun v10 => k29 σ x1 x2 x3 v10) else ((f_X7_copies σ 0 140).bind fun u12 => gld 168 (M_state u12) ((19 : Int32) + x5) fun v13 => gst 168 (M_state u12) ((159 : Int32) + x4) v13 fun g14 => gs (M_state_s u12 g14) fun s15 => gld 168 (M_state s15) ((19 : Int32) + x4) fun v16 => gst 168 (M_state s15) ((159 : Int32) + x5) v16 fun g17 => gs (M_state_s s15 g17) fun s18 => (f_X7_planGoes s18 140 0).bind fun u20 => (f_X7_goneThen u20).bind fun (r21, u22) => if r21 ≤ x2 then (f_X7_swap_b137 k29 (f_X7_swap_b47 k29 n_) u22 x1 x2 x4 x5 x3) else (f_X7_swap_b137 k29 (f_X7_swap_b47 k29 n_) u22 x1 x2 x4 x5 (((10 : Int32) * x4) + x5)))
def f_X7_swap_b177 (σ : gM) (x3 : Int32) : Option (Int32 × gM) :=
  some (x3, σ)
def f_X7_swap_b29 : Nat → gM → Int32 → Int32 → Int32 → Int32 → Option (Int32 × gM)
  | 0 => fun _ _ _ _ _ => none
  | n_ + 1 => fun σ x1 x2 x3 x4 =>
    gld 168 (M_state σ) 27 fun v7 => if v7 ≤ x4 then (if x3 = (-4) then (f_X7_swap_b177 σ x3) else (if x1 = 0 then (f_X7_swap_b177 σ x3) else (some (x2, σ)))) else (gv (x4 + 1) fun v8 => f_X7_swap_b47 (f_X7_swap_b29 n_) 2000 σ x1 x2 x3 x4 v8)
def f_X7_swap (σ : gM) (x1 : Int32) : Option (Int32 × gM) :=
  (f_X7_in (x1.toInt64) 0 1).bind fun (r1, _) => if r1 = 0 then (some ((-1), σ)) else ((f_X7_planGoes σ 0 0).bind fun u4 => (f_X7_goneThen u4).bind fun (r5, u6) => f_X7_swap_b29 2000 u6 x1 r5 (-4) 0)
abbrev rm_X7_swap : Room := { frames := 6, cells := 0, slots := 0, locals := 129 }
set_option maxHeartbeats 4000000 in
theorem w_X7_swap_b154 {Γ : gG} {ad : Nat → Nat} {r : Int32} {u : gM} (X : gCX Γ cX7_swap 6 (some .int) RX7 rm_X7_swap) {k29 : gM → Int32 → Int32 → Int32 → Int32 → Option (Int32 × gM)} (H29 : ∀ (σ : gM) (x1 : Int32) (x2 : Int32) (x3 : Int32) (x4 : Int32), k29 σ x1 x2 x3 x4 = some (r, u) → gW Γ (gMQ Γ (gPi (gEo Γ) (wM (gEo Γ) ad) r u (gAo Γ)) 0 0) (wM (gEo Γ) ad σ) 6 0 0 29 [(0, .ref (ad 0)), (1, .int x1), (2, .int x2), (3, .int x3), (4, .int x4)] []) {k47 : gM → Int32 → Int32 → Int32 → Int32 → Int32 → Option (Int32 × gM)} (H47 : ∀ (σ : gM) (x1 : Int32) (x2 : Int32) (x3 : Int32) (x4 : Int32) (x5 : Int32), k47 σ x1 x2 x3 x4 x5 = some (r, u) → gW Γ (gMQ Γ (gPi (gEo Γ) (wM (gEo Γ) ad) r u (gAo Γ)) 0 0) (wM (gEo Γ) ad σ) 6 0 0 47 [(0, .ref (ad 0)), (1, .int x1), (2, .int x2), (3, .int x3), (4, .int x4), (5, .int x5)] []) : ∀ (σ : gM) (x1 : Int32) (x3 : Int32) (x4 : Int32) (x5 : Int32) (t0 : Int32), f_X7_swap_b154 k29 k47 σ x1 x3 x4 x5 t0 = some (r, u) → gW Γ (gMQ Γ (gPi (gEo Γ) (wM (gEo Γ) ad) r u (gAo Γ)) 0 0) (wM (gEo Γ) ad σ) 6 0 0 154 [(0, .ref (ad 0)), (1, .int x1), (3, .int x3), (4, .int x4), (5, .int x5)] [.int t0] := by
  intro σ x1 x3 x4 x5 t0 hf
  unfold f_X7_swap_b154 at hf
  refine g_istore_n X [(2, .int t0), (0, .ref (ad 0)), (1, .int x1), (3, .int x3), (4, .int x4), (5, .int x5)] dX7_swap_154 (by decide) rfl ?_
  refine g_iincV X 1 5 (fun v27 => [(5, .int v27), (2, .int t0), (0, .ref (ad 0)), (1, .int x1), (3, .int x3), (4, .int x4)]) dX7_swap_155 rfl rfl (by decide) (fun _ => rfl) hf (fun v27 hf => ?_)
  refine g_goto X 47 dX7_swap_158 rfl ?_
  refine g_sub [2, 3, 1, 4, 5, 0] [(0, .ref (ad 0)), (1, .int x1), (2, .int t0), (3, .int x3), (4, .int x4), (5, .int v27)] rfl ?_
  exact H47 σ x1 t0 x3 x4 v27 hf
set_option maxHeartbeats 4000000 in
theorem w_X7_swap_b137 {Γ : gG} {ad : Nat → Nat} {r : Int32} {u : gM} (X : gCX Γ cX7_swap 6 (some .int) RX7 rm_X7_swap) {k29 : gM → Int32 → Int32 → Int32 → Int32 → Option (Int32 × gM)} (H29 : ∀ (σ : gM) (x1 : Int32) (x2 : Int32) (x3 : Int32) (x4 : Int32), k29 σ x1 x2 x3 x4 = some (r, u) → gW Γ (gMQ Γ (gPi (gEo Γ) (wM (gEo Γ) ad) r u (gAo Γ)) 0 0) (wM (gEo Γ) ad σ) 6 0 0 29 [(0, .ref (ad 0)), (1, .int x1), (2, .int x2), (3, .int x3), (4, .int x4)] []) {k47 : gM → Int32 → Int32 → Int32 → Int32 → Int32 → Option (Int32 × gM)} (H47 : ∀ (σ : gM) (x1 : Int32) (x2 : Int32) (x3 : Int32) (x4 : Int32) (x5 : Int32), k47 σ x1 x2 x3 x4 x5 = some (r, u) → gW Γ (gMQ Γ (gPi (gEo Γ) (wM (gEo Γ) ad) r u (gAo Γ)) 0 0) (wM (gEo Γ) ad σ) 6 0 0 47 [(0, .ref (ad 0)), (1, .int x1), (2, .int x2), (3, .int x3), (4, .int x4), (5, .int x5)] []) : ∀ (σ : gM) (x1 : Int32) (x2 : Int32) (x4 : Int32) (x5 : Int32) (t0 : Int32), f_X7_swap_b137 k29 k47 σ x1 x2 x4 x5 t0 = some (r, u) → gW Γ (gMQ Γ (gPi (gEo Γ) (wM (gEo Γ) ad) r u (gAo Γ)) 0 0) (wM (gEo Γ) ad σ) 6 0 0 137 [(0, .ref (ad 0)), (1, .int x1), (2, .int x2), (4, .int x4), (5, .int x5)] [.int t0] := by
  intro σ x1 x2 x4 x5 t0 hf
  unfold f_X7_swap_b137 at hf
  refine g_istore_n X [(3, .int t0), (0, .ref (ad 0)), (1, .int x1), (2, .int x2), (4, .int x4), (5, .int x5)] dX7_swap_137 (by decide) rfl ?_
  refine g_aload_n X 1 dX7_swap_138 rfl ?_
  refine g_callVi X 0 (As := []) (wfc := wM (gEo Γ) ad) (lw_V q1240 q1242 qs54 q67 q1243) (by decide +kernel) (fun r_ u_ h_ sz_ => m_X7_goneThen (gl Γ) (gEo Γ) ad σ r_ u_ h_ sz_) (rq := 0) rfl rfl rfl rfl rfl ⟨by decide, by decide⟩ rfl (Nat.le_of_ble_eq_true rfl) ⟨Nat.zero_le _, Nat.zero_le _⟩ [0, 1, 2, 3, 4, 5, 6, 7, 8, 9, 10, 11, 12] [] [0, 1, 2, 3, 4, 5, 6, 7, 8, 9, 10, 11, 12] (fun u24 => wM (gEo Γ) ad u24) rfl rfl rfl rfl (by decide) rfl (fun _ => rfl) dX7_swap_139 hf (fun r23 u24 _ hf => ?_)
  refine g_iload_n X 3 dX7_swap_142 rfl ?_
  refine g_icmp_le X 153 dX7_swap_143 rfl hf (fun hf => ?_) (fun hf => ?_)
  · refine g_iload_n X 3 dX7_swap_153 rfl ?_
    refine g_sub [1, 2, 0, 4, 5] [(0, .ref (ad 0)), (1, .int x1), (3, .int t0), (4, .int x4), (5, .int x5)] rfl ?_
    exact w_X7_swap_b154 X H29 H47 u24 x1 t0 x4 x5 x2 hf
  · refine g_aload_n X 1 dX7_swap_146 rfl ?_
    refine g_callVi X 0 (As := []) (wfc := wM (gEo Γ) ad) (lw_V q1240 q1242 qs54 q67 q1243) (by decide +kernel) (fun r_ u_ h_ sz_ => m_X7_goneThen (gl Γ) (gEo Γ) ad u24 r_ u_ h_ sz_) (rq := 0) rfl rfl rfl rfl rfl ⟨by decide, by decide⟩ rfl (Nat.le_of_ble_eq_true rfl) ⟨Nat.zero_le _, Nat.zero_le _⟩ [0, 1, 2, 3, 4, 5, 6, 7, 8, 9, 10, 11, 12] [] [0, 1, 2, 3, 4, 5, 6, 7, 8, 9, 10, 11, 12] (fun u26 => wM (gEo Γ) ad u26) rfl rfl rfl rfl (by decide) rfl (fun _ => rfl) dX7_swap_147 hf (fun r25 u26 _ hf => ?_)
    refine g_goto X 154 dX7_swap_150 rfl ?_
    refine g_sub [1, 2, 0, 4, 5] [(0, .ref (ad 0)), (1, .int x1), (3, .int t0), (4, .int x4), (5, .int x5)] rfl ?_
    exact w_X7_swap_b154 X H29 H47 u26 x1 t0 x4 x5 r25 hf
set_option maxHeartbeats 4000000 in
theorem w_X7_swap_b47 {Γ : gG} {ad : Nat → Nat} {r : Int32} {u : gM} (X : gCX Γ cX7_swap 6 (some .int) RX7 rm_X7_swap) {k29 : gM → Int32 → Int32 → Int32 → Int32 → Option (Int32 × gM)} (H29 : ∀ (σ : gM) (x1 : Int32) (x2 : Int32) (x3 : Int32) (x4 : Int32), k29 σ x1 x2 x3 x4 = some (r, u) → gW Γ (gMQ Γ (gPi (gEo Γ) (wM (gEo Γ) ad) r u (gAo Γ)) 0 0) (wM (gEo Γ) ad σ) 6 0 0 29 [(0, .ref (ad 0)), (1, .int x1), (2, .int x2), (3, .int x3), (4, .int x4)] []) : ∀ (n_ : Nat) (σ : gM) (x1 : Int32) (x2 : Int32) (x3 : Int32) (x4 : Int32) (x5 : Int32), f_X7_swap_b47 k29 n_ σ x1 x2 x3 x4 x5 = some (r, u) → gW Γ (gMQ Γ (gPi (gEo Γ) (wM (gEo Γ) ad) r u (gAo Γ)) 0 0) (wM (gEo Γ) ad σ) 6 0 0 47 [(0, .ref (ad 0)), (1, .int x1), (2, .int x2), (3, .int x3), (4, .int x4), (5, .int x5)] [] := by
  intro n_
  induction n_ with
  | zero => intro σ x1 x2 x3 x4 x5 hf; cases hf
  | succ n_ ih =>
    intro σ x1 x2 x3 x4 x5 hf
    simp only [f_X7_swap_b47] at hf
    refine g_iload X 5 dX7_swap_47 rfl ?_
    refine g_aload_n X 0 dX7_swap_49 rfl ?_
    refine g_get X in_X7 0 0 rfl rfl (by decide) q917 rfl dX7_swap_50 ?_
    refine g_bipush X 27 dX7_swap_53 rfl ?_
    refine g_iald X 1 rfl dX7_swap_55 hf (fun v9 hf => ?_)
    refine g_icmp_ge X 161 dX7_swap_56 rfl hf (fun hf => ?_) (fun hf => ?_)
    · refine g_iincV X 1 4 (fun v10 => [(4, .int v10), (0, .ref (ad 0)), (1, .int x1), (2, .int x2), (3, .int x3), (5, .int x5)]) dX7_swap_161 rfl rfl (by decide) (fun _ => rfl) hf (fun v10 hf => ?_)
      refine g_goto X 29 dX7_swap_164 rfl ?_
      refine g_sub [1, 2, 3, 4, 0] [(0, .ref (ad 0)), (1, .int x1), (2, .int x2), (3, .int x3), (4, .int v10)] rfl ?_
      exact H29 σ x1 x2 x3 v10 hf
    · refine g_aload_n X 0 dX7_swap_59 rfl ?_
      refine g_iconst X 0 dX7_swap_60 rfl ?_
      refine g_sipush X 140 dX7_swap_61 rfl ?_
      refine g_callVv X 2 (As := [.int 0, .int 140]) (wfc := wM (gEo Γ) ad) (lw_V q1199 q1201 qs51 q67 q1202) (by decide +kernel) (fun u_ h_ sz_ => m_X7_copies (gl Γ) (gEo Γ) ad σ 0 140 u_ h_ sz_) (rq := 0) rfl rfl rfl rfl rfl ⟨by decide, by decide⟩ rfl (Nat.le_of_ble_eq_true rfl) ⟨Nat.zero_le _, Nat.zero_le _⟩ [0, 1, 2, 3, 4, 5, 6, 7, 8, 9, 10, 11, 12] [] [0, 1, 2, 3, 4, 5, 6, 7, 8, 9, 10, 11, 12] (fun u12 => wM (gEo Γ) ad u12) rfl rfl rfl rfl (by decide) rfl (fun _ => rfl) dX7_swap_64 hf (fun u12 _ hf => ?_)
      refine g_aload_n X 0 dX7_swap_67 rfl ?_
      refine g_get X in_X7 0 0 rfl rfl (by decide) q917 rfl dX7_swap_68 ?_
      refine g_sipush X 159 dX7_swap_71 rfl ?_
      refine g_iload X 4 dX7_swap_74 rfl ?_
      refine g_iadd X dX7_swap_76 ?_
      refine g_aload_n X 0 dX7_swap_77 rfl ?_
      refine g_get X in_X7 0 0 rfl rfl (by decide) q917 rfl dX7_swap_78 ?_
      refine g_bipush X 19 dX7_swap_81 rfl ?_
      refine g_iload X 5 dX7_swap_83 rfl ?_
      refine g_iadd X dX7_swap_85 ?_
      refine g_iald X 1 rfl dX7_swap_86 hf (fun v13 hf => ?_)
      refine g_iast X 1 (fun g14 => wM (gEo Γ) ad (M_state_s u12 g14)) rfl (fun _ => rfl) dX7_swap_87 hf (fun g14 hf => ?_)
      refine g_gs (wM (gEo Γ) ad) hf (fun s15 hf => ?_)
      refine g_aload_n X 0 dX7_swap_88 rfl ?_
      refine g_get X in_X7 0 0 rfl rfl (by decide) q917 rfl dX7_swap_89 ?_
      refine g_sipush X 159 dX7_swap_92 rfl ?_
      refine g_iload X 5 dX7_swap_95 rfl ?_
      refine g_iadd X dX7_swap_97 ?_
      refine g_aload_n X 0 dX7_swap_98 rfl ?_
      refine g_get X in_X7 0 0 rfl rfl (by decide) q917 rfl dX7_swap_99 ?_
      refine g_bipush X 19 dX7_swap_102 rfl ?_
      refine g_iload X 4 dX7_swap_104 rfl ?_
      refine g_iadd X dX7_swap_106 ?_
      refine g_iald X 1 rfl dX7_swap_107 hf (fun v16 hf => ?_)
      refine g_iast X 1 (fun g17 => wM (gEo Γ) ad (M_state_s s15 g17)) rfl (fun _ => rfl) dX7_swap_108 hf (fun g17 hf => ?_)
      refine g_gs (wM (gEo Γ) ad) hf (fun s18 hf => ?_)
      refine g_aload_n X 0 dX7_swap_109 rfl ?_
      refine g_sipush X 140 dX7_swap_110 rfl ?_
      refine g_iconst X 0 dX7_swap_113 rfl ?_
      refine g_callVv X 2 (As := [.int 140, .int 0]) (wfc := wM (gEo Γ) ad) (lw_V q1191 q1193 qs49 q67 q1194) (by decide +kernel) (fun u_ h_ sz_ => m_X7_planGoes (gl Γ) (gEo Γ) ad s18 140 0 u_ h_ sz_) (rq := 0) rfl rfl rfl rfl rfl ⟨by decide, by decide⟩ rfl (Nat.le_of_ble_eq_true rfl) ⟨Nat.zero_le _, Nat.zero_le _⟩ [0, 1, 2, 3, 4, 5, 6, 7, 8, 9, 10, 11, 12] [] [0, 1, 2, 3, 4, 5, 6, 7, 8, 9, 10, 11, 12] (fun u20 => wM (gEo Γ) ad u20) rfl rfl rfl rfl (by decide) rfl (fun _ => rfl) dX7_swap_114 hf (fun u20 _ hf => ?_)
      refine g_aload_n X 0 dX7_swap_117 rfl ?_
      refine g_callVi X 0 (As := []) (wfc := wM (gEo Γ) ad) (lw_V q1240 q1242 qs54 q67 q1243) (by decide +kernel) (fun r_ u_ h_ sz_ => m_X7_goneThen (gl Γ) (gEo Γ) ad u20 r_ u_ h_ sz_) (rq := 0) rfl rfl rfl rfl rfl ⟨by decide, by decide⟩ rfl (Nat.le_of_ble_eq_true rfl) ⟨Nat.zero_le _, Nat.zero_le _⟩ [0, 1, 2, 3, 4, 5, 6, 7, 8, 9, 10, 11, 12] [] [0, 1, 2, 3, 4, 5, 6, 7, 8, 9, 10, 11, 12] (fun u22 => wM (gEo Γ) ad u22) rfl rfl rfl rfl (by decide) rfl (fun _ => rfl) dX7_swap_118 hf (fun r21 u22 _ hf => ?_)
      refine g_iload_n X 2 dX7_swap_121 rfl ?_
      refine g_icmp_le X 136 dX7_swap_122 rfl hf (fun hf => ?_) (fun hf => ?_)
      · refine g_iload_n X 3 dX7_swap_136 rfl ?_
        refine g_sub [0, 1, 2, 4, 5] [(0, .ref (ad 0)), (1, .int x1), (2, .int x2), (4, .int x4), (5, .int x5)] rfl ?_
        exact w_X7_swap_b137 X H29 ih u22 x1 x2 x4 x5 x3 hf
      · refine g_bipush X 10 dX7_swap_125 rfl ?_
        refine g_iload X 4 dX7_swap_127 rfl ?_
        refine g_imul X dX7_swap_129 ?_
        refine g_iload X 5 dX7_swap_130 rfl ?_
        refine g_iadd X dX7_swap_132 ?_
        refine g_goto X 137 dX7_swap_133 rfl ?_
        refine g_sub [0, 1, 2, 4, 5] [(0, .ref (ad 0)), (1, .int x1), (2, .int x2), (4, .int x4), (5, .int x5)] rfl ?_
        exact w_X7_swap_b137 X H29 ih u22 x1 x2 x4 x5 (((10 : Int32) * x4) + x5) hf
set_option maxHeartbeats 4000000 in
theorem w_X7_swap_b177 {Γ : gG} {ad : Nat → Nat} {r : Int32} {u : gM} (X : gCX Γ cX7_swap 6 (some .int) RX7 rm_X7_swap) : ∀ (σ : gM) (x3 : Int32), f_X7_swap_b177 σ x3 = some (r, u) → gW Γ (gMQ Γ (gPi (gEo Γ) (wM (gEo Γ) ad) r u (gAo Γ)) 0 0) (wM (gEo Γ) ad σ) 6 0 0 177 [(3, .int x3)] [] := by
  intro σ x3 hf
  unfold f_X7_swap_b177 at hf
  refine g_iload_n X 0 dX7_swap_177 rfl ?_
  refine g_goto X 182 dX7_swap_178 rfl ?_
  exact g_iret X rfl dX7_swap_182 hf
set_option maxHeartbeats 4000000 in
theorem w_X7_swap_b29 {Γ : gG} {ad : Nat → Nat} {r : Int32} {u : gM} (X : gCX Γ cX7_swap 6 (some .int) RX7 rm_X7_swap) : ∀ (n_ : Nat) (σ : gM) (x1 : Int32) (x2 : Int32) (x3 : Int32) (x4 : Int32), f_X7_swap_b29 n_ σ x1 x2 x3 x4 = some (r, u) → gW Γ (gMQ Γ (gPi (gEo Γ) (wM (gEo Γ) ad) r u (gAo Γ)) 0 0) (wM (gEo Γ) ad σ) 6 0 0 29 [(0, .ref (ad 0)), (1, .int x1), (2, .int x2), (3, .int x3), (4, .int x4)] [] := by
  intro n_
  induction n_ with
  | zero => intro σ x1 x2 x3 x4 hf; cases hf
  | succ n_ ih =>
    intro σ x1 x2 x3 x4 hf
    simp only [f_X7_swap_b29] at hf
    refine g_iload X 4 dX7_swap_29 rfl ?_
    refine g_aload_n X 0 dX7_swap_31 rfl ?_
    refine g_get X in_X7 0 0 rfl rfl (by decide) q917 rfl dX7_swap_32 ?_
    refine g_bipush X 27 dX7_swap_35 rfl ?_
    refine g_iald X 1 rfl dX7_swap_37 hf (fun v7 hf => ?_)
    refine g_icmp_ge X 167 dX7_swap_38 rfl hf (fun hf => ?_) (fun hf => ?_)
    · refine g_iload_n X 3 dX7_swap_167 rfl ?_
      refine g_bipush X (-4) dX7_swap_168 rfl ?_
      refine g_icmp_eq X 177 dX7_swap_170 rfl hf (fun hf => ?_) (fun hf => ?_)
      · refine g_sub [3] [(3, .int x3)] rfl ?_
        exact w_X7_swap_b177 X σ x3 hf
      · refine g_iload_n X 1 dX7_swap_173 rfl ?_
        refine g_if_ne X 181 dX7_swap_174 rfl hf (fun hf => ?_) (fun hf => ?_)
        · refine g_iload_n X 2 dX7_swap_181 rfl ?_
          exact g_iret X rfl dX7_swap_182 hf
        · refine g_sub [3] [(3, .int x3)] rfl ?_
          exact w_X7_swap_b177 X σ x3 hf
    · refine g_iload X 4 dX7_swap_41 rfl ?_
      refine g_iconst X 1 dX7_swap_43 rfl ?_
      refine g_iadd X dX7_swap_44 ?_
      refine g_topi hf (fun v8 hf => ?_)
      refine g_istore X [(5, .int v8), (0, .ref (ad 0)), (1, .int x1), (2, .int x2), (3, .int x3), (4, .int x4)] dX7_swap_45 (by decide) rfl ?_
      refine g_sub [1, 2, 3, 4, 5, 0] [(0, .ref (ad 0)), (1, .int x1), (2, .int x2), (3, .int x3), (4, .int x4), (5, .int v8)] rfl ?_
      exact w_X7_swap_b47 X ih 2000 σ x1 x2 x3 x4 v8 hf
set_option maxHeartbeats 4000000 in
theorem m_X7_swap (l : Launch) (E : gE) (ad : Nat → Nat) (σ : gM) (x1 : Int32) (r : Int32) (u : gM) (hf : f_X7_swap σ x1 = some (r, u)) (sz : Nat) : Met l yX7_swap (ws_ yX7_swap cX7_swap 6 (some .int)) rm_X7_swap (gPc [.ref (ad 0), .int x1] E (wM E ad σ) sz) (gPi E (wM E ad) r u (va_A (wM E ad σ) sz)) 0 0 (va_A (wM E ad σ) sz) := by
  refine gMet (Qc := gPi E (wM E ad) r u) (by decide) (Nat.le_of_ble_eq_true rfl) (fun Γ X hl hE => ?_)
  subst hl; subst hE
  unfold f_X7_swap at hf
  show gW Γ (gMQ Γ (gPi (gEo Γ) (wM (gEo Γ) ad) r u (gAo Γ)) 0 0) (wM (gEo Γ) ad σ) 6 0 0 0 [(0, .ref (ad 0)), (1, .int x1)] []
  refine g_iload_n X 1 dX7_swap_0 rfl ?_
  refine g_i2l X dX7_swap_1 ?_
  refine g_lconst X 0 dX7_swap_2 rfl ?_
  refine g_lconst X 1 dX7_swap_3 rfl ?_
  refine g_call0i X 3 (As := [.long (x1.toInt64), .long 0, .long 1]) (lw_S q1011 q1012 q67 q1013) (by decide +kernel) (fun r_ u_ h_ sz_ => m_X7_in (gl Γ) (gEo Γ) (x1.toInt64) 0 1 r_ u_ h_ sz_) rfl rfl ⟨by decide, by decide⟩ rfl (Nat.le_of_ble_eq_true rfl) ⟨Nat.zero_le _, Nat.zero_le _⟩ dX7_swap_4 hf (fun r1 _ hf => ?_)
  refine g_if_ne X 12 dX7_swap_7 rfl hf (fun hf => ?_) (fun hf => ?_)
  · refine g_aload_n X 0 dX7_swap_12 rfl ?_
    refine g_iconst X 0 dX7_swap_13 rfl ?_
    refine g_iconst X 0 dX7_swap_14 rfl ?_
    refine g_callVv X 2 (As := [.int 0, .int 0]) (wfc := wM (gEo Γ) ad) (lw_V q1191 q1193 qs49 q67 q1194) (by decide +kernel) (fun u_ h_ sz_ => m_X7_planGoes (gl Γ) (gEo Γ) ad σ 0 0 u_ h_ sz_) (rq := 0) rfl rfl rfl rfl rfl ⟨by decide, by decide⟩ rfl (Nat.le_of_ble_eq_true rfl) ⟨Nat.zero_le _, Nat.zero_le _⟩ [0, 1, 2, 3, 4, 5, 6, 7, 8, 9, 10, 11, 12] [] [0, 1, 2, 3, 4, 5, 6, 7, 8, 9, 10, 11, 12] (fun u4 => wM (gEo Γ) ad u4) rfl rfl rfl rfl (by decide) rfl (fun _ => rfl) dX7_swap_15 hf (fun u4 _ hf => ?_)
    refine g_aload_n X 0 dX7_swap_18 rfl ?_
    refine g_callVi X 0 (As := []) (wfc := wM (gEo Γ) ad) (lw_V q1240 q1242 qs54 q67 q1243) (by decide +kernel) (fun r_ u_ h_ sz_ => m_X7_goneThen (gl Γ) (gEo Γ) ad u4 r_ u_ h_ sz_) (rq := 0) rfl rfl rfl rfl rfl ⟨by decide, by decide⟩ rfl (Nat.le_of_ble_eq_true rfl) ⟨Nat.zero_le _, Nat.zero_le _⟩ [0, 1, 2, 3, 4, 5, 6, 7, 8, 9, 10, 11, 12] [] [0, 1, 2, 3, 4, 5, 6, 7, 8, 9, 10, 11, 12] (fun u6 => wM (gEo Γ) ad u6) rfl rfl rfl rfl (by decide) rfl (fun _ => rfl) dX7_swap_19 hf (fun r5 u6 _ hf => ?_)
    refine g_istore_n X [(2, .int r5), (0, .ref (ad 0)), (1, .int x1)] dX7_swap_22 (by decide) rfl ?_
    refine g_bipush X (-4) dX7_swap_23 rfl ?_
    refine g_istore_n X [(3, .int (-4)), (2, .int r5), (0, .ref (ad 0)), (1, .int x1)] dX7_swap_25 (by decide) rfl ?_
    refine g_iconst X 0 dX7_swap_26 rfl ?_
    refine g_istore X [(4, .int 0), (3, .int (-4)), (2, .int r5), (0, .ref (ad 0)), (1, .int x1)] dX7_swap_27 (by decide) rfl ?_
    refine g_sub [3, 4, 2, 1, 0] [(0, .ref (ad 0)), (1, .int x1), (2, .int r5), (3, .int (-4)), (4, .int 0)] rfl ?_
    exact w_X7_swap_b29 X 2000 u6 x1 r5 (-4) 0 hf
  · refine g_iconst X (-1) dX7_swap_10 rfl ?_
    exact g_iret X rfl dX7_swap_11 hf
def f_X7_enough_b2 : Nat → gM → Int32 → Option (Int32 × gM)
  | 0 => fun _ _ => none
  | n_ + 1 => fun σ x1 =>
    if 5 < x1 then (some ((-4), σ)) else ((f_X7_copies σ 0 140).bind fun u2 => gst 168 (M_state u2) 157 (x1 - 2) fun g3 => gs (M_state_s u2 g3) fun s4 => (f_X7_planGoes s4 140 0).bind fun u6 => (f_X7_waitingOn u6 112).bind fun (r7, u8) => if r7 = 0 then (some (x1, u8)) else (gv (x1 + 1) fun v9 => (f_X7_enough_b2 n_) u8 v9))
def f_X7_enough (σ : gM) : Option (Int32 × gM) :=
  f_X7_enough_b2 2000 σ 1
abbrev rm_X7_enough : Room := { frames := 6, cells := 0, slots := 0, locals := 129 }
set_option maxHeartbeats 4000000 in
theorem w_X7_enough_b2 {Γ : gG} {ad : Nat → Nat} {r : Int32} {u : gM} (X : gCX Γ cX7_enough 2 (some .int) RX7 rm_X7_enough) : ∀ (n_ : Nat) (σ : gM) (x1 : Int32), f_X7_enough_b2 n_ σ x1 = some (r, u) → gW Γ (gMQ Γ (gPi (gEo Γ) (wM (gEo Γ) ad) r u (gAo Γ)) 0 0) (wM (gEo Γ) ad σ) 2 0 0 2 [(0, .ref (ad 0)), (1, .int x1)] [] := by
  intro n_
  induction n_ with
  | zero => intro σ x1 hf; cases hf
  | succ n_ ih =>
    intro σ x1 hf
    simp only [f_X7_enough_b2] at hf
    refine g_iload_n X 1 dX7_enough_2 rfl ?_
    refine g_iconst X 5 dX7_enough_3 rfl ?_
    refine g_icmp_gt X 51 dX7_enough_4 rfl hf (fun hf => ?_) (fun hf => ?_)
    · refine g_bipush X (-4) dX7_enough_51 rfl ?_
      exact g_iret X rfl dX7_enough_53 hf
    · refine g_aload_n X 0 dX7_enough_7 rfl ?_
      refine g_iconst X 0 dX7_enough_8 rfl ?_
      refine g_sipush X 140 dX7_enough_9 rfl ?_
      refine g_callVv X 2 (As := [.int 0, .int 140]) (wfc := wM (gEo Γ) ad) (lw_V q1199 q1201 qs51 q67 q1202) (by decide +kernel) (fun u_ h_ sz_ => m_X7_copies (gl Γ) (gEo Γ) ad σ 0 140 u_ h_ sz_) (rq := 0) rfl rfl rfl rfl rfl ⟨by decide, by decide⟩ rfl (Nat.le_of_ble_eq_true rfl) ⟨Nat.zero_le _, Nat.zero_le _⟩ [0, 1, 2, 3, 4, 5, 6, 7, 8, 9, 10, 11, 12] [] [0, 1, 2, 3, 4, 5, 6, 7, 8, 9, 10, 11, 12] (fun u2 => wM (gEo Γ) ad u2) rfl rfl rfl rfl (by decide) rfl (fun _ => rfl) dX7_enough_12 hf (fun u2 _ hf => ?_)
      refine g_aload_n X 0 dX7_enough_15 rfl ?_
      refine g_get X in_X7 0 0 rfl rfl (by decide) q917 rfl dX7_enough_16 ?_
      refine g_sipush X 157 dX7_enough_19 rfl ?_
      refine g_iload_n X 1 dX7_enough_22 rfl ?_
      refine g_iconst X 2 dX7_enough_23 rfl ?_
      refine g_isub X dX7_enough_24 ?_
      refine g_iast X 1 (fun g3 => wM (gEo Γ) ad (M_state_s u2 g3)) rfl (fun _ => rfl) dX7_enough_25 hf (fun g3 hf => ?_)
      refine g_gs (wM (gEo Γ) ad) hf (fun s4 hf => ?_)
      refine g_aload_n X 0 dX7_enough_26 rfl ?_
      refine g_sipush X 140 dX7_enough_27 rfl ?_
      refine g_iconst X 0 dX7_enough_30 rfl ?_
      refine g_callVv X 2 (As := [.int 140, .int 0]) (wfc := wM (gEo Γ) ad) (lw_V q1191 q1193 qs49 q67 q1194) (by decide +kernel) (fun u_ h_ sz_ => m_X7_planGoes (gl Γ) (gEo Γ) ad s4 140 0 u_ h_ sz_) (rq := 0) rfl rfl rfl rfl rfl ⟨by decide, by decide⟩ rfl (Nat.le_of_ble_eq_true rfl) ⟨Nat.zero_le _, Nat.zero_le _⟩ [0, 1, 2, 3, 4, 5, 6, 7, 8, 9, 10, 11, 12] [] [0, 1, 2, 3, 4, 5, 6, 7, 8, 9, 10, 11, 12] (fun u6 => wM (gEo Γ) ad u6) rfl rfl rfl rfl (by decide) rfl (fun _ => rfl) dX7_enough_31 hf (fun u6 _ hf => ?_)
      refine g_aload_n X 0 dX7_enough_34 rfl ?_
      refine g_bipush X 112 dX7_enough_35 rfl ?_
      refine g_callVi X 1 (As := [.int 112]) (wfc := wM (gEo Γ) ad) (lw_V q1067 q1069 qs35 q67 q1070) (by decide +kernel) (fun r_ u_ h_ sz_ => m_X7_waitingOn (gl Γ) (gEo Γ) ad u6 112 r_ u_ h_ sz_) (rq := 0) rfl rfl rfl rfl rfl ⟨by decide, by decide⟩ rfl (Nat.le_of_ble_eq_true rfl) ⟨Nat.zero_le _, Nat.zero_le _⟩ [0, 1, 2, 3, 4, 5, 6, 7, 8, 9, 10, 11, 12] [] [0, 1, 2, 3, 4, 5, 6, 7, 8, 9, 10, 11, 12] (fun u8 => wM (gEo Γ) ad u8) rfl rfl rfl rfl (by decide) rfl (fun _ => rfl) dX7_enough_37 hf (fun r7 u8 _ hf => ?_)
      refine g_if_ne X 45 dX7_enough_40 rfl hf (fun hf => ?_) (fun hf => ?_)
      · refine g_iincV X 1 1 (fun v9 => [(1, .int v9), (0, .ref (ad 0))]) dX7_enough_45 rfl rfl (by decide) (fun _ => rfl) hf (fun v9 hf => ?_)
        refine g_goto X 2 dX7_enough_48 rfl ?_
        refine g_sub [1, 0] [(0, .ref (ad 0)), (1, .int v9)] rfl ?_
        exact ih u8 v9 hf
      · refine g_iload_n X 1 dX7_enough_43 rfl ?_
        exact g_iret X rfl dX7_enough_44 hf
set_option maxHeartbeats 4000000 in
theorem m_X7_enough (l : Launch) (E : gE) (ad : Nat → Nat) (σ : gM) (r : Int32) (u : gM) (hf : f_X7_enough σ = some (r, u)) (sz : Nat) : Met l yX7_enough (ws_ yX7_enough cX7_enough 2 (some .int)) rm_X7_enough (gPc [.ref (ad 0)] E (wM E ad σ) sz) (gPi E (wM E ad) r u (va_A (wM E ad σ) sz)) 0 0 (va_A (wM E ad σ) sz) := by
  refine gMet (Qc := gPi E (wM E ad) r u) (by decide) (Nat.le_of_ble_eq_true rfl) (fun Γ X hl hE => ?_)
  subst hl; subst hE
  unfold f_X7_enough at hf
  show gW Γ (gMQ Γ (gPi (gEo Γ) (wM (gEo Γ) ad) r u (gAo Γ)) 0 0) (wM (gEo Γ) ad σ) 2 0 0 0 [(0, .ref (ad 0))] []
  refine g_iconst X 1 dX7_enough_0 rfl ?_
  refine g_istore_n X [(1, .int 1), (0, .ref (ad 0))] dX7_enough_1 (by decide) rfl ?_
  refine g_sub [1, 0] [(0, .ref (ad 0)), (1, .int 1)] rfl ?_
  exact w_X7_enough_b2 X 2000 σ 1 hf
def f_X7_lowest_b41 (σ : Unit) (x5 : Int64) (t0 : Int64) : Option (Int64 × Unit) :=
  gdl x5 <| some (t0 / x5, ())
def f_X7_lowest_b6 : Nat → Unit → Int64 → Int64 → Int32 → Int64 → Int64 → Option (Int64 × Unit)
  | 0 => fun _ _ _ _ _ _ => none
  | n_ + 1 => fun σ x0 x2 x4 x5 x7 =>
    if (lg_cmp x7 0) = 0 then (if x4 = 0 then (f_X7_lowest_b41 () x5 x0) else (f_X7_lowest_b41 () x5 x2)) else (gdl x7 <| gvl (x5 - x5 / x7 * x7) fun v1 => (f_X7_lowest_b6 n_) () x0 x2 x4 x7 v1)
def f_X7_lowest (x0 : Int64) (x2 : Int64) (x4 : Int32) : Option (Int64 × Unit) :=
  f_X7_lowest_b6 2000 () x0 x2 x4 x0 x2
abbrev rm_X7_lowest : Room := { frames := 1, cells := 0, slots := 0, locals := 12 }
set_option maxHeartbeats 4000000 in
theorem w_X7_lowest_b41 {Γ : gG} {r : Int64} {u : Unit} (X : gCX Γ cX7_lowest 11 (some .long) RX7 rm_X7_lowest) : ∀ (σ : Unit) (x5 : Int64) (t0 : Int64), f_X7_lowest_b41 σ x5 t0 = some (r, u) → gW Γ (gMQ Γ (gPl (gEo Γ) (fun _ => []) r u (gAo Γ)) 0 0) [] 11 0 0 41 [(5, .long x5)] [.long t0] := by
  intro σ x5 t0 hf
  unfold f_X7_lowest_b41 at hf
  refine g_lload X 0 dX7_lowest_41 rfl ?_
  refine g_ldiv X dX7_lowest_43 hf (fun hf => ?_)
  exact g_lret X rfl dX7_lowest_44 hf
set_option maxHeartbeats 4000000 in
theorem w_X7_lowest_b6 {Γ : gG} {r : Int64} {u : Unit} (X : gCX Γ cX7_lowest 11 (some .long) RX7 rm_X7_lowest) : ∀ (n_ : Nat) (σ : Unit) (x0 : Int64) (x2 : Int64) (x4 : Int32) (x5 : Int64) (x7 : Int64), f_X7_lowest_b6 n_ σ x0 x2 x4 x5 x7 = some (r, u) → gW Γ (gMQ Γ (gPl (gEo Γ) (fun _ => []) r u (gAo Γ)) 0 0) [] 11 0 0 6 [(0, .long x0), (2, .long x2), (4, .int x4), (5, .long x5), (7, .long x7)] [] := by
  intro n_
  induction n_ with
  | zero => intro σ x0 x2 x4 x5 x7 hf; cases hf
  | succ n_ ih =>
    intro σ x0 x2 x4 x5 x7 hf
    simp only [f_X7_lowest_b6] at hf
    refine g_lload X 4 dX7_lowest_6 rfl ?_
    refine g_lconst X 0 dX7_lowest_8 rfl ?_
    refine g_lcmp X dX7_lowest_9 ?_
    refine g_if_eq X 31 dX7_lowest_10 rfl hf (fun hf => ?_) (fun hf => ?_)
    · refine g_iload X 2 dX7_lowest_31 rfl ?_
      refine g_if_ne X 40 dX7_lowest_33 rfl hf (fun hf => ?_) (fun hf => ?_)
      · refine g_lload_n X 1 dX7_lowest_40 rfl ?_
        refine g_sub [3] [(5, .long x5)] rfl ?_
        exact w_X7_lowest_b41 X () x5 x2 hf
      · refine g_lload_n X 0 dX7_lowest_36 rfl ?_
        refine g_goto X 41 dX7_lowest_37 rfl ?_
        refine g_sub [3] [(5, .long x5)] rfl ?_
        exact w_X7_lowest_b41 X () x5 x0 hf
    · refine g_lload X 3 dX7_lowest_13 rfl ?_
      refine g_lload X 4 dX7_lowest_15 rfl ?_
      refine g_lrem X dX7_lowest_17 hf (fun hf => ?_)
      refine g_topl hf (fun v1 hf => ?_)
      refine g_lstore X [(9, .long v1), (0, .long x0), (2, .long x2), (4, .int x4), (5, .long x5), (7, .long x7)] dX7_lowest_18 (by decide) rfl ?_
      refine g_lload X 5 dX7_lowest_20 rfl ?_
      refine g_lstore X [(5, .long x7), (9, .long v1), (0, .long x0), (2, .long x2), (4, .int x4), (7, .long x7)] dX7_lowest_22 (by decide) rfl ?_
      refine g_lload X 1 dX7_lowest_24 rfl ?_
      refine g_lstore X [(7, .long v1), (5, .long x7), (9, .long v1), (0, .long x0), (2, .long x2), (4, .int x4)] dX7_lowest_26 (by decide) rfl ?_
      refine g_goto X 6 dX7_lowest_28 rfl ?_
      refine g_sub [3, 4, 5, 1, 0] [(0, .long x0), (2, .long x2), (4, .int x4), (5, .long x7), (7, .long v1)] rfl ?_
      exact ih () x0 x2 x4 x7 v1 hf
set_option maxHeartbeats 4000000 in
theorem m_X7_lowest (l : Launch) (E : gE) (x0 : Int64) (x2 : Int64) (x4 : Int32) (r : Int64) (u : Unit) (hf : f_X7_lowest x0 x2 x4 = some (r, u)) (sz : Nat) : Met l yX7_lowest (ws_ yX7_lowest cX7_lowest 11 (some .long)) rm_X7_lowest (gPc [.long x0, .long x2, .int x4] E [] sz) (gPl E (fun _ => []) r u (va_A [] sz)) 0 0 (va_A [] sz) := by
  refine gMet (Qc := gPl E (fun _ => []) r u) (by decide) (Nat.le_of_ble_eq_true rfl) (fun Γ X hl hE => ?_)
  subst hl; subst hE
  unfold f_X7_lowest at hf
  show gW Γ (gMQ Γ (gPl (gEo Γ) (fun _ => []) r u (gAo Γ)) 0 0) [] 11 0 0 0 [(0, .long x0), (2, .long x2), (4, .int x4)] []
  refine g_lload_n X 0 dX7_lowest_0 rfl ?_
  refine g_lstore X [(5, .long x0), (0, .long x0), (2, .long x2), (4, .int x4)] dX7_lowest_1 (by decide) rfl ?_
  refine g_lload_n X 2 dX7_lowest_3 rfl ?_
  refine g_lstore X [(7, .long x2), (5, .long x0), (0, .long x0), (2, .long x2), (4, .int x4)] dX7_lowest_4 (by decide) rfl ?_
  refine g_sub [2, 3, 4, 1, 0] [(0, .long x0), (2, .long x2), (4, .int x4), (5, .long x0), (7, .long x2)] rfl ?_
  exact w_X7_lowest_b6 X 2000 () x0 x2 x4 x0 x2 hf
def f_X7_byFails_b42 (k6 : gM → Int32 → Int32 → Int32 → Int32 → Int32 → Option (Int64 × gM)) (σ : gM) (x1 : Int32) (x2 : Int32) (x3 : Int32) (x5 : Int32) (t0 : Int32) (t1 : Int32) : Option (Int64 × gM) :=
  gv (t1 ||| t0) fun v16 => gv (x5 + 1) fun v17 => k6 σ x1 x2 x3 v16 v17
def f_X7_byFails_b87 (k60 : gM → Int32 → Int32 → Int32 → Int32 → Int64 → Int64 → Int32 → Option (Int64 × gM)) (σ : gM) (x1 : Int32) (x2 : Int32) (x3 : Int32) (x4 : Int32) (x5 : Int64) (x9 : Int32) (t0 : Int64) (t1 : Int64) : Option (Int64 × gM) :=
  gvl (t1 * t0) fun v14 => gv (x9 + 1) fun v15 => k60 σ x1 x2 x3 x4 x5 v14 v15
def f_X7_byFails_b167 (k99 : gM → Int32 → Int32 → Int32 → Int32 → Int64 → Int64 → Int32 → Option (Int64 × gM)) (k123 : gM → Int32 → Int32 → Int32 → Int32 → Int64 → Int64 → Int32 → Int64 → Int32 → Option (Int64 × gM)) (σ : gM) (x1 : Int32) (x2 : Int32) (x3 : Int32) (x4 : Int32) (x5 : Int64) (x7 : Int64) (x9 : Int32) (x12 : Int32) (t0 : Int64) (t1 : Int64) : Option (Int64 × gM) :=
  gvl (t1 * t0) fun v12 => gv (x12 + 1) fun v13 => k123 σ x1 x2 x3 x4 x5 x7 x9 v12 v13
def f_X7_byFails_b216 (k99 : gM → Int32 → Int32 → Int32 → Int32 → Int64 → Int64 → Int32 → Option (Int64 × gM)) (σ : gM) (x1 : Int32) (x2 : Int32) (x3 : Int32) (x4 : Int32) (x5 : Int64) (x7 : Int64) (x9 : Int32) : Option (Int64 × gM) :=
  gv (x9 + 1) fun v11 => k99 σ x1 x2 x3 x4 x5 x7 v11
def f_X7_byFails_b211 (k99 : gM → Int32 → Int32 → Int32 → Int32 → Int64 → Int64 → Int32 → Option (Int64 × gM)) (σ : gM) (x1 : Int32) (x2 : Int32) (x3 : Int32) (x4 : Int32) (x7 : Int64) (x9 : Int32) (t0 : Int32) (t1 : Int64) (t2 : Int64) : Option (Int64 × gM) :=
  gvl (t2 + (t1 * (t0.toInt64))) fun v10 => f_X7_byFails_b216 k99 σ x1 x2 x3 x4 v10 x7 x9
def f_X7_byFails_b123 (k99 : gM → Int32 → Int32 → Int32 → Int32 → Int64 → Int64 → Int32 → Option (Int64 × gM)) : Nat → gM → Int32 → Int32 → Int32 → Int32 → Int64 → Int64 → Int32 → Int64 → Int32 → Option (Int64 × gM)
  | 0 => fun _ _ _ _ _ _ _ _ _ _ => none
  | n_ + 1 => fun σ x1 x2 x3 x4 x5 x7 x9 x10 x12 =>
    if 8 ≤ x12 then ((f_X7_planGoes σ 0 x9).bind fun u6 => if x2 = (-4) then ((f_X7_goneThen u6).bind fun (r8, u9) => f_X7_byFails_b211 k99 u9 x1 x2 x3 x4 x7 x9 r8 x10 x5) else (gld 168 (M_state u6) 127 fun v7 => f_X7_byFails_b211 k99 u6 x1 x2 x3 x4 x7 x9 ((v7 >>> (x2 &&& 31)) &&& 1) x10 x5)) else (if ((x4 >>> (x12 &&& 31)) &&& 1) = 0 then (f_X7_byFails_b167 k99 (f_X7_byFails_b123 k99 n_) σ x1 x2 x3 x4 x5 x7 x9 x12 1 x10) else (if ((x9 >>> (x12 &&& 31)) &&& 1) = 1 then (f_X7_byFails_b167 k99 (f_X7_byFails_b123 k99 n_) σ x1 x2 x3 x4 x5 x7 x9 x12 (x1.toInt64) x10) else (f_X7_byFails_b167 k99 (f_X7_byFails_b123 k99 n_) σ x1 x2 x3 x4 x5 x7 x9 x12 (((10 : Int32) - x1).toInt64) x10)))
def f_X7_byFails_b99 : Nat → gM → Int32 → Int32 → Int32 → Int32 → Int64 → Int64 → Int32 → Option (Int64 × gM)
  | 0 => fun _ _ _ _ _ _ _ _ => none
  | n_ + 1 => fun σ x1 x2 x3 x4 x5 x7 x9 =>
    if 256 ≤ x9 then ((f_X7_lowest x5 x7 x3).bind fun (r3, _) => some (r3, σ)) else (if (x9 &&& (x4 ^^^ (-1))) = 0 then (f_X7_byFails_b123 (f_X7_byFails_b99 n_) 2000 σ x1 x2 x3 x4 x5 x7 x9 1 0) else (f_X7_byFails_b216 (f_X7_byFails_b99 n_) σ x1 x2 x3 x4 x5 x7 x9))
def f_X7_byFails_b60 : Nat → gM → Int32 → Int32 → Int32 → Int32 → Int64 → Int64 → Int32 → Option (Int64 × gM)
  | 0 => fun _ _ _ _ _ _ _ _ => none
  | n_ + 1 => fun σ x1 x2 x3 x4 x5 x7 x9 =>
    if 8 ≤ x9 then (f_X7_byFails_b99 2000 σ x1 x2 x3 x4 x5 x7 0) else (if ((x4 >>> (x9 &&& 31)) &&& 1) = 1 then (f_X7_byFails_b87 (f_X7_byFails_b60 n_) σ x1 x2 x3 x4 x5 x9 10 x7) else (f_X7_byFails_b87 (f_X7_byFails_b60 n_) σ x1 x2 x3 x4 x5 x9 1 x7))
def f_X7_byFails_b6 : Nat → gM → Int32 → Int32 → Int32 → Int32 → Int32 → Option (Int64 × gM)
  | 0 => fun _ _ _ _ _ _ => none
  | n_ + 1 => fun σ x1 x2 x3 x4 x5 =>
    gld 168 (M_state σ) 27 fun v1 => if v1 ≤ x5 then (f_X7_byFails_b60 2000 σ x1 x2 x3 x4 0 1 0) else (gld 168 (M_state σ) ((19 : Int32) + x5) fun v2 => if 5 ≤ v2 then (f_X7_byFails_b42 (f_X7_byFails_b6 n_) σ x1 x2 x3 x5 0 x4) else (f_X7_byFails_b42 (f_X7_byFails_b6 n_) σ x1 x2 x3 x5 ((1 : Int32) <<< (x5 &&& 31)) x4))
def f_X7_byFails (σ : gM) (x1 : Int32) (x2 : Int32) (x3 : Int32) : Option (Int64 × gM) :=
  f_X7_byFails_b6 2000 σ x1 x2 x3 0 0
abbrev rm_X7_byFails : Room := { frames := 6, cells := 0, slots := 0, locals := 129 }
set_option maxHeartbeats 4000000 in
theorem w_X7_byFails_b42 {Γ : gG} {ad : Nat → Nat} {r : Int64} {u : gM} (X : gCX Γ cX7_byFails 13 (some .long) RX7 rm_X7_byFails) {k6 : gM → Int32 → Int32 → Int32 → Int32 → Int32 → Option (Int64 × gM)} (H6 : ∀ (σ : gM) (x1 : Int32) (x2 : Int32) (x3 : Int32) (x4 : Int32) (x5 : Int32), k6 σ x1 x2 x3 x4 x5 = some (r, u) → gW Γ (gMQ Γ (gPl (gEo Γ) (wM (gEo Γ) ad) r u (gAo Γ)) 0 0) (wM (gEo Γ) ad σ) 13 0 0 6 [(0, .ref (ad 0)), (1, .int x1), (2, .int x2), (3, .int x3), (4, .int x4), (5, .int x5)] []) : ∀ (σ : gM) (x1 : Int32) (x2 : Int32) (x3 : Int32) (x5 : Int32) (t0 : Int32) (t1 : Int32), f_X7_byFails_b42 k6 σ x1 x2 x3 x5 t0 t1 = some (r, u) → gW Γ (gMQ Γ (gPl (gEo Γ) (wM (gEo Γ) ad) r u (gAo Γ)) 0 0) (wM (gEo Γ) ad σ) 13 0 0 42 [(0, .ref (ad 0)), (1, .int x1), (2, .int x2), (3, .int x3), (5, .int x5)] [.int t0, .int t1] := by
  intro σ x1 x2 x3 x5 t0 t1 hf
  unfold f_X7_byFails_b42 at hf
  refine g_ior X dX7_byFails_42 ?_
  refine g_topi hf (fun v16 hf => ?_)
  refine g_istore X [(4, .int v16), (0, .ref (ad 0)), (1, .int x1), (2, .int x2), (3, .int x3), (5, .int x5)] dX7_byFails_43 (by decide) rfl ?_
  refine g_iincV X 1 5 (fun v17 => [(5, .int v17), (4, .int v16), (0, .ref (ad 0)), (1, .int x1), (2, .int x2), (3, .int x3)]) dX7_byFails_45 rfl rfl (by decide) (fun _ => rfl) hf (fun v17 hf => ?_)
  refine g_goto X 6 dX7_byFails_48 rfl ?_
  refine g_sub [2, 3, 4, 5, 1, 0] [(0, .ref (ad 0)), (1, .int x1), (2, .int x2), (3, .int x3), (4, .int v16), (5, .int v17)] rfl ?_
  exact H6 σ x1 x2 x3 v16 v17 hf
set_option maxHeartbeats 4000000 in
theorem w_X7_byFails_b87 {Γ : gG} {ad : Nat → Nat} {r : Int64} {u : gM} (X : gCX Γ cX7_byFails 13 (some .long) RX7 rm_X7_byFails) {k60 : gM → Int32 → Int32 → Int32 → Int32 → Int64 → Int64 → Int32 → Option (Int64 × gM)} (H60 : ∀ (σ : gM) (x1 : Int32) (x2 : Int32) (x3 : Int32) (x4 : Int32) (x5 : Int64) (x7 : Int64) (x9 : Int32), k60 σ x1 x2 x3 x4 x5 x7 x9 = some (r, u) → gW Γ (gMQ Γ (gPl (gEo Γ) (wM (gEo Γ) ad) r u (gAo Γ)) 0 0) (wM (gEo Γ) ad σ) 13 0 0 60 [(0, .ref (ad 0)), (1, .int x1), (2, .int x2), (3, .int x3), (4, .int x4), (5, .long x5), (7, .long x7), (9, .int x9)] []) : ∀ (σ : gM) (x1 : Int32) (x2 : Int32) (x3 : Int32) (x4 : Int32) (x5 : Int64) (x9 : Int32) (t0 : Int64) (t1 : Int64), f_X7_byFails_b87 k60 σ x1 x2 x3 x4 x5 x9 t0 t1 = some (r, u) → gW Γ (gMQ Γ (gPl (gEo Γ) (wM (gEo Γ) ad) r u (gAo Γ)) 0 0) (wM (gEo Γ) ad σ) 13 0 0 87 [(0, .ref (ad 0)), (1, .int x1), (2, .int x2), (3, .int x3), (4, .int x4), (5, .long x5), (9, .int x9)] [.long t0, .long t1] := by
  intro σ x1 x2 x3 x4 x5 x9 t0 t1 hf
  unfold f_X7_byFails_b87 at hf
  refine g_lmul X dX7_byFails_87 ?_
  refine g_topl hf (fun v14 hf => ?_)
  refine g_lstore X [(7, .long v14), (0, .ref (ad 0)), (1, .int x1), (2, .int x2), (3, .int x3), (4, .int x4), (5, .long x5), (9, .int x9)] dX7_byFails_88 (by decide) rfl ?_
  refine g_iincV X 1 7 (fun v15 => [(9, .int v15), (7, .long v14), (0, .ref (ad 0)), (1, .int x1), (2, .int x2), (3, .int x3), (4, .int x4), (5, .long x5)]) dX7_byFails_90 rfl rfl (by decide) (fun _ => rfl) hf (fun v15 hf => ?_)
  refine g_goto X 60 dX7_byFails_93 rfl ?_
  refine g_sub [2, 3, 4, 5, 6, 7, 1, 0] [(0, .ref (ad 0)), (1, .int x1), (2, .int x2), (3, .int x3), (4, .int x4), (5, .long x5), (7, .long v14), (9, .int v15)] rfl ?_
  exact H60 σ x1 x2 x3 x4 x5 v14 v15 hf
set_option maxHeartbeats 4000000 in
theorem w_X7_byFails_b167 {Γ : gG} {ad : Nat → Nat} {r : Int64} {u : gM} (X : gCX Γ cX7_byFails 13 (some .long) RX7 rm_X7_byFails) {k99 : gM → Int32 → Int32 → Int32 → Int32 → Int64 → Int64 → Int32 → Option (Int64 × gM)} (H99 : ∀ (σ : gM) (x1 : Int32) (x2 : Int32) (x3 : Int32) (x4 : Int32) (x5 : Int64) (x7 : Int64) (x9 : Int32), k99 σ x1 x2 x3 x4 x5 x7 x9 = some (r, u) → gW Γ (gMQ Γ (gPl (gEo Γ) (wM (gEo Γ) ad) r u (gAo Γ)) 0 0) (wM (gEo Γ) ad σ) 13 0 0 99 [(0, .ref (ad 0)), (1, .int x1), (2, .int x2), (3, .int x3), (4, .int x4), (5, .long x5), (7, .long x7), (9, .int x9)] []) {k123 : gM → Int32 → Int32 → Int32 → Int32 → Int64 → Int64 → Int32 → Int64 → Int32 → Option (Int64 × gM)} (H123 : ∀ (σ : gM) (x1 : Int32) (x2 : Int32) (x3 : Int32) (x4 : Int32) (x5 : Int64) (x7 : Int64) (x9 : Int32) (x10 : Int64) (x12 : Int32), k123 σ x1 x2 x3 x4 x5 x7 x9 x10 x12 = some (r, u) → gW Γ (gMQ Γ (gPl (gEo Γ) (wM (gEo Γ) ad) r u (gAo Γ)) 0 0) (wM (gEo Γ) ad σ) 13 0 0 123 [(0, .ref (ad 0)), (1, .int x1), (2, .int x2), (3, .int x3), (4, .int x4), (5, .long x5), (7, .long x7), (9, .int x9), (10, .long x10), (12, .int x12)] []) : ∀ (σ : gM) (x1 : Int32) (x2 : Int32) (x3 : Int32) (x4 : Int32) (x5 : Int64) (x7 : Int64) (x9 : Int32) (x12 : Int32) (t0 : Int64) (t1 : Int64), f_X7_byFails_b167 k99 k123 σ x1 x2 x3 x4 x5 x7 x9 x12 t0 t1 = some (r, u) → gW Γ (gMQ Γ (gPl (gEo Γ) (wM (gEo Γ) ad) r u (gAo Γ)) 0 0) (wM (gEo Γ) ad σ) 13 0 0 167 [(0, .ref (ad 0)), (1, .int x1), (2, .int x2), (3, .int x3), (4, .int x4), (5, .long x5), (7, .long x7), (9, .int x9), (12, .int x12)] [.long t0, .long t1] := by
  intro σ x1 x2 x3 x4 x5 x7 x9 x12 t0 t1 hf
  unfold f_X7_byFails_b167 at hf
  refine g_lmul X dX7_byFails_167 ?_
  refine g_topl hf (fun v12 hf => ?_)
  refine g_lstore X [(10, .long v12), (0, .ref (ad 0)), (1, .int x1), (2, .int x2), (3, .int x3), (4, .int x4), (5, .long x5), (7, .long x7), (9, .int x9), (12, .int x12)] dX7_byFails_168 (by decide) rfl ?_
  refine g_iincV X 1 9 (fun v13 => [(12, .int v13), (10, .long v12), (0, .ref (ad 0)), (1, .int x1), (2, .int x2), (3, .int x3), (4, .int x4), (5, .long x5), (7, .long x7), (9, .int x9)]) dX7_byFails_170 rfl rfl (by decide) (fun _ => rfl) hf (fun v13 hf => ?_)
  refine g_goto X 123 dX7_byFails_173 rfl ?_
  refine g_sub [2, 3, 4, 5, 6, 7, 8, 9, 1, 0] [(0, .ref (ad 0)), (1, .int x1), (2, .int x2), (3, .int x3), (4, .int x4), (5, .long x5), (7, .long x7), (9, .int x9), (10, .long v12), (12, .int v13)] rfl ?_
  exact H123 σ x1 x2 x3 x4 x5 x7 x9 v12 v13 hf
set_option maxHeartbeats 4000000 in
theorem w_X7_byFails_b216 {Γ : gG} {ad : Nat → Nat} {r : Int64} {u : gM} (X : gCX Γ cX7_byFails 13 (some .long) RX7 rm_X7_byFails) {k99 : gM → Int32 → Int32 → Int32 → Int32 → Int64 → Int64 → Int32 → Option (Int64 × gM)} (H99 : ∀ (σ : gM) (x1 : Int32) (x2 : Int32) (x3 : Int32) (x4 : Int32) (x5 : Int64) (x7 : Int64) (x9 : Int32), k99 σ x1 x2 x3 x4 x5 x7 x9 = some (r, u) → gW Γ (gMQ Γ (gPl (gEo Γ) (wM (gEo Γ) ad) r u (gAo Γ)) 0 0) (wM (gEo Γ) ad σ) 13 0 0 99 [(0, .ref (ad 0)), (1, .int x1), (2, .int x2), (3, .int x3), (4, .int x4), (5, .long x5), (7, .long x7), (9, .int x9)] []) : ∀ (σ : gM) (x1 : Int32) (x2 : Int32) (x3 : Int32) (x4 : Int32) (x5 : Int64) (x7 : Int64) (x9 : Int32), f_X7_byFails_b216 k99 σ x1 x2 x3 x4 x5 x7 x9 = some (r, u) → gW Γ (gMQ Γ (gPl (gEo Γ) (wM (gEo Γ) ad) r u (gAo Γ)) 0 0) (wM (gEo Γ) ad σ) 13 0 0 216 [(0, .ref (ad 0)), (1, .int x1), (2, .int x2), (3, .int x3), (4, .int x4), (5, .long x5), (7, .long x7), (9, .int x9)] [] := by
  intro σ x1 x2 x3 x4 x5 x7 x9 hf
  unfold f_X7_byFails_b216 at hf
  refine g_iincV X 1 7 (fun v11 => [(9, .int v11), (0, .ref (ad 0)), (1, .int x1), (2, .int x2), (3, .int x3), (4, .int x4), (5, .long x5), (7, .long x7)]) dX7_byFails_216 rfl rfl (by decide) (fun _ => rfl) hf (fun v11 hf => ?_)
  refine g_goto X 99 dX7_byFails_219 rfl ?_
  refine g_sub [1, 2, 3, 4, 5, 6, 7, 0] [(0, .ref (ad 0)), (1, .int x1), (2, .int x2), (3, .int x3), (4, .int x4), (5, .long x5), (7, .long x7), (9, .int v11)] rfl ?_
  exact H99 σ x1 x2 x3 x4 x5 x7 v11 hf
set_option maxHeartbeats 4000000 in
theorem w_X7_byFails_b211 {Γ : gG} {ad : Nat → Nat} {r : Int64} {u : gM} (X : gCX Γ cX7_byFails 13 (some .long) RX7 rm_X7_byFails) {k99 : gM → Int32 → Int32 → Int32 → Int32 → Int64 → Int64 → Int32 → Option (Int64 × gM)} (H99 : ∀ (σ : gM) (x1 : Int32) (x2 : Int32) (x3 : Int32) (x4 : Int32) (x5 : Int64) (x7 : Int64) (x9 : Int32), k99 σ x1 x2 x3 x4 x5 x7 x9 = some (r, u) → gW Γ (gMQ Γ (gPl (gEo Γ) (wM (gEo Γ) ad) r u (gAo Γ)) 0 0) (wM (gEo Γ) ad σ) 13 0 0 99 [(0, .ref (ad 0)), (1, .int x1), (2, .int x2), (3, .int x3), (4, .int x4), (5, .long x5), (7, .long x7), (9, .int x9)] []) : ∀ (σ : gM) (x1 : Int32) (x2 : Int32) (x3 : Int32) (x4 : Int32) (x7 : Int64) (x9 : Int32) (t0 : Int32) (t1 : Int64) (t2 : Int64), f_X7_byFails_b211 k99 σ x1 x2 x3 x4 x7 x9 t0 t1 t2 = some (r, u) → gW Γ (gMQ Γ (gPl (gEo Γ) (wM (gEo Γ) ad) r u (gAo Γ)) 0 0) (wM (gEo Γ) ad σ) 13 0 0 211 [(0, .ref (ad 0)), (1, .int x1), (2, .int x2), (3, .int x3), (4, .int x4), (7, .long x7), (9, .int x9)] [.int t0, .long t1, .long t2] := by
  intro σ x1 x2 x3 x4 x7 x9 t0 t1 t2 hf
  unfold f_X7_byFails_b211 at hf
  refine g_i2l X dX7_byFails_211 ?_
  refine g_lmul X dX7_byFails_212 ?_
  refine g_ladd X dX7_byFails_213 ?_
  refine g_topl hf (fun v10 hf => ?_)
  refine g_lstore X [(5, .long v10), (0, .ref (ad 0)), (1, .int x1), (2, .int x2), (3, .int x3), (4, .int x4), (7, .long x7), (9, .int x9)] dX7_byFails_214 (by decide) rfl ?_
  refine g_sub [1, 2, 3, 4, 5, 0, 6, 7] [(0, .ref (ad 0)), (1, .int x1), (2, .int x2), (3, .int x3), (4, .int x4), (5, .long v10), (7, .long x7), (9, .int x9)] rfl ?_
  exact w_X7_byFails_b216 X H99 σ x1 x2 x3 x4 v10 x7 x9 hf
set_option maxHeartbeats 4000000 in
theorem w_X7_byFails_b123 {Γ : gG} {ad : Nat → Nat} {r : Int64} {u : gM} (X : gCX Γ cX7_byFails 13 (some .long) RX7 rm_X7_byFails) {k99 : gM → Int32 → Int32 → Int32 → Int32 → Int64 → Int64 → Int32 → Option (Int64 × gM)} (H99 : ∀ (σ : gM) (x1 : Int32) (x2 : Int32) (x3 : Int32) (x4 : Int32) (x5 : Int64) (x7 : Int64) (x9 : Int32), k99 σ x1 x2 x3 x4 x5 x7 x9 = some (r, u) → gW Γ (gMQ Γ (gPl (gEo Γ) (wM (gEo Γ) ad) r u (gAo Γ)) 0 0) (wM (gEo Γ) ad σ) 13 0 0 99 [(0, .ref (ad 0)), (1, .int x1), (2, .int x2), (3, .int x3), (4, .int x4), (5, .long x5), (7, .long x7), (9, .int x9)] []) : ∀ (n_ : Nat) (σ : gM) (x1 : Int32) (x2 : Int32) (x3 : Int32) (x4 : Int32) (x5 : Int64) (x7 : Int64) (x9 : Int32) (x10 : Int64) (x12 : Int32), f_X7_byFails_b123 k99 n_ σ x1 x2 x3 x4 x5 x7 x9 x10 x12 = some (r, u) → gW Γ (gMQ Γ (gPl (gEo Γ) (wM (gEo Γ) ad) r u (gAo Γ)) 0 0) (wM (gEo Γ) ad σ) 13 0 0 123 [(0, .ref (ad 0)), (1, .int x1), (2, .int x2), (3, .int x3), (4, .int x4), (5, .long x5), (7, .long x7), (9, .int x9), (10, .long x10), (12, .int x12)] [] := by
  intro n_
  induction n_ with
  | zero => intro σ x1 x2 x3 x4 x5 x7 x9 x10 x12 hf; cases hf
  | succ n_ ih =>
    intro σ x1 x2 x3 x4 x5 x7 x9 x10 x12 hf
    simp only [f_X7_byFails_b123] at hf
    refine g_iload X 9 dX7_byFails_123 rfl ?_
    refine g_bipush X 8 dX7_byFails_125 rfl ?_
    refine g_icmp_ge X 176 dX7_byFails_127 rfl hf (fun hf => ?_) (fun hf => ?_)
    · refine g_aload_n X 0 dX7_byFails_176 rfl ?_
      refine g_iconst X 0 dX7_byFails_177 rfl ?_
      refine g_iload X 7 dX7_byFails_178 rfl ?_
      refine g_callVv X 2 (As := [.int 0, .int x9]) (wfc := wM (gEo Γ) ad) (lw_V q1191 q1193 qs49 q67 q1194) (by decide +kernel) (fun u_ h_ sz_ => m_X7_planGoes (gl Γ) (gEo Γ) ad σ 0 x9 u_ h_ sz_) (rq := 0) rfl rfl rfl rfl rfl ⟨by decide, by decide⟩ rfl (Nat.le_of_ble_eq_true rfl) ⟨Nat.zero_le _, Nat.zero_le _⟩ [0, 1, 2, 3, 4, 5, 6, 7, 8, 9, 10, 11, 12] [] [0, 1, 2, 3, 4, 5, 6, 7, 8, 9, 10, 11, 12] (fun u6 => wM (gEo Γ) ad u6) rfl rfl rfl rfl (by decide) rfl (fun _ => rfl) dX7_byFails_180 hf (fun u6 _ hf => ?_)
      refine g_lload X 5 dX7_byFails_183 rfl ?_
      refine g_lload X 8 dX7_byFails_185 rfl ?_
      refine g_iload_n X 2 dX7_byFails_187 rfl ?_
      refine g_bipush X (-4) dX7_byFails_188 rfl ?_
      refine g_icmp_ne X 200 dX7_byFails_190 rfl hf (fun hf => ?_) (fun hf => ?_)
      · refine g_aload_n X 0 dX7_byFails_200 rfl ?_
        refine g_get X in_X7 0 0 rfl rfl (by decide) q917 rfl dX7_byFails_201 ?_
        refine g_bipush X 127 dX7_byFails_204 rfl ?_
        refine g_iald X 1 rfl dX7_byFails_206 hf (fun v7 hf => ?_)
        refine g_iload_n X 2 dX7_byFails_207 rfl ?_
        refine g_ishr X dX7_byFails_208 ?_
        refine g_iconst X 1 dX7_byFails_209 rfl ?_
        refine g_iand X dX7_byFails_210 ?_
        refine g_sub [0, 1, 2, 3, 4, 6, 7] [(0, .ref (ad 0)), (1, .int x1), (2, .int x2), (3, .int x3), (4, .int x4), (7, .long x7), (9, .int x9)] rfl ?_
        exact w_X7_byFails_b211 X H99 u6 x1 x2 x3 x4 x7 x9 ((v7 >>> (x2 &&& 31)) &&& 1) x10 x5 hf
      · refine g_aload_n X 0 dX7_byFails_193 rfl ?_
        refine g_callVi X 0 (As := []) (wfc := wM (gEo Γ) ad) (lw_V q1240 q1242 qs54 q67 q1243) (by decide +kernel) (fun r_ u_ h_ sz_ => m_X7_goneThen (gl Γ) (gEo Γ) ad u6 r_ u_ h_ sz_) (rq := 0) rfl rfl rfl rfl rfl ⟨by decide, by decide⟩ rfl (Nat.le_of_ble_eq_true rfl) ⟨Nat.zero_le _, Nat.zero_le _⟩ [0, 1, 2, 3, 4, 5, 6, 7, 8, 9, 10, 11, 12] [] [0, 1, 2, 3, 4, 5, 6, 7, 8, 9, 10, 11, 12] (fun u9 => wM (gEo Γ) ad u9) rfl rfl rfl rfl (by decide) rfl (fun _ => rfl) dX7_byFails_194 hf (fun r8 u9 _ hf => ?_)
        refine g_goto X 211 dX7_byFails_197 rfl ?_
        refine g_sub [0, 1, 2, 3, 4, 6, 7] [(0, .ref (ad 0)), (1, .int x1), (2, .int x2), (3, .int x3), (4, .int x4), (7, .long x7), (9, .int x9)] rfl ?_
        exact w_X7_byFails_b211 X H99 u9 x1 x2 x3 x4 x7 x9 r8 x10 x5 hf
    · refine g_lload X 8 dX7_byFails_130 rfl ?_
      refine g_iload X 4 dX7_byFails_132 rfl ?_
      refine g_iload X 9 dX7_byFails_134 rfl ?_
      refine g_ishr X dX7_byFails_136 ?_
      refine g_iconst X 1 dX7_byFails_137 rfl ?_
      refine g_iand X dX7_byFails_138 ?_
      refine g_if_ne X 146 dX7_byFails_139 rfl hf (fun hf => ?_) (fun hf => ?_)
      · refine g_iload X 7 dX7_byFails_146 rfl ?_
        refine g_iload X 9 dX7_byFails_148 rfl ?_
        refine g_ishr X dX7_byFails_150 ?_
        refine g_iconst X 1 dX7_byFails_151 rfl ?_
        refine g_iand X dX7_byFails_152 ?_
        refine g_iconst X 1 dX7_byFails_153 rfl ?_
        refine g_icmp_ne X 162 dX7_byFails_154 rfl hf (fun hf => ?_) (fun hf => ?_)
        · refine g_bipush X 10 dX7_byFails_162 rfl ?_
          refine g_iload_n X 1 dX7_byFails_164 rfl ?_
          refine g_isub X dX7_byFails_165 ?_
          refine g_i2l X dX7_byFails_166 ?_
          refine g_sub [0, 1, 2, 3, 4, 5, 6, 7, 9] [(0, .ref (ad 0)), (1, .int x1), (2, .int x2), (3, .int x3), (4, .int x4), (5, .long x5), (7, .long x7), (9, .int x9), (12, .int x12)] rfl ?_
          exact w_X7_byFails_b167 X H99 ih σ x1 x2 x3 x4 x5 x7 x9 x12 (((10 : Int32) - x1).toInt64) x10 hf
        · refine g_iload_n X 1 dX7_byFails_157 rfl ?_
          refine g_i2l X dX7_byFails_158 ?_
          refine g_goto X 167 dX7_byFails_159 rfl ?_
          refine g_sub [0, 1, 2, 3, 4, 5, 6, 7, 9] [(0, .ref (ad 0)), (1, .int x1), (2, .int x2), (3, .int x3), (4, .int x4), (5, .long x5), (7, .long x7), (9, .int x9), (12, .int x12)] rfl ?_
          exact w_X7_byFails_b167 X H99 ih σ x1 x2 x3 x4 x5 x7 x9 x12 (x1.toInt64) x10 hf
      · refine g_lconst X 1 dX7_byFails_142 rfl ?_
        refine g_goto X 167 dX7_byFails_143 rfl ?_
        refine g_sub [0, 1, 2, 3, 4, 5, 6, 7, 9] [(0, .ref (ad 0)), (1, .int x1), (2, .int x2), (3, .int x3), (4, .int x4), (5, .long x5), (7, .long x7), (9, .int x9), (12, .int x12)] rfl ?_
        exact w_X7_byFails_b167 X H99 ih σ x1 x2 x3 x4 x5 x7 x9 x12 1 x10 hf
set_option maxHeartbeats 4000000 in
theorem w_X7_byFails_b99 {Γ : gG} {ad : Nat → Nat} {r : Int64} {u : gM} (X : gCX Γ cX7_byFails 13 (some .long) RX7 rm_X7_byFails) : ∀ (n_ : Nat) (σ : gM) (x1 : Int32) (x2 : Int32) (x3 : Int32) (x4 : Int32) (x5 : Int64) (x7 : Int64) (x9 : Int32), f_X7_byFails_b99 n_ σ x1 x2 x3 x4 x5 x7 x9 = some (r, u) → gW Γ (gMQ Γ (gPl (gEo Γ) (wM (gEo Γ) ad) r u (gAo Γ)) 0 0) (wM (gEo Γ) ad σ) 13 0 0 99 [(0, .ref (ad 0)), (1, .int x1), (2, .int x2), (3, .int x3), (4, .int x4), (5, .long x5), (7, .long x7), (9, .int x9)] [] := by
  intro n_
  induction n_ with
  | zero => intro σ x1 x2 x3 x4 x5 x7 x9 hf; cases hf
  | succ n_ ih =>
    intro σ x1 x2 x3 x4 x5 x7 x9 hf
    simp only [f_X7_byFails_b99] at hf
    refine g_iload X 7 dX7_byFails_99 rfl ?_
    refine g_sipush X 256 dX7_byFails_101 rfl ?_
    refine g_icmp_ge X 222 dX7_byFails_104 rfl hf (fun hf => ?_) (fun hf => ?_)
    · refine g_lload X 5 dX7_byFails_222 rfl ?_
      refine g_lload X 6 dX7_byFails_224 rfl ?_
      refine g_iload_n X 3 dX7_byFails_226 rfl ?_
      refine g_call0l X 3 (As := [.long x5, .long x7, .int x3]) (lw_S q1256 q1257 q67 q1258) (by decide +kernel) (fun r_ u_ h_ sz_ => m_X7_lowest (gl Γ) (gEo Γ) x5 x7 x3 r_ u_ h_ sz_) rfl rfl ⟨by decide, by decide⟩ rfl (Nat.le_of_ble_eq_true rfl) ⟨Nat.zero_le _, Nat.zero_le _⟩ dX7_byFails_227 hf (fun r3 _ hf => ?_)
      exact g_lret X rfl dX7_byFails_230 hf
    · refine g_iload X 7 dX7_byFails_107 rfl ?_
      refine g_iload X 4 dX7_byFails_109 rfl ?_
      refine g_iconst X (-1) dX7_byFails_111 rfl ?_
      refine g_ixor X dX7_byFails_112 ?_
      refine g_iand X dX7_byFails_113 ?_
      refine g_if_ne X 216 dX7_byFails_114 rfl hf (fun hf => ?_) (fun hf => ?_)
      · exact w_X7_byFails_b216 X ih σ x1 x2 x3 x4 x5 x7 x9 hf
      · refine g_lconst X 1 dX7_byFails_117 rfl ?_
        refine g_lstore X [(10, .long 1), (0, .ref (ad 0)), (1, .int x1), (2, .int x2), (3, .int x3), (4, .int x4), (5, .long x5), (7, .long x7), (9, .int x9)] dX7_byFails_118 (by decide) rfl ?_
        refine g_iconst X 0 dX7_byFails_120 rfl ?_
        refine g_istore X [(12, .int 0), (10, .long 1), (0, .ref (ad 0)), (1, .int x1), (2, .int x2), (3, .int x3), (4, .int x4), (5, .long x5), (7, .long x7), (9, .int x9)] dX7_byFails_121 (by decide) rfl ?_
        refine g_sub [2, 3, 4, 5, 6, 7, 8, 9, 1, 0] [(0, .ref (ad 0)), (1, .int x1), (2, .int x2), (3, .int x3), (4, .int x4), (5, .long x5), (7, .long x7), (9, .int x9), (10, .long 1), (12, .int 0)] rfl ?_
        exact w_X7_byFails_b123 X ih 2000 σ x1 x2 x3 x4 x5 x7 x9 1 0 hf
set_option maxHeartbeats 4000000 in
theorem w_X7_byFails_b60 {Γ : gG} {ad : Nat → Nat} {r : Int64} {u : gM} (X : gCX Γ cX7_byFails 13 (some .long) RX7 rm_X7_byFails) : ∀ (n_ : Nat) (σ : gM) (x1 : Int32) (x2 : Int32) (x3 : Int32) (x4 : Int32) (x5 : Int64) (x7 : Int64) (x9 : Int32), f_X7_byFails_b60 n_ σ x1 x2 x3 x4 x5 x7 x9 = some (r, u) → gW Γ (gMQ Γ (gPl (gEo Γ) (wM (gEo Γ) ad) r u (gAo Γ)) 0 0) (wM (gEo Γ) ad σ) 13 0 0 60 [(0, .ref (ad 0)), (1, .int x1), (2, .int x2), (3, .int x3), (4, .int x4), (5, .long x5), (7, .long x7), (9, .int x9)] [] := by
  intro n_
  induction n_ with
  | zero => intro σ x1 x2 x3 x4 x5 x7 x9 hf; cases hf
  | succ n_ ih =>
    intro σ x1 x2 x3 x4 x5 x7 x9 hf
    simp only [f_X7_byFails_b60] at hf
    refine g_iload X 7 dX7_byFails_60 rfl ?_
    refine g_bipush X 8 dX7_byFails_62 rfl ?_
    refine g_icmp_ge X 96 dX7_byFails_64 rfl hf (fun hf => ?_) (fun hf => ?_)
    · refine g_iconst X 0 dX7_byFails_96 rfl ?_
      refine g_istore X [(9, .int 0), (0, .ref (ad 0)), (1, .int x1), (2, .int x2), (3, .int x3), (4, .int x4), (5, .long x5), (7, .long x7)] dX7_byFails_97 (by decide) rfl ?_
      refine g_sub [1, 2, 3, 4, 5, 6, 7, 0] [(0, .ref (ad 0)), (1, .int x1), (2, .int x2), (3, .int x3), (4, .int x4), (5, .long x5), (7, .long x7), (9, .int 0)] rfl ?_
      exact w_X7_byFails_b99 X 2000 σ x1 x2 x3 x4 x5 x7 0 hf
    · refine g_lload X 6 dX7_byFails_67 rfl ?_
      refine g_iload X 4 dX7_byFails_69 rfl ?_
      refine g_iload X 7 dX7_byFails_71 rfl ?_
      refine g_ishr X dX7_byFails_73 ?_
      refine g_iconst X 1 dX7_byFails_74 rfl ?_
      refine g_iand X dX7_byFails_75 ?_
      refine g_iconst X 1 dX7_byFails_76 rfl ?_
      refine g_icmp_ne X 86 dX7_byFails_77 rfl hf (fun hf => ?_) (fun hf => ?_)
      · refine g_lconst X 1 dX7_byFails_86 rfl ?_
        refine g_sub [0, 1, 2, 3, 4, 5, 7] [(0, .ref (ad 0)), (1, .int x1), (2, .int x2), (3, .int x3), (4, .int x4), (5, .long x5), (9, .int x9)] rfl ?_
        exact w_X7_byFails_b87 X ih σ x1 x2 x3 x4 x5 x9 1 x7 hf
      · refine g_ldc2 X dX7_byFails_80 q1219 ?_
        refine g_goto X 87 dX7_byFails_83 rfl ?_
        refine g_sub [0, 1, 2, 3, 4, 5, 7] [(0, .ref (ad 0)), (1, .int x1), (2, .int x2), (3, .int x3), (4, .int x4), (5, .long x5), (9, .int x9)] rfl ?_
        exact w_X7_byFails_b87 X ih σ x1 x2 x3 x4 x5 x9 10 x7 hf
set_option maxHeartbeats 4000000 in
theorem w_X7_byFails_b6 {Γ : gG} {ad : Nat → Nat} {r : Int64} {u : gM} (X : gCX Γ cX7_byFails 13 (some .long) RX7 rm_X7_byFails) : ∀ (n_ : Nat) (σ : gM) (x1 : Int32) (x2 : Int32) (x3 : Int32) (x4 : Int32) (x5 : Int32), f_X7_byFails_b6 n_ σ x1 x2 x3 x4 x5 = some (r, u) → gW Γ (gMQ Γ (gPl (gEo Γ) (wM (gEo Γ) ad) r u (gAo Γ)) 0 0) (wM (gEo Γ) ad σ) 13 0 0 6 [(0, .ref (ad 0)), (1, .int x1), (2, .int x2), (3, .int x3), (4, .int x4), (5, .int x5)] [] := by
  intro n_
  induction n_ with
  | zero => intro σ x1 x2 x3 x4 x5 hf; cases hf
  | succ n_ ih =>
    intro σ x1 x2 x3 x4 x5 hf
    simp only [f_X7_byFails_b6] at hf
    refine g_iload X 5 dX7_byFails_6 rfl ?_
    refine g_aload_n X 0 dX7_byFails_8 rfl ?_
    refine g_get X in_X7 0 0 rfl rfl (by decide) q917 rfl dX7_byFails_9 ?_
    refine g_bipush X 27 dX7_byFails_12 rfl ?_
    refine g_iald X 1 rfl dX7_byFails_14 hf (fun v1 hf => ?_)
    refine g_icmp_ge X 51 dX7_byFails_15 rfl hf (fun hf => ?_) (fun hf => ?_)
    · refine g_lconst X 0 dX7_byFails_51 rfl ?_
      refine g_lstore X [(5, .long 0), (0, .ref (ad 0)), (1, .int x1), (2, .int x2), (3, .int x3), (4, .int x4)] dX7_byFails_52 (by decide) rfl ?_
      refine g_lconst X 1 dX7_byFails_54 rfl ?_
      refine g_lstore X [(7, .long 1), (5, .long 0), (0, .ref (ad 0)), (1, .int x1), (2, .int x2), (3, .int x3), (4, .int x4)] dX7_byFails_55 (by decide) rfl ?_
      refine g_iconst X 0 dX7_byFails_57 rfl ?_
      refine g_istore X [(9, .int 0), (7, .long 1), (5, .long 0), (0, .ref (ad 0)), (1, .int x1), (2, .int x2), (3, .int x3), (4, .int x4)] dX7_byFails_58 (by decide) rfl ?_
      refine g_sub [3, 4, 5, 6, 7, 2, 1, 0] [(0, .ref (ad 0)), (1, .int x1), (2, .int x2), (3, .int x3), (4, .int x4), (5, .long 0), (7, .long 1), (9, .int 0)] rfl ?_
      exact w_X7_byFails_b60 X 2000 σ x1 x2 x3 x4 0 1 0 hf
    · refine g_iload X 4 dX7_byFails_18 rfl ?_
      refine g_aload_n X 0 dX7_byFails_20 rfl ?_
      refine g_get X in_X7 0 0 rfl rfl (by decide) q917 rfl dX7_byFails_21 ?_
      refine g_bipush X 19 dX7_byFails_24 rfl ?_
      refine g_iload X 5 dX7_byFails_26 rfl ?_
      refine g_iadd X dX7_byFails_28 ?_
      refine g_iald X 1 rfl dX7_byFails_29 hf (fun v2 hf => ?_)
      refine g_iconst X 5 dX7_byFails_30 rfl ?_
      refine g_icmp_ge X 41 dX7_byFails_31 rfl hf (fun hf => ?_) (fun hf => ?_)
      · refine g_iconst X 0 dX7_byFails_41 rfl ?_
        refine g_sub [0, 1, 2, 3, 5] [(0, .ref (ad 0)), (1, .int x1), (2, .int x2), (3, .int x3), (5, .int x5)] rfl ?_
        exact w_X7_byFails_b42 X ih σ x1 x2 x3 x5 0 x4 hf
      · refine g_iconst X 1 dX7_byFails_34 rfl ?_
        refine g_iload X 5 dX7_byFails_35 rfl ?_
        refine g_ishl X dX7_byFails_37 ?_
        refine g_goto X 42 dX7_byFails_38 rfl ?_
        refine g_sub [0, 1, 2, 3, 5] [(0, .ref (ad 0)), (1, .int x1), (2, .int x2), (3, .int x3), (5, .int x5)] rfl ?_
        exact w_X7_byFails_b42 X ih σ x1 x2 x3 x5 ((1 : Int32) <<< (x5 &&& 31)) x4 hf
set_option maxHeartbeats 4000000 in
theorem m_X7_byFails (l : Launch) (E : gE) (ad : Nat → Nat) (σ : gM) (x1 : Int32) (x2 : Int32) (x3 : Int32) (r : Int64) (u : gM) (hf : f_X7_byFails σ x1 x2 x3 = some (r, u)) (sz : Nat) : Met l yX7_byFails (ws_ yX7_byFails cX7_byFails 13 (some .long)) rm_X7_byFails (gPc [.ref (ad 0), .int x1, .int x2, .int x3] E (wM E ad σ) sz) (gPl E (wM E ad) r u (va_A (wM E ad σ) sz)) 0 0 (va_A (wM E ad σ) sz) := by
  refine gMet (Qc := gPl E (wM E ad) r u) (by decide) (Nat.le_of_ble_eq_true rfl) (fun Γ X hl hE => ?_)
  subst hl; subst hE
  unfold f_X7_byFails at hf
  show gW Γ (gMQ Γ (gPl (gEo Γ) (wM (gEo Γ) ad) r u (gAo Γ)) 0 0) (wM (gEo Γ) ad σ) 13 0 0 0 [(0, .ref (ad 0)), (1, .int x1), (2, .int x2), (3, .int x3)] []
  refine g_iconst X 0 dX7_byFails_0 rfl ?_
  refine g_istore X [(4, .int 0), (0, .ref (ad 0)), (1, .int x1), (2, .int x2), (3, .int x3)] dX7_byFails_1 (by decide) rfl ?_
  refine g_iconst X 0 dX7_byFails_3 rfl ?_
  refine g_istore X [(5, .int 0), (4, .int 0), (0, .ref (ad 0)), (1, .int x1), (2, .int x2), (3, .int x3)] dX7_byFails_4 (by decide) rfl ?_
  refine g_sub [2, 3, 4, 5, 1, 0] [(0, .ref (ad 0)), (1, .int x1), (2, .int x2), (3, .int x3), (4, .int 0), (5, .int 0)] rfl ?_
  exact w_X7_byFails_b6 X 2000 σ x1 x2 x3 0 0 hf
