set_option maxRecDepth 100000
abbrev gS : Type := Int32 × Int32 × Int32 × Int32 × Int32 × (Nat → Int32) × (Nat → Int32) × (Nat → Int32)
def S_people (σ : gS) : Int32 := σ.1
def S_people_s (σ : gS) (v : Int32) : gS := (v, σ.2.1, σ.2.2.1, σ.2.2.2.1, σ.2.2.2.2.1, σ.2.2.2.2.2.1, σ.2.2.2.2.2.2.1, σ.2.2.2.2.2.2.2)
def S_minute (σ : gS) : Int32 := σ.2.1
def S_minute_s (σ : gS) (v : Int32) : gS := (σ.1, v, σ.2.2.1, σ.2.2.2.1, σ.2.2.2.2.1, σ.2.2.2.2.2.1, σ.2.2.2.2.2.2.1, σ.2.2.2.2.2.2.2)
def S_room (σ : gS) : Int32 := σ.2.2.1
def S_room_s (σ : gS) (v : Int32) : gS := (σ.1, σ.2.1, v, σ.2.2.2.1, σ.2.2.2.2.1, σ.2.2.2.2.2.1, σ.2.2.2.2.2.2.1, σ.2.2.2.2.2.2.2)
def S_think (σ : gS) : Int32 := σ.2.2.2.1
def S_think_s (σ : gS) (v : Int32) : gS := (σ.1, σ.2.1, σ.2.2.1, v, σ.2.2.2.2.1, σ.2.2.2.2.2.1, σ.2.2.2.2.2.2.1, σ.2.2.2.2.2.2.2)
def S_planned (σ : gS) : Int32 := σ.2.2.2.2.1
def S_planned_s (σ : gS) (v : Int32) : gS := (σ.1, σ.2.1, σ.2.2.1, σ.2.2.2.1, v, σ.2.2.2.2.2.1, σ.2.2.2.2.2.2.1, σ.2.2.2.2.2.2.2)
def S_one (σ : gS) : Nat → Int32 := σ.2.2.2.2.2.1
def S_one_s (σ : gS) (v : Nat → Int32) : gS := (σ.1, σ.2.1, σ.2.2.1, σ.2.2.2.1, σ.2.2.2.2.1, v, σ.2.2.2.2.2.2.1, σ.2.2.2.2.2.2.2)
def S_wept (σ : gS) : Nat → Int32 := σ.2.2.2.2.2.2.1
def S_wept_s (σ : gS) (v : Nat → Int32) : gS := (σ.1, σ.2.1, σ.2.2.1, σ.2.2.2.1, σ.2.2.2.2.1, σ.2.2.2.2.2.1, v, σ.2.2.2.2.2.2.2)
def S_plan (σ : gS) : Nat → Int32 := σ.2.2.2.2.2.2.2
def S_plan_s (σ : gS) (v : Nat → Int32) : gS := (σ.1, σ.2.1, σ.2.2.1, σ.2.2.2.1, σ.2.2.2.2.1, σ.2.2.2.2.2.1, σ.2.2.2.2.2.2.1, v)
def wS (E : gE) (ad : Nat → Nat) (σ : gS) : va_W := [(ad 0, .inr (5, [.int (S_people σ), .ref (ad 1), .ref (ad 2), .int (S_minute σ), .int (S_room σ), .int (S_think σ), .int (S_planned σ), .ref (ad 3)])), (ad 1, .inl (E.2.2.1 0, 15, .inl (S_one σ))), (ad 2, .inl (E.2.2.1 1, 5, .inl (S_wept σ))), (ad 3, .inl (E.2.2.1 0, 8, .inl (S_plan σ)))]
abbrev gSS : Type := gS × gS
def T_a (σ : gSS) : gS := σ.1
def T_a_s (σ : gSS) (v : gS) : gSS := (v, σ.2)
def T_b (σ : gSS) : gS := σ.2
def T_b_s (σ : gSS) (v : gS) : gSS := (σ.1, v)
def wSS (E : gE) (ad : Nat → Nat) (σ : gSS) : va_W := [(ad 0, .inr (5, [.int (S_people (T_a σ)), .ref (ad 1), .ref (ad 2), .int (S_minute (T_a σ)), .int (S_room (T_a σ)), .int (S_think (T_a σ)), .int (S_planned (T_a σ)), .ref (ad 3)])), (ad 1, .inl (E.2.2.1 0, 15, .inl (S_one (T_a σ)))), (ad 2, .inl (E.2.2.1 1, 5, .inl (S_wept (T_a σ)))), (ad 3, .inl (E.2.2.1 0, 8, .inl (S_plan (T_a σ)))), (ad 4, .inr (5, [.int (S_people (T_b σ)), .ref (ad 5), .ref (ad 6), .int (S_minute (T_b σ)), .int (S_room (T_b σ)), .int (S_think (T_b σ)), .int (S_planned (T_b σ)), .ref (ad 7)])), (ad 5, .inl (E.2.2.1 0, 15, .inl (S_one (T_b σ)))), (ad 6, .inl (E.2.2.1 1, 5, .inl (S_wept (T_b σ)))), (ad 7, .inl (E.2.2.1 0, 8, .inl (S_plan (T_b σ))))]
def f_X0_has (x0 : Int32) (x1 : Int32) : Option (Int32 × Unit) :=
  if ((x0 >>> (x1 &&& 31)) &&& 1) = 1 then (gzr 1 ()) else (gzr 0 ())
abbrev rm_X0_has : Room := { frames := 1, cells := 0, slots := 0, locals := 12 }
set_option maxHeartbeats 4000000 in
theorem m_X0_has (l : Launch) (E : gE) (x0 : Int32) (x1 : Int32) (r : Int32) (u : Unit) (hf : f_X0_has x0 x1 = some (r, u)) (sz : Nat) : Met l yX0_has (ws_ yX0_has cX0_has 2 (some .boolean)) rm_X0_has (gPc [.int x0, .int x1] E [] sz) (gPi E (fun _ => []) r u (va_A [] sz)) 0 0 (va_A [] sz) := by
  refine gMet (Qc := gPi E (fun _ => []) r u) (by decide) (Nat.le_of_ble_eq_true rfl) (fun Γ X hl hE => ?_)
  subst hl; subst hE
  unfold f_X0_has at hf
  show gW Γ (gMQ Γ (gPi (gEo Γ) (fun _ => []) r u (gAo Γ)) 0 0) [] 2 0 0 0 [(0, .int x0), (1, .int x1)] []
  refine g_iload_n X 0 dX0_has_0 rfl ?_
  refine g_iload_n X 1 dX0_has_1 rfl ?_
  refine g_ishr X dX0_has_2 ?_
  refine g_iconst X 1 dX0_has_3 rfl ?_
  refine g_iand X dX0_has_4 ?_
  refine g_iconst X 1 dX0_has_5 rfl ?_
  refine g_icmp_ne X 13 dX0_has_6 rfl hf (fun hf => ?_) (fun hf => ?_)
  · refine g_iconst X 0 dX0_has_13 rfl ?_
    exact g_zret X rfl dX0_has_14 hf
  · refine g_iconst X 1 dX0_has_9 rfl ?_
    refine g_goto X 14 dX0_has_10 rfl ?_
    exact g_zret X rfl dX0_has_14 hf
def f_X0_in (x0 : Int64) (x2 : Int64) (x4 : Int64) : Option (Int32 × Unit) :=
  if (lg_cmp x0 x2) < 0 then (gzr 0 ()) else (if 0 < (lg_cmp x0 x4) then (gzr 0 ()) else (gzr 1 ()))
abbrev rm_X0_in : Room := { frames := 1, cells := 0, slots := 0, locals := 12 }
set_option maxHeartbeats 4000000 in
theorem m_X0_in (l : Launch) (E : gE) (x0 : Int64) (x2 : Int64) (x4 : Int64) (r : Int32) (u : Unit) (hf : f_X0_in x0 x2 x4 = some (r, u)) (sz : Nat) : Met l yX0_in (ws_ yX0_in cX0_in 6 (some .boolean)) rm_X0_in (gPc [.long x0, .long x2, .long x4] E [] sz) (gPi E (fun _ => []) r u (va_A [] sz)) 0 0 (va_A [] sz) := by
  refine gMet (Qc := gPi E (fun _ => []) r u) (by decide) (Nat.le_of_ble_eq_true rfl) (fun Γ X hl hE => ?_)
  subst hl; subst hE
  unfold f_X0_in at hf
  show gW Γ (gMQ Γ (gPi (gEo Γ) (fun _ => []) r u (gAo Γ)) 0 0) [] 6 0 0 0 [(0, .long x0), (2, .long x2), (4, .long x4)] []
  refine g_lload_n X 0 dX0_in_0 rfl ?_
  refine g_lload_n X 1 dX0_in_1 rfl ?_
  refine g_lcmp X dX0_in_2 ?_
  refine g_if_lt X 17 dX0_in_3 rfl hf (fun hf => ?_) (fun hf => ?_)
  · refine g_iconst X 0 dX0_in_17 rfl ?_
    exact g_zret X rfl dX0_in_18 hf
  · refine g_lload_n X 0 dX0_in_6 rfl ?_
    refine g_lload X 2 dX0_in_7 rfl ?_
    refine g_lcmp X dX0_in_9 ?_
    refine g_if_gt X 17 dX0_in_10 rfl hf (fun hf => ?_) (fun hf => ?_)
    · refine g_iconst X 0 dX0_in_17 rfl ?_
      exact g_zret X rfl dX0_in_18 hf
    · refine g_iconst X 1 dX0_in_13 rfl ?_
      refine g_goto X 18 dX0_in_14 rfl ?_
      exact g_zret X rfl dX0_in_18 hf
def f_X5_of (σ : gS) (x1 : Int32) (x2 : Int32) : Option (Int32 × gS) :=
  gld 15 (S_one σ) (((3 : Int32) * x1) + x2) fun v1 => some (v1, σ)
abbrev rm_X5_of : Room := { frames := 1, cells := 0, slots := 0, locals := 12 }
set_option maxHeartbeats 4000000 in
theorem m_X5_of (l : Launch) (E : gE) (ad : Nat → Nat) (σ : gS) (x1 : Int32) (x2 : Int32) (r : Int32) (u : gS) (hf : f_X5_of σ x1 x2 = some (r, u)) (sz : Nat) : Met l yX5_of (ws_ yX5_of cX5_of 3 (some .int)) rm_X5_of (gPc [.ref (ad 0), .int x1, .int x2] E (wS E ad σ) sz) (gPi E (wS E ad) r u (va_A (wS E ad σ) sz)) 0 0 (va_A (wS E ad σ) sz) := by
  refine gMet (Qc := gPi E (wS E ad) r u) (by decide) (Nat.le_of_ble_eq_true rfl) (fun Γ X hl hE => ?_)
  subst hl; subst hE
  unfold f_X5_of at hf
  show gW Γ (gMQ Γ (gPi (gEo Γ) (wS (gEo Γ) ad) r u (gAo Γ)) 0 0) (wS (gEo Γ) ad σ) 3 0 0 0 [(0, .ref (ad 0)), (1, .int x1), (2, .int x2)] []
  refine g_aload_n X 0 dX5_of_0 rfl ?_
  refine g_get X in_X5 0 1 rfl rfl (by decide) q131 rfl dX5_of_1 ?_
  refine g_iconst X 3 dX5_of_4 rfl ?_
  refine g_iload_n X 1 dX5_of_5 rfl ?_
  refine g_imul X dX5_of_6 ?_
  refine g_iload_n X 2 dX5_of_7 rfl ?_
  refine g_iadd X dX5_of_8 ?_
  refine g_bald X 1 rfl dX5_of_9 hf (fun v1 hf => ?_)
  exact g_iret X rfl dX5_of_10 hf
def f_X5_becomes (σ : gS) (x1 : Int32) (x2 : Int32) (x3 : Int32) : Option (gS) :=
  gst 15 (S_one σ) (((3 : Int32) * x1) + x2) (vp_nar .byte (x3.toInt8.toInt32)) fun g1 => gs (S_one_s σ g1) fun s2 => some s2
abbrev rm_X5_becomes : Room := { frames := 1, cells := 0, slots := 0, locals := 12 }
set_option maxHeartbeats 4000000 in
theorem m_X5_becomes (l : Launch) (E : gE) (ad : Nat → Nat) (σ : gS) (x1 : Int32) (x2 : Int32) (x3 : Int32) (u : gS) (hf : f_X5_becomes σ x1 x2 x3 = some u) (sz : Nat) : Met l yX5_becomes (ws_ yX5_becomes cX5_becomes 4 none) rm_X5_becomes (gPc [.ref (ad 0), .int x1, .int x2, .int x3] E (wS E ad σ) sz) (gPv E (wS E ad) u (va_A (wS E ad σ) sz)) 0 0 (va_A (wS E ad σ) sz) := by
  refine gMet (Qc := gPv E (wS E ad) u) (by decide) (Nat.le_of_ble_eq_true rfl) (fun Γ X hl hE => ?_)
  subst hl; subst hE
  unfold f_X5_becomes at hf
  show gW Γ (gMQ Γ (gPv (gEo Γ) (wS (gEo Γ) ad) u (gAo Γ)) 0 0) (wS (gEo Γ) ad σ) 4 0 0 0 [(0, .ref (ad 0)), (1, .int x1), (2, .int x2), (3, .int x3)] []
  refine g_aload_n X 0 dX5_becomes_0 rfl ?_
  refine g_get X in_X5 0 1 rfl rfl (by decide) q131 rfl dX5_becomes_1 ?_
  refine g_iconst X 3 dX5_becomes_4 rfl ?_
  refine g_iload_n X 1 dX5_becomes_5 rfl ?_
  refine g_imul X dX5_becomes_6 ?_
  refine g_iload_n X 2 dX5_becomes_7 rfl ?_
  refine g_iadd X dX5_becomes_8 ?_
  refine g_iload_n X 3 dX5_becomes_9 rfl ?_
  refine g_i2b X dX5_becomes_10 ?_
  refine g_bast X 1 (fun g1 => wS (gEo Γ) ad (S_one_s σ g1)) rfl (fun _ => rfl) dX5_becomes_11 hf (fun g1 hf => ?_)
  refine g_gs (wS (gEo Γ) ad) hf (fun s2 hf => ?_)
  exact g_vret X rfl dX5_becomes_12 hf
def f_X5_waits (σ : gS) (x1 : Int32) : Option (Int32 × gS) :=
  (f_X5_of σ x1 2).bind fun (r1, u2) => if r1 = 0 then (gzr 1 u2) else (gzr 0 u2)
abbrev rm_X5_waits : Room := { frames := 2, cells := 0, slots := 0, locals := 34 }
set_option maxHeartbeats 4000000 in
theorem m_X5_waits (l : Launch) (E : gE) (ad : Nat → Nat) (σ : gS) (x1 : Int32) (r : Int32) (u : gS) (hf : f_X5_waits σ x1 = some (r, u)) (sz : Nat) : Met l yX5_waits (ws_ yX5_waits cX5_waits 2 (some .boolean)) rm_X5_waits (gPc [.ref (ad 0), .int x1] E (wS E ad σ) sz) (gPi E (wS E ad) r u (va_A (wS E ad σ) sz)) 0 0 (va_A (wS E ad σ) sz) := by
  refine gMet (Qc := gPi E (wS E ad) r u) (by decide) (Nat.le_of_ble_eq_true rfl) (fun Γ X hl hE => ?_)
  subst hl; subst hE
  unfold f_X5_waits at hf
  show gW Γ (gMQ Γ (gPi (gEo Γ) (wS (gEo Γ) ad) r u (gAo Γ)) 0 0) (wS (gEo Γ) ad σ) 2 0 0 0 [(0, .ref (ad 0)), (1, .int x1)] []
  refine g_aload_n X 0 dX5_waits_0 rfl ?_
  refine g_iload_n X 1 dX5_waits_1 rfl ?_
  refine g_iconst X 2 dX5_waits_2 rfl ?_
  refine g_callVi X 2 (As := [.int x1, .int 2]) (wfc := wS (gEo Γ) ad) (lw_V q509 q510 q511 q65 q512) (by decide +kernel) (fun r_ u_ h_ sz_ => m_X5_of (gl Γ) (gEo Γ) ad σ x1 2 r_ u_ h_ sz_) (rq := 0) rfl rfl rfl rfl rfl ⟨by decide, by decide⟩ rfl (Nat.le_of_ble_eq_true rfl) ⟨Nat.zero_le _, Nat.zero_le _⟩ [0, 1, 2, 3] [] [0, 1, 2, 3] (fun u2 => wS (gEo Γ) ad u2) rfl rfl rfl rfl (by decide) rfl (fun _ => rfl) dX5_waits_3 hf (fun r1 u2 _ hf => ?_)
  refine g_if_ne X 13 dX5_waits_6 rfl hf (fun hf => ?_) (fun hf => ?_)
  · refine g_iconst X 0 dX5_waits_13 rfl ?_
    exact g_zret X rfl dX5_waits_14 hf
  · refine g_iconst X 1 dX5_waits_9 rfl ?_
    refine g_goto X 14 dX5_waits_10 rfl ?_
    exact g_zret X rfl dX5_waits_14 hf
def f_X5_waiting_b28 (k4 : gS → Int32 → Int32 → Option (Int32 × gS)) (σ : gS) (x2 : Int32) (t0 : Int32) (t1 : Int32) : Option (Int32 × gS) :=
  gv (t1 ||| t0) fun v3 => gv (x2 + 1) fun v4 => k4 σ v3 v4
def f_X5_waiting_b4 : Nat → gS → Int32 → Int32 → Option (Int32 × gS)
  | 0 => fun _ _ _ => none
  | n_ + 1 => fun σ x1 x2 =>
    if (S_people σ) ≤ x2 then (some (x1, σ)) else ((f_X5_waits σ x2).bind fun (r1, u2) => if r1 = 0 then (f_X5_waiting_b28 (f_X5_waiting_b4 n_) u2 x2 0 x1) else (f_X5_waiting_b28 (f_X5_waiting_b4 n_) u2 x2 ((1 : Int32) <<< (x2 &&& 31)) x1))
def f_X5_waiting (σ : gS) : Option (Int32 × gS) :=
  f_X5_waiting_b4 20 σ 0 0
abbrev rm_X5_waiting : Room := { frames := 3, cells := 0, slots := 0, locals := 55 }
set_option maxHeartbeats 4000000 in
theorem w_X5_waiting_b28 {Γ : gG} {ad : Nat → Nat} {r : Int32} {u : gS} (X : gCX Γ cX5_waiting 3 (some .int) RX5 rm_X5_waiting) {k4 : gS → Int32 → Int32 → Option (Int32 × gS)} (H4 : ∀ (σ : gS) (x1 : Int32) (x2 : Int32), k4 σ x1 x2 = some (r, u) → gW Γ (gMQ Γ (gPi (gEo Γ) (wS (gEo Γ) ad) r u (gAo Γ)) 0 0) (wS (gEo Γ) ad σ) 3 0 0 4 [(0, .ref (ad 0)), (1, .int x1), (2, .int x2)] []) : ∀ (σ : gS) (x2 : Int32) (t0 : Int32) (t1 : Int32), f_X5_waiting_b28 k4 σ x2 t0 t1 = some (r, u) → gW Γ (gMQ Γ (gPi (gEo Γ) (wS (gEo Γ) ad) r u (gAo Γ)) 0 0) (wS (gEo Γ) ad σ) 3 0 0 28 [(0, .ref (ad 0)), (2, .int x2)] [.int t0, .int t1] := by
  intro σ x2 t0 t1 hf
  unfold f_X5_waiting_b28 at hf
  refine g_ior X dX5_waiting_28 ?_
  refine g_topi hf (fun v3 hf => ?_)
  refine g_istore_n X [(1, .int v3), (0, .ref (ad 0)), (2, .int x2)] dX5_waiting_29 (by decide) rfl ?_
  refine g_iincV X 1 2 (fun v4 => [(2, .int v4), (1, .int v3), (0, .ref (ad 0))]) dX5_waiting_30 rfl rfl (by decide) (fun _ => rfl) hf (fun v4 hf => ?_)
  refine g_goto X 4 dX5_waiting_33 rfl ?_
  refine g_sub [2, 1, 0] [(0, .ref (ad 0)), (1, .int v3), (2, .int v4)] rfl ?_
  exact H4 σ v3 v4 hf
set_option maxHeartbeats 4000000 in
theorem w_X5_waiting_b4 {Γ : gG} {ad : Nat → Nat} {r : Int32} {u : gS} (X : gCX Γ cX5_waiting 3 (some .int) RX5 rm_X5_waiting) : ∀ (n_ : Nat) (σ : gS) (x1 : Int32) (x2 : Int32), f_X5_waiting_b4 n_ σ x1 x2 = some (r, u) → gW Γ (gMQ Γ (gPi (gEo Γ) (wS (gEo Γ) ad) r u (gAo Γ)) 0 0) (wS (gEo Γ) ad σ) 3 0 0 4 [(0, .ref (ad 0)), (1, .int x1), (2, .int x2)] [] := by
  intro n_
  induction n_ with
  | zero => intro σ x1 x2 hf; cases hf
  | succ n_ ih =>
    intro σ x1 x2 hf
    simp only [f_X5_waiting_b4] at hf
    refine g_iload_n X 2 dX5_waiting_4 rfl ?_
    refine g_aload_n X 0 dX5_waiting_5 rfl ?_
    refine g_get X in_X5 0 0 rfl rfl (by decide) q128 rfl dX5_waiting_6 ?_
    refine g_icmp_ge X 36 dX5_waiting_9 rfl hf (fun hf => ?_) (fun hf => ?_)
    · refine g_iload_n X 1 dX5_waiting_36 rfl ?_
      exact g_iret X rfl dX5_waiting_37 hf
    · refine g_iload_n X 1 dX5_waiting_12 rfl ?_
      refine g_aload_n X 0 dX5_waiting_13 rfl ?_
      refine g_iload_n X 2 dX5_waiting_14 rfl ?_
      refine g_callVi X 1 (As := [.int x2]) (wfc := wS (gEo Γ) ad) (lw_V q505 q506 q507 q65 q508) (by decide +kernel) (fun r_ u_ h_ sz_ => m_X5_waits (gl Γ) (gEo Γ) ad σ x2 r_ u_ h_ sz_) (rq := 0) rfl rfl rfl rfl rfl ⟨by decide, by decide⟩ rfl (Nat.le_of_ble_eq_true rfl) ⟨Nat.zero_le _, Nat.zero_le _⟩ [0, 1, 2, 3] [] [0, 1, 2, 3] (fun u2 => wS (gEo Γ) ad u2) rfl rfl rfl rfl (by decide) rfl (fun _ => rfl) dX5_waiting_15 hf (fun r1 u2 _ hf => ?_)
      refine g_if_eq X 27 dX5_waiting_18 rfl hf (fun hf => ?_) (fun hf => ?_)
      · refine g_iconst X 0 dX5_waiting_27 rfl ?_
        refine g_sub [0, 2] [(0, .ref (ad 0)), (2, .int x2)] rfl ?_
        exact w_X5_waiting_b28 X ih u2 x2 0 x1 hf
      · refine g_iconst X 1 dX5_waiting_21 rfl ?_
        refine g_iload_n X 2 dX5_waiting_22 rfl ?_
        refine g_ishl X dX5_waiting_23 ?_
        refine g_goto X 28 dX5_waiting_24 rfl ?_
        refine g_sub [0, 2] [(0, .ref (ad 0)), (2, .int x2)] rfl ?_
        exact w_X5_waiting_b28 X ih u2 x2 ((1 : Int32) <<< (x2 &&& 31)) x1 hf
set_option maxHeartbeats 4000000 in
theorem m_X5_waiting (l : Launch) (E : gE) (ad : Nat → Nat) (σ : gS) (r : Int32) (u : gS) (hf : f_X5_waiting σ = some (r, u)) (sz : Nat) : Met l yX5_waiting (ws_ yX5_waiting cX5_waiting 3 (some .int)) rm_X5_waiting (gPc [.ref (ad 0)] E (wS E ad σ) sz) (gPi E (wS E ad) r u (va_A (wS E ad σ) sz)) 0 0 (va_A (wS E ad σ) sz) := by
  refine gMet (Qc := gPi E (wS E ad) r u) (by decide) (Nat.le_of_ble_eq_true rfl) (fun Γ X hl hE => ?_)
  subst hl; subst hE
  unfold f_X5_waiting at hf
  show gW Γ (gMQ Γ (gPi (gEo Γ) (wS (gEo Γ) ad) r u (gAo Γ)) 0 0) (wS (gEo Γ) ad σ) 3 0 0 0 [(0, .ref (ad 0))] []
  refine g_iconst X 0 dX5_waiting_0 rfl ?_
  refine g_istore_n X [(1, .int 0), (0, .ref (ad 0))] dX5_waiting_1 (by decide) rfl ?_
  refine g_iconst X 0 dX5_waiting_2 rfl ?_
  refine g_istore_n X [(2, .int 0), (1, .int 0), (0, .ref (ad 0))] dX5_waiting_3 (by decide) rfl ?_
  refine g_sub [2, 1, 0] [(0, .ref (ad 0)), (1, .int 0), (2, .int 0)] rfl ?_
  exact w_X5_waiting_b4 X 20 σ 0 0 hf
def f_X5_gone (σ : gS) : Option (Int32 × gS) :=
  (f_X5_waiting σ).bind fun (r1, u2) => some ((((1 : Int32) <<< ((S_people σ) &&& 31)) - 1) &&& (r1 ^^^ (-1)), u2)
abbrev rm_X5_gone : Room := { frames := 4, cells := 0, slots := 0, locals := 77 }
set_option maxHeartbeats 4000000 in
theorem m_X5_gone (l : Launch) (E : gE) (ad : Nat → Nat) (σ : gS) (r : Int32) (u : gS) (hf : f_X5_gone σ = some (r, u)) (sz : Nat) : Met l yX5_gone (ws_ yX5_gone cX5_gone 1 (some .int)) rm_X5_gone (gPc [.ref (ad 0)] E (wS E ad σ) sz) (gPi E (wS E ad) r u (va_A (wS E ad σ) sz)) 0 0 (va_A (wS E ad σ) sz) := by
  refine gMet (Qc := gPi E (wS E ad) r u) (by decide) (Nat.le_of_ble_eq_true rfl) (fun Γ X hl hE => ?_)
  subst hl; subst hE
  unfold f_X5_gone at hf
  show gW Γ (gMQ Γ (gPi (gEo Γ) (wS (gEo Γ) ad) r u (gAo Γ)) 0 0) (wS (gEo Γ) ad σ) 1 0 0 0 [(0, .ref (ad 0))] []
  refine g_iconst X 1 dX5_gone_0 rfl ?_
  refine g_aload_n X 0 dX5_gone_1 rfl ?_
  refine g_get X in_X5 0 0 rfl rfl (by decide) q128 rfl dX5_gone_2 ?_
  refine g_ishl X dX5_gone_5 ?_
  refine g_iconst X 1 dX5_gone_6 rfl ?_
  refine g_isub X dX5_gone_7 ?_
  refine g_aload_n X 0 dX5_gone_8 rfl ?_
  refine g_callVi X 0 (As := []) (wfc := wS (gEo Γ) ad) (lw_V q560 q502 q503 q65 q504) (by decide +kernel) (fun r_ u_ h_ sz_ => m_X5_waiting (gl Γ) (gEo Γ) ad σ r_ u_ h_ sz_) (rq := 0) rfl rfl rfl rfl rfl ⟨by decide, by decide⟩ rfl (Nat.le_of_ble_eq_true rfl) ⟨Nat.zero_le _, Nat.zero_le _⟩ [0, 1, 2, 3] [] [0, 1, 2, 3] (fun u2 => wS (gEo Γ) ad u2) rfl rfl rfl rfl (by decide) rfl (fun _ => rfl) dX5_gone_9 hf (fun r1 u2 _ hf => ?_)
  refine g_iconst X (-1) dX5_gone_12 rfl ?_
  refine g_ixor X dX5_gone_13 ?_
  refine g_iand X dX5_gone_14 ?_
  exact g_iret X rfl dX5_gone_15 hf
def f_X5_sorrow_b31 (k4 : gS → Int32 → Int32 → Option (Int32 × gS)) (σ : gS) (x2 : Int32) (t0 : Int32) (t1 : Int32) : Option (Int32 × gS) :=
  gv (t1 + t0) fun v5 => gv (x2 + 1) fun v6 => k4 σ v5 v6
def f_X5_sorrow_b4 : Nat → gS → Int32 → Int32 → Option (Int32 × gS)
  | 0 => fun _ _ _ => none
  | n_ + 1 => fun σ x1 x2 =>
    if (S_people σ) ≤ x2 then (some (x1, σ)) else ((f_X5_waits σ x2).bind fun (r1, u2) => if r1 = 0 then (f_X5_sorrow_b31 (f_X5_sorrow_b4 n_) u2 x2 0 x1) else ((f_X5_of u2 x2 1).bind fun (r3, u4) => f_X5_sorrow_b31 (f_X5_sorrow_b4 n_) u4 x2 r3 x1))
def f_X5_sorrow (σ : gS) : Option (Int32 × gS) :=
  f_X5_sorrow_b4 20 σ 0 0
abbrev rm_X5_sorrow : Room := { frames := 3, cells := 0, slots := 0, locals := 55 }
set_option maxHeartbeats 4000000 in
theorem w_X5_sorrow_b31 {Γ : gG} {ad : Nat → Nat} {r : Int32} {u : gS} (X : gCX Γ cX5_sorrow 3 (some .int) RX5 rm_X5_sorrow) {k4 : gS → Int32 → Int32 → Option (Int32 × gS)} (H4 : ∀ (σ : gS) (x1 : Int32) (x2 : Int32), k4 σ x1 x2 = some (r, u) → gW Γ (gMQ Γ (gPi (gEo Γ) (wS (gEo Γ) ad) r u (gAo Γ)) 0 0) (wS (gEo Γ) ad σ) 3 0 0 4 [(0, .ref (ad 0)), (1, .int x1), (2, .int x2)] []) : ∀ (σ : gS) (x2 : Int32) (t0 : Int32) (t1 : Int32), f_X5_sorrow_b31 k4 σ x2 t0 t1 = some (r, u) → gW Γ (gMQ Γ (gPi (gEo Γ) (wS (gEo Γ) ad) r u (gAo Γ)) 0 0) (wS (gEo Γ) ad σ) 3 0 0 31 [(0, .ref (ad 0)), (2, .int x2)] [.int t0, .int t1] := by
  intro σ x2 t0 t1 hf
  unfold f_X5_sorrow_b31 at hf
  refine g_iadd X dX5_sorrow_31 ?_
  refine g_topi hf (fun v5 hf => ?_)
  refine g_istore_n X [(1, .int v5), (0, .ref (ad 0)), (2, .int x2)] dX5_sorrow_32 (by decide) rfl ?_
  refine g_iincV X 1 2 (fun v6 => [(2, .int v6), (1, .int v5), (0, .ref (ad 0))]) dX5_sorrow_33 rfl rfl (by decide) (fun _ => rfl) hf (fun v6 hf => ?_)
  refine g_goto X 4 dX5_sorrow_36 rfl ?_
  refine g_sub [2, 1, 0] [(0, .ref (ad 0)), (1, .int v5), (2, .int v6)] rfl ?_
  exact H4 σ v5 v6 hf
set_option maxHeartbeats 4000000 in
theorem w_X5_sorrow_b4 {Γ : gG} {ad : Nat → Nat} {r : Int32} {u : gS} (X : gCX Γ cX5_sorrow 3 (some .int) RX5 rm_X5_sorrow) : ∀ (n_ : Nat) (σ : gS) (x1 : Int32) (x2 : Int32), f_X5_sorrow_b4 n_ σ x1 x2 = some (r, u) → gW Γ (gMQ Γ (gPi (gEo Γ) (wS (gEo Γ) ad) r u (gAo Γ)) 0 0) (wS (gEo Γ) ad σ) 3 0 0 4 [(0, .ref (ad 0)), (1, .int x1), (2, .int x2)] [] := by
  intro n_
  induction n_ with
  | zero => intro σ x1 x2 hf; cases hf
  | succ n_ ih =>
    intro σ x1 x2 hf
    simp only [f_X5_sorrow_b4] at hf
    refine g_iload_n X 2 dX5_sorrow_4 rfl ?_
    refine g_aload_n X 0 dX5_sorrow_5 rfl ?_
    refine g_get X in_X5 0 0 rfl rfl (by decide) q128 rfl dX5_sorrow_6 ?_
    refine g_icmp_ge X 39 dX5_sorrow_9 rfl hf (fun hf => ?_) (fun hf => ?_)
    · refine g_iload_n X 1 dX5_sorrow_39 rfl ?_
      exact g_iret X rfl dX5_sorrow_40 hf
    · refine g_iload_n X 1 dX5_sorrow_12 rfl ?_
      refine g_aload_n X 0 dX5_sorrow_13 rfl ?_
      refine g_iload_n X 2 dX5_sorrow_14 rfl ?_
      refine g_callVi X 1 (As := [.int x2]) (wfc := wS (gEo Γ) ad) (lw_V q505 q506 q507 q65 q508) (by decide +kernel) (fun r_ u_ h_ sz_ => m_X5_waits (gl Γ) (gEo Γ) ad σ x2 r_ u_ h_ sz_) (rq := 0) rfl rfl rfl rfl rfl ⟨by decide, by decide⟩ rfl (Nat.le_of_ble_eq_true rfl) ⟨Nat.zero_le _, Nat.zero_le _⟩ [0, 1, 2, 3] [] [0, 1, 2, 3] (fun u2 => wS (gEo Γ) ad u2) rfl rfl rfl rfl (by decide) rfl (fun _ => rfl) dX5_sorrow_15 hf (fun r1 u2 _ hf => ?_)
      refine g_if_eq X 30 dX5_sorrow_18 rfl hf (fun hf => ?_) (fun hf => ?_)
      · refine g_iconst X 0 dX5_sorrow_30 rfl ?_
        refine g_sub [0, 2] [(0, .ref (ad 0)), (2, .int x2)] rfl ?_
        exact w_X5_sorrow_b31 X ih u2 x2 0 x1 hf
      · refine g_aload_n X 0 dX5_sorrow_21 rfl ?_
        refine g_iload_n X 2 dX5_sorrow_22 rfl ?_
        refine g_iconst X 1 dX5_sorrow_23 rfl ?_
        refine g_callVi X 2 (As := [.int x2, .int 1]) (wfc := wS (gEo Γ) ad) (lw_V q509 q510 q511 q65 q512) (by decide +kernel) (fun r_ u_ h_ sz_ => m_X5_of (gl Γ) (gEo Γ) ad u2 x2 1 r_ u_ h_ sz_) (rq := 0) rfl rfl rfl rfl rfl ⟨by decide, by decide⟩ rfl (Nat.le_of_ble_eq_true rfl) ⟨Nat.zero_le _, Nat.zero_le _⟩ [0, 1, 2, 3] [] [0, 1, 2, 3] (fun u4 => wS (gEo Γ) ad u4) rfl rfl rfl rfl (by decide) rfl (fun _ => rfl) dX5_sorrow_24 hf (fun r3 u4 _ hf => ?_)
        refine g_goto X 31 dX5_sorrow_27 rfl ?_
        refine g_sub [0, 2] [(0, .ref (ad 0)), (2, .int x2)] rfl ?_
        exact w_X5_sorrow_b31 X ih u4 x2 r3 x1 hf
set_option maxHeartbeats 4000000 in
theorem m_X5_sorrow (l : Launch) (E : gE) (ad : Nat → Nat) (σ : gS) (r : Int32) (u : gS) (hf : f_X5_sorrow σ = some (r, u)) (sz : Nat) : Met l yX5_sorrow (ws_ yX5_sorrow cX5_sorrow 3 (some .int)) rm_X5_sorrow (gPc [.ref (ad 0)] E (wS E ad σ) sz) (gPi E (wS E ad) r u (va_A (wS E ad σ) sz)) 0 0 (va_A (wS E ad σ) sz) := by
  refine gMet (Qc := gPi E (wS E ad) r u) (by decide) (Nat.le_of_ble_eq_true rfl) (fun Γ X hl hE => ?_)
  subst hl; subst hE
  unfold f_X5_sorrow at hf
  show gW Γ (gMQ Γ (gPi (gEo Γ) (wS (gEo Γ) ad) r u (gAo Γ)) 0 0) (wS (gEo Γ) ad σ) 3 0 0 0 [(0, .ref (ad 0))] []
  refine g_iconst X 0 dX5_sorrow_0 rfl ?_
  refine g_istore_n X [(1, .int 0), (0, .ref (ad 0))] dX5_sorrow_1 (by decide) rfl ?_
  refine g_iconst X 0 dX5_sorrow_2 rfl ?_
  refine g_istore_n X [(2, .int 0), (1, .int 0), (0, .ref (ad 0))] dX5_sorrow_3 (by decide) rfl ?_
  refine g_sub [2, 1, 0] [(0, .ref (ad 0)), (1, .int 0), (2, .int 0)] rfl ?_
  exact w_X5_sorrow_b4 X 20 σ 0 0 hf
def f_X5_saddens (σ : gS) (x1 : Int32) (x2 : Int32) : Option (gS) :=
  (f_X5_of σ x1 1).bind fun (r1, u2) => (f_X5_becomes u2 x1 1 (if (r1 + x2) < 40 then (r1 + x2) else 40)).bind fun u4 => some u4
abbrev rm_X5_saddens : Room := { frames := 2, cells := 0, slots := 0, locals := 35 }
set_option maxHeartbeats 4000000 in
theorem m_X5_saddens (l : Launch) (E : gE) (ad : Nat → Nat) (σ : gS) (x1 : Int32) (x2 : Int32) (u : gS) (hf : f_X5_saddens σ x1 x2 = some u) (sz : Nat) : Met l yX5_saddens (ws_ yX5_saddens cX5_saddens 3 none) rm_X5_saddens (gPc [.ref (ad 0), .int x1, .int x2] E (wS E ad σ) sz) (gPv E (wS E ad) u (va_A (wS E ad σ) sz)) 0 0 (va_A (wS E ad σ) sz) := by
  refine gMet (Qc := gPv E (wS E ad) u) (by decide) (Nat.le_of_ble_eq_true rfl) (fun Γ X hl hE => ?_)
  subst hl; subst hE
  unfold f_X5_saddens at hf
  show gW Γ (gMQ Γ (gPv (gEo Γ) (wS (gEo Γ) ad) u (gAo Γ)) 0 0) (wS (gEo Γ) ad σ) 3 0 0 0 [(0, .ref (ad 0)), (1, .int x1), (2, .int x2)] []
  refine g_aload_n X 0 dX5_saddens_0 rfl ?_
  refine g_iload_n X 1 dX5_saddens_1 rfl ?_
  refine g_iconst X 1 dX5_saddens_2 rfl ?_
  refine g_bipush X 40 dX5_saddens_3 rfl ?_
  refine g_aload_n X 0 dX5_saddens_5 rfl ?_
  refine g_iload_n X 1 dX5_saddens_6 rfl ?_
  refine g_iconst X 1 dX5_saddens_7 rfl ?_
  refine g_callVi X 2 (As := [.int x1, .int 1]) (wfc := wS (gEo Γ) ad) (lw_V q509 q510 q511 q65 q512) (by decide +kernel) (fun r_ u_ h_ sz_ => m_X5_of (gl Γ) (gEo Γ) ad σ x1 1 r_ u_ h_ sz_) (rq := 0) rfl rfl rfl rfl rfl ⟨by decide, by decide⟩ rfl (Nat.le_of_ble_eq_true rfl) ⟨Nat.zero_le _, Nat.zero_le _⟩ [0, 1, 2, 3] [] [0, 1, 2, 3] (fun u2 => wS (gEo Γ) ad u2) rfl rfl rfl rfl (by decide) rfl (fun _ => rfl) dX5_saddens_8 hf (fun r1 u2 _ hf => ?_)
  refine g_iload_n X 2 dX5_saddens_11 rfl ?_
  refine g_iadd X dX5_saddens_12 ?_
  refine g_min X q620 q621 q76 q622 (by decide) (Nat.le_of_ble_eq_true rfl) (by decide) dX5_saddens_13 ?_
  refine g_callVv X 3 (As := [.int x1, .int 1, .int (if (r1 + x2) < 40 then (r1 + x2) else 40)]) (wfc := wS (gEo Γ) ad) (lw_V q623 q483 q484 q65 q485) (by decide +kernel) (fun u_ h_ sz_ => m_X5_becomes (gl Γ) (gEo Γ) ad u2 x1 1 (if (r1 + x2) < 40 then (r1 + x2) else 40) u_ h_ sz_) (rq := 0) rfl rfl rfl rfl rfl ⟨by decide, by decide⟩ rfl (Nat.le_of_ble_eq_true rfl) ⟨Nat.zero_le _, Nat.zero_le _⟩ [0, 1, 2, 3] [] [0, 1, 2, 3] (fun u4 => wS (gEo Γ) ad u4) rfl rfl rfl rfl (by decide) rfl (fun _ => rfl) dX5_saddens_16 hf (fun u4 _ hf => ?_)
  exact g_vret X rfl dX5_saddens_19 hf
def f_X5_tells_b31 (σ : gS) (x3 : Int32) : Option (gS) :=
  if x3 < 0 then (some σ) else (if (S_people σ) ≤ x3 then (some σ) else ((f_X5_saddens σ x3 2).bind fun u6 => some u6))
def f_X5_tells_b4 : Nat → gS → Int32 → Int32 → Option (gS)
  | 0 => fun _ _ _ => none
  | n_ + 1 => fun σ x2 x3 =>
    if x3 < 0 then (f_X5_tells_b31 σ x3) else (if (S_people σ) ≤ x3 then (f_X5_tells_b31 σ x3) else ((f_X5_waits σ x3).bind fun (r2, u3) => if r2 = 0 then (gv (x3 + x2) fun v4 => (f_X5_tells_b4 n_) u3 x2 v4) else (f_X5_tells_b31 u3 x3)))
def f_X5_tells (σ : gS) (x1 : Int32) (x2 : Int32) : Option (gS) :=
  gv (x1 + x2) fun v1 => f_X5_tells_b4 20 σ x2 v1
abbrev rm_X5_tells : Room := { frames := 3, cells := 0, slots := 0, locals := 57 }
set_option maxHeartbeats 4000000 in
theorem w_X5_tells_b31 {Γ : gG} {ad : Nat → Nat} {u : gS} (X : gCX Γ cX5_tells 4 none RX5 rm_X5_tells) : ∀ (σ : gS) (x3 : Int32), f_X5_tells_b31 σ x3 = some u → gW Γ (gMQ Γ (gPv (gEo Γ) (wS (gEo Γ) ad) u (gAo Γ)) 0 0) (wS (gEo Γ) ad σ) 4 0 0 31 [(0, .ref (ad 0)), (3, .int x3)] [] := by
  intro σ x3 hf
  unfold f_X5_tells_b31 at hf
  refine g_iload_n X 1 dX5_tells_31 rfl ?_
  refine g_if_lt X 49 dX5_tells_32 rfl hf (fun hf => ?_) (fun hf => ?_)
  · exact g_vret X rfl dX5_tells_49 hf
  · refine g_iload_n X 1 dX5_tells_35 rfl ?_
    refine g_aload_n X 0 dX5_tells_36 rfl ?_
    refine g_get X in_X5 0 0 rfl rfl (by decide) q128 rfl dX5_tells_37 ?_
    refine g_icmp_ge X 49 dX5_tells_40 rfl hf (fun hf => ?_) (fun hf => ?_)
    · exact g_vret X rfl dX5_tells_49 hf
    · refine g_aload_n X 0 dX5_tells_43 rfl ?_
      refine g_iload_n X 1 dX5_tells_44 rfl ?_
      refine g_iconst X 2 dX5_tells_45 rfl ?_
      refine g_callVv X 2 (As := [.int x3, .int 2]) (wfc := wS (gEo Γ) ad) (lw_V q633 q617 q618 q65 q619) (by decide +kernel) (fun u_ h_ sz_ => m_X5_saddens (gl Γ) (gEo Γ) ad σ x3 2 u_ h_ sz_) (rq := 0) rfl rfl rfl rfl rfl ⟨by decide, by decide⟩ rfl (Nat.le_of_ble_eq_true rfl) ⟨Nat.zero_le _, Nat.zero_le _⟩ [0, 1, 2, 3] [] [0, 1, 2, 3] (fun u6 => wS (gEo Γ) ad u6) rfl rfl rfl rfl (by decide) rfl (fun _ => rfl) dX5_tells_46 hf (fun u6 _ hf => ?_)
      exact g_vret X rfl dX5_tells_49 hf
set_option maxHeartbeats 4000000 in
theorem w_X5_tells_b4 {Γ : gG} {ad : Nat → Nat} {u : gS} (X : gCX Γ cX5_tells 4 none RX5 rm_X5_tells) : ∀ (n_ : Nat) (σ : gS) (x2 : Int32) (x3 : Int32), f_X5_tells_b4 n_ σ x2 x3 = some u → gW Γ (gMQ Γ (gPv (gEo Γ) (wS (gEo Γ) ad) u (gAo Γ)) 0 0) (wS (gEo Γ) ad σ) 4 0 0 4 [(0, .ref (ad 0)), (2, .int x2), (3, .int x3)] [] := by
  intro n_
  induction n_ with
  | zero => intro σ x2 x3 hf; cases hf
  | succ n_ ih =>
    intro σ x2 x3 hf
    simp only [f_X5_tells_b4] at hf
    refine g_iload_n X 2 dX5_tells_4 rfl ?_
    refine g_if_lt X 31 dX5_tells_5 rfl hf (fun hf => ?_) (fun hf => ?_)
    · refine g_sub [0, 2] [(0, .ref (ad 0)), (3, .int x3)] rfl ?_
      exact w_X5_tells_b31 X σ x3 hf
    · refine g_iload_n X 2 dX5_tells_8 rfl ?_
      refine g_aload_n X 0 dX5_tells_9 rfl ?_
      refine g_get X in_X5 0 0 rfl rfl (by decide) q128 rfl dX5_tells_10 ?_
      refine g_icmp_ge X 31 dX5_tells_13 rfl hf (fun hf => ?_) (fun hf => ?_)
      · refine g_sub [0, 2] [(0, .ref (ad 0)), (3, .int x3)] rfl ?_
        exact w_X5_tells_b31 X σ x3 hf
      · refine g_aload_n X 0 dX5_tells_16 rfl ?_
        refine g_iload_n X 2 dX5_tells_17 rfl ?_
        refine g_callVi X 1 (As := [.int x3]) (wfc := wS (gEo Γ) ad) (lw_V q505 q506 q507 q65 q508) (by decide +kernel) (fun r_ u_ h_ sz_ => m_X5_waits (gl Γ) (gEo Γ) ad σ x3 r_ u_ h_ sz_) (rq := 0) rfl rfl rfl rfl rfl ⟨by decide, by decide⟩ rfl (Nat.le_of_ble_eq_true rfl) ⟨Nat.zero_le _, Nat.zero_le _⟩ [0, 1, 2, 3] [] [0, 1, 2, 3] (fun u3 => wS (gEo Γ) ad u3) rfl rfl rfl rfl (by decide) rfl (fun _ => rfl) dX5_tells_18 hf (fun r2 u3 _ hf => ?_)
        refine g_if_ne X 31 dX5_tells_21 rfl hf (fun hf => ?_) (fun hf => ?_)
        · refine g_sub [0, 2] [(0, .ref (ad 0)), (3, .int x3)] rfl ?_
          exact w_X5_tells_b31 X u3 x3 hf
        · refine g_iload_n X 2 dX5_tells_24 rfl ?_
          refine g_iload_n X 1 dX5_tells_25 rfl ?_
          refine g_iadd X dX5_tells_26 ?_
          refine g_topi hf (fun v4 hf => ?_)
          refine g_istore_n X [(3, .int v4), (0, .ref (ad 0)), (2, .int x2)] dX5_tells_27 (by decide) rfl ?_
          refine g_goto X 4 dX5_tells_28 rfl ?_
          refine g_sub [1, 2, 0] [(0, .ref (ad 0)), (2, .int x2), (3, .int v4)] rfl ?_
          exact ih u3 x2 v4 hf
set_option maxHeartbeats 4000000 in
theorem m_X5_tells (l : Launch) (E : gE) (ad : Nat → Nat) (σ : gS) (x1 : Int32) (x2 : Int32) (u : gS) (hf : f_X5_tells σ x1 x2 = some u) (sz : Nat) : Met l yX5_tells (ws_ yX5_tells cX5_tells 4 none) rm_X5_tells (gPc [.ref (ad 0), .int x1, .int x2] E (wS E ad σ) sz) (gPv E (wS E ad) u (va_A (wS E ad σ) sz)) 0 0 (va_A (wS E ad σ) sz) := by
  refine gMet (Qc := gPv E (wS E ad) u) (by decide) (Nat.le_of_ble_eq_true rfl) (fun Γ X hl hE => ?_)
  subst hl; subst hE
  unfold f_X5_tells at hf
  show gW Γ (gMQ Γ (gPv (gEo Γ) (wS (gEo Γ) ad) u (gAo Γ)) 0 0) (wS (gEo Γ) ad σ) 4 0 0 0 [(0, .ref (ad 0)), (1, .int x1), (2, .int x2)] []
  refine g_iload_n X 1 dX5_tells_0 rfl ?_
  refine g_iload_n X 2 dX5_tells_1 rfl ?_
  refine g_iadd X dX5_tells_2 ?_
  refine g_topi hf (fun v1 hf => ?_)
  refine g_istore_n X [(3, .int v1), (0, .ref (ad 0)), (1, .int x1), (2, .int x2)] dX5_tells_3 (by decide) rfl ?_
  refine g_sub [1, 3, 0] [(0, .ref (ad 0)), (2, .int x2), (3, .int v1)] rfl ?_
  exact w_X5_tells_b4 X 20 σ x2 v1 hf
def f_X5_minuteGoes_b42 (k2 : gS → Int32 → Option (gS)) (σ : gS) (x1 : Int32) (t0 : Int32) (t1 : Int32) (t2 : Int32) : Option (gS) :=
  (f_X5_becomes σ t2 t1 t0).bind fun u10 => gv (x1 + 1) fun v11 => k2 u10 v11
def f_X5_minuteGoes_b2 : Nat → gS → Int32 → Option (gS)
  | 0 => fun _ _ => none
  | n_ + 1 => fun σ x1 =>
    if (S_people σ) ≤ x1 then (gv (if ((S_minute σ) + 1) < 999 then ((S_minute σ) + 1) else 999) fun v1 => gs (S_minute_s σ v1) fun s2 => some s2) else ((f_X5_waits σ x1).bind fun (r3, u4) => if r3 = 0 then ((f_X5_of u4 x1 1).bind fun (r5, u6) => f_X5_minuteGoes_b42 (f_X5_minuteGoes_b2 n_) u6 x1 r5 1 x1) else ((f_X5_of u4 x1 1).bind fun (r7, u8) => f_X5_minuteGoes_b42 (f_X5_minuteGoes_b2 n_) u8 x1 (if (0 : Int32) < (r7 - 1) then (r7 - 1) else 0) 1 x1))
def f_X5_minuteGoes (σ : gS) : Option (gS) :=
  f_X5_minuteGoes_b2 20 σ 0
abbrev rm_X5_minuteGoes : Room := { frames := 3, cells := 0, slots := 0, locals := 55 }
set_option maxHeartbeats 4000000 in
theorem w_X5_minuteGoes_b42 {Γ : gG} {ad : Nat → Nat} {u : gS} (X : gCX Γ cX5_minuteGoes 2 none RX5 rm_X5_minuteGoes) {k2 : gS → Int32 → Option (gS)} (H2 : ∀ (σ : gS) (x1 : Int32), k2 σ x1 = some u → gW Γ (gMQ Γ (gPv (gEo Γ) (wS (gEo Γ) ad) u (gAo Γ)) 0 0) (wS (gEo Γ) ad σ) 2 0 0 2 [(0, .ref (ad 0)), (1, .int x1)] []) : ∀ (σ : gS) (x1 : Int32) (t0 : Int32) (t1 : Int32) (t2 : Int32), f_X5_minuteGoes_b42 k2 σ x1 t0 t1 t2 = some u → gW Γ (gMQ Γ (gPv (gEo Γ) (wS (gEo Γ) ad) u (gAo Γ)) 0 0) (wS (gEo Γ) ad σ) 2 0 0 42 [(0, .ref (ad 0)), (1, .int x1)] [.int t0, .int t1, .int t2, .ref (ad 0)] := by
  intro σ x1 t0 t1 t2 hf
  unfold f_X5_minuteGoes_b42 at hf
  refine g_callVv X 3 (As := [.int t2, .int t1, .int t0]) (wfc := wS (gEo Γ) ad) (lw_V q623 q483 q484 q65 q485) (by decide +kernel) (fun u_ h_ sz_ => m_X5_becomes (gl Γ) (gEo Γ) ad σ t2 t1 t0 u_ h_ sz_) (rq := 0) rfl rfl rfl rfl rfl ⟨by decide, by decide⟩ rfl (Nat.le_of_ble_eq_true rfl) ⟨Nat.zero_le _, Nat.zero_le _⟩ [0, 1, 2, 3] [] [0, 1, 2, 3] (fun u10 => wS (gEo Γ) ad u10) rfl rfl rfl rfl (by decide) rfl (fun _ => rfl) dX5_minuteGoes_42 hf (fun u10 _ hf => ?_)
  refine g_iincV X 1 1 (fun v11 => [(1, .int v11), (0, .ref (ad 0))]) dX5_minuteGoes_45 rfl rfl (by decide) (fun _ => rfl) hf (fun v11 hf => ?_)
  refine g_goto X 2 dX5_minuteGoes_48 rfl ?_
  refine g_sub [1, 0] [(0, .ref (ad 0)), (1, .int v11)] rfl ?_
  exact H2 u10 v11 hf
set_option maxHeartbeats 4000000 in
theorem w_X5_minuteGoes_b2 {Γ : gG} {ad : Nat → Nat} {u : gS} (X : gCX Γ cX5_minuteGoes 2 none RX5 rm_X5_minuteGoes) : ∀ (n_ : Nat) (σ : gS) (x1 : Int32), f_X5_minuteGoes_b2 n_ σ x1 = some u → gW Γ (gMQ Γ (gPv (gEo Γ) (wS (gEo Γ) ad) u (gAo Γ)) 0 0) (wS (gEo Γ) ad σ) 2 0 0 2 [(0, .ref (ad 0)), (1, .int x1)] [] := by
  intro n_
  induction n_ with
  | zero => intro σ x1 hf; cases hf
  | succ n_ ih =>
    intro σ x1 hf
    simp only [f_X5_minuteGoes_b2] at hf
    refine g_iload_n X 1 dX5_minuteGoes_2 rfl ?_
    refine g_aload_n X 0 dX5_minuteGoes_3 rfl ?_
    refine g_get X in_X5 0 0 rfl rfl (by decide) q128 rfl dX5_minuteGoes_4 ?_
    refine g_icmp_ge X 51 dX5_minuteGoes_7 rfl hf (fun hf => ?_) (fun hf => ?_)
    · refine g_aload_n X 0 dX5_minuteGoes_51 rfl ?_
      refine g_sipush X 999 dX5_minuteGoes_52 rfl ?_
      refine g_aload_n X 0 dX5_minuteGoes_55 rfl ?_
      refine g_get X in_X5 0 3 rfl rfl (by decide) q134 rfl dX5_minuteGoes_56 ?_
      refine g_iconst X 1 dX5_minuteGoes_59 rfl ?_
      refine g_iadd X dX5_minuteGoes_60 ?_
      refine g_min X q620 q621 q76 q622 (by decide) (Nat.le_of_ble_eq_true rfl) (by decide) dX5_minuteGoes_61 ?_
      refine g_topi hf (fun v1 hf => ?_)
      refine g_put X in_X5 tyX5_ok nmX5 0 3 (wS (gEo Γ) ad (S_minute_s σ v1)) rfl rfl (by decide) q134 rfl rfl rfl rfl (Nat.le_of_ble_eq_true rfl) rfl dX5_minuteGoes_64 ?_
      refine g_gs (wS (gEo Γ) ad) hf (fun s2 hf => ?_)
      exact g_vret X rfl dX5_minuteGoes_67 hf
    · refine g_aload_n X 0 dX5_minuteGoes_10 rfl ?_
      refine g_iload_n X 1 dX5_minuteGoes_11 rfl ?_
      refine g_iconst X 1 dX5_minuteGoes_12 rfl ?_
      refine g_aload_n X 0 dX5_minuteGoes_13 rfl ?_
      refine g_iload_n X 1 dX5_minuteGoes_14 rfl ?_
      refine g_callVi X 1 (As := [.int x1]) (wfc := wS (gEo Γ) ad) (lw_V q505 q506 q507 q65 q508) (by decide +kernel) (fun r_ u_ h_ sz_ => m_X5_waits (gl Γ) (gEo Γ) ad σ x1 r_ u_ h_ sz_) (rq := 0) rfl rfl rfl rfl rfl ⟨by decide, by decide⟩ rfl (Nat.le_of_ble_eq_true rfl) ⟨Nat.zero_le _, Nat.zero_le _⟩ [0, 1, 2, 3] [] [0, 1, 2, 3] (fun u4 => wS (gEo Γ) ad u4) rfl rfl rfl rfl (by decide) rfl (fun _ => rfl) dX5_minuteGoes_15 hf (fun r3 u4 _ hf => ?_)
      refine g_if_eq X 36 dX5_minuteGoes_18 rfl hf (fun hf => ?_) (fun hf => ?_)
      · refine g_aload_n X 0 dX5_minuteGoes_36 rfl ?_
        refine g_iload_n X 1 dX5_minuteGoes_37 rfl ?_
        refine g_iconst X 1 dX5_minuteGoes_38 rfl ?_
        refine g_callVi X 2 (As := [.int x1, .int 1]) (wfc := wS (gEo Γ) ad) (lw_V q509 q510 q511 q65 q512) (by decide +kernel) (fun r_ u_ h_ sz_ => m_X5_of (gl Γ) (gEo Γ) ad u4 x1 1 r_ u_ h_ sz_) (rq := 0) rfl rfl rfl rfl rfl ⟨by decide, by decide⟩ rfl (Nat.le_of_ble_eq_true rfl) ⟨Nat.zero_le _, Nat.zero_le _⟩ [0, 1, 2, 3] [] [0, 1, 2, 3] (fun u6 => wS (gEo Γ) ad u6) rfl rfl rfl rfl (by decide) rfl (fun _ => rfl) dX5_minuteGoes_39 hf (fun r5 u6 _ hf => ?_)
        exact w_X5_minuteGoes_b42 X ih u6 x1 r5 1 x1 hf
      · refine g_iconst X 0 dX5_minuteGoes_21 rfl ?_
        refine g_aload_n X 0 dX5_minuteGoes_22 rfl ?_
        refine g_iload_n X 1 dX5_minuteGoes_23 rfl ?_
        refine g_iconst X 1 dX5_minuteGoes_24 rfl ?_
        refine g_callVi X 2 (As := [.int x1, .int 1]) (wfc := wS (gEo Γ) ad) (lw_V q509 q510 q511 q65 q512) (by decide +kernel) (fun r_ u_ h_ sz_ => m_X5_of (gl Γ) (gEo Γ) ad u4 x1 1 r_ u_ h_ sz_) (rq := 0) rfl rfl rfl rfl rfl ⟨by decide, by decide⟩ rfl (Nat.le_of_ble_eq_true rfl) ⟨Nat.zero_le _, Nat.zero_le _⟩ [0, 1, 2, 3] [] [0, 1, 2, 3] (fun u8 => wS (gEo Γ) ad u8) rfl rfl rfl rfl (by decide) rfl (fun _ => rfl) dX5_minuteGoes_25 hf (fun r7 u8 _ hf => ?_)
        refine g_iconst X 1 dX5_minuteGoes_28 rfl ?_
        refine g_isub X dX5_minuteGoes_29 ?_
        refine g_max X q643 q480 q76 q481 (by decide) (Nat.le_of_ble_eq_true rfl) (by decide) dX5_minuteGoes_30 ?_
        refine g_goto X 42 dX5_minuteGoes_33 rfl ?_
        exact w_X5_minuteGoes_b42 X ih u8 x1 (if (0 : Int32) < (r7 - 1) then (r7 - 1) else 0) 1 x1 hf
set_option maxHeartbeats 4000000 in
theorem m_X5_minuteGoes (l : Launch) (E : gE) (ad : Nat → Nat) (σ : gS) (u : gS) (hf : f_X5_minuteGoes σ = some u) (sz : Nat) : Met l yX5_minuteGoes (ws_ yX5_minuteGoes cX5_minuteGoes 2 none) rm_X5_minuteGoes (gPc [.ref (ad 0)] E (wS E ad σ) sz) (gPv E (wS E ad) u (va_A (wS E ad σ) sz)) 0 0 (va_A (wS E ad σ) sz) := by
  refine gMet (Qc := gPv E (wS E ad) u) (by decide) (Nat.le_of_ble_eq_true rfl) (fun Γ X hl hE => ?_)
  subst hl; subst hE
  unfold f_X5_minuteGoes at hf
  show gW Γ (gMQ Γ (gPv (gEo Γ) (wS (gEo Γ) ad) u (gAo Γ)) 0 0) (wS (gEo Γ) ad σ) 2 0 0 0 [(0, .ref (ad 0))] []
  refine g_iconst X 0 dX5_minuteGoes_0 rfl ?_
  refine g_istore_n X [(1, .int 0), (0, .ref (ad 0))] dX5_minuteGoes_1 (by decide) rfl ?_
  refine g_sub [1, 0] [(0, .ref (ad 0)), (1, .int 0)] rfl ?_
  exact w_X5_minuteGoes_b2 X 20 σ 0 hf
def f_X5_part_b23 (σ : gS) (x1 : Int32) : Option (Int32 × gS) :=
  gld 5 (S_wept σ) x1 fun v5 => if v5 = (-4) then (some (1, σ)) else (some (0, σ))
def f_X5_part (σ : gS) (x1 : Int32) : Option (Int32 × gS) :=
  (f_X5_of σ x1 0).bind fun (r1, u2) => if r1 = 2 then ((f_X5_of u2 x1 1).bind fun (r3, u4) => if r3 = 0 then (some (2, u4)) else (f_X5_part_b23 u4 x1)) else (f_X5_part_b23 u2 x1)
abbrev rm_X5_part : Room := { frames := 2, cells := 0, slots := 0, locals := 34 }
set_option maxHeartbeats 4000000 in
theorem w_X5_part_b23 {Γ : gG} {ad : Nat → Nat} {r : Int32} {u : gS} (X : gCX Γ cX5_part 2 (some .int) RX5 rm_X5_part) : ∀ (σ : gS) (x1 : Int32), f_X5_part_b23 σ x1 = some (r, u) → gW Γ (gMQ Γ (gPi (gEo Γ) (wS (gEo Γ) ad) r u (gAo Γ)) 0 0) (wS (gEo Γ) ad σ) 2 0 0 23 [(0, .ref (ad 0)), (1, .int x1)] [] := by
  intro σ x1 hf
  unfold f_X5_part_b23 at hf
  refine g_aload_n X 0 dX5_part_23 rfl ?_
  refine g_get X in_X5 0 2 rfl rfl (by decide) q132 rfl dX5_part_24 ?_
  refine g_iload_n X 1 dX5_part_27 rfl ?_
  refine g_sald X 2 rfl dX5_part_28 hf (fun v5 hf => ?_)
  refine g_bipush X (-4) dX5_part_29 rfl ?_
  refine g_icmp_ne X 38 dX5_part_31 rfl hf (fun hf => ?_) (fun hf => ?_)
  · refine g_iconst X 0 dX5_part_38 rfl ?_
    exact g_iret X rfl dX5_part_39 hf
  · refine g_iconst X 1 dX5_part_34 rfl ?_
    refine g_goto X 39 dX5_part_35 rfl ?_
    exact g_iret X rfl dX5_part_39 hf
set_option maxHeartbeats 4000000 in
theorem m_X5_part (l : Launch) (E : gE) (ad : Nat → Nat) (σ : gS) (x1 : Int32) (r : Int32) (u : gS) (hf : f_X5_part σ x1 = some (r, u)) (sz : Nat) : Met l yX5_part (ws_ yX5_part cX5_part 2 (some .int)) rm_X5_part (gPc [.ref (ad 0), .int x1] E (wS E ad σ) sz) (gPi E (wS E ad) r u (va_A (wS E ad σ) sz)) 0 0 (va_A (wS E ad σ) sz) := by
  refine gMet (Qc := gPi E (wS E ad) r u) (by decide) (Nat.le_of_ble_eq_true rfl) (fun Γ X hl hE => ?_)
  subst hl; subst hE
  unfold f_X5_part at hf
  show gW Γ (gMQ Γ (gPi (gEo Γ) (wS (gEo Γ) ad) r u (gAo Γ)) 0 0) (wS (gEo Γ) ad σ) 2 0 0 0 [(0, .ref (ad 0)), (1, .int x1)] []
  refine g_aload_n X 0 dX5_part_0 rfl ?_
  refine g_iload_n X 1 dX5_part_1 rfl ?_
  refine g_iconst X 0 dX5_part_2 rfl ?_
  refine g_callVi X 2 (As := [.int x1, .int 0]) (wfc := wS (gEo Γ) ad) (lw_V q509 q510 q511 q65 q512) (by decide +kernel) (fun r_ u_ h_ sz_ => m_X5_of (gl Γ) (gEo Γ) ad σ x1 0 r_ u_ h_ sz_) (rq := 0) rfl rfl rfl rfl rfl ⟨by decide, by decide⟩ rfl (Nat.le_of_ble_eq_true rfl) ⟨Nat.zero_le _, Nat.zero_le _⟩ [0, 1, 2, 3] [] [0, 1, 2, 3] (fun u2 => wS (gEo Γ) ad u2) rfl rfl rfl rfl (by decide) rfl (fun _ => rfl) dX5_part_3 hf (fun r1 u2 _ hf => ?_)
  refine g_iconst X 2 dX5_part_6 rfl ?_
  refine g_icmp_ne X 23 dX5_part_7 rfl hf (fun hf => ?_) (fun hf => ?_)
  · exact w_X5_part_b23 X u2 x1 hf
  · refine g_aload_n X 0 dX5_part_10 rfl ?_
    refine g_iload_n X 1 dX5_part_11 rfl ?_
    refine g_iconst X 1 dX5_part_12 rfl ?_
    refine g_callVi X 2 (As := [.int x1, .int 1]) (wfc := wS (gEo Γ) ad) (lw_V q509 q510 q511 q65 q512) (by decide +kernel) (fun r_ u_ h_ sz_ => m_X5_of (gl Γ) (gEo Γ) ad u2 x1 1 r_ u_ h_ sz_) (rq := 0) rfl rfl rfl rfl rfl ⟨by decide, by decide⟩ rfl (Nat.le_of_ble_eq_true rfl) ⟨Nat.zero_le _, Nat.zero_le _⟩ [0, 1, 2, 3] [] [0, 1, 2, 3] (fun u4 => wS (gEo Γ) ad u4) rfl rfl rfl rfl (by decide) rfl (fun _ => rfl) dX5_part_13 hf (fun r3 u4 _ hf => ?_)
    refine g_if_ne X 23 dX5_part_16 rfl hf (fun hf => ?_) (fun hf => ?_)
    · exact w_X5_part_b23 X u4 x1 hf
    · refine g_iconst X 2 dX5_part_19 rfl ?_
      refine g_goto X 39 dX5_part_20 rfl ?_
      exact g_iret X rfl dX5_part_39 hf
def f_X5_isAhead_b80 (σ : gS) (x1 : Int32) (x2 : Int32) : Option (Int32 × gS) :=
  if x2 ≤ x1 then (gzr 0 σ) else (gzr 1 σ)
def f_X5_isAhead (σ : gS) (x1 : Int32) (x2 : Int32) : Option (Int32 × gS) :=
  (f_X5_part σ x1).bind fun (r1, u2) => (f_X5_part u2 x2).bind fun (r3, u4) => if r1 = r3 then ((f_X5_part u4 x1).bind fun (r5, u6) => if r5 = 0 then (gld 5 (S_wept u6) x1 fun v7 => gld 5 (S_wept u6) x2 fun v8 => if v7 = v8 then (f_X5_isAhead_b80 u6 x1 x2) else (gld 5 (S_wept u6) x1 fun v9 => gld 5 (S_wept u6) x2 fun v10 => if v9 ≤ v10 then (gzr 0 u6) else (gzr 1 u6))) else (f_X5_isAhead_b80 u6 x1 x2)) else ((f_X5_part u4 x1).bind fun (r11, u12) => (f_X5_part u12 x2).bind fun (r13, u14) => if r13 ≤ r11 then (gzr 0 u14) else (gzr 1 u14))
abbrev rm_X5_isAhead : Room := { frames := 3, cells := 0, slots := 0, locals := 55 }
set_option maxHeartbeats 4000000 in
theorem w_X5_isAhead_b80 {Γ : gG} {ad : Nat → Nat} {r : Int32} {u : gS} (X : gCX Γ cX5_isAhead 3 (some .boolean) RX5 rm_X5_isAhead) : ∀ (σ : gS) (x1 : Int32) (x2 : Int32), f_X5_isAhead_b80 σ x1 x2 = some (r, u) → gW Γ (gMQ Γ (gPi (gEo Γ) (wS (gEo Γ) ad) r u (gAo Γ)) 0 0) (wS (gEo Γ) ad σ) 3 0 0 80 [(1, .int x1), (2, .int x2)] [] := by
  intro σ x1 x2 hf
  unfold f_X5_isAhead_b80 at hf
  refine g_iload_n X 0 dX5_isAhead_80 rfl ?_
  refine g_iload_n X 1 dX5_isAhead_81 rfl ?_
  refine g_icmp_ge X 89 dX5_isAhead_82 rfl hf (fun hf => ?_) (fun hf => ?_)
  · refine g_iconst X 0 dX5_isAhead_89 rfl ?_
    exact g_zret X rfl dX5_isAhead_90 hf
  · refine g_iconst X 1 dX5_isAhead_85 rfl ?_
    refine g_goto X 90 dX5_isAhead_86 rfl ?_
    exact g_zret X rfl dX5_isAhead_90 hf
set_option maxHeartbeats 4000000 in
theorem m_X5_isAhead (l : Launch) (E : gE) (ad : Nat → Nat) (σ : gS) (x1 : Int32) (x2 : Int32) (r : Int32) (u : gS) (hf : f_X5_isAhead σ x1 x2 = some (r, u)) (sz : Nat) : Met l yX5_isAhead (ws_ yX5_isAhead cX5_isAhead 3 (some .boolean)) rm_X5_isAhead (gPc [.ref (ad 0), .int x1, .int x2] E (wS E ad σ) sz) (gPi E (wS E ad) r u (va_A (wS E ad σ) sz)) 0 0 (va_A (wS E ad σ) sz) := by
  refine gMet (Qc := gPi E (wS E ad) r u) (by decide) (Nat.le_of_ble_eq_true rfl) (fun Γ X hl hE => ?_)
  subst hl; subst hE
  unfold f_X5_isAhead at hf
  show gW Γ (gMQ Γ (gPi (gEo Γ) (wS (gEo Γ) ad) r u (gAo Γ)) 0 0) (wS (gEo Γ) ad σ) 3 0 0 0 [(0, .ref (ad 0)), (1, .int x1), (2, .int x2)] []
  refine g_aload_n X 0 dX5_isAhead_0 rfl ?_
  refine g_iload_n X 1 dX5_isAhead_1 rfl ?_
  refine g_callVi X 1 (As := [.int x1]) (wfc := wS (gEo Γ) ad) (lw_V q570 q571 q572 q65 q573) (by decide +kernel) (fun r_ u_ h_ sz_ => m_X5_part (gl Γ) (gEo Γ) ad σ x1 r_ u_ h_ sz_) (rq := 0) rfl rfl rfl rfl rfl ⟨by decide, by decide⟩ rfl (Nat.le_of_ble_eq_true rfl) ⟨Nat.zero_le _, Nat.zero_le _⟩ [0, 1, 2, 3] [] [0, 1, 2, 3] (fun u2 => wS (gEo Γ) ad u2) rfl rfl rfl rfl (by decide) rfl (fun _ => rfl) dX5_isAhead_2 hf (fun r1 u2 _ hf => ?_)
  refine g_aload_n X 0 dX5_isAhead_5 rfl ?_
  refine g_iload_n X 2 dX5_isAhead_6 rfl ?_
  refine g_callVi X 1 (As := [.int x2]) (wfc := wS (gEo Γ) ad) (lw_V q570 q571 q572 q65 q573) (by decide +kernel) (fun r_ u_ h_ sz_ => m_X5_part (gl Γ) (gEo Γ) ad u2 x2 r_ u_ h_ sz_) (rq := 0) rfl rfl rfl rfl rfl ⟨by decide, by decide⟩ rfl (Nat.le_of_ble_eq_true rfl) ⟨Nat.zero_le _, Nat.zero_le _⟩ [0, 1, 2, 3] [] [0, 1, 2, 3] (fun u4 => wS (gEo Γ) ad u4) rfl rfl rfl rfl (by decide) rfl (fun _ => rfl) dX5_isAhead_7 hf (fun r3 u4 _ hf => ?_)
  refine g_icmp_eq X 34 dX5_isAhead_10 rfl hf (fun hf => ?_) (fun hf => ?_)
  · refine g_aload_n X 0 dX5_isAhead_34 rfl ?_
    refine g_iload_n X 1 dX5_isAhead_35 rfl ?_
    refine g_callVi X 1 (As := [.int x1]) (wfc := wS (gEo Γ) ad) (lw_V q570 q571 q572 q65 q573) (by decide +kernel) (fun r_ u_ h_ sz_ => m_X5_part (gl Γ) (gEo Γ) ad u4 x1 r_ u_ h_ sz_) (rq := 0) rfl rfl rfl rfl rfl ⟨by decide, by decide⟩ rfl (Nat.le_of_ble_eq_true rfl) ⟨Nat.zero_le _, Nat.zero_le _⟩ [0, 1, 2, 3] [] [0, 1, 2, 3] (fun u6 => wS (gEo Γ) ad u6) rfl rfl rfl rfl (by decide) rfl (fun _ => rfl) dX5_isAhead_36 hf (fun r5 u6 _ hf => ?_)
    refine g_if_ne X 80 dX5_isAhead_39 rfl hf (fun hf => ?_) (fun hf => ?_)
    · refine g_sub [1, 2] [(1, .int x1), (2, .int x2)] rfl ?_
      exact w_X5_isAhead_b80 X u6 x1 x2 hf
    · refine g_aload_n X 0 dX5_isAhead_42 rfl ?_
      refine g_get X in_X5 0 2 rfl rfl (by decide) q132 rfl dX5_isAhead_43 ?_
      refine g_iload_n X 1 dX5_isAhead_46 rfl ?_
      refine g_sald X 2 rfl dX5_isAhead_47 hf (fun v7 hf => ?_)
      refine g_aload_n X 0 dX5_isAhead_48 rfl ?_
      refine g_get X in_X5 0 2 rfl rfl (by decide) q132 rfl dX5_isAhead_49 ?_
      refine g_iload_n X 2 dX5_isAhead_52 rfl ?_
      refine g_sald X 2 rfl dX5_isAhead_53 hf (fun v8 hf => ?_)
      refine g_icmp_eq X 80 dX5_isAhead_54 rfl hf (fun hf => ?_) (fun hf => ?_)
      · refine g_sub [1, 2] [(1, .int x1), (2, .int x2)] rfl ?_
        exact w_X5_isAhead_b80 X u6 x1 x2 hf
      · refine g_aload_n X 0 dX5_isAhead_57 rfl ?_
        refine g_get X in_X5 0 2 rfl rfl (by decide) q132 rfl dX5_isAhead_58 ?_
        refine g_iload_n X 1 dX5_isAhead_61 rfl ?_
        refine g_sald X 2 rfl dX5_isAhead_62 hf (fun v9 hf => ?_)
        refine g_aload_n X 0 dX5_isAhead_63 rfl ?_
        refine g_get X in_X5 0 2 rfl rfl (by decide) q132 rfl dX5_isAhead_64 ?_
        refine g_iload_n X 2 dX5_isAhead_67 rfl ?_
        refine g_sald X 2 rfl dX5_isAhead_68 hf (fun v10 hf => ?_)
        refine g_icmp_le X 76 dX5_isAhead_69 rfl hf (fun hf => ?_) (fun hf => ?_)
        · refine g_iconst X 0 dX5_isAhead_76 rfl ?_
          refine g_goto X 90 dX5_isAhead_77 rfl ?_
          exact g_zret X rfl dX5_isAhead_90 hf
        · refine g_iconst X 1 dX5_isAhead_72 rfl ?_
          refine g_goto X 90 dX5_isAhead_73 rfl ?_
          exact g_zret X rfl dX5_isAhead_90 hf
  · refine g_aload_n X 0 dX5_isAhead_13 rfl ?_
    refine g_iload_n X 1 dX5_isAhead_14 rfl ?_
    refine g_callVi X 1 (As := [.int x1]) (wfc := wS (gEo Γ) ad) (lw_V q570 q571 q572 q65 q573) (by decide +kernel) (fun r_ u_ h_ sz_ => m_X5_part (gl Γ) (gEo Γ) ad u4 x1 r_ u_ h_ sz_) (rq := 0) rfl rfl rfl rfl rfl ⟨by decide, by decide⟩ rfl (Nat.le_of_ble_eq_true rfl) ⟨Nat.zero_le _, Nat.zero_le _⟩ [0, 1, 2, 3] [] [0, 1, 2, 3] (fun u12 => wS (gEo Γ) ad u12) rfl rfl rfl rfl (by decide) rfl (fun _ => rfl) dX5_isAhead_15 hf (fun r11 u12 _ hf => ?_)
    refine g_aload_n X 0 dX5_isAhead_18 rfl ?_
    refine g_iload_n X 2 dX5_isAhead_19 rfl ?_
    refine g_callVi X 1 (As := [.int x2]) (wfc := wS (gEo Γ) ad) (lw_V q570 q571 q572 q65 q573) (by decide +kernel) (fun r_ u_ h_ sz_ => m_X5_part (gl Γ) (gEo Γ) ad u12 x2 r_ u_ h_ sz_) (rq := 0) rfl rfl rfl rfl rfl ⟨by decide, by decide⟩ rfl (Nat.le_of_ble_eq_true rfl) ⟨Nat.zero_le _, Nat.zero_le _⟩ [0, 1, 2, 3] [] [0, 1, 2, 3] (fun u14 => wS (gEo Γ) ad u14) rfl rfl rfl rfl (by decide) rfl (fun _ => rfl) dX5_isAhead_20 hf (fun r13 u14 _ hf => ?_)
    refine g_icmp_ge X 30 dX5_isAhead_23 rfl hf (fun hf => ?_) (fun hf => ?_)
    · refine g_iconst X 0 dX5_isAhead_30 rfl ?_
      refine g_goto X 90 dX5_isAhead_31 rfl ?_
      exact g_zret X rfl dX5_isAhead_90 hf
    · refine g_iconst X 1 dX5_isAhead_26 rfl ?_
      refine g_goto X 90 dX5_isAhead_27 rfl ?_
      exact g_zret X rfl dX5_isAhead_90 hf
def f_X5_firstOf_b41 (k5 : gS → Int32 → Int32 → Int32 → Option (Int32 × gS)) (σ : gS) (x1 : Int32) (x3 : Int32) (t0 : Int32) : Option (Int32 × gS) :=
  gv (x3 + 1) fun v5 => k5 σ x1 t0 v5
def f_X5_firstOf_b36 (k5 : gS → Int32 → Int32 → Int32 → Option (Int32 × gS)) (σ : gS) (x1 : Int32) (x3 : Int32) : Option (Int32 × gS) :=
  f_X5_firstOf_b41 k5 σ x1 x3 x3
def f_X5_firstOf_b40 (k5 : gS → Int32 → Int32 → Int32 → Option (Int32 × gS)) (σ : gS) (x1 : Int32) (x2 : Int32) (x3 : Int32) : Option (Int32 × gS) :=
  f_X5_firstOf_b41 k5 σ x1 x3 x2
def f_X5_firstOf_b5 : Nat → gS → Int32 → Int32 → Int32 → Option (Int32 × gS)
  | 0 => fun _ _ _ _ => none
  | n_ + 1 => fun σ x1 x2 x3 =>
    if (S_people σ) ≤ x3 then (some (x2, σ)) else ((f_X0_has x1 x3).bind fun (r1, _) => if r1 = 0 then (f_X5_firstOf_b40 (f_X5_firstOf_b5 n_) σ x1 x2 x3) else (if x2 = (-4) then (f_X5_firstOf_b36 (f_X5_firstOf_b5 n_) σ x1 x3) else ((f_X5_isAhead σ x3 x2).bind fun (r3, u4) => if r3 = 0 then (f_X5_firstOf_b40 (f_X5_firstOf_b5 n_) u4 x1 x2 x3) else (f_X5_firstOf_b36 (f_X5_firstOf_b5 n_) u4 x1 x3))))
def f_X5_firstOf (σ : gS) (x1 : Int32) : Option (Int32 × gS) :=
  f_X5_firstOf_b5 20 σ x1 (-4) 0
abbrev rm_X5_firstOf : Room := { frames := 4, cells := 0, slots := 0, locals := 77 }
set_option maxHeartbeats 4000000 in
theorem w_X5_firstOf_b41 {Γ : gG} {ad : Nat → Nat} {r : Int32} {u : gS} (X : gCX Γ cX5_firstOf 4 (some .int) RX5 rm_X5_firstOf) {k5 : gS → Int32 → Int32 → Int32 → Option (Int32 × gS)} (H5 : ∀ (σ : gS) (x1 : Int32) (x2 : Int32) (x3 : Int32), k5 σ x1 x2 x3 = some (r, u) → gW Γ (gMQ Γ (gPi (gEo Γ) (wS (gEo Γ) ad) r u (gAo Γ)) 0 0) (wS (gEo Γ) ad σ) 4 0 0 5 [(0, .ref (ad 0)), (1, .int x1), (2, .int x2), (3, .int x3)] []) : ∀ (σ : gS) (x1 : Int32) (x3 : Int32) (t0 : Int32), f_X5_firstOf_b41 k5 σ x1 x3 t0 = some (r, u) → gW Γ (gMQ Γ (gPi (gEo Γ) (wS (gEo Γ) ad) r u (gAo Γ)) 0 0) (wS (gEo Γ) ad σ) 4 0 0 41 [(0, .ref (ad 0)), (1, .int x1), (3, .int x3)] [.int t0] := by
  intro σ x1 x3 t0 hf
  unfold f_X5_firstOf_b41 at hf
  refine g_istore_n X [(2, .int t0), (0, .ref (ad 0)), (1, .int x1), (3, .int x3)] dX5_firstOf_41 (by decide) rfl ?_
  refine g_iincV X 1 3 (fun v5 => [(3, .int v5), (2, .int t0), (0, .ref (ad 0)), (1, .int x1)]) dX5_firstOf_42 rfl rfl (by decide) (fun _ => rfl) hf (fun v5 hf => ?_)
  refine g_goto X 5 dX5_firstOf_45 rfl ?_
  refine g_sub [2, 3, 1, 0] [(0, .ref (ad 0)), (1, .int x1), (2, .int t0), (3, .int v5)] rfl ?_
  exact H5 σ x1 t0 v5 hf
set_option maxHeartbeats 4000000 in
theorem w_X5_firstOf_b36 {Γ : gG} {ad : Nat → Nat} {r : Int32} {u : gS} (X : gCX Γ cX5_firstOf 4 (some .int) RX5 rm_X5_firstOf) {k5 : gS → Int32 → Int32 → Int32 → Option (Int32 × gS)} (H5 : ∀ (σ : gS) (x1 : Int32) (x2 : Int32) (x3 : Int32), k5 σ x1 x2 x3 = some (r, u) → gW Γ (gMQ Γ (gPi (gEo Γ) (wS (gEo Γ) ad) r u (gAo Γ)) 0 0) (wS (gEo Γ) ad σ) 4 0 0 5 [(0, .ref (ad 0)), (1, .int x1), (2, .int x2), (3, .int x3)] []) : ∀ (σ : gS) (x1 : Int32) (x3 : Int32), f_X5_firstOf_b36 k5 σ x1 x3 = some (r, u) → gW Γ (gMQ Γ (gPi (gEo Γ) (wS (gEo Γ) ad) r u (gAo Γ)) 0 0) (wS (gEo Γ) ad σ) 4 0 0 36 [(0, .ref (ad 0)), (1, .int x1), (3, .int x3)] [] := by
  intro σ x1 x3 hf
  unfold f_X5_firstOf_b36 at hf
  refine g_iload_n X 2 dX5_firstOf_36 rfl ?_
  refine g_goto X 41 dX5_firstOf_37 rfl ?_
  exact w_X5_firstOf_b41 X H5 σ x1 x3 x3 hf
set_option maxHeartbeats 4000000 in
theorem w_X5_firstOf_b40 {Γ : gG} {ad : Nat → Nat} {r : Int32} {u : gS} (X : gCX Γ cX5_firstOf 4 (some .int) RX5 rm_X5_firstOf) {k5 : gS → Int32 → Int32 → Int32 → Option (Int32 × gS)} (H5 : ∀ (σ : gS) (x1 : Int32) (x2 : Int32) (x3 : Int32), k5 σ x1 x2 x3 = some (r, u) → gW Γ (gMQ Γ (gPi (gEo Γ) (wS (gEo Γ) ad) r u (gAo Γ)) 0 0) (wS (gEo Γ) ad σ) 4 0 0 5 [(0, .ref (ad 0)), (1, .int x1), (2, .int x2), (3, .int x3)] []) : ∀ (σ : gS) (x1 : Int32) (x2 : Int32) (x3 : Int32), f_X5_firstOf_b40 k5 σ x1 x2 x3 = some (r, u) → gW Γ (gMQ Γ (gPi (gEo Γ) (wS (gEo Γ) ad) r u (gAo Γ)) 0 0) (wS (gEo Γ) ad σ) 4 0 0 40 [(0, .ref (ad 0)), (1, .int x1), (2, .int x2), (3, .int x3)] [] := by
  intro σ x1 x2 x3 hf
  unfold f_X5_firstOf_b40 at hf
  refine g_iload_n X 2 dX5_firstOf_40 rfl ?_
  refine g_sub [0, 1, 3] [(0, .ref (ad 0)), (1, .int x1), (3, .int x3)] rfl ?_
  exact w_X5_firstOf_b41 X H5 σ x1 x3 x2 hf
set_option maxHeartbeats 4000000 in
theorem w_X5_firstOf_b5 {Γ : gG} {ad : Nat → Nat} {r : Int32} {u : gS} (X : gCX Γ cX5_firstOf 4 (some .int) RX5 rm_X5_firstOf) : ∀ (n_ : Nat) (σ : gS) (x1 : Int32) (x2 : Int32) (x3 : Int32), f_X5_firstOf_b5 n_ σ x1 x2 x3 = some (r, u) → gW Γ (gMQ Γ (gPi (gEo Γ) (wS (gEo Γ) ad) r u (gAo Γ)) 0 0) (wS (gEo Γ) ad σ) 4 0 0 5 [(0, .ref (ad 0)), (1, .int x1), (2, .int x2), (3, .int x3)] [] := by
  intro n_
  induction n_ with
  | zero => intro σ x1 x2 x3 hf; cases hf
  | succ n_ ih =>
    intro σ x1 x2 x3 hf
    simp only [f_X5_firstOf_b5] at hf
    refine g_iload_n X 3 dX5_firstOf_5 rfl ?_
    refine g_aload_n X 0 dX5_firstOf_6 rfl ?_
    refine g_get X in_X5 0 0 rfl rfl (by decide) q128 rfl dX5_firstOf_7 ?_
    refine g_icmp_ge X 48 dX5_firstOf_10 rfl hf (fun hf => ?_) (fun hf => ?_)
    · refine g_iload_n X 2 dX5_firstOf_48 rfl ?_
      exact g_iret X rfl dX5_firstOf_49 hf
    · refine g_iload_n X 1 dX5_firstOf_13 rfl ?_
      refine g_iload_n X 3 dX5_firstOf_14 rfl ?_
      refine g_call0Ni X 2 (As := [.int x1, .int x3]) q461 8 rfl q60 q460 (by decide +kernel) (fun r_ u_ h_ sz_ => m_X0_has (gl Γ) (gEo Γ) x1 x3 r_ u_ h_ sz_) rfl rfl ⟨by decide, by decide⟩ rfl (Nat.le_of_ble_eq_true rfl) ⟨Nat.zero_le _, Nat.zero_le _⟩ dX5_firstOf_15 hf (fun r1 _ hf => ?_)
      refine g_if_eq X 40 dX5_firstOf_18 rfl hf (fun hf => ?_) (fun hf => ?_)
      · exact w_X5_firstOf_b40 X ih σ x1 x2 x3 hf
      · refine g_iload_n X 2 dX5_firstOf_21 rfl ?_
        refine g_bipush X (-4) dX5_firstOf_22 rfl ?_
        refine g_icmp_eq X 36 dX5_firstOf_24 rfl hf (fun hf => ?_) (fun hf => ?_)
        · refine g_sub [0, 1, 3] [(0, .ref (ad 0)), (1, .int x1), (3, .int x3)] rfl ?_
          exact w_X5_firstOf_b36 X ih σ x1 x3 hf
        · refine g_aload_n X 0 dX5_firstOf_27 rfl ?_
          refine g_iload_n X 3 dX5_firstOf_28 rfl ?_
          refine g_iload_n X 2 dX5_firstOf_29 rfl ?_
          refine g_callVi X 2 (As := [.int x3, .int x2]) (wfc := wS (gEo Γ) ad) (lw_V q566 q567 q568 q65 q569) (by decide +kernel) (fun r_ u_ h_ sz_ => m_X5_isAhead (gl Γ) (gEo Γ) ad σ x3 x2 r_ u_ h_ sz_) (rq := 0) rfl rfl rfl rfl rfl ⟨by decide, by decide⟩ rfl (Nat.le_of_ble_eq_true rfl) ⟨Nat.zero_le _, Nat.zero_le _⟩ [0, 1, 2, 3] [] [0, 1, 2, 3] (fun u4 => wS (gEo Γ) ad u4) rfl rfl rfl rfl (by decide) rfl (fun _ => rfl) dX5_firstOf_30 hf (fun r3 u4 _ hf => ?_)
          refine g_if_eq X 40 dX5_firstOf_33 rfl hf (fun hf => ?_) (fun hf => ?_)
          · exact w_X5_firstOf_b40 X ih u4 x1 x2 x3 hf
          · refine g_sub [0, 1, 3] [(0, .ref (ad 0)), (1, .int x1), (3, .int x3)] rfl ?_
            exact w_X5_firstOf_b36 X ih u4 x1 x3 hf
set_option maxHeartbeats 4000000 in
theorem m_X5_firstOf (l : Launch) (E : gE) (ad : Nat → Nat) (σ : gS) (x1 : Int32) (r : Int32) (u : gS) (hf : f_X5_firstOf σ x1 = some (r, u)) (sz : Nat) : Met l yX5_firstOf (ws_ yX5_firstOf cX5_firstOf 4 (some .int)) rm_X5_firstOf (gPc [.ref (ad 0), .int x1] E (wS E ad σ) sz) (gPi E (wS E ad) r u (va_A (wS E ad σ) sz)) 0 0 (va_A (wS E ad σ) sz) := by
  refine gMet (Qc := gPi E (wS E ad) r u) (by decide) (Nat.le_of_ble_eq_true rfl) (fun Γ X hl hE => ?_)
  subst hl; subst hE
  unfold f_X5_firstOf at hf
  show gW Γ (gMQ Γ (gPi (gEo Γ) (wS (gEo Γ) ad) r u (gAo Γ)) 0 0) (wS (gEo Γ) ad σ) 4 0 0 0 [(0, .ref (ad 0)), (1, .int x1)] []
  refine g_bipush X (-4) dX5_firstOf_0 rfl ?_
  refine g_istore_n X [(2, .int (-4)), (0, .ref (ad 0)), (1, .int x1)] dX5_firstOf_2 (by decide) rfl ?_
  refine g_iconst X 0 dX5_firstOf_3 rfl ?_
  refine g_istore_n X [(3, .int 0), (2, .int (-4)), (0, .ref (ad 0)), (1, .int x1)] dX5_firstOf_4 (by decide) rfl ?_
  refine g_sub [2, 3, 1, 0] [(0, .ref (ad 0)), (1, .int x1), (2, .int (-4)), (3, .int 0)] rfl ?_
  exact w_X5_firstOf_b5 X 20 σ x1 (-4) 0 hf
def f_X5_firstOnes_b34 (σ : gS) (x2 : Int32) : Option (Int32 × gS) :=
  (f_X5_waiting σ).bind fun (r7, u8) => some (r7 &&& (x2 ^^^ (-1)), u8)
def f_X5_firstOnes_b7 : Nat → gS → Int32 → Int32 → Int32 → Option (Int32 × gS)
  | 0 => fun _ _ _ _ => none
  | n_ + 1 => fun σ x1 x2 x3 =>
    if x1 ≤ x3 then (f_X5_firstOnes_b34 σ x2) else (if x2 = 0 then (f_X5_firstOnes_b34 σ x2) else ((f_X5_firstOf σ x2).bind fun (r3, u4) => gv (x2 &&& (((1 : Int32) <<< (r3 &&& 31)) ^^^ (-1))) fun v5 => gv (x3 + 1) fun v6 => (f_X5_firstOnes_b7 n_) u4 x1 v5 v6))
def f_X5_firstOnes (σ : gS) (x1 : Int32) : Option (Int32 × gS) :=
  (f_X5_waiting σ).bind fun (r1, u2) => f_X5_firstOnes_b7 20 u2 x1 r1 0
abbrev rm_X5_firstOnes : Room := { frames := 5, cells := 0, slots := 0, locals := 100 }
set_option maxHeartbeats 4000000 in
theorem w_X5_firstOnes_b34 {Γ : gG} {ad : Nat → Nat} {r : Int32} {u : gS} (X : gCX Γ cX5_firstOnes 4 (some .int) RX5 rm_X5_firstOnes) : ∀ (σ : gS) (x2 : Int32), f_X5_firstOnes_b34 σ x2 = some (r, u) → gW Γ (gMQ Γ (gPi (gEo Γ) (wS (gEo Γ) ad) r u (gAo Γ)) 0 0) (wS (gEo Γ) ad σ) 4 0 0 34 [(0, .ref (ad 0)), (2, .int x2)] [] := by
  intro σ x2 hf
  unfold f_X5_firstOnes_b34 at hf
  refine g_aload_n X 0 dX5_firstOnes_34 rfl ?_
  refine g_callVi X 0 (As := []) (wfc := wS (gEo Γ) ad) (lw_V q560 q502 q503 q65 q504) (by decide +kernel) (fun r_ u_ h_ sz_ => m_X5_waiting (gl Γ) (gEo Γ) ad σ r_ u_ h_ sz_) (rq := 0) rfl rfl rfl rfl rfl ⟨by decide, by decide⟩ rfl (Nat.le_of_ble_eq_true rfl) ⟨Nat.zero_le _, Nat.zero_le _⟩ [0, 1, 2, 3] [] [0, 1, 2, 3] (fun u8 => wS (gEo Γ) ad u8) rfl rfl rfl rfl (by decide) rfl (fun _ => rfl) dX5_firstOnes_35 hf (fun r7 u8 _ hf => ?_)
  refine g_iload_n X 1 dX5_firstOnes_38 rfl ?_
  refine g_iconst X (-1) dX5_firstOnes_39 rfl ?_
  refine g_ixor X dX5_firstOnes_40 ?_
  refine g_iand X dX5_firstOnes_41 ?_
  exact g_iret X rfl dX5_firstOnes_42 hf
set_option maxHeartbeats 4000000 in
theorem w_X5_firstOnes_b7 {Γ : gG} {ad : Nat → Nat} {r : Int32} {u : gS} (X : gCX Γ cX5_firstOnes 4 (some .int) RX5 rm_X5_firstOnes) : ∀ (n_ : Nat) (σ : gS) (x1 : Int32) (x2 : Int32) (x3 : Int32), f_X5_firstOnes_b7 n_ σ x1 x2 x3 = some (r, u) → gW Γ (gMQ Γ (gPi (gEo Γ) (wS (gEo Γ) ad) r u (gAo Γ)) 0 0) (wS (gEo Γ) ad σ) 4 0 0 7 [(0, .ref (ad 0)), (1, .int x1), (2, .int x2), (3, .int x3)] [] := by
  intro n_
  induction n_ with
  | zero => intro σ x1 x2 x3 hf; cases hf
  | succ n_ ih =>
    intro σ x1 x2 x3 hf
    simp only [f_X5_firstOnes_b7] at hf
    refine g_iload_n X 3 dX5_firstOnes_7 rfl ?_
    refine g_iload_n X 1 dX5_firstOnes_8 rfl ?_
    refine g_icmp_ge X 34 dX5_firstOnes_9 rfl hf (fun hf => ?_) (fun hf => ?_)
    · refine g_sub [0, 2] [(0, .ref (ad 0)), (2, .int x2)] rfl ?_
      exact w_X5_firstOnes_b34 X σ x2 hf
    · refine g_iload_n X 2 dX5_firstOnes_12 rfl ?_
      refine g_if_eq X 34 dX5_firstOnes_13 rfl hf (fun hf => ?_) (fun hf => ?_)
      · refine g_sub [0, 2] [(0, .ref (ad 0)), (2, .int x2)] rfl ?_
        exact w_X5_firstOnes_b34 X σ x2 hf
      · refine g_iload_n X 2 dX5_firstOnes_16 rfl ?_
        refine g_iconst X 1 dX5_firstOnes_17 rfl ?_
        refine g_aload_n X 0 dX5_firstOnes_18 rfl ?_
        refine g_iload_n X 2 dX5_firstOnes_19 rfl ?_
        refine g_callVi X 1 (As := [.int x2]) (wfc := wS (gEo Γ) ad) (lw_V q561 q562 q563 q65 q564) (by decide +kernel) (fun r_ u_ h_ sz_ => m_X5_firstOf (gl Γ) (gEo Γ) ad σ x2 r_ u_ h_ sz_) (rq := 0) rfl rfl rfl rfl rfl ⟨by decide, by decide⟩ rfl (Nat.le_of_ble_eq_true rfl) ⟨Nat.zero_le _, Nat.zero_le _⟩ [0, 1, 2, 3] [] [0, 1, 2, 3] (fun u4 => wS (gEo Γ) ad u4) rfl rfl rfl rfl (by decide) rfl (fun _ => rfl) dX5_firstOnes_20 hf (fun r3 u4 _ hf => ?_)
        refine g_ishl X dX5_firstOnes_23 ?_
        refine g_iconst X (-1) dX5_firstOnes_24 rfl ?_
        refine g_ixor X dX5_firstOnes_25 ?_
        refine g_iand X dX5_firstOnes_26 ?_
        refine g_topi hf (fun v5 hf => ?_)
        refine g_istore_n X [(2, .int v5), (0, .ref (ad 0)), (1, .int x1), (3, .int x3)] dX5_firstOnes_27 (by decide) rfl ?_
        refine g_iincV X 1 3 (fun v6 => [(3, .int v6), (2, .int v5), (0, .ref (ad 0)), (1, .int x1)]) dX5_firstOnes_28 rfl rfl (by decide) (fun _ => rfl) hf (fun v6 hf => ?_)
        refine g_goto X 7 dX5_firstOnes_31 rfl ?_
        refine g_sub [2, 3, 1, 0] [(0, .ref (ad 0)), (1, .int x1), (2, .int v5), (3, .int v6)] rfl ?_
        exact ih u4 x1 v5 v6 hf
set_option maxHeartbeats 4000000 in
theorem m_X5_firstOnes (l : Launch) (E : gE) (ad : Nat → Nat) (σ : gS) (x1 : Int32) (r : Int32) (u : gS) (hf : f_X5_firstOnes σ x1 = some (r, u)) (sz : Nat) : Met l yX5_firstOnes (ws_ yX5_firstOnes cX5_firstOnes 4 (some .int)) rm_X5_firstOnes (gPc [.ref (ad 0), .int x1] E (wS E ad σ) sz) (gPi E (wS E ad) r u (va_A (wS E ad σ) sz)) 0 0 (va_A (wS E ad σ) sz) := by
  refine gMet (Qc := gPi E (wS E ad) r u) (by decide) (Nat.le_of_ble_eq_true rfl) (fun Γ X hl hE => ?_)
  subst hl; subst hE
  unfold f_X5_firstOnes at hf
  show gW Γ (gMQ Γ (gPi (gEo Γ) (wS (gEo Γ) ad) r u (gAo Γ)) 0 0) (wS (gEo Γ) ad σ) 4 0 0 0 [(0, .ref (ad 0)), (1, .int x1)] []
  refine g_aload_n X 0 dX5_firstOnes_0 rfl ?_
  refine g_callVi X 0 (As := []) (wfc := wS (gEo Γ) ad) (lw_V q560 q502 q503 q65 q504) (by decide +kernel) (fun r_ u_ h_ sz_ => m_X5_waiting (gl Γ) (gEo Γ) ad σ r_ u_ h_ sz_) (rq := 0) rfl rfl rfl rfl rfl ⟨by decide, by decide⟩ rfl (Nat.le_of_ble_eq_true rfl) ⟨Nat.zero_le _, Nat.zero_le _⟩ [0, 1, 2, 3] [] [0, 1, 2, 3] (fun u2 => wS (gEo Γ) ad u2) rfl rfl rfl rfl (by decide) rfl (fun _ => rfl) dX5_firstOnes_1 hf (fun r1 u2 _ hf => ?_)
  refine g_istore_n X [(2, .int r1), (0, .ref (ad 0)), (1, .int x1)] dX5_firstOnes_4 (by decide) rfl ?_
  refine g_iconst X 0 dX5_firstOnes_5 rfl ?_
  refine g_istore_n X [(3, .int 0), (2, .int r1), (0, .ref (ad 0)), (1, .int x1)] dX5_firstOnes_6 (by decide) rfl ?_
  refine g_sub [2, 3, 1, 0] [(0, .ref (ad 0)), (1, .int x1), (2, .int r1), (3, .int 0)] rfl ?_
  exact w_X5_firstOnes_b7 X 20 u2 x1 r1 0 hf
def f_X5_tramComes_b40 (k11 : gS → Int32 → Int32 → Option (Int32 × gS)) (σ : gS) (x1 : Int32) (x2 : Int32) (t0 : Int32) (t1 : Int32) (t2 : Int32) : Option (Int32 × gS) :=
  (f_X5_becomes σ t2 t1 t0).bind fun u8 => gv (x2 + 1) fun v9 => k11 u8 x1 v9
def f_X5_tramComes_b11 : Nat → gS → Int32 → Int32 → Option (Int32 × gS)
  | 0 => fun _ _ _ => none
  | n_ + 1 => fun σ x1 x2 =>
    if (S_people σ) ≤ x2 then (some (x1, σ)) else ((f_X0_has x1 x2).bind fun (r3, _) => if r3 = 0 then ((f_X5_of σ x2 2).bind fun (r5, u6) => f_X5_tramComes_b40 (f_X5_tramComes_b11 n_) u6 x1 x2 r5 2 x2) else (f_X5_tramComes_b40 (f_X5_tramComes_b11 n_) σ x1 x2 1 2 x2))
def f_X5_tramComes (σ : gS) : Option (Int32 × gS) :=
  (f_X5_firstOnes σ (S_room σ)).bind fun (r1, u2) => f_X5_tramComes_b11 20 u2 r1 0
abbrev rm_X5_tramComes : Room := { frames := 6, cells := 0, slots := 0, locals := 123 }
set_option maxHeartbeats 4000000 in
theorem w_X5_tramComes_b40 {Γ : gG} {ad : Nat → Nat} {r : Int32} {u : gS} (X : gCX Γ cX5_tramComes 3 (some .int) RX5 rm_X5_tramComes) {k11 : gS → Int32 → Int32 → Option (Int32 × gS)} (H11 : ∀ (σ : gS) (x1 : Int32) (x2 : Int32), k11 σ x1 x2 = some (r, u) → gW Γ (gMQ Γ (gPi (gEo Γ) (wS (gEo Γ) ad) r u (gAo Γ)) 0 0) (wS (gEo Γ) ad σ) 3 0 0 11 [(0, .ref (ad 0)), (1, .int x1), (2, .int x2)] []) : ∀ (σ : gS) (x1 : Int32) (x2 : Int32) (t0 : Int32) (t1 : Int32) (t2 : Int32), f_X5_tramComes_b40 k11 σ x1 x2 t0 t1 t2 = some (r, u) → gW Γ (gMQ Γ (gPi (gEo Γ) (wS (gEo Γ) ad) r u (gAo Γ)) 0 0) (wS (gEo Γ) ad σ) 3 0 0 40 [(0, .ref (ad 0)), (1, .int x1), (2, .int x2)] [.int t0, .int t1, .int t2, .ref (ad 0)] := by
  intro σ x1 x2 t0 t1 t2 hf
  unfold f_X5_tramComes_b40 at hf
  refine g_callVv X 3 (As := [.int t2, .int t1, .int t0]) (wfc := wS (gEo Γ) ad) (lw_V q623 q483 q484 q65 q485) (by decide +kernel) (fun u_ h_ sz_ => m_X5_becomes (gl Γ) (gEo Γ) ad σ t2 t1 t0 u_ h_ sz_) (rq := 0) rfl rfl rfl rfl rfl ⟨by decide, by decide⟩ rfl (Nat.le_of_ble_eq_true rfl) ⟨Nat.zero_le _, Nat.zero_le _⟩ [0, 1, 2, 3] [] [0, 1, 2, 3] (fun u8 => wS (gEo Γ) ad u8) rfl rfl rfl rfl (by decide) rfl (fun _ => rfl) dX5_tramComes_40 hf (fun u8 _ hf => ?_)
  refine g_iincV X 1 2 (fun v9 => [(2, .int v9), (0, .ref (ad 0)), (1, .int x1)]) dX5_tramComes_43 rfl rfl (by decide) (fun _ => rfl) hf (fun v9 hf => ?_)
  refine g_goto X 11 dX5_tramComes_46 rfl ?_
  refine g_sub [1, 2, 0] [(0, .ref (ad 0)), (1, .int x1), (2, .int v9)] rfl ?_
  exact H11 u8 x1 v9 hf
set_option maxHeartbeats 4000000 in
theorem w_X5_tramComes_b11 {Γ : gG} {ad : Nat → Nat} {r : Int32} {u : gS} (X : gCX Γ cX5_tramComes 3 (some .int) RX5 rm_X5_tramComes) : ∀ (n_ : Nat) (σ : gS) (x1 : Int32) (x2 : Int32), f_X5_tramComes_b11 n_ σ x1 x2 = some (r, u) → gW Γ (gMQ Γ (gPi (gEo Γ) (wS (gEo Γ) ad) r u (gAo Γ)) 0 0) (wS (gEo Γ) ad σ) 3 0 0 11 [(0, .ref (ad 0)), (1, .int x1), (2, .int x2)] [] := by
  intro n_
  induction n_ with
  | zero => intro σ x1 x2 hf; cases hf
  | succ n_ ih =>
    intro σ x1 x2 hf
    simp only [f_X5_tramComes_b11] at hf
    refine g_iload_n X 2 dX5_tramComes_11 rfl ?_
    refine g_aload_n X 0 dX5_tramComes_12 rfl ?_
    refine g_get X in_X5 0 0 rfl rfl (by decide) q128 rfl dX5_tramComes_13 ?_
    refine g_icmp_ge X 49 dX5_tramComes_16 rfl hf (fun hf => ?_) (fun hf => ?_)
    · refine g_iload_n X 1 dX5_tramComes_49 rfl ?_
      exact g_iret X rfl dX5_tramComes_50 hf
    · refine g_aload_n X 0 dX5_tramComes_19 rfl ?_
      refine g_iload_n X 2 dX5_tramComes_20 rfl ?_
      refine g_iconst X 2 dX5_tramComes_21 rfl ?_
      refine g_iload_n X 1 dX5_tramComes_22 rfl ?_
      refine g_iload_n X 2 dX5_tramComes_23 rfl ?_
      refine g_call0Ni X 2 (As := [.int x1, .int x2]) q461 8 rfl q60 q460 (by decide +kernel) (fun r_ u_ h_ sz_ => m_X0_has (gl Γ) (gEo Γ) x1 x2 r_ u_ h_ sz_) rfl rfl ⟨by decide, by decide⟩ rfl (Nat.le_of_ble_eq_true rfl) ⟨Nat.zero_le _, Nat.zero_le _⟩ dX5_tramComes_24 hf (fun r3 _ hf => ?_)
      refine g_if_eq X 34 dX5_tramComes_27 rfl hf (fun hf => ?_) (fun hf => ?_)
      · refine g_aload_n X 0 dX5_tramComes_34 rfl ?_
        refine g_iload_n X 2 dX5_tramComes_35 rfl ?_
        refine g_iconst X 2 dX5_tramComes_36 rfl ?_
        refine g_callVi X 2 (As := [.int x2, .int 2]) (wfc := wS (gEo Γ) ad) (lw_V q509 q510 q511 q65 q512) (by decide +kernel) (fun r_ u_ h_ sz_ => m_X5_of (gl Γ) (gEo Γ) ad σ x2 2 r_ u_ h_ sz_) (rq := 0) rfl rfl rfl rfl rfl ⟨by decide, by decide⟩ rfl (Nat.le_of_ble_eq_true rfl) ⟨Nat.zero_le _, Nat.zero_le _⟩ [0, 1, 2, 3] [] [0, 1, 2, 3] (fun u6 => wS (gEo Γ) ad u6) rfl rfl rfl rfl (by decide) rfl (fun _ => rfl) dX5_tramComes_37 hf (fun r5 u6 _ hf => ?_)
        exact w_X5_tramComes_b40 X ih u6 x1 x2 r5 2 x2 hf
      · refine g_iconst X 1 dX5_tramComes_30 rfl ?_
        refine g_goto X 40 dX5_tramComes_31 rfl ?_
        exact w_X5_tramComes_b40 X ih σ x1 x2 1 2 x2 hf
set_option maxHeartbeats 4000000 in
theorem m_X5_tramComes (l : Launch) (E : gE) (ad : Nat → Nat) (σ : gS) (r : Int32) (u : gS) (hf : f_X5_tramComes σ = some (r, u)) (sz : Nat) : Met l yX5_tramComes (ws_ yX5_tramComes cX5_tramComes 3 (some .int)) rm_X5_tramComes (gPc [.ref (ad 0)] E (wS E ad σ) sz) (gPi E (wS E ad) r u (va_A (wS E ad σ) sz)) 0 0 (va_A (wS E ad σ) sz) := by
  refine gMet (Qc := gPi E (wS E ad) r u) (by decide) (Nat.le_of_ble_eq_true rfl) (fun Γ X hl hE => ?_)
  subst hl; subst hE
  unfold f_X5_tramComes at hf
  show gW Γ (gMQ Γ (gPi (gEo Γ) (wS (gEo Γ) ad) r u (gAo Γ)) 0 0) (wS (gEo Γ) ad σ) 3 0 0 0 [(0, .ref (ad 0))] []
  refine g_aload_n X 0 dX5_tramComes_0 rfl ?_
  refine g_aload_n X 0 dX5_tramComes_1 rfl ?_
  refine g_get X in_X5 0 4 rfl rfl (by decide) q136 rfl dX5_tramComes_2 ?_
  refine g_callVi X 1 (As := [.int (S_room σ)]) (wfc := wS (gEo Γ) ad) (lw_V q652 q557 q558 q65 q559) (by decide +kernel) (fun r_ u_ h_ sz_ => m_X5_firstOnes (gl Γ) (gEo Γ) ad σ (S_room σ) r_ u_ h_ sz_) (rq := 0) rfl rfl rfl rfl rfl ⟨by decide, by decide⟩ rfl (Nat.le_of_ble_eq_true rfl) ⟨Nat.zero_le _, Nat.zero_le _⟩ [0, 1, 2, 3] [] [0, 1, 2, 3] (fun u2 => wS (gEo Γ) ad u2) rfl rfl rfl rfl (by decide) rfl (fun _ => rfl) dX5_tramComes_5 hf (fun r1 u2 _ hf => ?_)
  refine g_istore_n X [(1, .int r1), (0, .ref (ad 0))] dX5_tramComes_8 (by decide) rfl ?_
  refine g_iconst X 0 dX5_tramComes_9 rfl ?_
  refine g_istore_n X [(2, .int 0), (1, .int r1), (0, .ref (ad 0))] dX5_tramComes_10 (by decide) rfl ?_
  refine g_sub [2, 1, 0] [(0, .ref (ad 0)), (1, .int r1), (2, .int 0)] rfl ?_
  exact w_X5_tramComes_b11 X 20 u2 r1 0 hf
def f_X5_as (σ : gSS) : Option (gSS) :=
  gv ((S_people (T_b σ))) fun v1 => gs (T_a_s σ (S_people_s (T_a σ) v1)) fun s2 => gcp .byte 15 15 (S_one (T_b s2)) (S_one (T_a s2)) 15 fun g3 => gs (T_a_s s2 (S_one_s (T_a s2) g3)) fun s4 => gcp .short 5 5 (S_wept (T_b s4)) (S_wept (T_a s4)) 5 fun g5 => gs (T_a_s s4 (S_wept_s (T_a s4) g5)) fun s6 => gv ((S_minute (T_b s6))) fun v7 => gs (T_a_s s6 (S_minute_s (T_a s6) v7)) fun s8 => gv ((S_room (T_b s8))) fun v9 => gs (T_a_s s8 (S_room_s (T_a s8) v9)) fun s10 => gv ((S_think (T_b s10))) fun v11 => gs (T_a_s s10 (S_think_s (T_a s10) v11)) fun s12 => gv ((S_planned (T_b s12))) fun v13 => gs (T_a_s s12 (S_planned_s (T_a s12) v13)) fun s14 => gcp .byte 8 8 (S_plan (T_b s14)) (S_plan (T_a s14)) 8 fun g15 => gs (T_a_s s14 (S_plan_s (T_a s14) g15)) fun s16 => some s16
abbrev rm_X5_as : Room := { frames := 1, cells := 0, slots := 0, locals := 60 }
set_option maxHeartbeats 4000000 in
theorem m_X5_as (l : Launch) (E : gE) (ad : Nat → Nat) (σ : gSS) (u : gSS) (hf : f_X5_as σ = some u) (sz : Nat) : Met l yX5_as (ws_ yX5_as cX5_as 2 none) rm_X5_as (gPc [.ref (ad 0), .ref (ad 4)] E (wSS E ad σ) sz) (gPv E (wSS E ad) u (va_A (wSS E ad σ) sz)) 0 0 (va_A (wSS E ad σ) sz) := by
  refine gMet (Qc := gPv E (wSS E ad) u) (by decide) (Nat.le_of_ble_eq_true rfl) (fun Γ X hl hE => ?_)
  subst hl; subst hE
  unfold f_X5_as at hf
  show gW Γ (gMQ Γ (gPv (gEo Γ) (wSS (gEo Γ) ad) u (gAo Γ)) 0 0) (wSS (gEo Γ) ad σ) 2 0 0 0 [(0, .ref (ad 0)), (1, .ref (ad 4))] []
  refine g_aload_n X 0 dX5_as_0 rfl ?_
  refine g_aload_n X 1 dX5_as_1 rfl ?_
  refine g_get X in_X5 4 0 rfl rfl (by decide) q128 rfl dX5_as_2 ?_
  refine g_topi hf (fun v1 hf => ?_)
  refine g_put X in_X5 tyX5_ok nmX5 0 0 (wSS (gEo Γ) ad (T_a_s σ (S_people_s (T_a σ) v1))) rfl rfl (by decide) q128 rfl rfl rfl rfl (Nat.le_of_ble_eq_true rfl) rfl dX5_as_5 ?_
  refine g_gs (wSS (gEo Γ) ad) hf (fun s2 hf => ?_)
  refine g_aload_n X 1 dX5_as_8 rfl ?_
  refine g_get X in_X5 4 1 rfl rfl (by decide) q131 rfl dX5_as_9 ?_
  refine g_iconst X 0 dX5_as_12 rfl ?_
  refine g_aload_n X 0 dX5_as_13 rfl ?_
  refine g_get X in_X5 0 1 rfl rfl (by decide) q131 rfl dX5_as_14 ?_
  refine g_iconst X 0 dX5_as_17 rfl ?_
  refine g_bipush X 15 dX5_as_18 rfl ?_
  refine g_copy X 5 1 0 (fun g3 => wSS (gEo Γ) ad (T_a_s s2 (S_one_s (T_a s2) g3))) q490 q491 q492 q77 rfl rfl rfl rfl (fun _ => rfl) (by decide) (Nat.le_of_ble_eq_true rfl) dX5_as_20 hf (fun g3 hf => ?_)
  refine g_gs (wSS (gEo Γ) ad) hf (fun s4 hf => ?_)
  refine g_aload_n X 1 dX5_as_23 rfl ?_
  refine g_get X in_X5 4 2 rfl rfl (by decide) q132 rfl dX5_as_24 ?_
  refine g_iconst X 0 dX5_as_27 rfl ?_
  refine g_aload_n X 0 dX5_as_28 rfl ?_
  refine g_get X in_X5 0 2 rfl rfl (by decide) q132 rfl dX5_as_29 ?_
  refine g_iconst X 0 dX5_as_32 rfl ?_
  refine g_iconst X 5 dX5_as_33 rfl ?_
  refine g_copy X 6 2 1 (fun g5 => wSS (gEo Γ) ad (T_a_s s4 (S_wept_s (T_a s4) g5))) q490 q491 q492 q77 rfl rfl rfl rfl (fun _ => rfl) (by decide) (Nat.le_of_ble_eq_true rfl) dX5_as_34 hf (fun g5 hf => ?_)
  refine g_gs (wSS (gEo Γ) ad) hf (fun s6 hf => ?_)
  refine g_aload_n X 0 dX5_as_37 rfl ?_
  refine g_aload_n X 1 dX5_as_38 rfl ?_
  refine g_get X in_X5 4 3 rfl rfl (by decide) q134 rfl dX5_as_39 ?_
  refine g_topi hf (fun v7 hf => ?_)
  refine g_put X in_X5 tyX5_ok nmX5 0 3 (wSS (gEo Γ) ad (T_a_s s6 (S_minute_s (T_a s6) v7))) rfl rfl (by decide) q134 rfl rfl rfl rfl (Nat.le_of_ble_eq_true rfl) rfl dX5_as_42 ?_
  refine g_gs (wSS (gEo Γ) ad) hf (fun s8 hf => ?_)
  refine g_aload_n X 0 dX5_as_45 rfl ?_
  refine g_aload_n X 1 dX5_as_46 rfl ?_
  refine g_get X in_X5 4 4 rfl rfl (by decide) q136 rfl dX5_as_47 ?_
  refine g_topi hf (fun v9 hf => ?_)
  refine g_put X in_X5 tyX5_ok nmX5 0 4 (wSS (gEo Γ) ad (T_a_s s8 (S_room_s (T_a s8) v9))) rfl rfl (by decide) q136 rfl rfl rfl rfl (Nat.le_of_ble_eq_true rfl) rfl dX5_as_50 ?_
  refine g_gs (wSS (gEo Γ) ad) hf (fun s10 hf => ?_)
  refine g_aload_n X 0 dX5_as_53 rfl ?_
  refine g_aload_n X 1 dX5_as_54 rfl ?_
  refine g_get X in_X5 4 5 rfl rfl (by decide) q139 rfl dX5_as_55 ?_
  refine g_topi hf (fun v11 hf => ?_)
  refine g_put X in_X5 tyX5_ok nmX5 0 5 (wSS (gEo Γ) ad (T_a_s s10 (S_think_s (T_a s10) v11))) rfl rfl (by decide) q139 rfl rfl rfl rfl (Nat.le_of_ble_eq_true rfl) rfl dX5_as_58 ?_
  refine g_gs (wSS (gEo Γ) ad) hf (fun s12 hf => ?_)
  refine g_aload_n X 0 dX5_as_61 rfl ?_
  refine g_aload_n X 1 dX5_as_62 rfl ?_
  refine g_get X in_X5 4 6 rfl rfl (by decide) q142 rfl dX5_as_63 ?_
  refine g_topi hf (fun v13 hf => ?_)
  refine g_put X in_X5 tyX5_ok nmX5 0 6 (wSS (gEo Γ) ad (T_a_s s12 (S_planned_s (T_a s12) v13))) rfl rfl (by decide) q142 rfl rfl rfl rfl (Nat.le_of_ble_eq_true rfl) rfl dX5_as_66 ?_
  refine g_gs (wSS (gEo Γ) ad) hf (fun s14 hf => ?_)
  refine g_aload_n X 1 dX5_as_69 rfl ?_
  refine g_get X in_X5 4 7 rfl rfl (by decide) q145 rfl dX5_as_70 ?_
  refine g_iconst X 0 dX5_as_73 rfl ?_
  refine g_aload_n X 0 dX5_as_74 rfl ?_
  refine g_get X in_X5 0 7 rfl rfl (by decide) q145 rfl dX5_as_75 ?_
  refine g_iconst X 0 dX5_as_78 rfl ?_
  refine g_bipush X 8 dX5_as_79 rfl ?_
  refine g_copy X 7 3 0 (fun g15 => wSS (gEo Γ) ad (T_a_s s14 (S_plan_s (T_a s14) g15))) q490 q491 q492 q77 rfl rfl rfl rfl (fun _ => rfl) (by decide) (Nat.le_of_ble_eq_true rfl) dX5_as_81 hf (fun g15 hf => ?_)
  refine g_gs (wSS (gEo Γ) ad) hf (fun s16 hf => ?_)
  exact g_vret X rfl dX5_as_84 hf
